/-! Bidder.hashCode, Bidder.equals, HashMap.hash -/
theorem ky_sum (h : Nat) : (10 * (nI (h / 10))) + (nI (h % 10)) = nI h := by
  rw [show (10 : Int32) = nI 10 from rfl, pk_mul, nI_add]
  congr 1
  omega
abbrev rmX5_hashCode : Room := ({ frames := 0, cells := 0, slots := 0, locals := 0 } : Room)
set_option maxHeartbeats 4000000 in
theorem metX5_hashCode (l : Launch) (D : va_G) (K : Nat → Nat) (w : Gh) {k h : Nat} (hk : KY w k h) : gMet l yX5_hashCode (ws_ yX5_hashCode cX5_hashCode 1 (some .int)) rmX5_hashCode D K [.ref k] w (fun r' w' => r' = some (.int (nI h)) ∧ w' = w) := by
  refine gMet.of (by decide) (Nat.le_of_ble_eq_true rfl) ?_
  intro p e s m args below meth c H locs ls S M hr hlocks hname G hl
  have hx := S.1
  have hb := S.2.1
  have hown := S.2.2.2.1
  have hts := S.2.2.2.2
  have hl : lv_has ls 1 [(0, .ref k)] := hl
  obtain ⟨Q, hQ⟩ : ∃ Q, Q = gE below D K (fun r' w' => r' = some (.int (nI h)) ∧ w' = w) args s rmX5_hashCode.cells rmX5_hashCode.slots := ⟨_, rfl⟩
  rw [← hQ]
  refine lv_bipush (pc := 0) (v := 10) hx hb dX5_hashCode_0 (by decide) ?_
  refine lv_aload_n (pc := 2) hx hb dX5_hashCode_2 rfl (lv_at hl 0 rfl) ?_
  refine g_get (pc := 3) (v := .int (nI (h / 10))) S M G (C := RX5) (T := TX5) (N := 2) (ci := 4) in_X5 hk rfl 0 (by decide) q685 (Or.inl rfl) rfl dX5_hashCode_3 ?_
  refine lv_imul (pc := 6) hx hb dX5_hashCode_6 ?_
  refine lv_aload_n (pc := 7) hx hb dX5_hashCode_7 rfl (lv_at hl 0 rfl) ?_
  refine g_get (pc := 8) (v := .int (nI (h % 10))) S M G (C := RX5) (T := TX5) (N := 2) (ci := 4) in_X5 hk rfl 1 (by decide) q688 (Or.inl rfl) rfl dX5_hashCode_8 ?_
  refine lv_iadd (pc := 11) hx hb dX5_hashCode_11 ?_
  rw [hQ]
  refine g_iret S G hr hlocks (hdg := dX5_hashCode_12) ?_ ?_ ?_
  · exact Nat.le_of_ble_eq_true rfl
  · exact Nat.le_of_ble_eq_true rfl
  · exact ⟨congrArg (fun z => some (Value.int z)) (ky_sum h), rfl⟩
abbrev rmX5_equals : Room := ({ frames := 0, cells := 0, slots := 0, locals := 0 } : Room)
set_option maxHeartbeats 4000000 in
theorem metX5_equals (l : Launch) (D : va_G) (K : Nat → Nat) (w : Gh) {k k2 h h2 : Nat} (hk : KY w k h) (hk2 : KY w k2 h2) (hh : h < 300) (hh2 : h2 < 300) : gMet l yX5_equals (ws_ yX5_equals cX5_equals 3 (some .boolean)) rmX5_equals D K [.ref k, .ref k2] w (fun r' w' => r' = some (.int (if h = h2 then 1 else 0)) ∧ w' = w) := by
  have e1 : nI (h / 10) = nI (h2 / 10) ↔ h / 10 = h2 / 10 := nI_eq (by omega) (by omega)
  have e2 : nI (h % 10) = nI (h2 % 10) ↔ h % 10 = h2 % 10 := nI_eq (by omega) (by omega)
  refine gMet.of (by decide) (Nat.le_of_ble_eq_true rfl) ?_
  intro p e s m args below meth c H locs ls S M hr hlocks hname G hl
  have hx := S.1
  have hb := S.2.1
  have hown := S.2.2.2.1
  have hts := S.2.2.2.2
  have hl : lv_has ls 3 [(0, .ref k), (1, .ref k2)] := hl
  obtain ⟨Q, hQ⟩ : ∃ Q, Q = gE below D K (fun r' w' => r' = some (.int (if h = h2 then 1 else 0)) ∧ w' = w) args s rmX5_equals.cells rmX5_equals.slots := ⟨_, rfl⟩
  rw [← hQ]
  refine lv_aload_n (pc := 0) hx hb dX5_equals_0 rfl (lv_at hl 1 rfl) ?_
  refine va_instS (pc := 1) hx hb hown (hts _ q900) (g_cls M (ci := 4) rfl) (g_recv M G hk2 (q := (RX5, TX5, 2)) rfl) dX5_equals_1 ?_
  refine lv_if_eq (pc := 4) (tgt := 38) hx hb dX5_equals_4 (by decide) (fun c => absurd c (by decide)) (fun _ => ?_)
  refine lv_aload_n (pc := 7) hx hb dX5_equals_7 rfl (lv_at hl 1 rfl) ?_
  refine va_castS (pc := 8) hx hb hown (hts _ q900) (g_cls M (ci := 4) rfl) (g_recv M G hk2 (q := (RX5, TX5, 2)) rfl) dX5_equals_8 ?_
  refine lv_astore_n (pc := 11) (lv' := [(2, .ref k2), (0, .ref k), (1, .ref k2)]) hx hb dX5_equals_11 rfl hl (by decide) rfl (fun ls hl => ?_)
  refine lv_aload_n (pc := 12) hx hb dX5_equals_12 rfl (lv_at hl 1 rfl) ?_
  refine g_get (pc := 13) (v := .int (nI (h / 10))) S M G (C := RX5) (T := TX5) (N := 2) (ci := 4) in_X5 hk rfl 0 (by decide) q685 (Or.inl rfl) rfl dX5_equals_13 ?_
  refine lv_aload_n (pc := 16) hx hb dX5_equals_16 rfl (lv_at hl 0 rfl) ?_
  refine g_get (pc := 17) (v := .int (nI (h2 / 10))) S M G (C := RX5) (T := TX5) (N := 2) (ci := 4) in_X5 hk2 rfl 0 (by decide) q685 (Or.inl rfl) rfl dX5_equals_17 ?_
  refine lv_icmp_ne (pc := 20) (tgt := 38) hx hb dX5_equals_20 (by decide) (fun c1 => ?_) (fun c1 => ?_)
  · refine lv_iconst (pc := 38) (v := 0) hx hb dX5_equals_38 (by decide) ?_
    rw [hQ]
    refine g_zret S G hr hlocks (hv := ?_) (hdg := dX5_equals_39) ?_ ?_ ?_
    · first | exact Or.inl rfl | exact Or.inr rfl | exact Or.inl rfl
    · exact Nat.le_of_ble_eq_true rfl
    · exact Nat.le_of_ble_eq_true rfl
    · refine ⟨congrArg (fun z => some (Value.int z)) ?_, rfl⟩
      rw [if_neg (by rw [e1] at c1; omega)]
  · refine lv_aload_n (pc := 23) hx hb dX5_equals_23 rfl (lv_at hl 1 rfl) ?_
    refine g_get (pc := 24) (v := .int (nI (h % 10))) S M G (C := RX5) (T := TX5) (N := 2) (ci := 4) in_X5 hk rfl 1 (by decide) q688 (Or.inl rfl) rfl dX5_equals_24 ?_
    refine lv_aload_n (pc := 27) hx hb dX5_equals_27 rfl (lv_at hl 0 rfl) ?_
    refine g_get (pc := 28) (v := .int (nI (h2 % 10))) S M G (C := RX5) (T := TX5) (N := 2) (ci := 4) in_X5 hk2 rfl 1 (by decide) q688 (Or.inl rfl) rfl dX5_equals_28 ?_
    refine lv_icmp_ne (pc := 31) (tgt := 38) hx hb dX5_equals_31 (by decide) (fun c2 => ?_) (fun c2 => ?_)
    · refine lv_iconst (pc := 38) (v := 0) hx hb dX5_equals_38 (by decide) ?_
      rw [hQ]
      refine g_zret S G hr hlocks (hv := ?_) (hdg := dX5_equals_39) ?_ ?_ ?_
      · first | exact Or.inl rfl | exact Or.inr rfl | exact Or.inl rfl
      · exact Nat.le_of_ble_eq_true rfl
      · exact Nat.le_of_ble_eq_true rfl
      · refine ⟨congrArg (fun z => some (Value.int z)) ?_, rfl⟩
        rw [if_neg (by rw [e1] at c1; rw [e2] at c2; omega)]
    · refine lv_iconst (pc := 34) (v := 1) hx hb dX5_equals_34 (by decide) ?_
      refine lv_goto (pc := 35) (tgt := 39) hx hb dX5_equals_35 (by decide) ?_
      rw [hQ]
      refine g_zret S G hr hlocks (hv := ?_) (hdg := dX5_equals_39) ?_ ?_ ?_
      · first | exact Or.inl rfl | exact Or.inr rfl | exact Or.inl rfl
      · exact Nat.le_of_ble_eq_true rfl
      · exact Nat.le_of_ble_eq_true rfl
      · refine ⟨congrArg (fun z => some (Value.int z)) ?_, rfl⟩
        rw [if_pos (by rw [e1] at c1; rw [e2] at c2; omega)]
abbrev rmJ4_hash : Room := ({ frames := 1, cells := 0, slots := 0, locals := 20 } : Room)
set_option maxHeartbeats 4000000 in
theorem metJ4_hash (l : Launch) (D : va_G) (K : Nat → Nat) (w : Gh) {k h : Nat} (hk : KY w k h) (hh : h < 300) : gMet l yJ4_hash (ws_ yJ4_hash cJ4_hash 2 (some .int)) rmJ4_hash D K [.ref k] w (fun r' w' => r' = some (.int (nI h)) ∧ w' = w) := by
  refine gMet.of (by decide) (Nat.le_of_ble_eq_true rfl) ?_
  intro p e s m args below meth c H locs ls S M hr hlocks hname G hl
  have hx := S.1
  have hb := S.2.1
  have hown := S.2.2.2.1
  have hts := S.2.2.2.2
  have hl : lv_has ls 2 [(0, .ref k)] := hl
  obtain ⟨Q, hQ⟩ : ∃ Q, Q = gE below D K (fun r' w' => r' = some (.int (nI h)) ∧ w' = w) args s rmJ4_hash.cells rmJ4_hash.slots := ⟨_, rfl⟩
  rw [← hQ]
  refine lv_aload_n (pc := 0) hx hb dJ4_hash_0 rfl (lv_at hl 0 rfl) ?_
  refine lv_ifnonnull (pc := 1) (tgt := 8) hx hb dJ4_hash_1 (by decide) ?_
  refine lv_aload_n (pc := 8) hx hb dJ4_hash_8 rfl (lv_at hl 0 rfl) ?_
  refine g_callU (pc := 9) (owner := "java/lang/Object") S M G hl.1 [] [] (metX5_hashCode l D K w hk) 0 (g_recv M G hk (q := (RX5, TX5, 2)) rfl) q736 q729 q731 (va_Decl.abs (M.1.2.2.1 _ q728 rfl)) q735 q734 q42 (by decide) rfl ⟨Nat.le_of_ble_eq_true rfl, Nat.le_of_ble_eq_true rfl⟩ rfl (Nat.le_of_ble_eq_true rfl) dJ4_hash_9 ⟨Nat.le_of_ble_eq_true rfl, Nat.le_of_ble_eq_true rfl⟩ (fun r w2 H locs hp G => ?_)
  obtain ⟨rfl, hw2⟩ := hp
  rw [hw2] at G
  refine W.eq (g2 := F0 m 12 ls [.int (nI h)]) rfl ?_
  refine lv_dup (pc := 12) hx hb dJ4_hash_12 rfl ?_
  refine lv_istore_n (pc := 13) (lv' := [(1, .int (nI h)), (0, .ref k)]) hx hb dJ4_hash_13 rfl hl (by decide) rfl (fun ls hl => ?_)
  refine lv_iload_n (pc := 14) hx hb dJ4_hash_14 rfl (lv_at hl 0 rfl) ?_
  refine lv_bipush (pc := 15) (v := 16) hx hb dJ4_hash_15 (by decide) ?_
  refine lv_iushr (pc := 17) hx hb dJ4_hash_17 rfl ?_
  refine lv_ixor (pc := 18) hx hb dJ4_hash_18 ?_
  rw [hQ]
  refine g_iret S G hr hlocks (hdg := dJ4_hash_19) ?_ ?_ ?_
  · exact Nat.le_of_ble_eq_true rfl
  · exact Nat.le_of_ble_eq_true rfl
  · exact ⟨congrArg (fun z => some (Value.int z)) (xor_sh hh), rfl⟩
