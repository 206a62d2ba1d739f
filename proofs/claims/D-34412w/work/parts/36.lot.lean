/-! DroitLine.Lot -/
theorem dF_s {X : DQ} {i k : Nat} {x : Int32} : dF (sF X i k x) i = upd (dF X i) k x := if_pos rfl
theorem dF_sA {X : DQ} {k i : Nat} {x : Int32} : dF (sA X k i x) = dF X := rfl
theorem dF_sC {X : DQ} {k : Nat} {x : Int32} : dF (sC X k x) = dF X := rfl
theorem dF_sM {X : DQ} {k : Nat} {x : Int64} : dF (sM X k x) = dF X := rfl
theorem dF_sB {X : DQ} {b : List (Nat × Int32)} : dF (sB X b) = dF X := rfl
def bOn (i : Nat) (b : List (Nat × Int32)) : List (Nat × Int32) := b.filter (fun q => q.1 / 10 == i)
def bN (i : Nat) (b : List (Nat × Int32)) : Nat := (bOn i b).length
theorem bOn_onl {i : Nat} {hN : Nat → Nat} {bv : Nat → Int32} : ∀ es : List Nat, bOn i (es.map (fun a => (hN a, bv a))) = (onl hN i es).map (fun a => (hN a, bv a))
  | [] => rfl
  | a :: es => by
    have h := bOn_onl (i := i) (hN := hN) (bv := bv) es
    unfold bOn onl at h ⊢
    rw [List.map_cons, List.filter_cons, List.filter_cons, h]
    by_cases q : (hN a / 10 == i) = true
    · rw [if_pos q, if_pos q, List.map_cons]
    · rw [if_neg q, if_neg q]
theorem onl_mem {i : Nat} {hN : Nat → Nat} {es : List Nat} {a : Nat} (h : a ∈ onl hN i es) : a ∈ es ∧ hN a / 10 = i := by
  have h := List.mem_filter.mp h
  exact ⟨h.1, by simpa using h.2⟩
def hS (X : DQ) (i : Nat) : Int32 := (if (dF X i 4) = 2 then 1 else (if (dF X i 4) = 3 then 1 else (if (dF X i 4) = 4 then 1 else 0)))
abbrev rmX4_hasSold : Room := ({ frames := 0, cells := 0, slots := 0, locals := 0 } : Room)
set_option maxHeartbeats 4000000 in
theorem metX4_hasSold (l : Launch) (D : va_G) (K : Nat → Nat) (w : Gh) {dl ca oa i : Nat} {X : DQ} (hD : DW D K w dl ca oa X) (hi : i < dN X) : gMet l yX4_hasSold (ws_ yX4_hasSold cX4_hasSold 1 (some .boolean)) rmX4_hasSold D K [.ref (dL X i)] w (fun r' w' => r' = some (.int (hS X i)) ∧ w' = w) := by
  refine gMet.of (by decide) (Nat.le_of_ble_eq_true rfl) ?_
  intro p e s m args below meth c H locs ls S M hr hlocks hname G hl
  have hx := S.1
  have hb := S.2.1
  have hown := S.2.2.2.1
  have hts := S.2.2.2.2
  have hl : lv_has ls 1 [(0, .ref (dL X i))] := hl
  obtain ⟨Q, hQ⟩ : ∃ Q, Q = gE below D K (fun r' w' => r' = some (.int (hS X i)) ∧ w' = w) args s rmX4_hasSold.cells rmX4_hasSold.slots := ⟨_, rfl⟩
  rw [← hQ]
  have hD0 := hD
  obtain ⟨sb, fb, sh, lq, mp, md, lmd, ks, es, hN, ky, vl, bv, ta, cap, hV⟩ := hD
  have hdl := hV.1.1
  have hbdl := hV.1.2
  have hDD := hV.2.2.2.2.2.2.2.2.2
  have hlo := (hV.2.2.2.1 i hi).1
  have hblo := (hV.2.2.2.1 i hi).2
  have hM := hV.2.2.2.2.1.1
  have hks := hV.2.2.2.2.1.2.1
  have hi30 : i < 30 := Nat.lt_of_lt_of_le hi hV.2.2.1.2.2.1
  refine lv_aload_n (pc := 0) hx hb dX4_hasSold_0 rfl (lv_at hl 0 rfl) ?_
  refine g_get (pc := 1) (v := .int (dF X i 4)) S M G (C := RX4) (T := TX4) (N := 14) (ci := 3) in_X4 hlo rfl 4 (by decide) q531 (Or.inl rfl) rfl dX4_hasSold_1 ?_
  refine lv_iconst (pc := 4) (v := 2) hx hb dX4_hasSold_4 (by decide) ?_
  refine lv_icmp_eq (pc := 5) (tgt := 24) hx hb dX4_hasSold_5 (by decide) (fun c1 => ?_) (fun c1 => ?_)
  · refine lv_iconst (pc := 24) (v := 1) hx hb dX4_hasSold_24 (by decide) ?_
    refine lv_goto (pc := 25) (tgt := 29) hx hb dX4_hasSold_25 (by decide) ?_
    rw [hQ]
    refine g_zret S G hr hlocks (hv := ?_) (hdg := dX4_hasSold_29) ?_ ?_ ?_
    · first | exact Or.inl rfl | exact Or.inr rfl | exact Or.inl rfl
    · exact Nat.le_of_ble_eq_true rfl
    · exact Nat.le_of_ble_eq_true rfl
    · refine ⟨congrArg (fun z => some (Value.int z)) ?_, rfl⟩
      unfold hS
      rw [if_pos c1]
  · refine lv_aload_n (pc := 8) hx hb dX4_hasSold_8 rfl (lv_at hl 0 rfl) ?_
    refine g_get (pc := 9) (v := .int (dF X i 4)) S M G (C := RX4) (T := TX4) (N := 14) (ci := 3) in_X4 hlo rfl 4 (by decide) q531 (Or.inl rfl) rfl dX4_hasSold_9 ?_
    refine lv_iconst (pc := 12) (v := 3) hx hb dX4_hasSold_12 (by decide) ?_
    refine lv_icmp_eq (pc := 13) (tgt := 24) hx hb dX4_hasSold_13 (by decide) (fun c2 => ?_) (fun c2 => ?_)
    · refine lv_iconst (pc := 24) (v := 1) hx hb dX4_hasSold_24 (by decide) ?_
      refine lv_goto (pc := 25) (tgt := 29) hx hb dX4_hasSold_25 (by decide) ?_
      rw [hQ]
      refine g_zret S G hr hlocks (hv := ?_) (hdg := dX4_hasSold_29) ?_ ?_ ?_
      · first | exact Or.inl rfl | exact Or.inr rfl | exact Or.inl rfl
      · exact Nat.le_of_ble_eq_true rfl
      · exact Nat.le_of_ble_eq_true rfl
      · refine ⟨congrArg (fun z => some (Value.int z)) ?_, rfl⟩
        unfold hS
        rw [if_neg c1, if_pos c2]
    · refine lv_aload_n (pc := 16) hx hb dX4_hasSold_16 rfl (lv_at hl 0 rfl) ?_
      refine g_get (pc := 17) (v := .int (dF X i 4)) S M G (C := RX4) (T := TX4) (N := 14) (ci := 3) in_X4 hlo rfl 4 (by decide) q531 (Or.inl rfl) rfl dX4_hasSold_17 ?_
      refine lv_iconst (pc := 20) (v := 4) hx hb dX4_hasSold_20 (by decide) ?_
      refine lv_icmp_ne (pc := 21) (tgt := 28) hx hb dX4_hasSold_21 (by decide) (fun c3 => ?_) (fun c3 => ?_)
      · refine lv_iconst (pc := 28) (v := 0) hx hb dX4_hasSold_28 (by decide) ?_
        rw [hQ]
        refine g_zret S G hr hlocks (hv := ?_) (hdg := dX4_hasSold_29) ?_ ?_ ?_
        · first | exact Or.inl rfl | exact Or.inr rfl | exact Or.inl rfl
        · exact Nat.le_of_ble_eq_true rfl
        · exact Nat.le_of_ble_eq_true rfl
        · refine ⟨congrArg (fun z => some (Value.int z)) ?_, rfl⟩
          unfold hS
          rw [if_neg c1, if_neg c2, if_neg c3]
      · refine lv_iconst (pc := 24) (v := 1) hx hb dX4_hasSold_24 (by decide) ?_
        refine lv_goto (pc := 25) (tgt := 29) hx hb dX4_hasSold_25 (by decide) ?_
        rw [hQ]
        refine g_zret S G hr hlocks (hv := ?_) (hdg := dX4_hasSold_29) ?_ ?_ ?_
        · first | exact Or.inl rfl | exact Or.inr rfl | exact Or.inl rfl
        · exact Nat.le_of_ble_eq_true rfl
        · exact Nat.le_of_ble_eq_true rfl
        · refine ⟨congrArg (fun z => some (Value.int z)) ?_, rfl⟩
          unfold hS
          rw [if_neg c1, if_neg c2, if_pos c3]
def dInt (X : DQ) (i : Nat) : Int32 := (if (dF X i 4) = 4 then (dF X i 10) else ((((((dF X i 8) : Int32).toInt64 * (((dC X 1) - (dF X i 9)) : Int32).toInt64) * ((dC X 0) : Int32).toInt64) / 100000) : Int64).toInt32)
abbrev rmX4_interestNow : Room := ({ frames := 0, cells := 0, slots := 0, locals := 0 } : Room)
set_option maxHeartbeats 4000000 in
theorem metX4_interestNow (l : Launch) (D : va_G) (K : Nat → Nat) (w : Gh) {dl ca oa i : Nat} {X : DQ} (hD : DW D K w dl ca oa X) (hi : i < dN X) : gMet l yX4_interestNow (ws_ yX4_interestNow cX4_interestNow 1 (some .int)) rmX4_interestNow D K [.ref (dL X i)] w (fun r' w' => r' = some (.int (dInt X i)) ∧ w' = w) := by
  refine gMet.of (by decide) (Nat.le_of_ble_eq_true rfl) ?_
  intro p e s m args below meth c H locs ls S M hr hlocks hname G hl
  have hx := S.1
  have hb := S.2.1
  have hown := S.2.2.2.1
  have hts := S.2.2.2.2
  have hl : lv_has ls 1 [(0, .ref (dL X i))] := hl
  obtain ⟨Q, hQ⟩ : ∃ Q, Q = gE below D K (fun r' w' => r' = some (.int (dInt X i)) ∧ w' = w) args s rmX4_interestNow.cells rmX4_interestNow.slots := ⟨_, rfl⟩
  rw [← hQ]
  have hD0 := hD
  obtain ⟨sb, fb, sh, lq, mp, md, lmd, ks, es, hN, ky, vl, bv, ta, cap, hV⟩ := hD
  have hdl := hV.1.1
  have hbdl := hV.1.2
  have hDD := hV.2.2.2.2.2.2.2.2.2
  have hlo := (hV.2.2.2.1 i hi).1
  have hblo := (hV.2.2.2.1 i hi).2
  have hM := hV.2.2.2.2.1.1
  have hks := hV.2.2.2.2.1.2.1
  have hi30 : i < 30 := Nat.lt_of_lt_of_le hi hV.2.2.1.2.2.1
  refine lv_aload_n (pc := 0) hx hb dX4_interestNow_0 rfl (lv_at hl 0 rfl) ?_
  refine g_get (pc := 1) (v := .int (dF X i 4)) S M G (C := RX4) (T := TX4) (N := 14) (ci := 3) in_X4 hlo rfl 4 (by decide) q531 (Or.inl rfl) rfl dX4_interestNow_1 ?_
  refine lv_iconst (pc := 4) (v := 4) hx hb dX4_interestNow_4 (by decide) ?_
  refine lv_icmp_ne (pc := 5) (tgt := 15) hx hb dX4_interestNow_5 (by decide) (fun c1 => ?_) (fun c1 => ?_)
  · refine lv_aload_n (pc := 15) hx hb dX4_interestNow_15 rfl (lv_at hl 0 rfl) ?_
    refine g_get (pc := 16) (v := .int (dF X i 8)) S M G (C := RX4) (T := TX4) (N := 14) (ci := 3) in_X4 hlo rfl 8 (by decide) q538 (Or.inl rfl) rfl dX4_interestNow_16 ?_
    refine lv_i2l (pc := 19) hx hb dX4_interestNow_19 rfl ?_
    refine lv_aload_n (pc := 20) hx hb dX4_interestNow_20 rfl (lv_at hl 0 rfl) ?_
    refine g_get (pc := 21) (v := .ref dl) S M G (C := RX4) (T := TX4) (N := 14) (ci := 3) in_X4 hlo rfl 13 (by decide) q547 (Or.inl rfl) rfl dX4_interestNow_21 ?_
    refine g_getN (pc := 24) (v := .int (dC X 1)) S M G (C := RX1) (T := TX1) (N := 12) (ci := 0) in_X1 hdl rfl 8 (by decide) q178 rfl rfl dX4_interestNow_24 ?_
    refine lv_aload_n (pc := 27) hx hb dX4_interestNow_27 rfl (lv_at hl 0 rfl) ?_
    refine g_get (pc := 28) (v := .int (dF X i 9)) S M G (C := RX4) (T := TX4) (N := 14) (ci := 3) in_X4 hlo rfl 9 (by decide) q540 (Or.inl rfl) rfl dX4_interestNow_28 ?_
    refine lv_isub (pc := 31) hx hb dX4_interestNow_31 ?_
    refine lv_i2l (pc := 32) hx hb dX4_interestNow_32 rfl ?_
    refine lv_lmul (pc := 33) hx hb dX4_interestNow_33 ?_
    refine lv_aload_n (pc := 34) hx hb dX4_interestNow_34 rfl (lv_at hl 0 rfl) ?_
    refine g_get (pc := 35) (v := .ref dl) S M G (C := RX4) (T := TX4) (N := 14) (ci := 3) in_X4 hlo rfl 13 (by decide) q547 (Or.inl rfl) rfl dX4_interestNow_35 ?_
    refine g_getN (pc := 38) (v := .int (dC X 0)) S M G (C := RX1) (T := TX1) (N := 12) (ci := 0) in_X1 hdl rfl 7 (by decide) q177 rfl rfl dX4_interestNow_38 ?_
    refine lv_i2l (pc := 41) hx hb dX4_interestNow_41 rfl ?_
    refine lv_lmul (pc := 42) hx hb dX4_interestNow_42 ?_
    refine lv_ldc2 (pc := 43) (v := 100000) hx hb hown (hts _ q1230) dX4_interestNow_43 ?_
    refine lv_ldiv (pc := 46) hx hb dX4_interestNow_46 (by decide) ?_
    refine lv_l2i (pc := 47) hx hb dX4_interestNow_47 rfl ?_
    rw [hQ]
    refine g_iret S G hr hlocks (hdg := dX4_interestNow_48) ?_ ?_ ?_
    · exact Nat.le_of_ble_eq_true rfl
    · exact Nat.le_of_ble_eq_true rfl
    · refine ⟨congrArg (fun z => some (Value.int z)) ?_, rfl⟩
      unfold dInt
      rw [if_neg c1]
  · refine lv_aload_n (pc := 8) hx hb dX4_interestNow_8 rfl (lv_at hl 0 rfl) ?_
    refine g_get (pc := 9) (v := .int (dF X i 10)) S M G (C := RX4) (T := TX4) (N := 14) (ci := 3) in_X4 hlo rfl 10 (by decide) q542 (Or.inl rfl) rfl dX4_interestNow_9 ?_
    refine lv_goto (pc := 12) (tgt := 48) hx hb dX4_interestNow_12 (by decide) ?_
    rw [hQ]
    refine g_iret S G hr hlocks (hdg := dX4_interestNow_48) ?_ ?_ ?_
    · exact Nat.le_of_ble_eq_true rfl
    · exact Nat.le_of_ble_eq_true rfl
    · refine ⟨congrArg (fun z => some (Value.int z)) ?_, rfl⟩
      unfold dInt
      rw [if_pos c1]
def dFee (X : DQ) (i : Nat) : Int32 := (bOf BDf (dF X i 6) 0)
abbrev rmX4_fee : Room := ({ frames := 4, cells := 0, slots := 0, locals := 99 } : Room)
set_option maxHeartbeats 4000000 in
theorem metX4_fee (l : Launch) (D : va_G) (K : Nat → Nat) (w : Gh) {dl ca oa i : Nat} {X : DQ} (hD : DW D K w dl ca oa X) (hi : i < dN X) : gMet l yX4_fee (ws_ yX4_fee cX4_fee 1 (some .int)) rmX4_fee D K [.ref (dL X i)] w (fun r' w' => r' = some (.int (dFee X i)) ∧ w' = w) := by
  refine gMet.of (by decide) (Nat.le_of_ble_eq_true rfl) ?_
  intro p e s m args below meth c H locs ls S M hr hlocks hname G hl
  have hx := S.1
  have hb := S.2.1
  have hown := S.2.2.2.1
  have hts := S.2.2.2.2
  have hl : lv_has ls 1 [(0, .ref (dL X i))] := hl
  obtain ⟨Q, hQ⟩ : ∃ Q, Q = gE below D K (fun r' w' => r' = some (.int (dFee X i)) ∧ w' = w) args s rmX4_fee.cells rmX4_fee.slots := ⟨_, rfl⟩
  rw [← hQ]
  have hD0 := hD
  obtain ⟨sb, fb, sh, lq, mp, md, lmd, ks, es, hN, ky, vl, bv, ta, cap, hV⟩ := hD
  have hdl := hV.1.1
  have hbdl := hV.1.2
  have hDD := hV.2.2.2.2.2.2.2.2.2
  have hlo := (hV.2.2.2.1 i hi).1
  have hblo := (hV.2.2.2.1 i hi).2
  have hM := hV.2.2.2.2.1.1
  have hks := hV.2.2.2.2.1.2.1
  have hi30 : i < 30 := Nat.lt_of_lt_of_le hi hV.2.2.1.2.2.1
  obtain ⟨fssb, hcsb⟩ : ∃ z, w sb = some (.inr (1, z)) := by obtain ⟨b9, h9, -⟩ := hV.2.1.1; exact ⟨_, h9⟩
  obtain ⟨fsfb, hcfb⟩ : ∃ z, w fb = some (.inr (1, z)) := by obtain ⟨b9, h9, -⟩ := hV.2.1.2.1; exact ⟨_, h9⟩
  obtain ⟨fssh, hcsh⟩ : ∃ z, w sh = some (.inr (1, z)) := by obtain ⟨b9, h9, -⟩ := hV.2.1.2.2; exact ⟨_, h9⟩
  refine lv_aload_n (pc := 0) hx hb dX4_fee_0 rfl (lv_at hl 0 rfl) ?_
  refine g_get (pc := 1) (v := .ref dl) S M G (C := RX4) (T := TX4) (N := 14) (ci := 3) in_X4 hlo rfl 13 (by decide) q547 (Or.inl rfl) rfl dX4_fee_1 ?_
  refine g_getN (pc := 4) (v := .ref fb) S M G (C := RX1) (T := TX1) (N := 12) (ci := 0) in_X1 hdl rfl 1 (by decide) q168 rfl rfl dX4_fee_4 ?_
  refine lv_aload_n (pc := 7) hx hb dX4_fee_7 rfl (lv_at hl 0 rfl) ?_
  refine g_get (pc := 8) (v := .int (dF X i 6)) S M G (C := RX4) (T := TX4) (N := 14) (ci := 3) in_X4 hlo rfl 6 (by decide) q535 (Or.inl rfl) rfl dX4_fee_8 ?_
  refine lv_iconst (pc := 11) (v := 0) hx hb dX4_fee_11 (by decide) ?_
  refine g_callV (pc := 12) S M G hl.1 [.int (dF X i 6), .int 0] [] (metX2_of3 l D K w (f := 0) hV.2.1.2.1) 2 (g_recv M G hcfb (q := (RX2, TX2, 3)) rfl) q1193 q1190 q1191 q1192 q19 (by decide) rfl ⟨Nat.le_of_ble_eq_true rfl, Nat.le_of_ble_eq_true rfl⟩ rfl (Nat.le_of_ble_eq_true rfl) dX4_fee_12 ⟨Nat.le_of_ble_eq_true rfl, Nat.le_of_ble_eq_true rfl⟩ (fun r w2 H locs hp G => ?_)
  obtain ⟨rfl, hw2⟩ := hp
  rw [hw2] at G
  refine W.eq (g2 := F0 m 15 ls [.int (bOf BDf (dF X i 6) 0)]) rfl ?_
  rw [hQ]
  refine g_iret S G hr hlocks (hdg := dX4_fee_15) ?_ ?_ ?_
  · exact Nat.le_of_ble_eq_true rfl
  · exact Nat.le_of_ble_eq_true rfl
  · refine ⟨congrArg (fun z => some (Value.int z)) ?_, rfl⟩
    unfold dFee
    rfl
def dShare (X : DQ) (i : Nat) : Int32 := (if (hS X i) = 0 then 0 else (if (dF X i 2) = (-1) then 0 else (if (dF X i 6) < 1000 then 0 else (if (dF X i 2) = 0 then (if (bOf BDh (dF X i 6) 0) < 12500 then (bOf BDh (dF X i 6) 0) else 12500) else (if 70 < ((2000 + ((dF X i 7) / 365)) - (dF X i 2)) then 0 else (if (bOf BDh (dF X i 6) 0) < 12500 then (bOf BDh (dF X i 6) 0) else 12500))))))
abbrev rmX4_share : Room := ({ frames := 4, cells := 0, slots := 0, locals := 99 } : Room)
set_option maxHeartbeats 4000000 in
theorem metX4_share (l : Launch) (D : va_G) (K : Nat → Nat) (w : Gh) {dl ca oa i : Nat} {X : DQ} (hD : DW D K w dl ca oa X) (hi : i < dN X) : gMet l yX4_share (ws_ yX4_share cX4_share 3 (some .int)) rmX4_share D K [.ref (dL X i)] w (fun r' w' => r' = some (.int (dShare X i)) ∧ w' = w) := by
  refine gMet.of (by decide) (Nat.le_of_ble_eq_true rfl) ?_
  intro p e s m args below meth c H locs ls S M hr hlocks hname G hl
  have hx := S.1
  have hb := S.2.1
  have hown := S.2.2.2.1
  have hts := S.2.2.2.2
  have hl : lv_has ls 3 [(0, .ref (dL X i))] := hl
  obtain ⟨Q, hQ⟩ : ∃ Q, Q = gE below D K (fun r' w' => r' = some (.int (dShare X i)) ∧ w' = w) args s rmX4_share.cells rmX4_share.slots := ⟨_, rfl⟩
  rw [← hQ]
  have hD0 := hD
  obtain ⟨sb, fb, sh, lq, mp, md, lmd, ks, es, hN, ky, vl, bv, ta, cap, hV⟩ := hD
  have hdl := hV.1.1
  have hbdl := hV.1.2
  have hDD := hV.2.2.2.2.2.2.2.2.2
  have hlo := (hV.2.2.2.1 i hi).1
  have hblo := (hV.2.2.2.1 i hi).2
  have hM := hV.2.2.2.2.1.1
  have hks := hV.2.2.2.2.1.2.1
  have hi30 : i < 30 := Nat.lt_of_lt_of_le hi hV.2.2.1.2.2.1
  obtain ⟨fssb, hcsb⟩ : ∃ z, w sb = some (.inr (1, z)) := by obtain ⟨b9, h9, -⟩ := hV.2.1.1; exact ⟨_, h9⟩
  obtain ⟨fsfb, hcfb⟩ : ∃ z, w fb = some (.inr (1, z)) := by obtain ⟨b9, h9, -⟩ := hV.2.1.2.1; exact ⟨_, h9⟩
  obtain ⟨fssh, hcsh⟩ : ∃ z, w sh = some (.inr (1, z)) := by obtain ⟨b9, h9, -⟩ := hV.2.1.2.2; exact ⟨_, h9⟩
  refine lv_sipush (pc := 0) (v := 2000) hx hb dX4_share_0 (by decide) ?_
  refine lv_aload_n (pc := 3) hx hb dX4_share_3 rfl (lv_at hl 0 rfl) ?_
  refine g_get (pc := 4) (v := .int (dF X i 7)) S M G (C := RX4) (T := TX4) (N := 14) (ci := 3) in_X4 hlo rfl 7 (by decide) q537 (Or.inl rfl) rfl dX4_share_4 ?_
  refine lv_sipush (pc := 7) (v := 365) hx hb dX4_share_7 (by decide) ?_
  refine lv_idiv (pc := 10) hx hb dX4_share_10 (by decide) ?_
  refine lv_iadd (pc := 11) hx hb dX4_share_11 ?_
  refine lv_istore_n (pc := 12) (lv' := [(1, .int (2000 + ((dF X i 7) / 365))), (0, .ref (dL X i))]) hx hb dX4_share_12 rfl hl (by decide) rfl (fun ls hl => ?_)
  refine lv_aload_n (pc := 13) hx hb dX4_share_13 rfl (lv_at hl 1 rfl) ?_
  refine g_callV (pc := 14) S M G hl.1 [] [] (metX4_hasSold l D K w hD0 hi) 0 (g_recv M G hlo (q := (RX4, TX4, 14)) rfl) q1238 q1235 q1236 q1237 q35 (by decide) rfl ⟨Nat.le_of_ble_eq_true rfl, Nat.le_of_ble_eq_true rfl⟩ rfl (Nat.le_of_ble_eq_true rfl) dX4_share_14 ⟨Nat.le_of_ble_eq_true rfl, Nat.le_of_ble_eq_true rfl⟩ (fun r w2 H locs hp G => ?_)
  obtain ⟨rfl, hw2⟩ := hp
  rw [hw2] at G
  refine W.eq (g2 := F0 m 17 ls [.int (hS X i)]) rfl ?_
  refine lv_if_eq (pc := 17) (tgt := 60) hx hb dX4_share_17 (by decide) (fun c1 => ?_) (fun c1 => ?_)
  · refine lv_iconst (pc := 60) (v := 0) hx hb dX4_share_60 (by decide) ?_
    refine lv_istore_n (pc := 61) (lv' := [(2, .int 0), (1, .int (2000 + ((dF X i 7) / 365))), (0, .ref (dL X i))]) hx hb dX4_share_61 rfl hl (by decide) rfl (fun ls hl => ?_)
    refine lv_iload_n (pc := 62) hx hb dX4_share_62 rfl (lv_at hl 0 rfl) ?_
    refine lv_if_eq (pc := 63) (tgt := 90) hx hb dX4_share_63 (by decide) (fun _ => ?_) (fun c => absurd c (by decide))
    refine lv_iconst (pc := 90) (v := 0) hx hb dX4_share_90 (by decide) ?_
    rw [hQ]
    refine g_iret S G hr hlocks (hdg := dX4_share_91) ?_ ?_ ?_
    · exact Nat.le_of_ble_eq_true rfl
    · exact Nat.le_of_ble_eq_true rfl
    · refine ⟨congrArg (fun z => some (Value.int z)) ?_, rfl⟩
      unfold dShare
      rw [if_pos c1]
  · refine lv_aload_n (pc := 20) hx hb dX4_share_20 rfl (lv_at hl 1 rfl) ?_
    refine g_get (pc := 21) (v := .int (dF X i 2)) S M G (C := RX4) (T := TX4) (N := 14) (ci := 3) in_X4 hlo rfl 2 (by decide) q528 (Or.inl rfl) rfl dX4_share_21 ?_
    refine lv_iconst (pc := 24) (v := (-1)) hx hb dX4_share_24 (by decide) ?_
    refine lv_icmp_eq (pc := 25) (tgt := 60) hx hb dX4_share_25 (by decide) (fun c2 => ?_) (fun c2 => ?_)
    · refine lv_iconst (pc := 60) (v := 0) hx hb dX4_share_60 (by decide) ?_
      refine lv_istore_n (pc := 61) (lv' := [(2, .int 0), (1, .int (2000 + ((dF X i 7) / 365))), (0, .ref (dL X i))]) hx hb dX4_share_61 rfl hl (by decide) rfl (fun ls hl => ?_)
      refine lv_iload_n (pc := 62) hx hb dX4_share_62 rfl (lv_at hl 0 rfl) ?_
      refine lv_if_eq (pc := 63) (tgt := 90) hx hb dX4_share_63 (by decide) (fun _ => ?_) (fun c => absurd c (by decide))
      refine lv_iconst (pc := 90) (v := 0) hx hb dX4_share_90 (by decide) ?_
      rw [hQ]
      refine g_iret S G hr hlocks (hdg := dX4_share_91) ?_ ?_ ?_
      · exact Nat.le_of_ble_eq_true rfl
      · exact Nat.le_of_ble_eq_true rfl
      · refine ⟨congrArg (fun z => some (Value.int z)) ?_, rfl⟩
        unfold dShare
        rw [if_neg c1, if_pos c2]
    · refine lv_aload_n (pc := 28) hx hb dX4_share_28 rfl (lv_at hl 1 rfl) ?_
      refine g_get (pc := 29) (v := .int (dF X i 6)) S M G (C := RX4) (T := TX4) (N := 14) (ci := 3) in_X4 hlo rfl 6 (by decide) q535 (Or.inl rfl) rfl dX4_share_29 ?_
      refine lv_sipush (pc := 32) (v := 1000) hx hb dX4_share_32 (by decide) ?_
      refine lv_icmp_lt (pc := 35) (tgt := 60) hx hb dX4_share_35 (by decide) (fun c3 => ?_) (fun c3 => ?_)
      · refine lv_iconst (pc := 60) (v := 0) hx hb dX4_share_60 (by decide) ?_
        refine lv_istore_n (pc := 61) (lv' := [(2, .int 0), (1, .int (2000 + ((dF X i 7) / 365))), (0, .ref (dL X i))]) hx hb dX4_share_61 rfl hl (by decide) rfl (fun ls hl => ?_)
        refine lv_iload_n (pc := 62) hx hb dX4_share_62 rfl (lv_at hl 0 rfl) ?_
        refine lv_if_eq (pc := 63) (tgt := 90) hx hb dX4_share_63 (by decide) (fun _ => ?_) (fun c => absurd c (by decide))
        refine lv_iconst (pc := 90) (v := 0) hx hb dX4_share_90 (by decide) ?_
        rw [hQ]
        refine g_iret S G hr hlocks (hdg := dX4_share_91) ?_ ?_ ?_
        · exact Nat.le_of_ble_eq_true rfl
        · exact Nat.le_of_ble_eq_true rfl
        · refine ⟨congrArg (fun z => some (Value.int z)) ?_, rfl⟩
          unfold dShare
          rw [if_neg c1, if_neg c2, if_pos c3]
      · refine lv_aload_n (pc := 38) hx hb dX4_share_38 rfl (lv_at hl 1 rfl) ?_
        refine g_get (pc := 39) (v := .int (dF X i 2)) S M G (C := RX4) (T := TX4) (N := 14) (ci := 3) in_X4 hlo rfl 2 (by decide) q528 (Or.inl rfl) rfl dX4_share_39 ?_
        refine lv_if_eq (pc := 42) (tgt := 56) hx hb dX4_share_42 (by decide) (fun c4 => ?_) (fun c4 => ?_)
        · refine lv_iconst (pc := 56) (v := 1) hx hb dX4_share_56 (by decide) ?_
          refine lv_goto (pc := 57) (tgt := 61) hx hb dX4_share_57 (by decide) ?_
          refine lv_istore_n (pc := 61) (lv' := [(2, .int 1), (1, .int (2000 + ((dF X i 7) / 365))), (0, .ref (dL X i))]) hx hb dX4_share_61 rfl hl (by decide) rfl (fun ls hl => ?_)
          refine lv_iload_n (pc := 62) hx hb dX4_share_62 rfl (lv_at hl 0 rfl) ?_
          refine lv_if_eq (pc := 63) (tgt := 90) hx hb dX4_share_63 (by decide) (fun c => absurd c (by decide)) (fun _ => ?_)
          refine lv_sipush (pc := 66) (v := 12500) hx hb dX4_share_66 (by decide) ?_
          refine lv_aload_n (pc := 69) hx hb dX4_share_69 rfl (lv_at hl 2 rfl) ?_
          refine g_get (pc := 70) (v := .ref dl) S M G (C := RX4) (T := TX4) (N := 14) (ci := 3) in_X4 hlo rfl 13 (by decide) q547 (Or.inl rfl) rfl dX4_share_70 ?_
          refine g_getN (pc := 73) (v := .ref sh) S M G (C := RX1) (T := TX1) (N := 12) (ci := 0) in_X1 hdl rfl 2 (by decide) q170 rfl rfl dX4_share_73 ?_
          refine lv_aload_n (pc := 76) hx hb dX4_share_76 rfl (lv_at hl 2 rfl) ?_
          refine g_get (pc := 77) (v := .int (dF X i 6)) S M G (C := RX4) (T := TX4) (N := 14) (ci := 3) in_X4 hlo rfl 6 (by decide) q535 (Or.inl rfl) rfl dX4_share_77 ?_
          refine lv_iconst (pc := 80) (v := 0) hx hb dX4_share_80 (by decide) ?_
          refine g_callV (pc := 81) S M G hl.1 [.int (dF X i 6), .int 0] [.int 12500] (metX2_of3 l D K w (f := 0) hV.2.1.2.2) 2 (g_recv M G hcsh (q := (RX2, TX2, 3)) rfl) q1193 q1190 q1191 q1192 q19 (by decide) rfl ⟨Nat.le_of_ble_eq_true rfl, Nat.le_of_ble_eq_true rfl⟩ rfl (Nat.le_of_ble_eq_true rfl) dX4_share_81 ⟨Nat.le_of_ble_eq_true rfl, Nat.le_of_ble_eq_true rfl⟩ (fun r w2 H locs hp G => ?_)
          obtain ⟨rfl, hw2⟩ := hp
          rw [hw2] at G
          refine W.eq (g2 := F0 m 84 ls [.int (bOf BDh (dF X i 6) 0), .int 12500]) rfl ?_
          refine g_min (pc := 84) (x := 12500) (y := (bOf BDh (dF X i 6) 0)) S hl.1 q1124 (Nat.le_of_ble_eq_true rfl) (Nat.le_of_ble_eq_true rfl) (Nat.le_of_ble_eq_true rfl) (Nat.le_of_ble_eq_true rfl) dX4_share_84 ?_
          refine lv_goto (pc := 87) (tgt := 91) hx hb dX4_share_87 (by decide) ?_
          rw [hQ]
          refine g_iret S G hr hlocks (hdg := dX4_share_91) ?_ ?_ ?_
          · exact Nat.le_of_ble_eq_true rfl
          · exact Nat.le_of_ble_eq_true rfl
          · refine ⟨congrArg (fun z => some (Value.int z)) ?_, rfl⟩
            unfold dShare
            rw [if_neg c1, if_neg c2, if_neg c3, if_pos c4]
        · refine lv_iload_n (pc := 45) hx hb dX4_share_45 rfl (lv_at hl 0 rfl) ?_
          refine lv_aload_n (pc := 46) hx hb dX4_share_46 rfl (lv_at hl 1 rfl) ?_
          refine g_get (pc := 47) (v := .int (dF X i 2)) S M G (C := RX4) (T := TX4) (N := 14) (ci := 3) in_X4 hlo rfl 2 (by decide) q528 (Or.inl rfl) rfl dX4_share_47 ?_
          refine lv_isub (pc := 50) hx hb dX4_share_50 ?_
          refine lv_bipush (pc := 51) (v := 70) hx hb dX4_share_51 (by decide) ?_
          refine lv_icmp_gt (pc := 53) (tgt := 60) hx hb dX4_share_53 (by decide) (fun c5 => ?_) (fun c5 => ?_)
          · refine lv_iconst (pc := 60) (v := 0) hx hb dX4_share_60 (by decide) ?_
            refine lv_istore_n (pc := 61) (lv' := [(2, .int 0), (1, .int (2000 + ((dF X i 7) / 365))), (0, .ref (dL X i))]) hx hb dX4_share_61 rfl hl (by decide) rfl (fun ls hl => ?_)
            refine lv_iload_n (pc := 62) hx hb dX4_share_62 rfl (lv_at hl 0 rfl) ?_
            refine lv_if_eq (pc := 63) (tgt := 90) hx hb dX4_share_63 (by decide) (fun _ => ?_) (fun c => absurd c (by decide))
            refine lv_iconst (pc := 90) (v := 0) hx hb dX4_share_90 (by decide) ?_
            rw [hQ]
            refine g_iret S G hr hlocks (hdg := dX4_share_91) ?_ ?_ ?_
            · exact Nat.le_of_ble_eq_true rfl
            · exact Nat.le_of_ble_eq_true rfl
            · refine ⟨congrArg (fun z => some (Value.int z)) ?_, rfl⟩
              unfold dShare
              rw [if_neg c1, if_neg c2, if_neg c3, if_neg c4, if_pos c5]
          · refine lv_iconst (pc := 56) (v := 1) hx hb dX4_share_56 (by decide) ?_
            refine lv_goto (pc := 57) (tgt := 61) hx hb dX4_share_57 (by decide) ?_
            refine lv_istore_n (pc := 61) (lv' := [(2, .int 1), (1, .int (2000 + ((dF X i 7) / 365))), (0, .ref (dL X i))]) hx hb dX4_share_61 rfl hl (by decide) rfl (fun ls hl => ?_)
            refine lv_iload_n (pc := 62) hx hb dX4_share_62 rfl (lv_at hl 0 rfl) ?_
            refine lv_if_eq (pc := 63) (tgt := 90) hx hb dX4_share_63 (by decide) (fun c => absurd c (by decide)) (fun _ => ?_)
            refine lv_sipush (pc := 66) (v := 12500) hx hb dX4_share_66 (by decide) ?_
            refine lv_aload_n (pc := 69) hx hb dX4_share_69 rfl (lv_at hl 2 rfl) ?_
            refine g_get (pc := 70) (v := .ref dl) S M G (C := RX4) (T := TX4) (N := 14) (ci := 3) in_X4 hlo rfl 13 (by decide) q547 (Or.inl rfl) rfl dX4_share_70 ?_
            refine g_getN (pc := 73) (v := .ref sh) S M G (C := RX1) (T := TX1) (N := 12) (ci := 0) in_X1 hdl rfl 2 (by decide) q170 rfl rfl dX4_share_73 ?_
            refine lv_aload_n (pc := 76) hx hb dX4_share_76 rfl (lv_at hl 2 rfl) ?_
            refine g_get (pc := 77) (v := .int (dF X i 6)) S M G (C := RX4) (T := TX4) (N := 14) (ci := 3) in_X4 hlo rfl 6 (by decide) q535 (Or.inl rfl) rfl dX4_share_77 ?_
            refine lv_iconst (pc := 80) (v := 0) hx hb dX4_share_80 (by decide) ?_
            refine g_callV (pc := 81) S M G hl.1 [.int (dF X i 6), .int 0] [.int 12500] (metX2_of3 l D K w (f := 0) hV.2.1.2.2) 2 (g_recv M G hcsh (q := (RX2, TX2, 3)) rfl) q1193 q1190 q1191 q1192 q19 (by decide) rfl ⟨Nat.le_of_ble_eq_true rfl, Nat.le_of_ble_eq_true rfl⟩ rfl (Nat.le_of_ble_eq_true rfl) dX4_share_81 ⟨Nat.le_of_ble_eq_true rfl, Nat.le_of_ble_eq_true rfl⟩ (fun r w2 H locs hp G => ?_)
            obtain ⟨rfl, hw2⟩ := hp
            rw [hw2] at G
            refine W.eq (g2 := F0 m 84 ls [.int (bOf BDh (dF X i 6) 0), .int 12500]) rfl ?_
            refine g_min (pc := 84) (x := 12500) (y := (bOf BDh (dF X i 6) 0)) S hl.1 q1124 (Nat.le_of_ble_eq_true rfl) (Nat.le_of_ble_eq_true rfl) (Nat.le_of_ble_eq_true rfl) (Nat.le_of_ble_eq_true rfl) dX4_share_84 ?_
            refine lv_goto (pc := 87) (tgt := 91) hx hb dX4_share_87 (by decide) ?_
            rw [hQ]
            refine g_iret S G hr hlocks (hdg := dX4_share_91) ?_ ?_ ?_
            · exact Nat.le_of_ble_eq_true rfl
            · exact Nat.le_of_ble_eq_true rfl
            · refine ⟨congrArg (fun z => some (Value.int z)) ?_, rfl⟩
              unfold dShare
              rw [if_neg c1, if_neg c2, if_neg c3, if_neg c4, if_neg c5]
theorem dk_i {D : va_G} {ca oa lq t a : Nat} {x : va_E} (h : dk D ca oa lq t a x) : ∀ fs, x ≠ .inr (5, fs) ∧ x ≠ .inr (10, fs) := fun fs => ⟨fun e => by subst e; exact h.2.1 rfl, fun e => by subst e; exact h.2.2.1 rfl⟩
abbrev rmX4_many : Room := ({ frames := 7, cells := 3, slots := 10, locals := 145 } : Room)
set_option maxHeartbeats 4000000 in
theorem metX4_many (l : Launch) (D : va_G) (K : Nat → Nat) (w : Gh) {dl ca oa i : Nat} {X : DQ} (hD : DW D K w dl ca oa X) (hi : i < dN X) : gMet l yX4_many (ws_ yX4_many cX4_many 4 (some .int)) rmX4_many D K [.ref (dL X i)] w (fun r' w' => r' = some (.int (nI (bN i (dB X)))) ∧ DW D K w' dl ca oa X ∧ FD D ca oa w w') := by
  refine gMet.of (by decide) (Nat.le_of_ble_eq_true rfl) ?_
  intro p e s m args below meth c H locs ls S M hr hlocks hname G hl
  have hx := S.1
  have hb := S.2.1
  have hown := S.2.2.2.1
  have hts := S.2.2.2.2
  have hl : lv_has ls 4 [(0, .ref (dL X i))] := hl
  obtain ⟨Q, hQ⟩ : ∃ Q, Q = gE below D K (fun r' w' => r' = some (.int (nI (bN i (dB X)))) ∧ DW D K w' dl ca oa X ∧ FD D ca oa w w') args s rmX4_many.cells rmX4_many.slots := ⟨_, rfl⟩
  rw [← hQ]
  have hD0 := hD
  obtain ⟨sb, fb, sh, lq, mp, md, lmd, ks, es, hN, ky, vl, bv, ta, cap, hV⟩ := hD
  have hdl := hV.1.1
  have hbdl := hV.1.2
  have hDD := hV.2.2.2.2.2.2.2.2.2
  have hlo := (hV.2.2.2.1 i hi).1
  have hblo := (hV.2.2.2.1 i hi).2
  have hM := hV.2.2.2.2.1.1
  have hks := hV.2.2.2.2.1.2.1
  have hi30 : i < 30 := Nat.lt_of_lt_of_le hi hV.2.2.1.2.2.1
  have hFD0 : FD D ca oa w w := FD.rf
  refine lv_iconst (pc := 0) (v := 0) hx hb dX4_many_0 (by decide) ?_
  refine lv_istore_n (pc := 1) (lv' := [(1, .int 0), (0, .ref (dL X i))]) hx hb dX4_many_1 rfl hl (by decide) rfl (fun ls hl => ?_)
  refine lv_aload_n (pc := 2) hx hb dX4_many_2 rfl (lv_at hl 1 rfl) ?_
  refine g_callV (pc := 3) S M G hl.1 [] [] (metX4_iterator l D K w hlo hdl hM hks hi30) 0 (g_recv M G hlo (q := (RX4, TX4, 14)) rfl) q1010 q1007 q1008 q1009 q35 (by decide) rfl ⟨Nat.le_of_ble_eq_true rfl, Nat.le_of_ble_eq_true rfl⟩ rfl (Nat.le_of_ble_eq_true rfl) dX4_many_3 ⟨Nat.le_of_ble_eq_true rfl, Nat.le_of_ble_eq_true rfl⟩ (fun r w2 H locs hp G => ?_)
  refine W.widen (k := 3) (n := 10) (Nat.le_of_ble_eq_true rfl) (Nat.le_of_ble_eq_true rfl) ?_
  obtain ⟨q, k, rfl, hLI, hM2, hk2, hF2⟩ := hp
  have hlo2 := hF2 (dL X i) _ hlo ⟨fun e => absurd (show (3 : Nat) = 7 from e) (by decide), fun e => absurd (show (3 : Nat) = 8 from e) (by decide)⟩
  have hdl2 := hF2 dl _ hdl ⟨fun e => absurd (show (0 : Nat) = 7 from e) (by decide), fun e => absurd (show (0 : Nat) = 8 from e) (by decide)⟩
  have hV2 : DV D K w2 dl ca oa X sb fb sh lq mp md lmd (some k) es hN ky vl bv ta cap := hV.map hF2 hM2 (fun k' e => by cases e; exact hk2) (fun a ha => hF2 _ _ (hV.2.2.2.2.1.2.2.1 a ha) ⟨fun e => absurd (show (12 : Nat) = 7 from e) (by decide), fun e => absurd (show (12 : Nat) = 8 from e) (by decide)⟩) hV.2.2.2.2.1.2.2.2
  have hFD2 : FD D ca oa w w2 := hFD0.tr (FD.m hDD hF2)
  refine W.eq (g2 := F0 m 6 ls [.ref q]) rfl ?_
  refine lv_astore_n (pc := 6) (lv' := [(2, .ref q), (1, .int 0), (0, .ref (dL X i))]) hx hb dX4_many_6 rfl hl (by decide) rfl (fun ls hl => ?_)
  have Lm : ∀ (ms : List Nat) (c0 : Nat) (w1 : Gh) (H : Heap) (locs : List Loc) (ls : Array Slot), LI K w1 q (dL X i) mp i md es hN ky ms → FRI w2 w1 → (∀ a ∈ ms, a ∈ onl hN i es) → c0 + ms.length = (onl hN i es).length → gS D K w1 s H locs → lv_has ls 4 [(2, .ref q), (1, .int (nI c0)), (0, .ref (dL X i))] → W p l e rmX4_many s m args below meth c H locs 3 10 Q (F0 m 7 ls []) := by
    intro ms
    induction ms with
    | nil =>
      intro c0 w1 H locs ls hL hF1 hin hc0 G hl
      obtain ⟨it0, hq1⟩ := hL.it
      have hlo1 := hF1.k4 hlo2 (by decide) (by decide)
      have hdl1 := hF1.k4 hdl2 (by decide) (by decide)
      have hV1 : DV D K w1 dl ca oa X sb fb sh lq mp md lmd (some k) es hN ky vl bv ta cap := hV2.kp (fun a x q1 q2 => hF1 a x q1 (dk_i q2))
      have hFD1 := hFD2.tr (FD.i hF1)
      refine lv_aload_n (pc := 7) hx hb dX4_many_7 rfl (lv_at hl 0 rfl) ?_
      refine g_callF (pc := 8) S M G hl.1 [] [] (metX6_hasNextL l D K w1 hL) 0 (g_recv M G hq1 (q := (RX6, TX6, 3)) rfl) (g_cls M (ci := 5) rfl) q280 q1092 ⟨by decide, q274, q273, q279, q277, q275⟩ q278 q276 q53 rfl rfl ⟨Nat.le_of_ble_eq_true rfl, Nat.le_of_ble_eq_true rfl⟩ rfl (Nat.le_of_ble_eq_true rfl) dX4_many_8 ⟨Nat.le_of_ble_eq_true rfl, Nat.le_of_ble_eq_true rfl⟩ (fun r wz H locs hp G => ?_)
      obtain ⟨rfl, hw2⟩ := hp
      rw [hw2] at G
      rw [show hasN ([] : List Nat).head? = 0 from rfl]
      refine W.eq (g2 := F0 m 13 ls [.int 0]) rfl ?_
      refine lv_if_eq (pc := 13) (tgt := 48) hx hb dX4_many_13 (by decide) (fun _ => ?_) (fun c => absurd c (by decide))
      refine lv_iload_n (pc := 48) hx hb dX4_many_48 rfl (lv_at hl 1 rfl) ?_
      rw [hQ]
      refine g_iret S G hr hlocks (hdg := dX4_many_49) ?_ ?_ ?_
      · exact Nat.le_of_ble_eq_true rfl
      · exact Nat.le_of_ble_eq_true rfl
      · refine ⟨congrArg (fun z => some (Value.int z)) ?_, hV1.W, hFD1⟩
        rw [show bN i (dB X) = (onl hN i es).length from by unfold bN; rw [hV.2.2.2.2.1.2.2.2, bOn_onl, List.length_map]]
        rw [← hc0]; rfl
    | cons x ms ih =>
      intro c0 w1 H locs ls hL hF1 hin hc0 G hl
      obtain ⟨it0, hq1⟩ := hL.it
      have hlo1 := hF1.k4 hlo2 (by decide) (by decide)
      have hdl1 := hF1.k4 hdl2 (by decide) (by decide)
      have hV1 : DV D K w1 dl ca oa X sb fb sh lq mp md lmd (some k) es hN ky vl bv ta cap := hV2.kp (fun a x q1 q2 => hF1 a x q1 (dk_i q2))
      have hFD1 := hFD2.tr (FD.i hF1)
      obtain ⟨hxe, hx10⟩ := onl_mem (hin x (List.mem_cons_self ..))
      refine lv_aload_n (pc := 7) hx hb dX4_many_7 rfl (lv_at hl 0 rfl) ?_
      refine g_callF (pc := 8) S M G hl.1 [] [] (metX6_hasNextL l D K w1 hL) 0 (g_recv M G hq1 (q := (RX6, TX6, 3)) rfl) (g_cls M (ci := 5) rfl) q280 q1092 ⟨by decide, q274, q273, q279, q277, q275⟩ q278 q276 q53 rfl rfl ⟨Nat.le_of_ble_eq_true rfl, Nat.le_of_ble_eq_true rfl⟩ rfl (Nat.le_of_ble_eq_true rfl) dX4_many_8 ⟨Nat.le_of_ble_eq_true rfl, Nat.le_of_ble_eq_true rfl⟩ (fun r wz H locs hp G => ?_)
      obtain ⟨rfl, hw2⟩ := hp
      rw [hw2] at G
      rw [show hasN ((x :: ms) : List Nat).head? = 1 from rfl]
      refine W.eq (g2 := F0 m 13 ls [.int 1]) rfl ?_
      refine lv_if_eq (pc := 13) (tgt := 48) hx hb dX4_many_13 (by decide) (fun c => absurd c (by decide)) (fun _ => ?_)
      refine lv_aload_n (pc := 16) hx hb dX4_many_16 rfl (lv_at hl 0 rfl) ?_
      refine g_callF (pc := 17) S M G hl.1 [] [] (metX6_nextL l D K w1 (hM2.kp hF1.q) hlo1 hi30 hL) 0 (g_recv M G hq1 (q := (RX6, TX6, 3)) rfl) (g_cls M (ci := 5) rfl) q301 q1094 ⟨by decide, q296, q295, q300, q298, q275⟩ q299 q297 q53 rfl rfl ⟨Nat.le_of_ble_eq_true rfl, Nat.le_of_ble_eq_true rfl⟩ rfl (Nat.le_of_ble_eq_true rfl) dX4_many_17 ⟨Nat.le_of_ble_eq_true rfl, Nat.le_of_ble_eq_true rfl⟩ (fun r w4 H locs hp G => ?_)
      obtain ⟨rfl, hL4, hFi⟩ := hp
      have hF4 : FRI w2 w4 := hF1.tr hFi
      have hlo4 := hF4.k4 hlo2 (by decide) (by decide)
      have hdl4 := hF4.k4 hdl2 (by decide) (by decide)
      have hkx4 : w4 (ky x) = some (.inr (4, [.int (nI (hN x / 10)), .int (nI (hN x % 10))])) := hF4.k4 (hM2.cg.1 x hxe) (by decide) (by decide)
      refine W.eq (g2 := F0 m 22 ls [.ref (ky x)]) rfl ?_
      refine va_castS (pc := 22) hx hb hown (hts _ q1095) (g_cls M (ci := 4) rfl) (g_recv M G hkx4 (q := (RX5, TX5, 2)) rfl) dX4_many_22 ?_
      refine lv_astore_n (pc := 25) (lv' := [(3, .ref (ky x)), (2, .ref q), (1, .int (nI c0)), (0, .ref (dL X i))]) hx hb dX4_many_25 rfl hl (by decide) rfl (fun ls hl => ?_)
      refine lv_iload_n (pc := 26) hx hb dX4_many_26 rfl (lv_at hl 2 rfl) ?_
      refine lv_aload_n (pc := 27) hx hb dX4_many_27 rfl (lv_at hl 0 rfl) ?_
      refine g_getN (pc := 28) (v := .int (nI (hN x / 10))) S M G (C := RX5) (T := TX5) (N := 2) (ci := 4) in_X5 hkx4 rfl 0 (by decide) q687 rfl rfl dX4_many_28 ?_
      refine lv_aload_n (pc := 31) hx hb dX4_many_31 rfl (lv_at hl 3 rfl) ?_
      refine g_get (pc := 32) (v := .int (nI i)) S M G (C := RX4) (T := TX4) (N := 14) (ci := 3) in_X4 hlo4 rfl 0 (by decide) q524 (Or.inl rfl) rfl dX4_many_32 ?_
      refine lv_icmp_ne (pc := 35) (tgt := 42) hx hb dX4_many_35 (by decide) (fun c => absurd (congrArg nI hx10) c) (fun _ => ?_)
      refine lv_iconst (pc := 38) (v := 1) hx hb dX4_many_38 (by decide) ?_
      refine lv_goto (pc := 39) (tgt := 43) hx hb dX4_many_39 (by decide) ?_
      refine lv_iadd (pc := 43) hx hb dX4_many_43 ?_
      rw [← nI_succ]
      refine lv_istore_n (pc := 44) (lv' := [(1, .int (nI (c0 + 1))), (3, .ref (ky x)), (2, .ref q), (0, .ref (dL X i))]) hx hb dX4_many_44 rfl hl (by decide) rfl (fun ls hl => ?_)
      refine lv_goto (pc := 45) (tgt := 7) hx hb dX4_many_45 (by decide) ?_
      exact ih (c0 + 1) w4 H locs ls hL4 hF4 (fun a ha => hin a (List.mem_cons_of_mem _ ha)) (by rw [← hc0, List.length_cons]; omega) G (lv_sub hl [2, 0, 3] rfl)
  exact Lm (onl hN i es) 0 w2 H locs ls hLI FRI.rf (fun a h => h) (by omega) G (lv_sub hl [0, 1, 2] rfl)
