/-! Bands, isIn -/
def BD (w : Gh) : Nat → List (Int32 × Int32) → Prop
  | _, [] => False
  | b, [q] => w b = some (.inr (1, [.int q.1, .int q.2, .null]))
  | b, q :: q2 :: r => ∃ b2, w b = some (.inr (1, [.int q.1, .int q.2, .ref b2])) ∧ BD w b2 (q2 :: r)
def bAt : List (Int32 × Int32) → Int32 → Int32
  | [], _ => 0
  | [q], _ => q.2
  | q :: q2 :: r, x => if x < q.1 then q.2 else bAt (q2 :: r) x
def bOf : List (Int32 × Int32) → Int32 → Int32 → Int32
  | [], _, _ => 0
  | [q], x, f => (if 0 < x - f then x - f else 0) * q.2 / 100
  | q :: q2 :: r, x, f => if x ≤ q.1 then (if 0 < (if q.1 < x then q.1 else x) - f then (if q.1 < x then q.1 else x) - f else 0) * q.2 / 100 else (if 0 < (if q.1 < x then q.1 else x) - f then (if q.1 < x then q.1 else x) - f else 0) * q.2 / 100 + bOf (q2 :: r) x q.1
abbrev rmX1_isIn : Room := ({ frames := 0, cells := 0, slots := 0, locals := 0 } : Room)
set_option maxHeartbeats 4000000 in
theorem metX1_isIn (l : Launch) (D : va_G) (K : Nat → Nat) (w : Gh) {x a b : Int32} : gMet l yX1_isIn (ws_ yX1_isIn cX1_isIn 3 (some .boolean)) rmX1_isIn D K [.int x, .int a, .int b] w (fun r' w' => r' = some (.int (if a ≤ x ∧ x ≤ b then 1 else 0)) ∧ w' = w) := by
  refine gMet.of (by decide) (Nat.le_of_ble_eq_true rfl) ?_
  intro p e s m args below meth c H locs ls S M hr hlocks hname G hl
  have hx := S.1
  have hb := S.2.1
  have hown := S.2.2.2.1
  have hts := S.2.2.2.2
  have hl : lv_has ls 3 [(0, .int x), (1, .int a), (2, .int b)] := hl
  obtain ⟨Q, hQ⟩ : ∃ Q, Q = gE below D K (fun r' w' => r' = some (.int (if a ≤ x ∧ x ≤ b then 1 else 0)) ∧ w' = w) args s rmX1_isIn.cells rmX1_isIn.slots := ⟨_, rfl⟩
  rw [← hQ]
  refine lv_iload_n (pc := 0) hx hb dX1_isIn_0 rfl (lv_at hl 0 rfl) ?_
  refine lv_iload_n (pc := 1) hx hb dX1_isIn_1 rfl (lv_at hl 1 rfl) ?_
  refine lv_icmp_lt (pc := 2) (tgt := 14) hx hb dX1_isIn_2 (by decide) (fun c1 => ?_) (fun c1 => ?_)
  · refine lv_iconst (pc := 14) (v := 0) hx hb dX1_isIn_14 (by decide) ?_
    rw [hQ]
    refine g_zret S G hr hlocks (hv := ?_) (hdg := dX1_isIn_15) ?_ ?_ ?_
    · first | exact Or.inl rfl | exact Or.inr rfl | exact Or.inl rfl
    · exact Nat.le_of_ble_eq_true rfl
    · exact Nat.le_of_ble_eq_true rfl
    · refine ⟨congrArg (fun z => some (Value.int z)) ?_, rfl⟩
      rw [if_neg]
      exact fun z => absurd c1 (Int32.not_lt.mpr z.1)
  · refine lv_iload_n (pc := 5) hx hb dX1_isIn_5 rfl (lv_at hl 0 rfl) ?_
    refine lv_iload_n (pc := 6) hx hb dX1_isIn_6 rfl (lv_at hl 2 rfl) ?_
    refine lv_icmp_gt (pc := 7) (tgt := 14) hx hb dX1_isIn_7 (by decide) (fun c2 => ?_) (fun c2 => ?_)
    · refine lv_iconst (pc := 14) (v := 0) hx hb dX1_isIn_14 (by decide) ?_
      rw [hQ]
      refine g_zret S G hr hlocks (hv := ?_) (hdg := dX1_isIn_15) ?_ ?_ ?_
      · first | exact Or.inl rfl | exact Or.inr rfl | exact Or.inl rfl
      · exact Nat.le_of_ble_eq_true rfl
      · exact Nat.le_of_ble_eq_true rfl
      · refine ⟨congrArg (fun z => some (Value.int z)) ?_, rfl⟩
        rw [if_neg]
        exact fun z => absurd c2 (Int32.not_lt.mpr z.2)
    · refine lv_iconst (pc := 10) (v := 1) hx hb dX1_isIn_10 (by decide) ?_
      refine lv_goto (pc := 11) (tgt := 15) hx hb dX1_isIn_11 (by decide) ?_
      rw [hQ]
      refine g_zret S G hr hlocks (hv := ?_) (hdg := dX1_isIn_15) ?_ ?_ ?_
      · first | exact Or.inl rfl | exact Or.inr rfl | exact Or.inl rfl
      · exact Nat.le_of_ble_eq_true rfl
      · exact Nat.le_of_ble_eq_true rfl
      · refine ⟨congrArg (fun z => some (Value.int z)) ?_, rfl⟩
        rw [if_pos]
        exact ⟨Int32.not_lt.mp c1, Int32.not_lt.mp c2⟩
abbrev rmX2_at1 : Room := ({ frames := 0, cells := 0, slots := 0, locals := 0 } : Room)
set_option maxHeartbeats 4000000 in
theorem metX2_at1 (l : Launch) (D : va_G) (K : Nat → Nat) (w : Gh) {b : Nat} {q0 : Int32 × Int32} {x : Int32} (hB : BD w b [q0]) : gMet l yX2_at (ws_ yX2_at cX2_at 2 (some .int)) rmX2_at1 D K [.ref b, .int x] w (fun r' w' => r' = some (.int (bAt [q0] x)) ∧ w' = w) := by
  refine gMet.of (by decide) (Nat.le_of_ble_eq_true rfl) ?_
  intro p e s m args below meth c H locs ls S M hr hlocks hname G hl
  have hx := S.1
  have hb := S.2.1
  have hown := S.2.2.2.1
  have hts := S.2.2.2.2
  have hl : lv_has ls 2 [(0, .ref b), (1, .int x)] := hl
  obtain ⟨Q, hQ⟩ : ∃ Q, Q = gE below D K (fun r' w' => r' = some (.int (bAt [q0] x)) ∧ w' = w) args s rmX2_at1.cells rmX2_at1.slots := ⟨_, rfl⟩
  rw [← hQ]
  have hB : w b = some (.inr (1, [.int q0.1, .int q0.2, .null])) := hB
  refine lv_aload_n (pc := 0) hx hb dX2_at_0 rfl (lv_at hl 0 rfl) ?_
  refine g_get (pc := 1) (v := .null) S M G (C := RX2) (T := TX2) (N := 3) (ci := 1) in_X2 hB rfl 2 (by decide) q72 (Or.inl rfl) rfl dX2_at_1 ?_
  refine lv_ifnullN (pc := 4) (tgt := 15) hx hb dX2_at_4 (by decide) ?_
  refine lv_aload_n (pc := 15) hx hb dX2_at_15 rfl (lv_at hl 0 rfl) ?_
  refine g_get (pc := 16) (v := .int q0.2) S M G (C := RX2) (T := TX2) (N := 3) (ci := 1) in_X2 hB rfl 1 (by decide) q71 (Or.inl rfl) rfl dX2_at_16 ?_
  refine lv_goto (pc := 19) (tgt := 30) hx hb dX2_at_19 (by decide) ?_
  rw [hQ]
  refine g_iret S G hr hlocks (hdg := dX2_at_30) ?_ ?_ ?_
  · exact Nat.le_of_ble_eq_true rfl
  · exact Nat.le_of_ble_eq_true rfl
  · refine ⟨congrArg (fun z => some (Value.int z)) ?_, rfl⟩
    rfl
abbrev rmX2_of1 : Room := ({ frames := 1, cells := 0, slots := 0, locals := 27 } : Room)
set_option maxHeartbeats 4000000 in
theorem metX2_of1 (l : Launch) (D : va_G) (K : Nat → Nat) (w : Gh) {b : Nat} {q0 : Int32 × Int32} {x f : Int32} (hB : BD w b [q0]) : gMet l yX2_of (ws_ yX2_of cX2_of 5 (some .int)) rmX2_of1 D K [.ref b, .int x, .int f] w (fun r' w' => r' = some (.int (bOf [q0] x f)) ∧ w' = w) := by
  refine gMet.of (by decide) (Nat.le_of_ble_eq_true rfl) ?_
  intro p e s m args below meth c H locs ls S M hr hlocks hname G hl
  have hx := S.1
  have hb := S.2.1
  have hown := S.2.2.2.1
  have hts := S.2.2.2.2
  have hl : lv_has ls 5 [(0, .ref b), (1, .int x), (2, .int f)] := hl
  obtain ⟨Q, hQ⟩ : ∃ Q, Q = gE below D K (fun r' w' => r' = some (.int (bOf [q0] x f)) ∧ w' = w) args s rmX2_of1.cells rmX2_of1.slots := ⟨_, rfl⟩
  rw [← hQ]
  have hB : w b = some (.inr (1, [.int q0.1, .int q0.2, .null])) := hB
  refine lv_aload_n (pc := 0) hx hb dX2_of_0 rfl (lv_at hl 0 rfl) ?_
  refine g_get (pc := 1) (v := .null) S M G (C := RX2) (T := TX2) (N := 3) (ci := 1) in_X2 hB rfl 2 (by decide) q72 (Or.inl rfl) rfl dX2_of_1 ?_
  refine lv_ifnonnullN (pc := 4) hx hb dX2_of_4 ?_
  refine lv_iload_n (pc := 7) hx hb dX2_of_7 rfl (lv_at hl 1 rfl) ?_
  refine lv_goto (pc := 8) (tgt := 19) hx hb dX2_of_8 (by decide) ?_
  refine lv_istore_n (pc := 19) (lv' := [(3, .int x), (0, .ref b), (1, .int x), (2, .int f)]) hx hb dX2_of_19 rfl hl (by decide) rfl (fun ls hl => ?_)
  refine lv_iconst (pc := 20) (v := 0) hx hb dX2_of_20 (by decide) ?_
  refine lv_iload_n (pc := 21) hx hb dX2_of_21 rfl (lv_at hl 0 rfl) ?_
  refine lv_iload_n (pc := 22) hx hb dX2_of_22 rfl (lv_at hl 3 rfl) ?_
  refine lv_isub (pc := 23) hx hb dX2_of_23 ?_
  refine g_max (pc := 24) (x := 0) (y := (x - f)) S hl.1 q1195 (Nat.le_of_ble_eq_true rfl) (Nat.le_of_ble_eq_true rfl) (Nat.le_of_ble_eq_true rfl) (Nat.le_of_ble_eq_true rfl) dX2_of_24 ?_
  refine lv_aload_n (pc := 27) hx hb dX2_of_27 rfl (lv_at hl 1 rfl) ?_
  refine g_get (pc := 28) (v := .int q0.2) S M G (C := RX2) (T := TX2) (N := 3) (ci := 1) in_X2 hB rfl 1 (by decide) q71 (Or.inl rfl) rfl dX2_of_28 ?_
  refine lv_imul (pc := 31) hx hb dX2_of_31 ?_
  refine lv_bipush (pc := 32) (v := 100) hx hb dX2_of_32 (by decide) ?_
  refine lv_idiv (pc := 34) hx hb dX2_of_34 (by decide) ?_
  refine lv_istore (pc := 35) (lv' := [(4, .int (((if 0 < (x - f) then (x - f) else 0) * q0.2) / 100)), (3, .int x), (0, .ref b), (1, .int x), (2, .int f)]) hx hb dX2_of_35 hl (by decide) rfl (fun ls hl => ?_)
  refine lv_aload_n (pc := 37) hx hb dX2_of_37 rfl (lv_at hl 2 rfl) ?_
  refine g_get (pc := 38) (v := .null) S M G (C := RX2) (T := TX2) (N := 3) (ci := 1) in_X2 hB rfl 2 (by decide) q72 (Or.inl rfl) rfl dX2_of_38 ?_
  refine lv_ifnullN (pc := 41) (tgt := 52) hx hb dX2_of_41 (by decide) ?_
  refine lv_iload (pc := 52) hx hb dX2_of_52 (lv_at hl 0 rfl) ?_
  refine lv_goto (pc := 54) (tgt := 72) hx hb dX2_of_54 (by decide) ?_
  rw [hQ]
  refine g_iret S G hr hlocks (hdg := dX2_of_72) ?_ ?_ ?_
  · exact Nat.le_of_ble_eq_true rfl
  · exact Nat.le_of_ble_eq_true rfl
  · refine ⟨congrArg (fun z => some (Value.int z)) ?_, rfl⟩
    rfl
abbrev rmX2_at2 : Room := ({ frames := 1, cells := 0, slots := 0, locals := 21 } : Room)
set_option maxHeartbeats 4000000 in
theorem metX2_at2 (l : Launch) (D : va_G) (K : Nat → Nat) (w : Gh) {b : Nat} {q0 q1 : Int32 × Int32} {x : Int32} (hB : BD w b [q0, q1]) : gMet l yX2_at (ws_ yX2_at cX2_at 2 (some .int)) rmX2_at2 D K [.ref b, .int x] w (fun r' w' => r' = some (.int (bAt [q0, q1] x)) ∧ w' = w) := by
  refine gMet.of (by decide) (Nat.le_of_ble_eq_true rfl) ?_
  intro p e s m args below meth c H locs ls S M hr hlocks hname G hl
  have hx := S.1
  have hb := S.2.1
  have hown := S.2.2.2.1
  have hts := S.2.2.2.2
  have hl : lv_has ls 2 [(0, .ref b), (1, .int x)] := hl
  obtain ⟨Q, hQ⟩ : ∃ Q, Q = gE below D K (fun r' w' => r' = some (.int (bAt [q0, q1] x)) ∧ w' = w) args s rmX2_at2.cells rmX2_at2.slots := ⟨_, rfl⟩
  rw [← hQ]
  obtain ⟨b2, hb0, hB2⟩ := hB
  obtain ⟨fs2, hb2⟩ : ∃ fs2, w b2 = some (.inr (1, fs2)) := by exact ⟨_, hB2⟩
  refine lv_aload_n (pc := 0) hx hb dX2_at_0 rfl (lv_at hl 0 rfl) ?_
  refine g_get (pc := 1) (v := .ref b2) S M G (C := RX2) (T := TX2) (N := 3) (ci := 1) in_X2 hb0 rfl 2 (by decide) q72 (Or.inl rfl) rfl dX2_at_1 ?_
  refine lv_ifnull (pc := 4) hx hb dX2_at_4 ?_
  refine lv_iload_n (pc := 7) hx hb dX2_at_7 rfl (lv_at hl 1 rfl) ?_
  refine lv_aload_n (pc := 8) hx hb dX2_at_8 rfl (lv_at hl 0 rfl) ?_
  refine g_get (pc := 9) (v := .int q0.1) S M G (C := RX2) (T := TX2) (N := 3) (ci := 1) in_X2 hb0 rfl 0 (by decide) q70 (Or.inl rfl) rfl dX2_at_9 ?_
  refine lv_icmp_ge (pc := 12) (tgt := 22) hx hb dX2_at_12 (by decide) (fun c1 => ?_) (fun c1 => ?_)
  · refine lv_aload_n (pc := 22) hx hb dX2_at_22 rfl (lv_at hl 0 rfl) ?_
    refine g_get (pc := 23) (v := .ref b2) S M G (C := RX2) (T := TX2) (N := 3) (ci := 1) in_X2 hb0 rfl 2 (by decide) q72 (Or.inl rfl) rfl dX2_at_23 ?_
    refine lv_iload_n (pc := 26) hx hb dX2_at_26 rfl (lv_at hl 1 rfl) ?_
    refine g_callV (pc := 27) S M G hl.1 [.int x] [] (metX2_at1 l D K w hB2) 1 (g_recv M G hb2 (q := (RX2, TX2, 3)) rfl) q518 q519 q516 q517 q19 (by decide) rfl ⟨Nat.le_of_ble_eq_true rfl, Nat.le_of_ble_eq_true rfl⟩ rfl (Nat.le_of_ble_eq_true rfl) dX2_at_27 ⟨Nat.le_of_ble_eq_true rfl, Nat.le_of_ble_eq_true rfl⟩ (fun r w2 H locs hp G => ?_)
    obtain ⟨rfl, hw2⟩ := hp
    rw [hw2] at G
    refine W.eq (g2 := F0 m 30 ls [.int (bAt [q1] x)]) rfl ?_
    rw [hQ]
    refine g_iret S G hr hlocks (hdg := dX2_at_30) ?_ ?_ ?_
    · exact Nat.le_of_ble_eq_true rfl
    · exact Nat.le_of_ble_eq_true rfl
    · refine ⟨congrArg (fun z => some (Value.int z)) ?_, rfl⟩
      show _ = (if x < q0.1 then q0.2 else bAt [q1] x)
      rw [if_neg (Int32.not_lt.mpr c1)]
  · refine lv_aload_n (pc := 15) hx hb dX2_at_15 rfl (lv_at hl 0 rfl) ?_
    refine g_get (pc := 16) (v := .int q0.2) S M G (C := RX2) (T := TX2) (N := 3) (ci := 1) in_X2 hb0 rfl 1 (by decide) q71 (Or.inl rfl) rfl dX2_at_16 ?_
    refine lv_goto (pc := 19) (tgt := 30) hx hb dX2_at_19 (by decide) ?_
    rw [hQ]
    refine g_iret S G hr hlocks (hdg := dX2_at_30) ?_ ?_ ?_
    · exact Nat.le_of_ble_eq_true rfl
    · exact Nat.le_of_ble_eq_true rfl
    · refine ⟨congrArg (fun z => some (Value.int z)) ?_, rfl⟩
      show _ = (if x < q0.1 then q0.2 else bAt [q1] x)
      rw [if_pos (Int32.not_le.mp c1)]
abbrev rmX2_of2 : Room := ({ frames := 2, cells := 0, slots := 0, locals := 51 } : Room)
set_option maxHeartbeats 4000000 in
theorem metX2_of2 (l : Launch) (D : va_G) (K : Nat → Nat) (w : Gh) {b : Nat} {q0 q1 : Int32 × Int32} {x f : Int32} (hB : BD w b [q0, q1]) : gMet l yX2_of (ws_ yX2_of cX2_of 5 (some .int)) rmX2_of2 D K [.ref b, .int x, .int f] w (fun r' w' => r' = some (.int (bOf [q0, q1] x f)) ∧ w' = w) := by
  refine gMet.of (by decide) (Nat.le_of_ble_eq_true rfl) ?_
  intro p e s m args below meth c H locs ls S M hr hlocks hname G hl
  have hx := S.1
  have hb := S.2.1
  have hown := S.2.2.2.1
  have hts := S.2.2.2.2
  have hl : lv_has ls 5 [(0, .ref b), (1, .int x), (2, .int f)] := hl
  obtain ⟨Q, hQ⟩ : ∃ Q, Q = gE below D K (fun r' w' => r' = some (.int (bOf [q0, q1] x f)) ∧ w' = w) args s rmX2_of2.cells rmX2_of2.slots := ⟨_, rfl⟩
  rw [← hQ]
  obtain ⟨b2, hb0, hB2⟩ := hB
  obtain ⟨fs2, hb2⟩ : ∃ fs2, w b2 = some (.inr (1, fs2)) := by exact ⟨_, hB2⟩
  refine lv_aload_n (pc := 0) hx hb dX2_of_0 rfl (lv_at hl 0 rfl) ?_
  refine g_get (pc := 1) (v := .ref b2) S M G (C := RX2) (T := TX2) (N := 3) (ci := 1) in_X2 hb0 rfl 2 (by decide) q72 (Or.inl rfl) rfl dX2_of_1 ?_
  refine lv_ifnonnull (pc := 4) (tgt := 11) hx hb dX2_of_4 (by decide) ?_
  refine lv_iload_n (pc := 11) hx hb dX2_of_11 rfl (lv_at hl 1 rfl) ?_
  refine lv_aload_n (pc := 12) hx hb dX2_of_12 rfl (lv_at hl 0 rfl) ?_
  refine g_get (pc := 13) (v := .int q0.1) S M G (C := RX2) (T := TX2) (N := 3) (ci := 1) in_X2 hb0 rfl 0 (by decide) q70 (Or.inl rfl) rfl dX2_of_13 ?_
  refine g_min (pc := 16) (x := x) (y := q0.1) S hl.1 q1194 (Nat.le_of_ble_eq_true rfl) (Nat.le_of_ble_eq_true rfl) (Nat.le_of_ble_eq_true rfl) (Nat.le_of_ble_eq_true rfl) dX2_of_16 ?_
  refine lv_istore_n (pc := 19) (lv' := [(3, .int (if q0.1 < x then q0.1 else x)), (0, .ref b), (1, .int x), (2, .int f)]) hx hb dX2_of_19 rfl hl (by decide) rfl (fun ls hl => ?_)
  refine lv_iconst (pc := 20) (v := 0) hx hb dX2_of_20 (by decide) ?_
  refine lv_iload_n (pc := 21) hx hb dX2_of_21 rfl (lv_at hl 0 rfl) ?_
  refine lv_iload_n (pc := 22) hx hb dX2_of_22 rfl (lv_at hl 3 rfl) ?_
  refine lv_isub (pc := 23) hx hb dX2_of_23 ?_
  refine g_max (pc := 24) (x := 0) (y := ((if q0.1 < x then q0.1 else x) - f)) S hl.1 q1195 (Nat.le_of_ble_eq_true rfl) (Nat.le_of_ble_eq_true rfl) (Nat.le_of_ble_eq_true rfl) (Nat.le_of_ble_eq_true rfl) dX2_of_24 ?_
  refine lv_aload_n (pc := 27) hx hb dX2_of_27 rfl (lv_at hl 1 rfl) ?_
  refine g_get (pc := 28) (v := .int q0.2) S M G (C := RX2) (T := TX2) (N := 3) (ci := 1) in_X2 hb0 rfl 1 (by decide) q71 (Or.inl rfl) rfl dX2_of_28 ?_
  refine lv_imul (pc := 31) hx hb dX2_of_31 ?_
  refine lv_bipush (pc := 32) (v := 100) hx hb dX2_of_32 (by decide) ?_
  refine lv_idiv (pc := 34) hx hb dX2_of_34 (by decide) ?_
  refine lv_istore (pc := 35) (lv' := [(4, .int (((if 0 < ((if q0.1 < x then q0.1 else x) - f) then ((if q0.1 < x then q0.1 else x) - f) else 0) * q0.2) / 100)), (3, .int (if q0.1 < x then q0.1 else x)), (0, .ref b), (1, .int x), (2, .int f)]) hx hb dX2_of_35 hl (by decide) rfl (fun ls hl => ?_)
  refine lv_aload_n (pc := 37) hx hb dX2_of_37 rfl (lv_at hl 2 rfl) ?_
  refine g_get (pc := 38) (v := .ref b2) S M G (C := RX2) (T := TX2) (N := 3) (ci := 1) in_X2 hb0 rfl 2 (by decide) q72 (Or.inl rfl) rfl dX2_of_38 ?_
  refine lv_ifnull (pc := 41) hx hb dX2_of_41 ?_
  refine lv_iload_n (pc := 44) hx hb dX2_of_44 rfl (lv_at hl 3 rfl) ?_
  refine lv_aload_n (pc := 45) hx hb dX2_of_45 rfl (lv_at hl 2 rfl) ?_
  refine g_get (pc := 46) (v := .int q0.1) S M G (C := RX2) (T := TX2) (N := 3) (ci := 1) in_X2 hb0 rfl 0 (by decide) q70 (Or.inl rfl) rfl dX2_of_46 ?_
  refine lv_icmp_gt (pc := 49) (tgt := 57) hx hb dX2_of_49 (by decide) (fun c1 => ?_) (fun c1 => ?_)
  · refine lv_iload (pc := 57) hx hb dX2_of_57 (lv_at hl 0 rfl) ?_
    refine lv_aload_n (pc := 59) hx hb dX2_of_59 rfl (lv_at hl 2 rfl) ?_
    refine g_get (pc := 60) (v := .ref b2) S M G (C := RX2) (T := TX2) (N := 3) (ci := 1) in_X2 hb0 rfl 2 (by decide) q72 (Or.inl rfl) rfl dX2_of_60 ?_
    refine lv_iload_n (pc := 63) hx hb dX2_of_63 rfl (lv_at hl 3 rfl) ?_
    refine lv_aload_n (pc := 64) hx hb dX2_of_64 rfl (lv_at hl 2 rfl) ?_
    refine g_get (pc := 65) (v := .int q0.1) S M G (C := RX2) (T := TX2) (N := 3) (ci := 1) in_X2 hb0 rfl 0 (by decide) q70 (Or.inl rfl) rfl dX2_of_65 ?_
    refine g_callV (pc := 68) S M G hl.1 [.int x, .int q0.1] [.int (((if 0 < ((if q0.1 < x then q0.1 else x) - f) then ((if q0.1 < x then q0.1 else x) - f) else 0) * q0.2) / 100)] (metX2_of1 l D K w hB2 (f := q0.1)) 2 (g_recv M G hb2 (q := (RX2, TX2, 3)) rfl) q1193 q1196 q1191 q1192 q19 (by decide) rfl ⟨Nat.le_of_ble_eq_true rfl, Nat.le_of_ble_eq_true rfl⟩ rfl (Nat.le_of_ble_eq_true rfl) dX2_of_68 ⟨Nat.le_of_ble_eq_true rfl, Nat.le_of_ble_eq_true rfl⟩ (fun r w2 H locs hp G => ?_)
    obtain ⟨rfl, hw2⟩ := hp
    rw [hw2] at G
    refine W.eq (g2 := F0 m 71 ls [.int (bOf [q1] x q0.1), .int (((if 0 < ((if q0.1 < x then q0.1 else x) - f) then ((if q0.1 < x then q0.1 else x) - f) else 0) * q0.2) / 100)]) rfl ?_
    refine lv_iadd (pc := 71) hx hb dX2_of_71 ?_
    rw [hQ]
    refine g_iret S G hr hlocks (hdg := dX2_of_72) ?_ ?_ ?_
    · exact Nat.le_of_ble_eq_true rfl
    · exact Nat.le_of_ble_eq_true rfl
    · refine ⟨congrArg (fun z => some (Value.int z)) ?_, rfl⟩
      show _ = (if x ≤ q0.1 then _ else _)
      rw [if_neg (Int32.not_le.mpr c1)]
      first | done | rfl
  · refine lv_iload (pc := 52) hx hb dX2_of_52 (lv_at hl 0 rfl) ?_
    refine lv_goto (pc := 54) (tgt := 72) hx hb dX2_of_54 (by decide) ?_
    rw [hQ]
    refine g_iret S G hr hlocks (hdg := dX2_of_72) ?_ ?_ ?_
    · exact Nat.le_of_ble_eq_true rfl
    · exact Nat.le_of_ble_eq_true rfl
    · refine ⟨congrArg (fun z => some (Value.int z)) ?_, rfl⟩
      show _ = (if x ≤ q0.1 then _ else _)
      rw [if_pos (Int32.not_lt.mp c1)]
      first | done | rfl
abbrev rmX2_at3 : Room := ({ frames := 2, cells := 0, slots := 0, locals := 42 } : Room)
set_option maxHeartbeats 4000000 in
theorem metX2_at3 (l : Launch) (D : va_G) (K : Nat → Nat) (w : Gh) {b : Nat} {q0 q1 q2 : Int32 × Int32} {x : Int32} (hB : BD w b [q0, q1, q2]) : gMet l yX2_at (ws_ yX2_at cX2_at 2 (some .int)) rmX2_at3 D K [.ref b, .int x] w (fun r' w' => r' = some (.int (bAt [q0, q1, q2] x)) ∧ w' = w) := by
  refine gMet.of (by decide) (Nat.le_of_ble_eq_true rfl) ?_
  intro p e s m args below meth c H locs ls S M hr hlocks hname G hl
  have hx := S.1
  have hb := S.2.1
  have hown := S.2.2.2.1
  have hts := S.2.2.2.2
  have hl : lv_has ls 2 [(0, .ref b), (1, .int x)] := hl
  obtain ⟨Q, hQ⟩ : ∃ Q, Q = gE below D K (fun r' w' => r' = some (.int (bAt [q0, q1, q2] x)) ∧ w' = w) args s rmX2_at3.cells rmX2_at3.slots := ⟨_, rfl⟩
  rw [← hQ]
  obtain ⟨b2, hb0, hB2⟩ := hB
  obtain ⟨fs2, hb2⟩ : ∃ fs2, w b2 = some (.inr (1, fs2)) := by obtain ⟨b3, hb3, -⟩ := hB2; exact ⟨_, hb3⟩
  refine lv_aload_n (pc := 0) hx hb dX2_at_0 rfl (lv_at hl 0 rfl) ?_
  refine g_get (pc := 1) (v := .ref b2) S M G (C := RX2) (T := TX2) (N := 3) (ci := 1) in_X2 hb0 rfl 2 (by decide) q72 (Or.inl rfl) rfl dX2_at_1 ?_
  refine lv_ifnull (pc := 4) hx hb dX2_at_4 ?_
  refine lv_iload_n (pc := 7) hx hb dX2_at_7 rfl (lv_at hl 1 rfl) ?_
  refine lv_aload_n (pc := 8) hx hb dX2_at_8 rfl (lv_at hl 0 rfl) ?_
  refine g_get (pc := 9) (v := .int q0.1) S M G (C := RX2) (T := TX2) (N := 3) (ci := 1) in_X2 hb0 rfl 0 (by decide) q70 (Or.inl rfl) rfl dX2_at_9 ?_
  refine lv_icmp_ge (pc := 12) (tgt := 22) hx hb dX2_at_12 (by decide) (fun c1 => ?_) (fun c1 => ?_)
  · refine lv_aload_n (pc := 22) hx hb dX2_at_22 rfl (lv_at hl 0 rfl) ?_
    refine g_get (pc := 23) (v := .ref b2) S M G (C := RX2) (T := TX2) (N := 3) (ci := 1) in_X2 hb0 rfl 2 (by decide) q72 (Or.inl rfl) rfl dX2_at_23 ?_
    refine lv_iload_n (pc := 26) hx hb dX2_at_26 rfl (lv_at hl 1 rfl) ?_
    refine g_callV (pc := 27) S M G hl.1 [.int x] [] (metX2_at2 l D K w hB2) 1 (g_recv M G hb2 (q := (RX2, TX2, 3)) rfl) q518 q519 q516 q517 q19 (by decide) rfl ⟨Nat.le_of_ble_eq_true rfl, Nat.le_of_ble_eq_true rfl⟩ rfl (Nat.le_of_ble_eq_true rfl) dX2_at_27 ⟨Nat.le_of_ble_eq_true rfl, Nat.le_of_ble_eq_true rfl⟩ (fun r w2 H locs hp G => ?_)
    obtain ⟨rfl, hw2⟩ := hp
    rw [hw2] at G
    refine W.eq (g2 := F0 m 30 ls [.int (bAt [q1, q2] x)]) rfl ?_
    rw [hQ]
    refine g_iret S G hr hlocks (hdg := dX2_at_30) ?_ ?_ ?_
    · exact Nat.le_of_ble_eq_true rfl
    · exact Nat.le_of_ble_eq_true rfl
    · refine ⟨congrArg (fun z => some (Value.int z)) ?_, rfl⟩
      show _ = (if x < q0.1 then q0.2 else bAt [q1, q2] x)
      rw [if_neg (Int32.not_lt.mpr c1)]
  · refine lv_aload_n (pc := 15) hx hb dX2_at_15 rfl (lv_at hl 0 rfl) ?_
    refine g_get (pc := 16) (v := .int q0.2) S M G (C := RX2) (T := TX2) (N := 3) (ci := 1) in_X2 hb0 rfl 1 (by decide) q71 (Or.inl rfl) rfl dX2_at_16 ?_
    refine lv_goto (pc := 19) (tgt := 30) hx hb dX2_at_19 (by decide) ?_
    rw [hQ]
    refine g_iret S G hr hlocks (hdg := dX2_at_30) ?_ ?_ ?_
    · exact Nat.le_of_ble_eq_true rfl
    · exact Nat.le_of_ble_eq_true rfl
    · refine ⟨congrArg (fun z => some (Value.int z)) ?_, rfl⟩
      show _ = (if x < q0.1 then q0.2 else bAt [q1, q2] x)
      rw [if_pos (Int32.not_le.mp c1)]
abbrev rmX2_of3 : Room := ({ frames := 3, cells := 0, slots := 0, locals := 75 } : Room)
set_option maxHeartbeats 4000000 in
theorem metX2_of3 (l : Launch) (D : va_G) (K : Nat → Nat) (w : Gh) {b : Nat} {q0 q1 q2 : Int32 × Int32} {x f : Int32} (hB : BD w b [q0, q1, q2]) : gMet l yX2_of (ws_ yX2_of cX2_of 5 (some .int)) rmX2_of3 D K [.ref b, .int x, .int f] w (fun r' w' => r' = some (.int (bOf [q0, q1, q2] x f)) ∧ w' = w) := by
  refine gMet.of (by decide) (Nat.le_of_ble_eq_true rfl) ?_
  intro p e s m args below meth c H locs ls S M hr hlocks hname G hl
  have hx := S.1
  have hb := S.2.1
  have hown := S.2.2.2.1
  have hts := S.2.2.2.2
  have hl : lv_has ls 5 [(0, .ref b), (1, .int x), (2, .int f)] := hl
  obtain ⟨Q, hQ⟩ : ∃ Q, Q = gE below D K (fun r' w' => r' = some (.int (bOf [q0, q1, q2] x f)) ∧ w' = w) args s rmX2_of3.cells rmX2_of3.slots := ⟨_, rfl⟩
  rw [← hQ]
  obtain ⟨b2, hb0, hB2⟩ := hB
  obtain ⟨fs2, hb2⟩ : ∃ fs2, w b2 = some (.inr (1, fs2)) := by obtain ⟨b3, hb3, -⟩ := hB2; exact ⟨_, hb3⟩
  refine lv_aload_n (pc := 0) hx hb dX2_of_0 rfl (lv_at hl 0 rfl) ?_
  refine g_get (pc := 1) (v := .ref b2) S M G (C := RX2) (T := TX2) (N := 3) (ci := 1) in_X2 hb0 rfl 2 (by decide) q72 (Or.inl rfl) rfl dX2_of_1 ?_
  refine lv_ifnonnull (pc := 4) (tgt := 11) hx hb dX2_of_4 (by decide) ?_
  refine lv_iload_n (pc := 11) hx hb dX2_of_11 rfl (lv_at hl 1 rfl) ?_
  refine lv_aload_n (pc := 12) hx hb dX2_of_12 rfl (lv_at hl 0 rfl) ?_
  refine g_get (pc := 13) (v := .int q0.1) S M G (C := RX2) (T := TX2) (N := 3) (ci := 1) in_X2 hb0 rfl 0 (by decide) q70 (Or.inl rfl) rfl dX2_of_13 ?_
  refine g_min (pc := 16) (x := x) (y := q0.1) S hl.1 q1194 (Nat.le_of_ble_eq_true rfl) (Nat.le_of_ble_eq_true rfl) (Nat.le_of_ble_eq_true rfl) (Nat.le_of_ble_eq_true rfl) dX2_of_16 ?_
  refine lv_istore_n (pc := 19) (lv' := [(3, .int (if q0.1 < x then q0.1 else x)), (0, .ref b), (1, .int x), (2, .int f)]) hx hb dX2_of_19 rfl hl (by decide) rfl (fun ls hl => ?_)
  refine lv_iconst (pc := 20) (v := 0) hx hb dX2_of_20 (by decide) ?_
  refine lv_iload_n (pc := 21) hx hb dX2_of_21 rfl (lv_at hl 0 rfl) ?_
  refine lv_iload_n (pc := 22) hx hb dX2_of_22 rfl (lv_at hl 3 rfl) ?_
  refine lv_isub (pc := 23) hx hb dX2_of_23 ?_
  refine g_max (pc := 24) (x := 0) (y := ((if q0.1 < x then q0.1 else x) - f)) S hl.1 q1195 (Nat.le_of_ble_eq_true rfl) (Nat.le_of_ble_eq_true rfl) (Nat.le_of_ble_eq_true rfl) (Nat.le_of_ble_eq_true rfl) dX2_of_24 ?_
  refine lv_aload_n (pc := 27) hx hb dX2_of_27 rfl (lv_at hl 1 rfl) ?_
  refine g_get (pc := 28) (v := .int q0.2) S M G (C := RX2) (T := TX2) (N := 3) (ci := 1) in_X2 hb0 rfl 1 (by decide) q71 (Or.inl rfl) rfl dX2_of_28 ?_
  refine lv_imul (pc := 31) hx hb dX2_of_31 ?_
  refine lv_bipush (pc := 32) (v := 100) hx hb dX2_of_32 (by decide) ?_
  refine lv_idiv (pc := 34) hx hb dX2_of_34 (by decide) ?_
  refine lv_istore (pc := 35) (lv' := [(4, .int (((if 0 < ((if q0.1 < x then q0.1 else x) - f) then ((if q0.1 < x then q0.1 else x) - f) else 0) * q0.2) / 100)), (3, .int (if q0.1 < x then q0.1 else x)), (0, .ref b), (1, .int x), (2, .int f)]) hx hb dX2_of_35 hl (by decide) rfl (fun ls hl => ?_)
  refine lv_aload_n (pc := 37) hx hb dX2_of_37 rfl (lv_at hl 2 rfl) ?_
  refine g_get (pc := 38) (v := .ref b2) S M G (C := RX2) (T := TX2) (N := 3) (ci := 1) in_X2 hb0 rfl 2 (by decide) q72 (Or.inl rfl) rfl dX2_of_38 ?_
  refine lv_ifnull (pc := 41) hx hb dX2_of_41 ?_
  refine lv_iload_n (pc := 44) hx hb dX2_of_44 rfl (lv_at hl 3 rfl) ?_
  refine lv_aload_n (pc := 45) hx hb dX2_of_45 rfl (lv_at hl 2 rfl) ?_
  refine g_get (pc := 46) (v := .int q0.1) S M G (C := RX2) (T := TX2) (N := 3) (ci := 1) in_X2 hb0 rfl 0 (by decide) q70 (Or.inl rfl) rfl dX2_of_46 ?_
  refine lv_icmp_gt (pc := 49) (tgt := 57) hx hb dX2_of_49 (by decide) (fun c1 => ?_) (fun c1 => ?_)
  · refine lv_iload (pc := 57) hx hb dX2_of_57 (lv_at hl 0 rfl) ?_
    refine lv_aload_n (pc := 59) hx hb dX2_of_59 rfl (lv_at hl 2 rfl) ?_
    refine g_get (pc := 60) (v := .ref b2) S M G (C := RX2) (T := TX2) (N := 3) (ci := 1) in_X2 hb0 rfl 2 (by decide) q72 (Or.inl rfl) rfl dX2_of_60 ?_
    refine lv_iload_n (pc := 63) hx hb dX2_of_63 rfl (lv_at hl 3 rfl) ?_
    refine lv_aload_n (pc := 64) hx hb dX2_of_64 rfl (lv_at hl 2 rfl) ?_
    refine g_get (pc := 65) (v := .int q0.1) S M G (C := RX2) (T := TX2) (N := 3) (ci := 1) in_X2 hb0 rfl 0 (by decide) q70 (Or.inl rfl) rfl dX2_of_65 ?_
    refine g_callV (pc := 68) S M G hl.1 [.int x, .int q0.1] [.int (((if 0 < ((if q0.1 < x then q0.1 else x) - f) then ((if q0.1 < x then q0.1 else x) - f) else 0) * q0.2) / 100)] (metX2_of2 l D K w hB2 (f := q0.1)) 2 (g_recv M G hb2 (q := (RX2, TX2, 3)) rfl) q1193 q1196 q1191 q1192 q19 (by decide) rfl ⟨Nat.le_of_ble_eq_true rfl, Nat.le_of_ble_eq_true rfl⟩ rfl (Nat.le_of_ble_eq_true rfl) dX2_of_68 ⟨Nat.le_of_ble_eq_true rfl, Nat.le_of_ble_eq_true rfl⟩ (fun r w2 H locs hp G => ?_)
    obtain ⟨rfl, hw2⟩ := hp
    rw [hw2] at G
    refine W.eq (g2 := F0 m 71 ls [.int (bOf [q1, q2] x q0.1), .int (((if 0 < ((if q0.1 < x then q0.1 else x) - f) then ((if q0.1 < x then q0.1 else x) - f) else 0) * q0.2) / 100)]) rfl ?_
    refine lv_iadd (pc := 71) hx hb dX2_of_71 ?_
    rw [hQ]
    refine g_iret S G hr hlocks (hdg := dX2_of_72) ?_ ?_ ?_
    · exact Nat.le_of_ble_eq_true rfl
    · exact Nat.le_of_ble_eq_true rfl
    · refine ⟨congrArg (fun z => some (Value.int z)) ?_, rfl⟩
      show _ = (if x ≤ q0.1 then _ else _)
      rw [if_neg (Int32.not_le.mpr c1)]
      first | done | rfl
  · refine lv_iload (pc := 52) hx hb dX2_of_52 (lv_at hl 0 rfl) ?_
    refine lv_goto (pc := 54) (tgt := 72) hx hb dX2_of_54 (by decide) ?_
    rw [hQ]
    refine g_iret S G hr hlocks (hdg := dX2_of_72) ?_ ?_ ?_
    · exact Nat.le_of_ble_eq_true rfl
    · exact Nat.le_of_ble_eq_true rfl
    · refine ⟨congrArg (fun z => some (Value.int z)) ?_, rfl⟩
      show _ = (if x ≤ q0.1 then _ else _)
      rw [if_pos (Int32.not_lt.mp c1)]
      first | done | rfl
abbrev rmX2_at4 : Room := ({ frames := 3, cells := 0, slots := 0, locals := 63 } : Room)
set_option maxHeartbeats 4000000 in
theorem metX2_at4 (l : Launch) (D : va_G) (K : Nat → Nat) (w : Gh) {b : Nat} {q0 q1 q2 q3 : Int32 × Int32} {x : Int32} (hB : BD w b [q0, q1, q2, q3]) : gMet l yX2_at (ws_ yX2_at cX2_at 2 (some .int)) rmX2_at4 D K [.ref b, .int x] w (fun r' w' => r' = some (.int (bAt [q0, q1, q2, q3] x)) ∧ w' = w) := by
  refine gMet.of (by decide) (Nat.le_of_ble_eq_true rfl) ?_
  intro p e s m args below meth c H locs ls S M hr hlocks hname G hl
  have hx := S.1
  have hb := S.2.1
  have hown := S.2.2.2.1
  have hts := S.2.2.2.2
  have hl : lv_has ls 2 [(0, .ref b), (1, .int x)] := hl
  obtain ⟨Q, hQ⟩ : ∃ Q, Q = gE below D K (fun r' w' => r' = some (.int (bAt [q0, q1, q2, q3] x)) ∧ w' = w) args s rmX2_at4.cells rmX2_at4.slots := ⟨_, rfl⟩
  rw [← hQ]
  obtain ⟨b2, hb0, hB2⟩ := hB
  obtain ⟨fs2, hb2⟩ : ∃ fs2, w b2 = some (.inr (1, fs2)) := by obtain ⟨b3, hb3, -⟩ := hB2; exact ⟨_, hb3⟩
  refine lv_aload_n (pc := 0) hx hb dX2_at_0 rfl (lv_at hl 0 rfl) ?_
  refine g_get (pc := 1) (v := .ref b2) S M G (C := RX2) (T := TX2) (N := 3) (ci := 1) in_X2 hb0 rfl 2 (by decide) q72 (Or.inl rfl) rfl dX2_at_1 ?_
  refine lv_ifnull (pc := 4) hx hb dX2_at_4 ?_
  refine lv_iload_n (pc := 7) hx hb dX2_at_7 rfl (lv_at hl 1 rfl) ?_
  refine lv_aload_n (pc := 8) hx hb dX2_at_8 rfl (lv_at hl 0 rfl) ?_
  refine g_get (pc := 9) (v := .int q0.1) S M G (C := RX2) (T := TX2) (N := 3) (ci := 1) in_X2 hb0 rfl 0 (by decide) q70 (Or.inl rfl) rfl dX2_at_9 ?_
  refine lv_icmp_ge (pc := 12) (tgt := 22) hx hb dX2_at_12 (by decide) (fun c1 => ?_) (fun c1 => ?_)
  · refine lv_aload_n (pc := 22) hx hb dX2_at_22 rfl (lv_at hl 0 rfl) ?_
    refine g_get (pc := 23) (v := .ref b2) S M G (C := RX2) (T := TX2) (N := 3) (ci := 1) in_X2 hb0 rfl 2 (by decide) q72 (Or.inl rfl) rfl dX2_at_23 ?_
    refine lv_iload_n (pc := 26) hx hb dX2_at_26 rfl (lv_at hl 1 rfl) ?_
    refine g_callV (pc := 27) S M G hl.1 [.int x] [] (metX2_at3 l D K w hB2) 1 (g_recv M G hb2 (q := (RX2, TX2, 3)) rfl) q518 q519 q516 q517 q19 (by decide) rfl ⟨Nat.le_of_ble_eq_true rfl, Nat.le_of_ble_eq_true rfl⟩ rfl (Nat.le_of_ble_eq_true rfl) dX2_at_27 ⟨Nat.le_of_ble_eq_true rfl, Nat.le_of_ble_eq_true rfl⟩ (fun r w2 H locs hp G => ?_)
    obtain ⟨rfl, hw2⟩ := hp
    rw [hw2] at G
    refine W.eq (g2 := F0 m 30 ls [.int (bAt [q1, q2, q3] x)]) rfl ?_
    rw [hQ]
    refine g_iret S G hr hlocks (hdg := dX2_at_30) ?_ ?_ ?_
    · exact Nat.le_of_ble_eq_true rfl
    · exact Nat.le_of_ble_eq_true rfl
    · refine ⟨congrArg (fun z => some (Value.int z)) ?_, rfl⟩
      show _ = (if x < q0.1 then q0.2 else bAt [q1, q2, q3] x)
      rw [if_neg (Int32.not_lt.mpr c1)]
  · refine lv_aload_n (pc := 15) hx hb dX2_at_15 rfl (lv_at hl 0 rfl) ?_
    refine g_get (pc := 16) (v := .int q0.2) S M G (C := RX2) (T := TX2) (N := 3) (ci := 1) in_X2 hb0 rfl 1 (by decide) q71 (Or.inl rfl) rfl dX2_at_16 ?_
    refine lv_goto (pc := 19) (tgt := 30) hx hb dX2_at_19 (by decide) ?_
    rw [hQ]
    refine g_iret S G hr hlocks (hdg := dX2_at_30) ?_ ?_ ?_
    · exact Nat.le_of_ble_eq_true rfl
    · exact Nat.le_of_ble_eq_true rfl
    · refine ⟨congrArg (fun z => some (Value.int z)) ?_, rfl⟩
      show _ = (if x < q0.1 then q0.2 else bAt [q1, q2, q3] x)
      rw [if_pos (Int32.not_le.mp c1)]
abbrev rmX2_of4 : Room := ({ frames := 4, cells := 0, slots := 0, locals := 99 } : Room)
set_option maxHeartbeats 4000000 in
theorem metX2_of4 (l : Launch) (D : va_G) (K : Nat → Nat) (w : Gh) {b : Nat} {q0 q1 q2 q3 : Int32 × Int32} {x f : Int32} (hB : BD w b [q0, q1, q2, q3]) : gMet l yX2_of (ws_ yX2_of cX2_of 5 (some .int)) rmX2_of4 D K [.ref b, .int x, .int f] w (fun r' w' => r' = some (.int (bOf [q0, q1, q2, q3] x f)) ∧ w' = w) := by
  refine gMet.of (by decide) (Nat.le_of_ble_eq_true rfl) ?_
  intro p e s m args below meth c H locs ls S M hr hlocks hname G hl
  have hx := S.1
  have hb := S.2.1
  have hown := S.2.2.2.1
  have hts := S.2.2.2.2
  have hl : lv_has ls 5 [(0, .ref b), (1, .int x), (2, .int f)] := hl
  obtain ⟨Q, hQ⟩ : ∃ Q, Q = gE below D K (fun r' w' => r' = some (.int (bOf [q0, q1, q2, q3] x f)) ∧ w' = w) args s rmX2_of4.cells rmX2_of4.slots := ⟨_, rfl⟩
  rw [← hQ]
  obtain ⟨b2, hb0, hB2⟩ := hB
  obtain ⟨fs2, hb2⟩ : ∃ fs2, w b2 = some (.inr (1, fs2)) := by obtain ⟨b3, hb3, -⟩ := hB2; exact ⟨_, hb3⟩
  refine lv_aload_n (pc := 0) hx hb dX2_of_0 rfl (lv_at hl 0 rfl) ?_
  refine g_get (pc := 1) (v := .ref b2) S M G (C := RX2) (T := TX2) (N := 3) (ci := 1) in_X2 hb0 rfl 2 (by decide) q72 (Or.inl rfl) rfl dX2_of_1 ?_
  refine lv_ifnonnull (pc := 4) (tgt := 11) hx hb dX2_of_4 (by decide) ?_
  refine lv_iload_n (pc := 11) hx hb dX2_of_11 rfl (lv_at hl 1 rfl) ?_
  refine lv_aload_n (pc := 12) hx hb dX2_of_12 rfl (lv_at hl 0 rfl) ?_
  refine g_get (pc := 13) (v := .int q0.1) S M G (C := RX2) (T := TX2) (N := 3) (ci := 1) in_X2 hb0 rfl 0 (by decide) q70 (Or.inl rfl) rfl dX2_of_13 ?_
  refine g_min (pc := 16) (x := x) (y := q0.1) S hl.1 q1194 (Nat.le_of_ble_eq_true rfl) (Nat.le_of_ble_eq_true rfl) (Nat.le_of_ble_eq_true rfl) (Nat.le_of_ble_eq_true rfl) dX2_of_16 ?_
  refine lv_istore_n (pc := 19) (lv' := [(3, .int (if q0.1 < x then q0.1 else x)), (0, .ref b), (1, .int x), (2, .int f)]) hx hb dX2_of_19 rfl hl (by decide) rfl (fun ls hl => ?_)
  refine lv_iconst (pc := 20) (v := 0) hx hb dX2_of_20 (by decide) ?_
  refine lv_iload_n (pc := 21) hx hb dX2_of_21 rfl (lv_at hl 0 rfl) ?_
  refine lv_iload_n (pc := 22) hx hb dX2_of_22 rfl (lv_at hl 3 rfl) ?_
  refine lv_isub (pc := 23) hx hb dX2_of_23 ?_
  refine g_max (pc := 24) (x := 0) (y := ((if q0.1 < x then q0.1 else x) - f)) S hl.1 q1195 (Nat.le_of_ble_eq_true rfl) (Nat.le_of_ble_eq_true rfl) (Nat.le_of_ble_eq_true rfl) (Nat.le_of_ble_eq_true rfl) dX2_of_24 ?_
  refine lv_aload_n (pc := 27) hx hb dX2_of_27 rfl (lv_at hl 1 rfl) ?_
  refine g_get (pc := 28) (v := .int q0.2) S M G (C := RX2) (T := TX2) (N := 3) (ci := 1) in_X2 hb0 rfl 1 (by decide) q71 (Or.inl rfl) rfl dX2_of_28 ?_
  refine lv_imul (pc := 31) hx hb dX2_of_31 ?_
  refine lv_bipush (pc := 32) (v := 100) hx hb dX2_of_32 (by decide) ?_
  refine lv_idiv (pc := 34) hx hb dX2_of_34 (by decide) ?_
  refine lv_istore (pc := 35) (lv' := [(4, .int (((if 0 < ((if q0.1 < x then q0.1 else x) - f) then ((if q0.1 < x then q0.1 else x) - f) else 0) * q0.2) / 100)), (3, .int (if q0.1 < x then q0.1 else x)), (0, .ref b), (1, .int x), (2, .int f)]) hx hb dX2_of_35 hl (by decide) rfl (fun ls hl => ?_)
  refine lv_aload_n (pc := 37) hx hb dX2_of_37 rfl (lv_at hl 2 rfl) ?_
  refine g_get (pc := 38) (v := .ref b2) S M G (C := RX2) (T := TX2) (N := 3) (ci := 1) in_X2 hb0 rfl 2 (by decide) q72 (Or.inl rfl) rfl dX2_of_38 ?_
  refine lv_ifnull (pc := 41) hx hb dX2_of_41 ?_
  refine lv_iload_n (pc := 44) hx hb dX2_of_44 rfl (lv_at hl 3 rfl) ?_
  refine lv_aload_n (pc := 45) hx hb dX2_of_45 rfl (lv_at hl 2 rfl) ?_
  refine g_get (pc := 46) (v := .int q0.1) S M G (C := RX2) (T := TX2) (N := 3) (ci := 1) in_X2 hb0 rfl 0 (by decide) q70 (Or.inl rfl) rfl dX2_of_46 ?_
  refine lv_icmp_gt (pc := 49) (tgt := 57) hx hb dX2_of_49 (by decide) (fun c1 => ?_) (fun c1 => ?_)
  · refine lv_iload (pc := 57) hx hb dX2_of_57 (lv_at hl 0 rfl) ?_
    refine lv_aload_n (pc := 59) hx hb dX2_of_59 rfl (lv_at hl 2 rfl) ?_
    refine g_get (pc := 60) (v := .ref b2) S M G (C := RX2) (T := TX2) (N := 3) (ci := 1) in_X2 hb0 rfl 2 (by decide) q72 (Or.inl rfl) rfl dX2_of_60 ?_
    refine lv_iload_n (pc := 63) hx hb dX2_of_63 rfl (lv_at hl 3 rfl) ?_
    refine lv_aload_n (pc := 64) hx hb dX2_of_64 rfl (lv_at hl 2 rfl) ?_
    refine g_get (pc := 65) (v := .int q0.1) S M G (C := RX2) (T := TX2) (N := 3) (ci := 1) in_X2 hb0 rfl 0 (by decide) q70 (Or.inl rfl) rfl dX2_of_65 ?_
    refine g_callV (pc := 68) S M G hl.1 [.int x, .int q0.1] [.int (((if 0 < ((if q0.1 < x then q0.1 else x) - f) then ((if q0.1 < x then q0.1 else x) - f) else 0) * q0.2) / 100)] (metX2_of3 l D K w hB2 (f := q0.1)) 2 (g_recv M G hb2 (q := (RX2, TX2, 3)) rfl) q1193 q1196 q1191 q1192 q19 (by decide) rfl ⟨Nat.le_of_ble_eq_true rfl, Nat.le_of_ble_eq_true rfl⟩ rfl (Nat.le_of_ble_eq_true rfl) dX2_of_68 ⟨Nat.le_of_ble_eq_true rfl, Nat.le_of_ble_eq_true rfl⟩ (fun r w2 H locs hp G => ?_)
    obtain ⟨rfl, hw2⟩ := hp
    rw [hw2] at G
    refine W.eq (g2 := F0 m 71 ls [.int (bOf [q1, q2, q3] x q0.1), .int (((if 0 < ((if q0.1 < x then q0.1 else x) - f) then ((if q0.1 < x then q0.1 else x) - f) else 0) * q0.2) / 100)]) rfl ?_
    refine lv_iadd (pc := 71) hx hb dX2_of_71 ?_
    rw [hQ]
    refine g_iret S G hr hlocks (hdg := dX2_of_72) ?_ ?_ ?_
    · exact Nat.le_of_ble_eq_true rfl
    · exact Nat.le_of_ble_eq_true rfl
    · refine ⟨congrArg (fun z => some (Value.int z)) ?_, rfl⟩
      show _ = (if x ≤ q0.1 then _ else _)
      rw [if_neg (Int32.not_le.mpr c1)]
      first | done | rfl
  · refine lv_iload (pc := 52) hx hb dX2_of_52 (lv_at hl 0 rfl) ?_
    refine lv_goto (pc := 54) (tgt := 72) hx hb dX2_of_54 (by decide) ?_
    rw [hQ]
    refine g_iret S G hr hlocks (hdg := dX2_of_72) ?_ ?_ ?_
    · exact Nat.le_of_ble_eq_true rfl
    · exact Nat.le_of_ble_eq_true rfl
    · refine ⟨congrArg (fun z => some (Value.int z)) ?_, rfl⟩
      show _ = (if x ≤ q0.1 then _ else _)
      rw [if_pos (Int32.not_lt.mp c1)]
      first | done | rfl
