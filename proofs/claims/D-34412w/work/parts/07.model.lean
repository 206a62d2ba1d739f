/-! THE REFERENCE, method by method: what it computes (spec functions), and that it computes it -/
def mWithin (p0 p1 p2 : Int32) : Int32 := if p0 < p1 then 0 else (if p2 < p0 then 0 else 1)
abbrev rmX3_isWithin : Room := ({ frames := 0, cells := 0, slots := 0, locals := 0 } : Room)
set_option maxHeartbeats 4000000 in
theorem metX3_isWithin (l : Launch) (D : va_G) (K : Nat → Nat) (w : Gh) (p0 p1 p2 : Int32) : gMet l yX3_isWithin (ws_ yX3_isWithin cX3_isWithin 3 (some .boolean)) rmX3_isWithin D K [.int p0, .int p1, .int p2] w (fun r' w' => r' = some (.int (mWithin p0 p1 p2)) ∧ w' = w) := by
  refine gMet.of (by decide) (Nat.le_of_ble_eq_true rfl) ?_
  intro p e s m args below meth c H locs ls S M hr hlocks hname G hl
  have hx := S.1
  have hb := S.2.1
  have hown := S.2.2.2.1
  have hts := S.2.2.2.2
  have hl : lv_has ls 3 [(0, .int p0), (1, .int p1), (2, .int p2)] := hl
  obtain ⟨Q, hQ⟩ : ∃ Q, Q = gE below D K (fun r' w' => r' = some (.int (mWithin p0 p1 p2)) ∧ w' = w) args s rmX3_isWithin.cells rmX3_isWithin.slots := ⟨_, rfl⟩
  rw [← hQ]
  refine lv_iload_n (pc := 0) hx hb dX3_isWithin_0 rfl (lv_at hl 0 rfl) ?_
  refine lv_iload_n (pc := 1) hx hb dX3_isWithin_1 rfl (lv_at hl 1 rfl) ?_
  refine lv_icmp_lt (pc := 2) (tgt := 14) hx hb dX3_isWithin_2 (by decide) (fun c1 => ?_) (fun c1 => ?_)
  · refine lv_iconst (pc := 14) (v := 0) hx hb dX3_isWithin_14 (by decide) ?_
    rw [hQ]
    refine g_zret S G hr hlocks (hv := ?_) (hdg := dX3_isWithin_15) ?_ ?_ ?_
    · first | exact Or.inl rfl | exact Or.inr rfl | exact Or.inl rfl
    · exact Nat.le_of_ble_eq_true rfl
    · exact Nat.le_of_ble_eq_true rfl
    · refine ⟨congrArg (fun z => some (Value.int z)) ?_, rfl⟩
      unfold mWithin; rw [if_pos c1]
  · refine lv_iload_n (pc := 5) hx hb dX3_isWithin_5 rfl (lv_at hl 0 rfl) ?_
    refine lv_iload_n (pc := 6) hx hb dX3_isWithin_6 rfl (lv_at hl 2 rfl) ?_
    refine lv_icmp_gt (pc := 7) (tgt := 14) hx hb dX3_isWithin_7 (by decide) (fun c2 => ?_) (fun c2 => ?_)
    · refine lv_iconst (pc := 14) (v := 0) hx hb dX3_isWithin_14 (by decide) ?_
      rw [hQ]
      refine g_zret S G hr hlocks (hv := ?_) (hdg := dX3_isWithin_15) ?_ ?_ ?_
      · first | exact Or.inl rfl | exact Or.inr rfl | exact Or.inl rfl
      · exact Nat.le_of_ble_eq_true rfl
      · exact Nat.le_of_ble_eq_true rfl
      · refine ⟨congrArg (fun z => some (Value.int z)) ?_, rfl⟩
        unfold mWithin; rw [if_neg c1, if_pos c2]
    · refine lv_iconst (pc := 10) (v := 1) hx hb dX3_isWithin_10 (by decide) ?_
      refine lv_goto (pc := 11) (tgt := 15) hx hb dX3_isWithin_11 (by decide) ?_
      rw [hQ]
      refine g_zret S G hr hlocks (hv := ?_) (hdg := dX3_isWithin_15) ?_ ?_ ?_
      · first | exact Or.inl rfl | exact Or.inr rfl | exact Or.inl rfl
      · exact Nat.le_of_ble_eq_true rfl
      · exact Nat.le_of_ble_eq_true rfl
      · refine ⟨congrArg (fun z => some (Value.int z)) ?_, rfl⟩
        unfold mWithin; rw [if_neg c1, if_neg c2]
theorem mWithin_01 (a b c : Int32) : mWithin a b c = 0 ∨ mWithin a b c = 1 := by
  unfold mWithin
  split
  · exact Or.inl rfl
  · split
    · exact Or.inl rfl
    · exact Or.inr rfl
theorem mWithin_ne {a b c : Int32} (h : ¬ mWithin a b c = 0) : b.toInt ≤ a.toInt ∧ a.toInt ≤ c.toInt := by
  unfold mWithin at h
  split at h
  · exact absurd rfl h
  · split at h
    · exact absurd rfl h
    · rename_i h1 h2
      rw [Int32.lt_iff_toInt_lt] at h1 h2
      omega
theorem mWithin_eq {a b c : Int32} (h : mWithin a b c = 0) : a.toInt < b.toInt ∨ c.toInt < a.toInt := by
  unfold mWithin at h
  split at h
  · rename_i h1
    exact Or.inl (Int32.lt_iff_toInt_lt.mp h1)
  · split at h
    · rename_i h1 h2
      exact Or.inr (Int32.lt_iff_toInt_lt.mp h2)
    · exact absurd h (by decide)
def mBuyer (p0 : Int32) : Int32 := (mWithin p0 0 9)
abbrev rmX3_isBuyer : Room := ({ frames := 1, cells := 0, slots := 0, locals := 22 } : Room)
set_option maxHeartbeats 4000000 in
theorem metX3_isBuyer (l : Launch) (D : va_G) (K : Nat → Nat) (w : Gh) (p0 : Int32) : gMet l yX3_isBuyer (ws_ yX3_isBuyer cX3_isBuyer 1 (some .boolean)) rmX3_isBuyer D K [.int p0] w (fun r' w' => r' = some (.int (mBuyer p0)) ∧ w' = w) := by
  refine gMet.of (by decide) (Nat.le_of_ble_eq_true rfl) ?_
  intro p e s m args below meth c H locs ls S M hr hlocks hname G hl
  have hx := S.1
  have hb := S.2.1
  have hown := S.2.2.2.1
  have hts := S.2.2.2.2
  have hl : lv_has ls 1 [(0, .int p0)] := hl
  obtain ⟨Q, hQ⟩ : ∃ Q, Q = gE below D K (fun r' w' => r' = some (.int (mBuyer p0)) ∧ w' = w) args s rmX3_isBuyer.cells rmX3_isBuyer.slots := ⟨_, rfl⟩
  rw [← hQ]
  refine lv_iload_n (pc := 0) hx hb dX3_isBuyer_0 rfl (lv_at hl 0 rfl) ?_
  refine lv_iconst (pc := 1) (v := 0) hx hb dX3_isBuyer_1 (by decide) ?_
  refine lv_bipush (pc := 2) (v := 9) hx hb dX3_isBuyer_2 (by decide) ?_
  refine g_callS (pc := 4) S M G hl.1 [.int p0, .int 0, .int 9] [] (metX3_isWithin l D K w p0 0 9) 3 q1407 q1405 q1406 q26 (by decide) rfl (⟨Nat.le_of_ble_eq_true rfl, Nat.le_of_ble_eq_true rfl⟩) rfl (Nat.le_of_ble_eq_true rfl) dX3_isBuyer_4 ⟨Nat.le_of_ble_eq_true rfl, Nat.le_of_ble_eq_true rfl⟩ (fun r w1 H locs hp G => ?_)
  obtain ⟨rfl, hw⟩ := hp
  rw [hw] at G
  refine W.eq (g2 := F0 m 7 ls [.int (mWithin p0 0 9)]) rfl ?_
  rw [hQ]
  refine g_zret S G hr hlocks (hv := ?_) (hdg := dX3_isBuyer_7) ?_ ?_ ?_
  · first | exact Or.inl rfl | exact Or.inr rfl | exact mWithin_01 _ _ _
  · exact Nat.le_of_ble_eq_true rfl
  · exact Nat.le_of_ble_eq_true rfl
  · refine ⟨congrArg (fun z => some (Value.int z)) ?_, rfl⟩
    rfl
def mStep (p0 : Int32) : Int32 := if 1000 ≤ p0 then (if 5000 ≤ p0 then (if 20000 ≤ p0 then 1000 else 500) else 100) else 50
abbrev rmX3_step : Room := ({ frames := 0, cells := 0, slots := 0, locals := 0 } : Room)
set_option maxHeartbeats 4000000 in
theorem metX3_step (l : Launch) (D : va_G) (K : Nat → Nat) (w : Gh) (p0 : Int32) : gMet l yX3_step (ws_ yX3_step cX3_step 1 (some .int)) rmX3_step D K [.int p0] w (fun r' w' => r' = some (.int (mStep p0)) ∧ w' = w) := by
  refine gMet.of (by decide) (Nat.le_of_ble_eq_true rfl) ?_
  intro p e s m args below meth c H locs ls S M hr hlocks hname G hl
  have hx := S.1
  have hb := S.2.1
  have hown := S.2.2.2.1
  have hts := S.2.2.2.2
  have hl : lv_has ls 1 [(0, .int p0)] := hl
  obtain ⟨Q, hQ⟩ : ∃ Q, Q = gE below D K (fun r' w' => r' = some (.int (mStep p0)) ∧ w' = w) args s rmX3_step.cells rmX3_step.slots := ⟨_, rfl⟩
  rw [← hQ]
  refine lv_iload_n (pc := 0) hx hb dX3_step_0 rfl (lv_at hl 0 rfl) ?_
  refine lv_sipush (pc := 1) (v := 1000) hx hb dX3_step_1 (by decide) ?_
  refine lv_icmp_ge (pc := 4) (tgt := 12) hx hb dX3_step_4 (by decide) (fun c1 => ?_) (fun c1 => ?_)
  · refine lv_iload_n (pc := 12) hx hb dX3_step_12 rfl (lv_at hl 0 rfl) ?_
    refine lv_sipush (pc := 13) (v := 5000) hx hb dX3_step_13 (by decide) ?_
    refine lv_icmp_ge (pc := 16) (tgt := 24) hx hb dX3_step_16 (by decide) (fun c2 => ?_) (fun c2 => ?_)
    · refine lv_iload_n (pc := 24) hx hb dX3_step_24 rfl (lv_at hl 0 rfl) ?_
      refine lv_sipush (pc := 25) (v := 20000) hx hb dX3_step_25 (by decide) ?_
      refine lv_icmp_ge (pc := 28) (tgt := 37) hx hb dX3_step_28 (by decide) (fun c3 => ?_) (fun c3 => ?_)
      · refine lv_sipush (pc := 37) (v := 1000) hx hb dX3_step_37 (by decide) ?_
        rw [hQ]
        refine g_iret S G hr hlocks (hdg := dX3_step_40) ?_ ?_ ?_
        · exact Nat.le_of_ble_eq_true rfl
        · exact Nat.le_of_ble_eq_true rfl
        · refine ⟨congrArg (fun z => some (Value.int z)) ?_, rfl⟩
          unfold mStep; rw [if_pos c1, if_pos c2, if_pos c3]
      · refine lv_sipush (pc := 31) (v := 500) hx hb dX3_step_31 (by decide) ?_
        refine lv_goto (pc := 34) (tgt := 40) hx hb dX3_step_34 (by decide) ?_
        rw [hQ]
        refine g_iret S G hr hlocks (hdg := dX3_step_40) ?_ ?_ ?_
        · exact Nat.le_of_ble_eq_true rfl
        · exact Nat.le_of_ble_eq_true rfl
        · refine ⟨congrArg (fun z => some (Value.int z)) ?_, rfl⟩
          unfold mStep; rw [if_pos c1, if_pos c2, if_neg c3]
    · refine lv_bipush (pc := 19) (v := 100) hx hb dX3_step_19 (by decide) ?_
      refine lv_goto (pc := 21) (tgt := 40) hx hb dX3_step_21 (by decide) ?_
      rw [hQ]
      refine g_iret S G hr hlocks (hdg := dX3_step_40) ?_ ?_ ?_
      · exact Nat.le_of_ble_eq_true rfl
      · exact Nat.le_of_ble_eq_true rfl
      · refine ⟨congrArg (fun z => some (Value.int z)) ?_, rfl⟩
        unfold mStep; rw [if_pos c1, if_neg c2]
  · refine lv_bipush (pc := 7) (v := 50) hx hb dX3_step_7 (by decide) ?_
    refine lv_goto (pc := 9) (tgt := 40) hx hb dX3_step_9 (by decide) ?_
    rw [hQ]
    refine g_iret S G hr hlocks (hdg := dX3_step_40) ?_ ?_ ?_
    · exact Nat.le_of_ble_eq_true rfl
    · exact Nat.le_of_ble_eq_true rfl
    · refine ⟨congrArg (fun z => some (Value.int z)) ?_, rfl⟩
      unfold mStep; rw [if_neg c1]
theorem mStep_ne (a : Int32) : ¬ mStep a = 0 := by
  unfold mStep
  split
  · split
    · split
      · decide
      · decide
    · decide
  · decide
def mCall (p0 : Int32) : Int32 := (p0 - (p0 - p0 / (mStep p0) * (mStep p0)))
abbrev rmX3_call : Room := ({ frames := 1, cells := 0, slots := 0, locals := 20 } : Room)
set_option maxHeartbeats 4000000 in
theorem metX3_call (l : Launch) (D : va_G) (K : Nat → Nat) (w : Gh) (p0 : Int32) : gMet l yX3_call (ws_ yX3_call cX3_call 1 (some .int)) rmX3_call D K [.int p0] w (fun r' w' => r' = some (.int (mCall p0)) ∧ w' = w) := by
  refine gMet.of (by decide) (Nat.le_of_ble_eq_true rfl) ?_
  intro p e s m args below meth c H locs ls S M hr hlocks hname G hl
  have hx := S.1
  have hb := S.2.1
  have hown := S.2.2.2.1
  have hts := S.2.2.2.2
  have hl : lv_has ls 1 [(0, .int p0)] := hl
  obtain ⟨Q, hQ⟩ : ∃ Q, Q = gE below D K (fun r' w' => r' = some (.int (mCall p0)) ∧ w' = w) args s rmX3_call.cells rmX3_call.slots := ⟨_, rfl⟩
  rw [← hQ]
  refine lv_iload_n (pc := 0) hx hb dX3_call_0 rfl (lv_at hl 0 rfl) ?_
  refine lv_iload_n (pc := 1) hx hb dX3_call_1 rfl (lv_at hl 0 rfl) ?_
  refine lv_iload_n (pc := 2) hx hb dX3_call_2 rfl (lv_at hl 0 rfl) ?_
  refine g_callS (pc := 3) S M G hl.1 [.int p0] [.int p0, .int p0] (metX3_step l D K w p0) 1 q1413 q1411 q1412 q26 (by decide) rfl (⟨Nat.le_of_ble_eq_true rfl, Nat.le_of_ble_eq_true rfl⟩) rfl (Nat.le_of_ble_eq_true rfl) dX3_call_3 ⟨Nat.le_of_ble_eq_true rfl, Nat.le_of_ble_eq_true rfl⟩ (fun r w1 H locs hp G => ?_)
  obtain ⟨rfl, hw⟩ := hp
  rw [hw] at G
  refine W.eq (g2 := F0 m 6 ls [.int (mStep p0), .int p0, .int p0]) rfl ?_
  refine lv_irem (pc := 6) hx hb dX3_call_6 (mStep_ne p0) ?_
  refine lv_isub (pc := 7) hx hb dX3_call_7 ?_
  rw [hQ]
  refine g_iret S G hr hlocks (hdg := dX3_call_8) ?_ ?_ ?_
  · exact Nat.le_of_ble_eq_true rfl
  · exact Nat.le_of_ble_eq_true rfl
  · refine ⟨congrArg (fun z => some (Value.int z)) ?_, rfl⟩
    rfl
def mFe1 (p0 : Int32) : Int32 := (if 10000 ≤ p0 then 10000 else p0)
def mFe2 (p0 q : Int32) : Int32 := (if 50000 ≤ p0 then 40000 else (p0 - q))
def mFee (p0 : Int32) : Int32 := (((((mFe1 p0) * 25) / 100) + (((mFe2 p0 (mFe1 p0)) * 20) / 100)) + ((((p0 - (mFe1 p0)) - (mFe2 p0 (mFe1 p0))) * 12) / 100))
abbrev rmX3_feeFor : Room := ({ frames := 0, cells := 0, slots := 0, locals := 0 } : Room)
set_option maxHeartbeats 4000000 in
theorem metX3_feeFor (l : Launch) (D : va_G) (K : Nat → Nat) (w : Gh) (p0 : Int32) : gMet l yX3_feeFor (ws_ yX3_feeFor cX3_feeFor 4 (some .int)) rmX3_feeFor D K [.int p0] w (fun r' w' => r' = some (.int (mFee p0)) ∧ w' = w) := by
  refine gMet.of (by decide) (Nat.le_of_ble_eq_true rfl) ?_
  intro p e s m args below meth c H locs ls S M hr hlocks hname G hl
  have hx := S.1
  have hb := S.2.1
  have hown := S.2.2.2.1
  have hts := S.2.2.2.2
  have hl : lv_has ls 4 [(0, .int p0)] := hl
  obtain ⟨Q, hQ⟩ : ∃ Q, Q = gE below D K (fun r' w' => r' = some (.int (mFee p0)) ∧ w' = w) args s rmX3_feeFor.cells rmX3_feeFor.slots := ⟨_, rfl⟩
  rw [← hQ]
  refine lv_iload_n (pc := 0) hx hb dX3_feeFor_0 rfl (lv_at hl 0 rfl) ?_
  refine lv_sipush (pc := 1) (v := 10000) hx hb dX3_feeFor_1 (by decide) ?_
  have J14 : ∀ (v1 : Int32) (H : Heap) (locs : List Loc), v1 = (mFe1 p0) → gS D K w s H locs → W p l e rmX3_feeFor s m args below meth c H locs 0 0 Q (F0 m 14 ls [.int v1]) := by
    intro v1 H locs ev1 G
    subst ev1
    refine lv_istore_n (pc := 14) (lv' := [(1, .int (mFe1 p0)), (0, .int p0)]) hx hb dX3_feeFor_14 rfl hl (by decide) rfl (fun ls hl => ?_)
    refine lv_iload_n (pc := 15) hx hb dX3_feeFor_15 rfl (lv_at hl 1 rfl) ?_
    refine lv_ldc (pc := 16) (v := 50000) hx hb hown (hts _ q1464) dX3_feeFor_16 ?_
    have J29 : ∀ (v2 : Int32) (H : Heap) (locs : List Loc), v2 = (mFe2 p0 (mFe1 p0)) → gS D K w s H locs → W p l e rmX3_feeFor s m args below meth c H locs 0 0 Q (F0 m 29 ls [.int v2]) := by
      intro v2 H locs ev2 G
      subst ev2
      refine lv_istore_n (pc := 29) (lv' := [(2, .int (mFe2 p0 (mFe1 p0))), (1, .int (mFe1 p0)), (0, .int p0)]) hx hb dX3_feeFor_29 rfl hl (by decide) rfl (fun ls hl => ?_)
      refine lv_iload_n (pc := 30) hx hb dX3_feeFor_30 rfl (lv_at hl 2 rfl) ?_
      refine lv_iload_n (pc := 31) hx hb dX3_feeFor_31 rfl (lv_at hl 1 rfl) ?_
      refine lv_isub (pc := 32) hx hb dX3_feeFor_32 ?_
      refine lv_iload_n (pc := 33) hx hb dX3_feeFor_33 rfl (lv_at hl 0 rfl) ?_
      refine lv_isub (pc := 34) hx hb dX3_feeFor_34 ?_
      refine lv_istore_n (pc := 35) (lv' := [(3, .int ((p0 - (mFe1 p0)) - (mFe2 p0 (mFe1 p0)))), (2, .int (mFe2 p0 (mFe1 p0))), (1, .int (mFe1 p0)), (0, .int p0)]) hx hb dX3_feeFor_35 rfl hl (by decide) rfl (fun ls hl => ?_)
      refine lv_iload_n (pc := 36) hx hb dX3_feeFor_36 rfl (lv_at hl 2 rfl) ?_
      refine lv_bipush (pc := 37) (v := 25) hx hb dX3_feeFor_37 (by decide) ?_
      refine lv_imul (pc := 39) hx hb dX3_feeFor_39 ?_
      refine lv_bipush (pc := 40) (v := 100) hx hb dX3_feeFor_40 (by decide) ?_
      refine lv_idiv (pc := 42) hx hb dX3_feeFor_42 (by decide) ?_
      refine lv_iload_n (pc := 43) hx hb dX3_feeFor_43 rfl (lv_at hl 1 rfl) ?_
      refine lv_bipush (pc := 44) (v := 20) hx hb dX3_feeFor_44 (by decide) ?_
      refine lv_imul (pc := 46) hx hb dX3_feeFor_46 ?_
      refine lv_bipush (pc := 47) (v := 100) hx hb dX3_feeFor_47 (by decide) ?_
      refine lv_idiv (pc := 49) hx hb dX3_feeFor_49 (by decide) ?_
      refine lv_iadd (pc := 50) hx hb dX3_feeFor_50 ?_
      refine lv_iload_n (pc := 51) hx hb dX3_feeFor_51 rfl (lv_at hl 0 rfl) ?_
      refine lv_bipush (pc := 52) (v := 12) hx hb dX3_feeFor_52 (by decide) ?_
      refine lv_imul (pc := 54) hx hb dX3_feeFor_54 ?_
      refine lv_bipush (pc := 55) (v := 100) hx hb dX3_feeFor_55 (by decide) ?_
      refine lv_idiv (pc := 57) hx hb dX3_feeFor_57 (by decide) ?_
      refine lv_iadd (pc := 58) hx hb dX3_feeFor_58 ?_
      rw [hQ]
      refine g_iret S G hr hlocks (hdg := dX3_feeFor_59) ?_ ?_ ?_
      · exact Nat.le_of_ble_eq_true rfl
      · exact Nat.le_of_ble_eq_true rfl
      · refine ⟨congrArg (fun z => some (Value.int z)) ?_, rfl⟩
        rfl
    refine lv_icmp_ge (pc := 18) (tgt := 27) hx hb dX3_feeFor_18 (by decide) (fun c3 => ?_) (fun c3 => ?_)
    · refine lv_ldc (pc := 27) (v := 40000) hx hb hown (hts _ q1465) dX3_feeFor_27 ?_
      exact J29 _ _ _ (by unfold mFe2; rw [if_pos c3]) G
    · refine lv_iload_n (pc := 21) hx hb dX3_feeFor_21 rfl (lv_at hl 1 rfl) ?_
      refine lv_iload_n (pc := 22) hx hb dX3_feeFor_22 rfl (lv_at hl 0 rfl) ?_
      refine lv_isub (pc := 23) hx hb dX3_feeFor_23 ?_
      refine lv_goto (pc := 24) (tgt := 29) hx hb dX3_feeFor_24 (by decide) ?_
      exact J29 _ _ _ (by unfold mFe2; rw [if_neg c3]) G
  refine lv_icmp_ge (pc := 4) (tgt := 11) hx hb dX3_feeFor_4 (by decide) (fun c4 => ?_) (fun c4 => ?_)
  · refine lv_sipush (pc := 11) (v := 10000) hx hb dX3_feeFor_11 (by decide) ?_
    exact J14 _ _ _ (by unfold mFe1; rw [if_pos c4]) G
  · refine lv_iload_n (pc := 7) hx hb dX3_feeFor_7 rfl (lv_at hl 0 rfl) ?_
    refine lv_goto (pc := 8) (tgt := 14) hx hb dX3_feeFor_8 (by decide) ?_
    exact J14 _ _ _ (by unfold mFe1; rw [if_neg c4]) G
def mF_isLot (C : Nat → Int32) (A : Nat → Nat → Int32) (B : Nat → Int64) (p0 : Int32) : Int32 := (mWithin p0 0 ((C 0) - 1))
abbrev rmX3_isLot : Room := ({ frames := 1, cells := 0, slots := 0, locals := 22 } : Room)
set_option maxHeartbeats 4000000 in
theorem metX3_isLot (l : Launch) (D : va_G) (K ad : Nat → Nat) (C : Nat → Int32) (A : Nat → Nat → Int32) (B : Nat → Int64) (p0 : Int32) : MMet l yX3_isLot (ws_ yX3_isLot cX3_isLot 2 (some .boolean)) rmX3_isLot D K [.int p0] ad C A B (some (.int (mF_isLot C A B p0))) C A B := by
  intro w hP
  refine gMet.of (by decide) (Nat.le_of_ble_eq_true rfl) ?_
  intro p e s m args below meth c H locs ls S M hr hlocks hname G hl
  have hx := S.1
  have hb := S.2.1
  have hown := S.2.2.2.1
  have hts := S.2.2.2.2
  have hl : lv_has ls 2 [(0, .ref (ad 0)), (1, .int p0)] := hl
  obtain ⟨Q, hQ⟩ : ∃ Q, Q = gE below D K (mPost D K w ad (some (.int ((mF_isLot C A B p0), C, A, B).1)) ((mF_isLot C A B p0), C, A, B).2.1 ((mF_isLot C A B p0), C, A, B).2.2.1 ((mF_isLot C A B p0), C, A, B).2.2.2) args s rmX3_isLot.cells rmX3_isLot.slots := ⟨_, rfl⟩
  rw [← hQ]
  have G : MG D K s H locs w ad C A B := MG.of G hP
  refine lv_iload_n (pc := 0) hx hb dX3_isLot_0 rfl (lv_at hl 1 rfl) ?_
  refine lv_iconst (pc := 1) (v := 0) hx hb dX3_isLot_1 (by decide) ?_
  refine lv_aload_n (pc := 2) hx hb dX3_isLot_2 rfl (lv_at hl 0 rfl) ?_
  refine m_get (pc := 3) (v := .int (C 0)) S M G 0 (by decide) q1323 rfl rfl dX3_isLot_3 ?_
  refine lv_iconst (pc := 6) (v := 1) hx hb dX3_isLot_6 (by decide) ?_
  refine lv_isub (pc := 7) hx hb dX3_isLot_7 ?_
  refine m_callS (pc := 8) (v := .int (mWithin p0 0 ((C 0) - 1))) S M G hl.1 [.int p0, .int 0, .int ((C 0) - 1)] [] (fun w => metX3_isWithin l D K w p0 0 ((C 0) - 1)) 3 q1407 q1405 q1406 q26 (by decide) rfl (⟨Nat.le_of_ble_eq_true rfl, Nat.le_of_ble_eq_true rfl⟩) rfl (Nat.le_of_ble_eq_true rfl) dX3_isLot_8 ⟨Nat.le_of_ble_eq_true rfl, Nat.le_of_ble_eq_true rfl⟩ (fun H locs G => ?_)
  refine W.eq (g2 := F0 m 11 ls [.int (mWithin p0 0 ((C 0) - 1))]) rfl ?_
  rw [hQ]
  refine m_zret (sp := ((mF_isLot C A B p0), C, A, B)) S G hr hlocks (hv := ?_) (hdg := dX3_isLot_11) ?_ ?_ ?_
  · first | exact Or.inl rfl | exact Or.inr rfl | exact mWithin_01 _ _ _
  · exact Nat.le_of_ble_eq_true rfl
  · exact Nat.le_of_ble_eq_true rfl
  · rfl
def mF_thrown (C : Nat → Int32) (A : Nat → Nat → Int32) (B : Nat → Int64) : Int32 := (C 23)
abbrev rmX3_thrown : Room := ({ frames := 0, cells := 0, slots := 0, locals := 0 } : Room)
set_option maxHeartbeats 4000000 in
theorem metX3_thrown (l : Launch) (D : va_G) (K ad : Nat → Nat) (C : Nat → Int32) (A : Nat → Nat → Int32) (B : Nat → Int64) : MMet l yX3_thrown (ws_ yX3_thrown cX3_thrown 1 (some .int)) rmX3_thrown D K [] ad C A B (some (.int (mF_thrown C A B))) C A B := by
  intro w hP
  refine gMet.of (by decide) (Nat.le_of_ble_eq_true rfl) ?_
  intro p e s m args below meth c H locs ls S M hr hlocks hname G hl
  have hx := S.1
  have hb := S.2.1
  have hown := S.2.2.2.1
  have hts := S.2.2.2.2
  have hl : lv_has ls 1 [(0, .ref (ad 0))] := hl
  obtain ⟨Q, hQ⟩ : ∃ Q, Q = gE below D K (mPost D K w ad (some (.int ((mF_thrown C A B), C, A, B).1)) ((mF_thrown C A B), C, A, B).2.1 ((mF_thrown C A B), C, A, B).2.2.1 ((mF_thrown C A B), C, A, B).2.2.2) args s rmX3_thrown.cells rmX3_thrown.slots := ⟨_, rfl⟩
  rw [← hQ]
  have G : MG D K s H locs w ad C A B := MG.of G hP
  refine lv_aload_n (pc := 0) hx hb dX3_thrown_0 rfl (lv_at hl 0 rfl) ?_
  refine m_get (pc := 1) (v := .int (C 23)) S M G 23 (by decide) q1346 rfl rfl dX3_thrown_1 ?_
  rw [hQ]
  refine m_iret (sp := ((mF_thrown C A B), C, A, B)) S G hr hlocks (hdg := dX3_thrown_4) ?_ ?_ ?_
  · exact Nat.le_of_ble_eq_true rfl
  · exact Nat.le_of_ble_eq_true rfl
  · rfl
theorem mLot_in {C : Nat → Int32} {A : Nat → Nat → Int32} {B : Nat → Int64} {p : Int32} (hC : 0 ≤ (C 0).toInt ∧ (C 0).toInt ≤ 30) (h : ¬ mF_isLot C A B p = 0) : vp_in p 30 := by
  have h1 := mWithin_ne h
  rw [vp_in_iff]
  have e : (C 0 - 1).toInt = (C 0).toInt - 1 := by
    rw [Int32.toInt_sub, show (1 : Int32).toInt = 1 from rfl]
    exact Int.bmod_eq_of_le (by omega) (by omega)
  rw [e, show (0 : Int32).toInt = 0 from rfl] at h1
  omega
theorem mBuy_in {p : Int32} (h : ¬ mBuyer p = 0) : vp_in p 10 := by
  have h1 := mWithin_ne h
  rw [vp_in_iff]
  rw [show (0 : Int32).toInt = 0 from rfl, show (9 : Int32).toInt = 9 from rfl] at h1
  omega
theorem mSel_in {p : Int32} (h : ¬ mWithin p 0 5 = 0) : vp_in p 6 := by
  have h1 := mWithin_ne h
  rw [vp_in_iff]
  rw [show (0 : Int32).toInt = 0 from rfl, show (5 : Int32).toInt = 5 from rfl] at h1
  omega
theorem mCnt_in {x : Int32} (h : 0 ≤ x.toInt ∧ x.toInt ≤ 30) (hn : ¬ x = 30) : vp_in x 30 := by
  rw [vp_in_iff]
  have h2 : ¬ x.toInt = 30 := fun e => hn (Int32.toInt_inj.mp e)
  omega
theorem m_ix {p : Int32} {i : Nat} (hp : vp_in p 30) (hi : i ≤ 10) : ∃ j, j < 30 ∧ p = nI j ∧ 10 * p + nI i = nI (10 * j + i) := by
  obtain ⟨j, hj, rfl⟩ := vp_in_of hp (by decide)
  refine ⟨j, hj, rfl, ?_⟩
  rw [show (10 : Int32) = nI 10 from rfl, pk_mul, nI_add]
theorem m_ixin {p : Int32} {i : Nat} (hp : vp_in p 30) (hi : i < 10) : vp_in (10 * p + nI i) 300 := by
  obtain ⟨j, hj, -, e⟩ := m_ix hp (Nat.le_of_lt hi)
  rw [e]
  exact vp_in_nI (by omega) (by decide)
theorem m_ixb {p b : Int32} (hp : vp_in p 30) (hb : vp_in b 10) : vp_in (10 * p + b) 300 := by
  obtain ⟨i, hi, rfl⟩ := vp_in_of hb (by decide)
  exact m_ixin hp hi
theorem m_ixle {p : Int32} {i : Nat} (hp : vp_in p 30) (hi : i ≤ 10) : (10 * p + 10 ≤ 10 * p + nI i) ↔ i = 10 := by
  obtain ⟨j, hj, rfl, e⟩ := m_ix hp hi
  rw [e, show (10 : Int32) = nI 10 from rfl, pk_mul, nI_add, nI_leI (by omega) (by omega)]
  omega
theorem m_ix1 (p : Int32) (i : Nat) : 10 * p + nI i + 1 = 10 * p + nI (i + 1) := by rw [Int32.add_assoc, nI_1]
theorem m_10le {i : Nat} (hi : i ≤ 10) : (10 ≤ nI i) ↔ i = 10 := by
  rw [show (10 : Int32) = nI 10 from rfl, nI_leI (by omega) (by omega)]
  omega
def mClr (A : Nat → Nat → Int32) (p : Int32) : Nat → Nat → Nat → Int32
  | 0 => A
  | i + 1 => updA (mClr A p i) 8 (10 * p + nI i).toNatClampNeg (-1)
def mS_clearBids (C : Nat → Int32) (A : Nat → Nat → Int32) (B : Nat → Int64) (p0 : Int32) : mSp Int32 := (0, C, mClr A p0 10, B)
abbrev rmX3_clearBids : Room := ({ frames := 0, cells := 0, slots := 0, locals := 0 } : Room)
set_option maxHeartbeats 4000000 in
theorem metX3_clearBids (l : Launch) (D : va_G) (K ad : Nat → Nat) (C : Nat → Int32) (A : Nat → Nat → Int32) (B : Nat → Int64) (p0 : Int32) (hp : vp_in p0 30) : MMet l yX3_clearBids (ws_ yX3_clearBids cX3_clearBids 3 none) rmX3_clearBids D K [.int p0] ad C A B none (mS_clearBids C A B p0).2.1 (mS_clearBids C A B p0).2.2.1 (mS_clearBids C A B p0).2.2.2 := by
  intro w hP
  refine gMet.of (by decide) (Nat.le_of_ble_eq_true rfl) ?_
  intro p e s m args below meth c H locs ls S M hr hlocks hname G hl
  have hx := S.1
  have hb := S.2.1
  have hown := S.2.2.2.1
  have hts := S.2.2.2.2
  have hl : lv_has ls 3 [(0, .ref (ad 0)), (1, .int p0)] := hl
  obtain ⟨Q, hQ⟩ : ∃ Q, Q = gE below D K (mPost D K w ad (none) (mS_clearBids C A B p0).2.1 (mS_clearBids C A B p0).2.2.1 (mS_clearBids C A B p0).2.2.2) args s rmX3_clearBids.cells rmX3_clearBids.slots := ⟨_, rfl⟩
  rw [← hQ]
  have G : MG D K s H locs w ad C A B := MG.of G hP
  refine lv_iconst (pc := 0) (v := 0) hx hb dX3_clearBids_0 (by decide) ?_
  refine lv_istore_n (pc := 1) (lv' := [(2, .int 0), (0, .ref (ad 0)), (1, .int p0)]) hx hb dX3_clearBids_1 rfl hl (by decide) rfl (fun ls hl => ?_)
  have Lp : ∀ (n i : Nat) (H : Heap) (locs : List Loc) (ls : Array Slot), i ≤ 10 → 11 ≤ i + n → MG D K s H locs w ad C (mClr A p0 i) B → lv_has ls 3 [(2, .int (nI i)), (0, .ref (ad 0)), (1, .int p0)] → W p l e rmX3_clearBids s m args below meth c H locs 0 0 Q (F0 m 2 ls []) := by
    intro n
    induction n with
    | zero => intro i H locs ls h1 h2; exact absurd h2 (by omega)
    | succ n ih =>
      intro i H locs ls h1 h2 G hl
      refine lv_iload_n (pc := 2) hx hb dX3_clearBids_2 rfl (lv_at hl 0 rfl) ?_
      refine lv_bipush (pc := 3) (v := 10) hx hb dX3_clearBids_3 (by decide) ?_
      refine lv_icmp_ge (pc := 5) (tgt := 26) hx hb dX3_clearBids_5 (by decide) (fun c1 => ?_) (fun c1 => ?_)
      · obtain rfl := (m_10le h1).mp c1
        rw [hQ]
        refine m_vret (sp := (mS_clearBids C A B p0)) S G hr hlocks (hdg := dX3_clearBids_26) ?_ ?_ ?_
        · exact Nat.le_of_ble_eq_true rfl
        · exact Nat.le_of_ble_eq_true rfl
        · rfl
      · have hi : i < 10 := Nat.lt_of_le_of_ne h1 (fun e => c1 ((m_10le h1).mpr e))
        refine lv_aload_n (pc := 8) hx hb dX3_clearBids_8 rfl (lv_at hl 1 rfl) ?_
        refine m_get (pc := 9) (v := .ref (ad 8)) S M G 8 (by decide) q1331 rfl rfl dX3_clearBids_9 ?_
        refine lv_bipush (pc := 12) (v := 10) hx hb dX3_clearBids_12 (by decide) ?_
        refine lv_iload_n (pc := 14) hx hb dX3_clearBids_14 rfl (lv_at hl 2 rfl) ?_
        refine lv_imul (pc := 15) hx hb dX3_clearBids_15 ?_
        refine lv_iload_n (pc := 16) hx hb dX3_clearBids_16 rfl (lv_at hl 0 rfl) ?_
        refine lv_iadd (pc := 17) hx hb dX3_clearBids_17 ?_
        refine lv_iconst (pc := 18) (v := (-1)) hx hb dX3_clearBids_18 (by decide) ?_
        refine m_ast (pc := 19) S M G 8 rfl (m_ixin hp hi) dX3_clearBids_19 (fun H locs G => ?_)
        refine lv_iinc (pc := 20) (v := ((nI i) + 1)) (lv' := [(2, .int ((nI i) + 1)), (0, .ref (ad 0)), (1, .int p0)]) hx hb dX3_clearBids_20 hl (k := 0) rfl (by first | rfl | decide) (by decide) rfl (fun ls hl => ?_)
        refine lv_goto (pc := 23) (tgt := 2) hx hb dX3_clearBids_23 (by decide) ?_
        rw [nI_1] at hl
        exact ih (i + 1) H locs ls (by omega) (by omega) G (lv_sub hl [0, 1, 2] rfl)
  exact Lp 11 0 H locs ls (by omega) (by omega) G (lv_sub hl [0, 1, 2] rfl)
def mCnt (A : Nat → Nat → Int32) (p : Int32) : Nat → Int32
  | 0 => 0
  | i + 1 => mCnt A p i + (if A 8 (10 * p + nI i).toNatClampNeg = -1 then 0 else 1)
def mF_bidMany (C : Nat → Int32) (A : Nat → Nat → Int32) (B : Nat → Int64) (p0 : Int32) : Int32 := mCnt A p0 10
abbrev rmX3_bidMany : Room := ({ frames := 0, cells := 0, slots := 0, locals := 0 } : Room)
set_option maxHeartbeats 4000000 in
theorem metX3_bidMany (l : Launch) (D : va_G) (K ad : Nat → Nat) (C : Nat → Int32) (A : Nat → Nat → Int32) (B : Nat → Int64) (p0 : Int32) (hp : vp_in p0 30) : MMet l yX3_bidMany (ws_ yX3_bidMany cX3_bidMany 4 (some .int)) rmX3_bidMany D K [.int p0] ad C A B (some (.int (mF_bidMany C A B p0))) C A B := by
  intro w hP
  refine gMet.of (by decide) (Nat.le_of_ble_eq_true rfl) ?_
  intro p e s m args below meth c H locs ls S M hr hlocks hname G hl
  have hx := S.1
  have hb := S.2.1
  have hown := S.2.2.2.1
  have hts := S.2.2.2.2
  have hl : lv_has ls 4 [(0, .ref (ad 0)), (1, .int p0)] := hl
  obtain ⟨Q, hQ⟩ : ∃ Q, Q = gE below D K (mPost D K w ad (some (.int ((mF_bidMany C A B p0), C, A, B).1)) ((mF_bidMany C A B p0), C, A, B).2.1 ((mF_bidMany C A B p0), C, A, B).2.2.1 ((mF_bidMany C A B p0), C, A, B).2.2.2) args s rmX3_bidMany.cells rmX3_bidMany.slots := ⟨_, rfl⟩
  rw [← hQ]
  have G : MG D K s H locs w ad C A B := MG.of G hP
  refine lv_iconst (pc := 0) (v := 0) hx hb dX3_bidMany_0 (by decide) ?_
  refine lv_istore_n (pc := 1) (lv' := [(2, .int 0), (0, .ref (ad 0)), (1, .int p0)]) hx hb dX3_bidMany_1 rfl hl (by decide) rfl (fun ls hl => ?_)
  refine lv_bipush (pc := 2) (v := 10) hx hb dX3_bidMany_2 (by decide) ?_
  refine lv_iload_n (pc := 4) hx hb dX3_bidMany_4 rfl (lv_at hl 2 rfl) ?_
  refine lv_imul (pc := 5) hx hb dX3_bidMany_5 ?_
  refine lv_istore_n (pc := 6) (lv' := [(3, .int (10 * p0)), (2, .int 0), (0, .ref (ad 0)), (1, .int p0)]) hx hb dX3_bidMany_6 rfl hl (by decide) rfl (fun ls hl => ?_)
  have Lp : ∀ (n i : Nat) (H : Heap) (locs : List Loc) (ls : Array Slot), i ≤ 10 → 11 ≤ i + n → MG D K s H locs w ad C A B → lv_has ls 4 [(2, .int (mCnt A p0 i)), (3, .int (10 * p0 + nI i)), (0, .ref (ad 0)), (1, .int p0)] → W p l e rmX3_bidMany s m args below meth c H locs 0 0 Q (F0 m 7 ls []) := by
    intro n
    induction n with
    | zero => intro i H locs ls h1 h2; exact absurd h2 (by omega)
    | succ n ih =>
      intro i H locs ls h1 h2 G hl
      refine lv_iload_n (pc := 7) hx hb dX3_bidMany_7 rfl (lv_at hl 1 rfl) ?_
      refine lv_bipush (pc := 8) (v := 10) hx hb dX3_bidMany_8 (by decide) ?_
      refine lv_iload_n (pc := 10) hx hb dX3_bidMany_10 rfl (lv_at hl 3 rfl) ?_
      refine lv_imul (pc := 11) hx hb dX3_bidMany_11 ?_
      refine lv_bipush (pc := 12) (v := 10) hx hb dX3_bidMany_12 (by decide) ?_
      refine lv_iadd (pc := 14) hx hb dX3_bidMany_14 ?_
      refine lv_icmp_ge (pc := 15) (tgt := 42) hx hb dX3_bidMany_15 (by decide) (fun c1 => ?_) (fun c1 => ?_)
      · obtain rfl := (m_ixle hp h1).mp c1
        refine lv_iload_n (pc := 42) hx hb dX3_bidMany_42 rfl (lv_at hl 0 rfl) ?_
        rw [hQ]
        refine m_iret (sp := ((mF_bidMany C A B p0), C, A, B)) S G hr hlocks (hdg := dX3_bidMany_43) ?_ ?_ ?_
        · exact Nat.le_of_ble_eq_true rfl
        · exact Nat.le_of_ble_eq_true rfl
        · rfl
      · have hi : i < 10 := Nat.lt_of_le_of_ne h1 (fun e => c1 ((m_ixle hp h1).mpr e))
        refine lv_iload_n (pc := 18) hx hb dX3_bidMany_18 rfl (lv_at hl 0 rfl) ?_
        refine lv_aload_n (pc := 19) hx hb dX3_bidMany_19 rfl (lv_at hl 2 rfl) ?_
        refine m_get (pc := 20) (v := .ref (ad 8)) S M G 8 (by decide) q1331 rfl rfl dX3_bidMany_20 ?_
        refine lv_iload_n (pc := 23) hx hb dX3_bidMany_23 rfl (lv_at hl 1 rfl) ?_
        refine m_ald (pc := 24) (v := (A 8 (10 * p0 + nI i).toNatClampNeg)) S M G 8 rfl (m_ixin hp hi) rfl dX3_bidMany_24 ?_
        refine lv_iconst (pc := 25) (v := (-1)) hx hb dX3_bidMany_25 (by decide) ?_
        refine lv_icmp_eq (pc := 26) (tgt := 33) hx hb dX3_bidMany_26 (by decide) (fun c2 => ?_) (fun c2 => ?_)
        · refine lv_iconst (pc := 33) (v := 0) hx hb dX3_bidMany_33 (by decide) ?_
          refine lv_iadd (pc := 34) hx hb dX3_bidMany_34 ?_
          refine lv_istore_n (pc := 35) (lv' := [(2, .int ((mCnt A p0 i) + 0)), (3, .int (10 * p0 + nI i)), (0, .ref (ad 0)), (1, .int p0)]) hx hb dX3_bidMany_35 rfl hl (by decide) rfl (fun ls hl => ?_)
          refine lv_iinc (pc := 36) (v := ((10 * p0 + nI i) + 1)) (lv' := [(3, .int ((10 * p0 + nI i) + 1)), (2, .int ((mCnt A p0 i) + 0)), (0, .ref (ad 0)), (1, .int p0)]) hx hb dX3_bidMany_36 hl (k := 1) rfl (by first | rfl | decide) (by decide) rfl (fun ls hl => ?_)
          refine lv_goto (pc := 39) (tgt := 7) hx hb dX3_bidMany_39 (by decide) ?_
          rw [m_ix1] at hl
          have em : ((mCnt A p0 i) + 0) = mCnt A p0 (i + 1) := by show _ = mCnt A p0 i + ite _ _ _; rw [if_pos c2]
          rw [em] at hl
          exact ih (i + 1) H locs ls (by omega) (by omega) G (lv_sub hl [1, 0, 2, 3] rfl)
        · refine lv_iconst (pc := 29) (v := 1) hx hb dX3_bidMany_29 (by decide) ?_
          refine lv_goto (pc := 30) (tgt := 34) hx hb dX3_bidMany_30 (by decide) ?_
          refine lv_iadd (pc := 34) hx hb dX3_bidMany_34 ?_
          refine lv_istore_n (pc := 35) (lv' := [(2, .int ((mCnt A p0 i) + 1)), (3, .int (10 * p0 + nI i)), (0, .ref (ad 0)), (1, .int p0)]) hx hb dX3_bidMany_35 rfl hl (by decide) rfl (fun ls hl => ?_)
          refine lv_iinc (pc := 36) (v := ((10 * p0 + nI i) + 1)) (lv' := [(3, .int ((10 * p0 + nI i) + 1)), (2, .int ((mCnt A p0 i) + 1)), (0, .ref (ad 0)), (1, .int p0)]) hx hb dX3_bidMany_36 hl (k := 1) rfl (by first | rfl | decide) (by decide) rfl (fun ls hl => ?_)
          refine lv_goto (pc := 39) (tgt := 7) hx hb dX3_bidMany_39 (by decide) ?_
          rw [m_ix1] at hl
          have em : ((mCnt A p0 i) + 1) = mCnt A p0 (i + 1) := by show _ = mCnt A p0 i + ite _ _ _; rw [if_neg c2]
          rw [em] at hl
          exact ih (i + 1) H locs ls (by omega) (by omega) G (lv_sub hl [1, 0, 2, 3] rfl)
  exact Lp 11 0 H locs ls (by omega) (by omega) G (by rw [show (10 : Int32) * p0 + nI 0 = 10 * p0 by rw [nI_0]; exact Int32.add_zero _]; exact lv_sub hl [1, 0, 2, 3] rfl)
def mHiS (A : Nat → Nat → Int32) (k f : Int32) : Int32 := if A 8 k.toNatClampNeg = -1 then f else if f = -1 then k else if A 8 f.toNatClampNeg < A 8 k.toNatClampNeg then k else if A 8 k.toNatClampNeg = A 8 f.toNatClampNeg then (if A 9 f.toNatClampNeg ≤ A 9 k.toNatClampNeg then f else k) else f
def mHi (A : Nat → Nat → Int32) (p : Int32) : Nat → Int32
  | 0 => -1
  | i + 1 => mHiS A (10 * p + nI i) (mHi A p i)
def mF_highest (C : Nat → Int32) (A : Nat → Nat → Int32) (B : Nat → Int64) (p0 : Int32) : Int32 := mHi A p0 10
theorem mHi_in (A : Nat → Nat → Int32) {p : Int32} (hp : vp_in p 30) : ∀ i, i ≤ 10 → mHi A p i = -1 ∨ vp_in (mHi A p i) 300
  | 0, _ => Or.inl rfl
  | i + 1, h => by
    have h1 := mHi_in A hp i (Nat.le_of_succ_le h)
    have h2 : vp_in (10 * p + nI i) 300 := m_ixin hp h
    show mHiS _ _ _ = -1 ∨ vp_in (mHiS _ _ _) 300
    unfold mHiS
    split
    · exact h1
    · split
      · exact Or.inr h2
      · split
        · exact Or.inr h2
        · split
          · split
            · exact h1
            · exact Or.inr h2
          · exact h1
theorem vp_cons {x : Int32} (h : x = -1 ∨ vp_in x 300) (hn : ¬ x = -1) : vp_in x 300 := h.resolve_left hn
abbrev rmX3_highest : Room := ({ frames := 0, cells := 0, slots := 0, locals := 0 } : Room)
set_option maxHeartbeats 4000000 in
theorem metX3_highest (l : Launch) (D : va_G) (K ad : Nat → Nat) (C : Nat → Int32) (A : Nat → Nat → Int32) (B : Nat → Int64) (p0 : Int32) (hp : vp_in p0 30) : MMet l yX3_highest (ws_ yX3_highest cX3_highest 5 (some .int)) rmX3_highest D K [.int p0] ad C A B (some (.int (mF_highest C A B p0))) C A B := by
  intro w hP
  refine gMet.of (by decide) (Nat.le_of_ble_eq_true rfl) ?_
  intro p e s m args below meth c H locs ls S M hr hlocks hname G hl
  have hx := S.1
  have hb := S.2.1
  have hown := S.2.2.2.1
  have hts := S.2.2.2.2
  have hl : lv_has ls 5 [(0, .ref (ad 0)), (1, .int p0)] := hl
  obtain ⟨Q, hQ⟩ : ∃ Q, Q = gE below D K (mPost D K w ad (some (.int ((mF_highest C A B p0), C, A, B).1)) ((mF_highest C A B p0), C, A, B).2.1 ((mF_highest C A B p0), C, A, B).2.2.1 ((mF_highest C A B p0), C, A, B).2.2.2) args s rmX3_highest.cells rmX3_highest.slots := ⟨_, rfl⟩
  rw [← hQ]
  have G : MG D K s H locs w ad C A B := MG.of G hP
  refine lv_iconst (pc := 0) (v := (-1)) hx hb dX3_highest_0 (by decide) ?_
  refine lv_istore_n (pc := 1) (lv' := [(2, .int (-1)), (0, .ref (ad 0)), (1, .int p0)]) hx hb dX3_highest_1 rfl hl (by decide) rfl (fun ls hl => ?_)
  refine lv_bipush (pc := 2) (v := 10) hx hb dX3_highest_2 (by decide) ?_
  refine lv_iload_n (pc := 4) hx hb dX3_highest_4 rfl (lv_at hl 2 rfl) ?_
  refine lv_imul (pc := 5) hx hb dX3_highest_5 ?_
  refine lv_istore_n (pc := 6) (lv' := [(3, .int (10 * p0)), (2, .int (-1)), (0, .ref (ad 0)), (1, .int p0)]) hx hb dX3_highest_6 rfl hl (by decide) rfl (fun ls hl => ?_)
  have Lp : ∀ (n i : Nat) (H : Heap) (locs : List Loc) (ls : Array Slot), i ≤ 10 → 11 ≤ i + n → MG D K s H locs w ad C A B → lv_has ls 5 [(2, .int (mHi A p0 i)), (3, .int (10 * p0 + nI i)), (0, .ref (ad 0)), (1, .int p0)] → W p l e rmX3_highest s m args below meth c H locs 0 0 Q (F0 m 7 ls []) := by
    intro n
    induction n with
    | zero => intro i H locs ls h1 h2; exact absurd h2 (by omega)
    | succ n ih =>
      intro i H locs ls h1 h2 G hl
      refine lv_iload_n (pc := 7) hx hb dX3_highest_7 rfl (lv_at hl 1 rfl) ?_
      refine lv_bipush (pc := 8) (v := 10) hx hb dX3_highest_8 (by decide) ?_
      refine lv_iload_n (pc := 10) hx hb dX3_highest_10 rfl (lv_at hl 3 rfl) ?_
      refine lv_imul (pc := 11) hx hb dX3_highest_11 ?_
      refine lv_bipush (pc := 12) (v := 10) hx hb dX3_highest_12 (by decide) ?_
      refine lv_iadd (pc := 14) hx hb dX3_highest_14 ?_
      refine lv_icmp_ge (pc := 15) (tgt := 102) hx hb dX3_highest_15 (by decide) (fun c1 => ?_) (fun c1 => ?_)
      · obtain rfl := (m_ixle hp h1).mp c1
        refine lv_iload_n (pc := 102) hx hb dX3_highest_102 rfl (lv_at hl 0 rfl) ?_
        rw [hQ]
        refine m_iret (sp := ((mF_highest C A B p0), C, A, B)) S G hr hlocks (hdg := dX3_highest_103) ?_ ?_ ?_
        · exact Nat.le_of_ble_eq_true rfl
        · exact Nat.le_of_ble_eq_true rfl
        · rfl
      · have hi : i < 10 := Nat.lt_of_le_of_ne h1 (fun e => c1 ((m_ixle hp h1).mpr e))
        refine lv_aload_n (pc := 18) hx hb dX3_highest_18 rfl (lv_at hl 2 rfl) ?_
        refine m_get (pc := 19) (v := .ref (ad 8)) S M G 8 (by decide) q1331 rfl rfl dX3_highest_19 ?_
        refine lv_iload_n (pc := 22) hx hb dX3_highest_22 rfl (lv_at hl 1 rfl) ?_
        refine m_ald (pc := 23) (v := (A 8 (10 * p0 + nI i).toNatClampNeg)) S M G 8 rfl (m_ixin hp hi) rfl dX3_highest_23 ?_
        refine lv_iconst (pc := 24) (v := (-1)) hx hb dX3_highest_24 (by decide) ?_
        refine lv_icmp_eq (pc := 25) (tgt := 82) hx hb dX3_highest_25 (by decide) (fun c2 => ?_) (fun c2 => ?_)
        · refine lv_iconst (pc := 82) (v := 0) hx hb dX3_highest_82 (by decide) ?_
          refine lv_istore (pc := 83) (lv' := [(4, .int 0), (2, .int (mHi A p0 i)), (3, .int (10 * p0 + nI i)), (0, .ref (ad 0)), (1, .int p0)]) hx hb dX3_highest_83 hl (by decide) rfl (fun ls hl => ?_)
          refine lv_iload (pc := 85) hx hb dX3_highest_85 (lv_at hl 0 rfl) ?_
          refine lv_if_eq (pc := 87) (tgt := 94) hx hb dX3_highest_87 (by decide) (fun _ => ?_) (fun c => absurd c (by decide))
          refine lv_iload_n (pc := 94) hx hb dX3_highest_94 rfl (lv_at hl 1 rfl) ?_
          refine lv_istore_n (pc := 95) (lv' := [(2, .int (mHi A p0 i)), (4, .int 0), (3, .int (10 * p0 + nI i)), (0, .ref (ad 0)), (1, .int p0)]) hx hb dX3_highest_95 rfl hl (by decide) rfl (fun ls hl => ?_)
          refine lv_iinc (pc := 96) (v := ((10 * p0 + nI i) + 1)) (lv' := [(3, .int ((10 * p0 + nI i) + 1)), (2, .int (mHi A p0 i)), (4, .int 0), (0, .ref (ad 0)), (1, .int p0)]) hx hb dX3_highest_96 hl (k := 2) rfl (by first | rfl | decide) (by decide) rfl (fun ls hl => ?_)
          refine lv_goto (pc := 99) (tgt := 7) hx hb dX3_highest_99 (by decide) ?_
          rw [m_ix1] at hl
          have em : (mHi A p0 i) = mHi A p0 (i + 1) := by show _ = mHiS _ _ _; unfold mHiS; rw [if_pos c2]
          rw [em] at hl
          exact ih (i + 1) H locs ls (by omega) (by omega) G (lv_sub hl [1, 0, 3, 4] rfl)
        · refine lv_iload_n (pc := 28) hx hb dX3_highest_28 rfl (lv_at hl 0 rfl) ?_
          refine lv_iconst (pc := 29) (v := (-1)) hx hb dX3_highest_29 (by decide) ?_
          refine lv_icmp_eq (pc := 30) (tgt := 78) hx hb dX3_highest_30 (by decide) (fun c3 => ?_) (fun c3 => ?_)
          · refine lv_iconst (pc := 78) (v := 1) hx hb dX3_highest_78 (by decide) ?_
            refine lv_goto (pc := 79) (tgt := 83) hx hb dX3_highest_79 (by decide) ?_
            refine lv_istore (pc := 83) (lv' := [(4, .int 1), (2, .int (mHi A p0 i)), (3, .int (10 * p0 + nI i)), (0, .ref (ad 0)), (1, .int p0)]) hx hb dX3_highest_83 hl (by decide) rfl (fun ls hl => ?_)
            refine lv_iload (pc := 85) hx hb dX3_highest_85 (lv_at hl 0 rfl) ?_
            refine lv_if_eq (pc := 87) (tgt := 94) hx hb dX3_highest_87 (by decide) (fun c => absurd c (by decide)) (fun _ => ?_)
            refine lv_iload_n (pc := 90) hx hb dX3_highest_90 rfl (lv_at hl 2 rfl) ?_
            refine lv_goto (pc := 91) (tgt := 95) hx hb dX3_highest_91 (by decide) ?_
            refine lv_istore_n (pc := 95) (lv' := [(2, .int (10 * p0 + nI i)), (4, .int 1), (3, .int (10 * p0 + nI i)), (0, .ref (ad 0)), (1, .int p0)]) hx hb dX3_highest_95 rfl hl (by decide) rfl (fun ls hl => ?_)
            refine lv_iinc (pc := 96) (v := ((10 * p0 + nI i) + 1)) (lv' := [(3, .int ((10 * p0 + nI i) + 1)), (2, .int (10 * p0 + nI i)), (4, .int 1), (0, .ref (ad 0)), (1, .int p0)]) hx hb dX3_highest_96 hl (k := 2) rfl (by first | rfl | decide) (by decide) rfl (fun ls hl => ?_)
            refine lv_goto (pc := 99) (tgt := 7) hx hb dX3_highest_99 (by decide) ?_
            rw [m_ix1] at hl
            have em : (10 * p0 + nI i) = mHi A p0 (i + 1) := by show _ = mHiS _ _ _; unfold mHiS; rw [if_neg c2, if_pos c3]
            rw [em] at hl
            exact ih (i + 1) H locs ls (by omega) (by omega) G (lv_sub hl [1, 0, 3, 4] rfl)
          · refine lv_aload_n (pc := 33) hx hb dX3_highest_33 rfl (lv_at hl 2 rfl) ?_
            refine m_get (pc := 34) (v := .ref (ad 8)) S M G 8 (by decide) q1331 rfl rfl dX3_highest_34 ?_
            refine lv_iload_n (pc := 37) hx hb dX3_highest_37 rfl (lv_at hl 1 rfl) ?_
            refine m_ald (pc := 38) (v := (A 8 (10 * p0 + nI i).toNatClampNeg)) S M G 8 rfl (m_ixin hp hi) rfl dX3_highest_38 ?_
            refine lv_aload_n (pc := 39) hx hb dX3_highest_39 rfl (lv_at hl 2 rfl) ?_
            refine m_get (pc := 40) (v := .ref (ad 8)) S M G 8 (by decide) q1331 rfl rfl dX3_highest_40 ?_
            refine lv_iload_n (pc := 43) hx hb dX3_highest_43 rfl (lv_at hl 0 rfl) ?_
            refine m_ald (pc := 44) (v := (A 8 (mHi A p0 i).toNatClampNeg)) S M G 8 rfl (vp_cons (mHi_in A hp i h1) c3) rfl dX3_highest_44 ?_
            refine lv_icmp_gt (pc := 45) (tgt := 78) hx hb dX3_highest_45 (by decide) (fun c4 => ?_) (fun c4 => ?_)
            · refine lv_iconst (pc := 78) (v := 1) hx hb dX3_highest_78 (by decide) ?_
              refine lv_goto (pc := 79) (tgt := 83) hx hb dX3_highest_79 (by decide) ?_
              refine lv_istore (pc := 83) (lv' := [(4, .int 1), (2, .int (mHi A p0 i)), (3, .int (10 * p0 + nI i)), (0, .ref (ad 0)), (1, .int p0)]) hx hb dX3_highest_83 hl (by decide) rfl (fun ls hl => ?_)
              refine lv_iload (pc := 85) hx hb dX3_highest_85 (lv_at hl 0 rfl) ?_
              refine lv_if_eq (pc := 87) (tgt := 94) hx hb dX3_highest_87 (by decide) (fun c => absurd c (by decide)) (fun _ => ?_)
              refine lv_iload_n (pc := 90) hx hb dX3_highest_90 rfl (lv_at hl 2 rfl) ?_
              refine lv_goto (pc := 91) (tgt := 95) hx hb dX3_highest_91 (by decide) ?_
              refine lv_istore_n (pc := 95) (lv' := [(2, .int (10 * p0 + nI i)), (4, .int 1), (3, .int (10 * p0 + nI i)), (0, .ref (ad 0)), (1, .int p0)]) hx hb dX3_highest_95 rfl hl (by decide) rfl (fun ls hl => ?_)
              refine lv_iinc (pc := 96) (v := ((10 * p0 + nI i) + 1)) (lv' := [(3, .int ((10 * p0 + nI i) + 1)), (2, .int (10 * p0 + nI i)), (4, .int 1), (0, .ref (ad 0)), (1, .int p0)]) hx hb dX3_highest_96 hl (k := 2) rfl (by first | rfl | decide) (by decide) rfl (fun ls hl => ?_)
              refine lv_goto (pc := 99) (tgt := 7) hx hb dX3_highest_99 (by decide) ?_
              rw [m_ix1] at hl
              have em : (10 * p0 + nI i) = mHi A p0 (i + 1) := by show _ = mHiS _ _ _; unfold mHiS; rw [if_neg c2, if_neg c3, if_pos c4]
              rw [em] at hl
              exact ih (i + 1) H locs ls (by omega) (by omega) G (lv_sub hl [1, 0, 3, 4] rfl)
            · refine lv_aload_n (pc := 48) hx hb dX3_highest_48 rfl (lv_at hl 2 rfl) ?_
              refine m_get (pc := 49) (v := .ref (ad 8)) S M G 8 (by decide) q1331 rfl rfl dX3_highest_49 ?_
              refine lv_iload_n (pc := 52) hx hb dX3_highest_52 rfl (lv_at hl 1 rfl) ?_
              refine m_ald (pc := 53) (v := (A 8 (10 * p0 + nI i).toNatClampNeg)) S M G 8 rfl (m_ixin hp hi) rfl dX3_highest_53 ?_
              refine lv_aload_n (pc := 54) hx hb dX3_highest_54 rfl (lv_at hl 2 rfl) ?_
              refine m_get (pc := 55) (v := .ref (ad 8)) S M G 8 (by decide) q1331 rfl rfl dX3_highest_55 ?_
              refine lv_iload_n (pc := 58) hx hb dX3_highest_58 rfl (lv_at hl 0 rfl) ?_
              refine m_ald (pc := 59) (v := (A 8 (mHi A p0 i).toNatClampNeg)) S M G 8 rfl (vp_cons (mHi_in A hp i h1) c3) rfl dX3_highest_59 ?_
              refine lv_icmp_ne (pc := 60) (tgt := 82) hx hb dX3_highest_60 (by decide) (fun c5 => ?_) (fun c5 => ?_)
              · refine lv_iconst (pc := 82) (v := 0) hx hb dX3_highest_82 (by decide) ?_
                refine lv_istore (pc := 83) (lv' := [(4, .int 0), (2, .int (mHi A p0 i)), (3, .int (10 * p0 + nI i)), (0, .ref (ad 0)), (1, .int p0)]) hx hb dX3_highest_83 hl (by decide) rfl (fun ls hl => ?_)
                refine lv_iload (pc := 85) hx hb dX3_highest_85 (lv_at hl 0 rfl) ?_
                refine lv_if_eq (pc := 87) (tgt := 94) hx hb dX3_highest_87 (by decide) (fun _ => ?_) (fun c => absurd c (by decide))
                refine lv_iload_n (pc := 94) hx hb dX3_highest_94 rfl (lv_at hl 1 rfl) ?_
                refine lv_istore_n (pc := 95) (lv' := [(2, .int (mHi A p0 i)), (4, .int 0), (3, .int (10 * p0 + nI i)), (0, .ref (ad 0)), (1, .int p0)]) hx hb dX3_highest_95 rfl hl (by decide) rfl (fun ls hl => ?_)
                refine lv_iinc (pc := 96) (v := ((10 * p0 + nI i) + 1)) (lv' := [(3, .int ((10 * p0 + nI i) + 1)), (2, .int (mHi A p0 i)), (4, .int 0), (0, .ref (ad 0)), (1, .int p0)]) hx hb dX3_highest_96 hl (k := 2) rfl (by first | rfl | decide) (by decide) rfl (fun ls hl => ?_)
                refine lv_goto (pc := 99) (tgt := 7) hx hb dX3_highest_99 (by decide) ?_
                rw [m_ix1] at hl
                have em : (mHi A p0 i) = mHi A p0 (i + 1) := by show _ = mHiS _ _ _; unfold mHiS; rw [if_neg c2, if_neg c3, if_neg c4, if_neg c5]
                rw [em] at hl
                exact ih (i + 1) H locs ls (by omega) (by omega) G (lv_sub hl [1, 0, 3, 4] rfl)
              · refine lv_aload_n (pc := 63) hx hb dX3_highest_63 rfl (lv_at hl 2 rfl) ?_
                refine m_get (pc := 64) (v := .ref (ad 9)) S M G 9 (by decide) q1332 rfl rfl dX3_highest_64 ?_
                refine lv_iload_n (pc := 67) hx hb dX3_highest_67 rfl (lv_at hl 1 rfl) ?_
                refine m_ald (pc := 68) (v := (A 9 (10 * p0 + nI i).toNatClampNeg)) S M G 9 rfl (m_ixin hp hi) rfl dX3_highest_68 ?_
                refine lv_aload_n (pc := 69) hx hb dX3_highest_69 rfl (lv_at hl 2 rfl) ?_
                refine m_get (pc := 70) (v := .ref (ad 9)) S M G 9 (by decide) q1332 rfl rfl dX3_highest_70 ?_
                refine lv_iload_n (pc := 73) hx hb dX3_highest_73 rfl (lv_at hl 0 rfl) ?_
                refine m_ald (pc := 74) (v := (A 9 (mHi A p0 i).toNatClampNeg)) S M G 9 rfl (vp_cons (mHi_in A hp i h1) c3) rfl dX3_highest_74 ?_
                refine lv_icmp_ge (pc := 75) (tgt := 82) hx hb dX3_highest_75 (by decide) (fun c6 => ?_) (fun c6 => ?_)
                · refine lv_iconst (pc := 82) (v := 0) hx hb dX3_highest_82 (by decide) ?_
                  refine lv_istore (pc := 83) (lv' := [(4, .int 0), (2, .int (mHi A p0 i)), (3, .int (10 * p0 + nI i)), (0, .ref (ad 0)), (1, .int p0)]) hx hb dX3_highest_83 hl (by decide) rfl (fun ls hl => ?_)
                  refine lv_iload (pc := 85) hx hb dX3_highest_85 (lv_at hl 0 rfl) ?_
                  refine lv_if_eq (pc := 87) (tgt := 94) hx hb dX3_highest_87 (by decide) (fun _ => ?_) (fun c => absurd c (by decide))
                  refine lv_iload_n (pc := 94) hx hb dX3_highest_94 rfl (lv_at hl 1 rfl) ?_
                  refine lv_istore_n (pc := 95) (lv' := [(2, .int (mHi A p0 i)), (4, .int 0), (3, .int (10 * p0 + nI i)), (0, .ref (ad 0)), (1, .int p0)]) hx hb dX3_highest_95 rfl hl (by decide) rfl (fun ls hl => ?_)
                  refine lv_iinc (pc := 96) (v := ((10 * p0 + nI i) + 1)) (lv' := [(3, .int ((10 * p0 + nI i) + 1)), (2, .int (mHi A p0 i)), (4, .int 0), (0, .ref (ad 0)), (1, .int p0)]) hx hb dX3_highest_96 hl (k := 2) rfl (by first | rfl | decide) (by decide) rfl (fun ls hl => ?_)
                  refine lv_goto (pc := 99) (tgt := 7) hx hb dX3_highest_99 (by decide) ?_
                  rw [m_ix1] at hl
                  have em : (mHi A p0 i) = mHi A p0 (i + 1) := by show _ = mHiS _ _ _; unfold mHiS; rw [if_neg c2, if_neg c3, if_neg c4, if_pos c5, if_pos c6]
                  rw [em] at hl
                  exact ih (i + 1) H locs ls (by omega) (by omega) G (lv_sub hl [1, 0, 3, 4] rfl)
                · refine lv_iconst (pc := 78) (v := 1) hx hb dX3_highest_78 (by decide) ?_
                  refine lv_goto (pc := 79) (tgt := 83) hx hb dX3_highest_79 (by decide) ?_
                  refine lv_istore (pc := 83) (lv' := [(4, .int 1), (2, .int (mHi A p0 i)), (3, .int (10 * p0 + nI i)), (0, .ref (ad 0)), (1, .int p0)]) hx hb dX3_highest_83 hl (by decide) rfl (fun ls hl => ?_)
                  refine lv_iload (pc := 85) hx hb dX3_highest_85 (lv_at hl 0 rfl) ?_
                  refine lv_if_eq (pc := 87) (tgt := 94) hx hb dX3_highest_87 (by decide) (fun c => absurd c (by decide)) (fun _ => ?_)
                  refine lv_iload_n (pc := 90) hx hb dX3_highest_90 rfl (lv_at hl 2 rfl) ?_
                  refine lv_goto (pc := 91) (tgt := 95) hx hb dX3_highest_91 (by decide) ?_
                  refine lv_istore_n (pc := 95) (lv' := [(2, .int (10 * p0 + nI i)), (4, .int 1), (3, .int (10 * p0 + nI i)), (0, .ref (ad 0)), (1, .int p0)]) hx hb dX3_highest_95 rfl hl (by decide) rfl (fun ls hl => ?_)
                  refine lv_iinc (pc := 96) (v := ((10 * p0 + nI i) + 1)) (lv' := [(3, .int ((10 * p0 + nI i) + 1)), (2, .int (10 * p0 + nI i)), (4, .int 1), (0, .ref (ad 0)), (1, .int p0)]) hx hb dX3_highest_96 hl (k := 2) rfl (by first | rfl | decide) (by decide) rfl (fun ls hl => ?_)
                  refine lv_goto (pc := 99) (tgt := 7) hx hb dX3_highest_99 (by decide) ?_
                  rw [m_ix1] at hl
                  have em : (10 * p0 + nI i) = mHi A p0 (i + 1) := by show _ = mHiS _ _ _; unfold mHiS; rw [if_neg c2, if_neg c3, if_neg c4, if_pos c5, if_neg c6]
                  rw [em] at hl
                  exact ih (i + 1) H locs ls (by omega) (by omega) G (lv_sub hl [1, 0, 3, 4] rfl)
  exact Lp 11 0 H locs ls (by omega) (by omega) G (by rw [show (10 : Int32) * p0 + nI 0 = 10 * p0 by rw [nI_0]; exact Int32.add_zero _]; exact lv_sub hl [1, 0, 2, 3] rfl)
def mHb (A : Nat → Nat → Int32) (p q : Int32) : Nat → Int32
  | 0 => -1
  | i + 1 => if 10 * p + nI i = q then mHb A p q i else if A 8 (10 * p + nI i).toNatClampNeg ≤ mHb A p q i then mHb A p q i else A 8 (10 * p + nI i).toNatClampNeg
def mF_highestBut (C : Nat → Int32) (A : Nat → Nat → Int32) (B : Nat → Int64) (p0 p1 : Int32) : Int32 := mHb A p0 p1 10
abbrev rmX3_highestBut : Room := ({ frames := 0, cells := 0, slots := 0, locals := 0 } : Room)
set_option maxHeartbeats 4000000 in
theorem metX3_highestBut (l : Launch) (D : va_G) (K ad : Nat → Nat) (C : Nat → Int32) (A : Nat → Nat → Int32) (B : Nat → Int64) (p0 p1 : Int32) (hp : vp_in p0 30) : MMet l yX3_highestBut (ws_ yX3_highestBut cX3_highestBut 5 (some .int)) rmX3_highestBut D K [.int p0, .int p1] ad C A B (some (.int (mF_highestBut C A B p0 p1))) C A B := by
  intro w hP
  refine gMet.of (by decide) (Nat.le_of_ble_eq_true rfl) ?_
  intro p e s m args below meth c H locs ls S M hr hlocks hname G hl
  have hx := S.1
  have hb := S.2.1
  have hown := S.2.2.2.1
  have hts := S.2.2.2.2
  have hl : lv_has ls 5 [(0, .ref (ad 0)), (1, .int p0), (2, .int p1)] := hl
  obtain ⟨Q, hQ⟩ : ∃ Q, Q = gE below D K (mPost D K w ad (some (.int ((mF_highestBut C A B p0 p1), C, A, B).1)) ((mF_highestBut C A B p0 p1), C, A, B).2.1 ((mF_highestBut C A B p0 p1), C, A, B).2.2.1 ((mF_highestBut C A B p0 p1), C, A, B).2.2.2) args s rmX3_highestBut.cells rmX3_highestBut.slots := ⟨_, rfl⟩
  rw [← hQ]
  have G : MG D K s H locs w ad C A B := MG.of G hP
  refine lv_iconst (pc := 0) (v := (-1)) hx hb dX3_highestBut_0 (by decide) ?_
  refine lv_istore_n (pc := 1) (lv' := [(3, .int (-1)), (0, .ref (ad 0)), (1, .int p0), (2, .int p1)]) hx hb dX3_highestBut_1 rfl hl (by decide) rfl (fun ls hl => ?_)
  refine lv_bipush (pc := 2) (v := 10) hx hb dX3_highestBut_2 (by decide) ?_
  refine lv_iload_n (pc := 4) hx hb dX3_highestBut_4 rfl (lv_at hl 2 rfl) ?_
  refine lv_imul (pc := 5) hx hb dX3_highestBut_5 ?_
  refine lv_istore (pc := 6) (lv' := [(4, .int (10 * p0)), (3, .int (-1)), (0, .ref (ad 0)), (1, .int p0), (2, .int p1)]) hx hb dX3_highestBut_6 hl (by decide) rfl (fun ls hl => ?_)
  have Lp : ∀ (n i : Nat) (H : Heap) (locs : List Loc) (ls : Array Slot), i ≤ 10 → 11 ≤ i + n → MG D K s H locs w ad C A B → lv_has ls 5 [(3, .int (mHb A p0 p1 i)), (4, .int (10 * p0 + nI i)), (0, .ref (ad 0)), (1, .int p0), (2, .int p1)] → W p l e rmX3_highestBut s m args below meth c H locs 0 0 Q (F0 m 8 ls []) := by
    intro n
    induction n with
    | zero => intro i H locs ls h1 h2; exact absurd h2 (by omega)
    | succ n ih =>
      intro i H locs ls h1 h2 G hl
      refine lv_iload (pc := 8) hx hb dX3_highestBut_8 (lv_at hl 1 rfl) ?_
      refine lv_bipush (pc := 10) (v := 10) hx hb dX3_highestBut_10 (by decide) ?_
      refine lv_iload_n (pc := 12) hx hb dX3_highestBut_12 rfl (lv_at hl 3 rfl) ?_
      refine lv_imul (pc := 13) hx hb dX3_highestBut_13 ?_
      refine lv_bipush (pc := 14) (v := 10) hx hb dX3_highestBut_14 (by decide) ?_
      refine lv_iadd (pc := 16) hx hb dX3_highestBut_16 ?_
      refine lv_icmp_ge (pc := 17) (tgt := 55) hx hb dX3_highestBut_17 (by decide) (fun c1 => ?_) (fun c1 => ?_)
      · obtain rfl := (m_ixle hp h1).mp c1
        refine lv_iload_n (pc := 55) hx hb dX3_highestBut_55 rfl (lv_at hl 0 rfl) ?_
        rw [hQ]
        refine m_iret (sp := ((mF_highestBut C A B p0 p1), C, A, B)) S G hr hlocks (hdg := dX3_highestBut_56) ?_ ?_ ?_
        · exact Nat.le_of_ble_eq_true rfl
        · exact Nat.le_of_ble_eq_true rfl
        · rfl
      · have hi : i < 10 := Nat.lt_of_le_of_ne h1 (fun e => c1 ((m_ixle hp h1).mpr e))
        refine lv_iload (pc := 20) hx hb dX3_highestBut_20 (lv_at hl 1 rfl) ?_
        refine lv_iload_n (pc := 22) hx hb dX3_highestBut_22 rfl (lv_at hl 4 rfl) ?_
        refine lv_icmp_eq (pc := 23) (tgt := 47) hx hb dX3_highestBut_23 (by decide) (fun c2 => ?_) (fun c2 => ?_)
        · refine lv_iload_n (pc := 47) hx hb dX3_highestBut_47 rfl (lv_at hl 0 rfl) ?_
          refine lv_istore_n (pc := 48) (lv' := [(3, .int (mHb A p0 p1 i)), (4, .int (10 * p0 + nI i)), (0, .ref (ad 0)), (1, .int p0), (2, .int p1)]) hx hb dX3_highestBut_48 rfl hl (by decide) rfl (fun ls hl => ?_)
          refine lv_iinc (pc := 49) (v := ((10 * p0 + nI i) + 1)) (lv' := [(4, .int ((10 * p0 + nI i) + 1)), (3, .int (mHb A p0 p1 i)), (0, .ref (ad 0)), (1, .int p0), (2, .int p1)]) hx hb dX3_highestBut_49 hl (k := 1) rfl (by first | rfl | decide) (by decide) rfl (fun ls hl => ?_)
          refine lv_goto (pc := 52) (tgt := 8) hx hb dX3_highestBut_52 (by decide) ?_
          rw [m_ix1] at hl
          have em : (mHb A p0 p1 i) = mHb A p0 p1 (i + 1) := by show _ = ite _ _ _; rw [if_pos c2]
          rw [em] at hl
          exact ih (i + 1) H locs ls (by omega) (by omega) G (lv_sub hl [1, 0, 2, 3, 4] rfl)
        · refine lv_aload_n (pc := 26) hx hb dX3_highestBut_26 rfl (lv_at hl 2 rfl) ?_
          refine m_get (pc := 27) (v := .ref (ad 8)) S M G 8 (by decide) q1331 rfl rfl dX3_highestBut_27 ?_
          refine lv_iload (pc := 30) hx hb dX3_highestBut_30 (lv_at hl 1 rfl) ?_
          refine m_ald (pc := 32) (v := (A 8 (10 * p0 + nI i).toNatClampNeg)) S M G 8 rfl (m_ixin hp hi) rfl dX3_highestBut_32 ?_
          refine lv_iload_n (pc := 33) hx hb dX3_highestBut_33 rfl (lv_at hl 0 rfl) ?_
          refine lv_icmp_le (pc := 34) (tgt := 47) hx hb dX3_highestBut_34 (by decide) (fun c3 => ?_) (fun c3 => ?_)
          · refine lv_iload_n (pc := 47) hx hb dX3_highestBut_47 rfl (lv_at hl 0 rfl) ?_
            refine lv_istore_n (pc := 48) (lv' := [(3, .int (mHb A p0 p1 i)), (4, .int (10 * p0 + nI i)), (0, .ref (ad 0)), (1, .int p0), (2, .int p1)]) hx hb dX3_highestBut_48 rfl hl (by decide) rfl (fun ls hl => ?_)
            refine lv_iinc (pc := 49) (v := ((10 * p0 + nI i) + 1)) (lv' := [(4, .int ((10 * p0 + nI i) + 1)), (3, .int (mHb A p0 p1 i)), (0, .ref (ad 0)), (1, .int p0), (2, .int p1)]) hx hb dX3_highestBut_49 hl (k := 1) rfl (by first | rfl | decide) (by decide) rfl (fun ls hl => ?_)
            refine lv_goto (pc := 52) (tgt := 8) hx hb dX3_highestBut_52 (by decide) ?_
            rw [m_ix1] at hl
            have em : (mHb A p0 p1 i) = mHb A p0 p1 (i + 1) := by show _ = ite _ _ _; rw [if_neg c2, if_pos c3]
            rw [em] at hl
            exact ih (i + 1) H locs ls (by omega) (by omega) G (lv_sub hl [1, 0, 2, 3, 4] rfl)
          · refine lv_aload_n (pc := 37) hx hb dX3_highestBut_37 rfl (lv_at hl 2 rfl) ?_
            refine m_get (pc := 38) (v := .ref (ad 8)) S M G 8 (by decide) q1331 rfl rfl dX3_highestBut_38 ?_
            refine lv_iload (pc := 41) hx hb dX3_highestBut_41 (lv_at hl 1 rfl) ?_
            refine m_ald (pc := 43) (v := (A 8 (10 * p0 + nI i).toNatClampNeg)) S M G 8 rfl (m_ixin hp hi) rfl dX3_highestBut_43 ?_
            refine lv_goto (pc := 44) (tgt := 48) hx hb dX3_highestBut_44 (by decide) ?_
            refine lv_istore_n (pc := 48) (lv' := [(3, .int (A 8 (10 * p0 + nI i).toNatClampNeg)), (4, .int (10 * p0 + nI i)), (0, .ref (ad 0)), (1, .int p0), (2, .int p1)]) hx hb dX3_highestBut_48 rfl hl (by decide) rfl (fun ls hl => ?_)
            refine lv_iinc (pc := 49) (v := ((10 * p0 + nI i) + 1)) (lv' := [(4, .int ((10 * p0 + nI i) + 1)), (3, .int (A 8 (10 * p0 + nI i).toNatClampNeg)), (0, .ref (ad 0)), (1, .int p0), (2, .int p1)]) hx hb dX3_highestBut_49 hl (k := 1) rfl (by first | rfl | decide) (by decide) rfl (fun ls hl => ?_)
            refine lv_goto (pc := 52) (tgt := 8) hx hb dX3_highestBut_52 (by decide) ?_
            rw [m_ix1] at hl
            have em : (A 8 (10 * p0 + nI i).toNatClampNeg) = mHb A p0 p1 (i + 1) := by show _ = ite _ _ _; rw [if_neg c2, if_neg c3]
            rw [em] at hl
            exact ih (i + 1) H locs ls (by omega) (by omega) G (lv_sub hl [1, 0, 2, 3, 4] rfl)
  exact Lp 11 0 H locs ls (by omega) (by omega) G (by rw [show (10 : Int32) * p0 + nI 0 = 10 * p0 by rw [nI_0]; exact Int32.add_zero _]; exact lv_sub hl [1, 0, 2, 3, 4] rfl)
def mSh1 (q : Int32) : Int32 := (if 50000 ≤ q then 50000 else q)
def mSh2 (q a : Int32) : Int32 := (if 200000 ≤ q then 150000 else (q - a))
def mSh3 (x : Int32) : Int32 := (if x ≤ 12500 then x else 12500)
def mF_shareFor (C : Nat → Int32) (A : Nat → Nat → Int32) (B : Nat → Int64) (p0 : Int32) : Int32 := if (A 3 p0.toNatClampNeg) = (-1) then 0 else (if (A 6 p0.toNatClampNeg) < 1000 then 0 else (if (A 3 p0.toNatClampNeg) ≤ 0 then (mSh3 (((((mSh1 (A 6 p0.toNatClampNeg)) * 4) / 100) + (((mSh2 (A 6 p0.toNatClampNeg) (mSh1 (A 6 p0.toNatClampNeg))) * 3) / 100)) + ((((A 6 p0.toNatClampNeg) - (mSh1 (A 6 p0.toNatClampNeg))) - (mSh2 (A 6 p0.toNatClampNeg) (mSh1 (A 6 p0.toNatClampNeg)))) / 100))) else (if ((2000 + ((A 7 p0.toNatClampNeg) / 365)) - (A 3 p0.toNatClampNeg)) ≤ 70 then (mSh3 (((((mSh1 (A 6 p0.toNatClampNeg)) * 4) / 100) + (((mSh2 (A 6 p0.toNatClampNeg) (mSh1 (A 6 p0.toNatClampNeg))) * 3) / 100)) + ((((A 6 p0.toNatClampNeg) - (mSh1 (A 6 p0.toNatClampNeg))) - (mSh2 (A 6 p0.toNatClampNeg) (mSh1 (A 6 p0.toNatClampNeg)))) / 100))) else 0)))
abbrev rmX3_shareFor : Room := ({ frames := 0, cells := 0, slots := 0, locals := 0 } : Room)
set_option maxHeartbeats 4000000 in
theorem metX3_shareFor (l : Launch) (D : va_G) (K ad : Nat → Nat) (C : Nat → Int32) (A : Nat → Nat → Int32) (B : Nat → Int64) (p0 : Int32) (hp : vp_in p0 30) : MMet l yX3_shareFor (ws_ yX3_shareFor cX3_shareFor 8 (some .int)) rmX3_shareFor D K [.int p0] ad C A B (some (.int (mF_shareFor C A B p0))) C A B := by
  intro w hP
  refine gMet.of (by decide) (Nat.le_of_ble_eq_true rfl) ?_
  intro p e s m args below meth c H locs ls S M hr hlocks hname G hl
  have hx := S.1
  have hb := S.2.1
  have hown := S.2.2.2.1
  have hts := S.2.2.2.2
  have hl : lv_has ls 8 [(0, .ref (ad 0)), (1, .int p0)] := hl
  obtain ⟨Q, hQ⟩ : ∃ Q, Q = gE below D K (mPost D K w ad (some (.int ((mF_shareFor C A B p0), C, A, B).1)) ((mF_shareFor C A B p0), C, A, B).2.1 ((mF_shareFor C A B p0), C, A, B).2.2.1 ((mF_shareFor C A B p0), C, A, B).2.2.2) args s rmX3_shareFor.cells rmX3_shareFor.slots := ⟨_, rfl⟩
  rw [← hQ]
  have G : MG D K s H locs w ad C A B := MG.of G hP
  refine lv_aload_n (pc := 0) hx hb dX3_shareFor_0 rfl (lv_at hl 0 rfl) ?_
  refine m_get (pc := 1) (v := .ref (ad 6)) S M G 6 (by decide) q1329 rfl rfl dX3_shareFor_1 ?_
  refine lv_iload_n (pc := 4) hx hb dX3_shareFor_4 rfl (lv_at hl 1 rfl) ?_
  refine m_ald (pc := 5) (v := (A 6 p0.toNatClampNeg)) S M G 6 rfl hp rfl dX3_shareFor_5 ?_
  refine lv_istore_n (pc := 6) (lv' := [(2, .int (A 6 p0.toNatClampNeg)), (0, .ref (ad 0)), (1, .int p0)]) hx hb dX3_shareFor_6 rfl hl (by decide) rfl (fun ls hl => ?_)
  refine lv_sipush (pc := 7) (v := 2000) hx hb dX3_shareFor_7 (by decide) ?_
  refine lv_aload_n (pc := 10) hx hb dX3_shareFor_10 rfl (lv_at hl 1 rfl) ?_
  refine m_get (pc := 11) (v := .ref (ad 7)) S M G 7 (by decide) q1330 rfl rfl dX3_shareFor_11 ?_
  refine lv_iload_n (pc := 14) hx hb dX3_shareFor_14 rfl (lv_at hl 2 rfl) ?_
  refine m_ald (pc := 15) (v := (A 7 p0.toNatClampNeg)) S M G 7 rfl hp rfl dX3_shareFor_15 ?_
  refine lv_sipush (pc := 16) (v := 365) hx hb dX3_shareFor_16 (by decide) ?_
  refine lv_idiv (pc := 19) hx hb dX3_shareFor_19 (by decide) ?_
  refine lv_iadd (pc := 20) hx hb dX3_shareFor_20 ?_
  refine lv_aload_n (pc := 21) hx hb dX3_shareFor_21 rfl (lv_at hl 1 rfl) ?_
  refine m_get (pc := 22) (v := .ref (ad 3)) S M G 3 (by decide) q1326 rfl rfl dX3_shareFor_22 ?_
  refine lv_iload_n (pc := 25) hx hb dX3_shareFor_25 rfl (lv_at hl 2 rfl) ?_
  refine m_ald (pc := 26) (v := (A 3 p0.toNatClampNeg)) S M G 3 rfl hp rfl dX3_shareFor_26 ?_
  refine lv_isub (pc := 27) hx hb dX3_shareFor_27 ?_
  refine lv_istore_n (pc := 28) (lv' := [(3, .int ((2000 + ((A 7 p0.toNatClampNeg) / 365)) - (A 3 p0.toNatClampNeg))), (2, .int (A 6 p0.toNatClampNeg)), (0, .ref (ad 0)), (1, .int p0)]) hx hb dX3_shareFor_28 rfl hl (by decide) rfl (fun ls hl => ?_)
  refine lv_aload_n (pc := 29) hx hb dX3_shareFor_29 rfl (lv_at hl 2 rfl) ?_
  refine m_get (pc := 30) (v := .ref (ad 3)) S M G 3 (by decide) q1326 rfl rfl dX3_shareFor_30 ?_
  refine lv_iload_n (pc := 33) hx hb dX3_shareFor_33 rfl (lv_at hl 3 rfl) ?_
  refine m_ald (pc := 34) (v := (A 3 p0.toNatClampNeg)) S M G 3 rfl hp rfl dX3_shareFor_34 ?_
  refine lv_iconst (pc := 35) (v := (-1)) hx hb dX3_shareFor_35 (by decide) ?_
  refine lv_icmp_eq (pc := 36) (tgt := 61) hx hb dX3_shareFor_36 (by decide) (fun c1 => ?_) (fun c1 => ?_)
  · refine lv_iconst (pc := 61) (v := 0) hx hb dX3_shareFor_61 (by decide) ?_
    rw [hQ]
    refine m_iret (sp := ((mF_shareFor C A B p0), C, A, B)) S G hr hlocks (hdg := dX3_shareFor_62) ?_ ?_ ?_
    · exact Nat.le_of_ble_eq_true rfl
    · exact Nat.le_of_ble_eq_true rfl
    · unfold mF_shareFor; rw [if_pos c1]
  · refine lv_iload_n (pc := 39) hx hb dX3_shareFor_39 rfl (lv_at hl 1 rfl) ?_
    refine lv_sipush (pc := 40) (v := 1000) hx hb dX3_shareFor_40 (by decide) ?_
    refine lv_icmp_lt (pc := 43) (tgt := 61) hx hb dX3_shareFor_43 (by decide) (fun c2 => ?_) (fun c2 => ?_)
    · refine lv_iconst (pc := 61) (v := 0) hx hb dX3_shareFor_61 (by decide) ?_
      rw [hQ]
      refine m_iret (sp := ((mF_shareFor C A B p0), C, A, B)) S G hr hlocks (hdg := dX3_shareFor_62) ?_ ?_ ?_
      · exact Nat.le_of_ble_eq_true rfl
      · exact Nat.le_of_ble_eq_true rfl
      · unfold mF_shareFor; rw [if_neg c1, if_pos c2]
    · refine lv_aload_n (pc := 46) hx hb dX3_shareFor_46 rfl (lv_at hl 2 rfl) ?_
      refine m_get (pc := 47) (v := .ref (ad 3)) S M G 3 (by decide) q1326 rfl rfl dX3_shareFor_47 ?_
      refine lv_iload_n (pc := 50) hx hb dX3_shareFor_50 rfl (lv_at hl 3 rfl) ?_
      refine m_ald (pc := 51) (v := (A 3 p0.toNatClampNeg)) S M G 3 rfl hp rfl dX3_shareFor_51 ?_
      refine lv_if_le (pc := 52) (tgt := 63) hx hb dX3_shareFor_52 (by decide) (fun c3 => ?_) (fun c3 => ?_)
      · refine lv_iload_n (pc := 63) hx hb dX3_shareFor_63 rfl (lv_at hl 1 rfl) ?_
        refine lv_ldc (pc := 64) (v := 50000) hx hb hown (hts _ q1464) dX3_shareFor_64 ?_
        have J75 : ∀ (v4 : Int32) (H : Heap) (locs : List Loc), v4 = (mSh1 (A 6 p0.toNatClampNeg)) → MG D K s H locs w ad C A B → W p l e rmX3_shareFor s m args below meth c H locs 0 0 Q (F0 m 75 ls [.int v4]) := by
          intro v4 H locs ev4 G
          subst ev4
          refine lv_istore (pc := 75) (lv' := [(4, .int (mSh1 (A 6 p0.toNatClampNeg))), (3, .int ((2000 + ((A 7 p0.toNatClampNeg) / 365)) - (A 3 p0.toNatClampNeg))), (2, .int (A 6 p0.toNatClampNeg)), (0, .ref (ad 0)), (1, .int p0)]) hx hb dX3_shareFor_75 hl (by decide) rfl (fun ls hl => ?_)
          refine lv_iload_n (pc := 77) hx hb dX3_shareFor_77 rfl (lv_at hl 2 rfl) ?_
          refine lv_ldc (pc := 78) (v := 200000) hx hb hown (hts _ q1491) dX3_shareFor_78 ?_
          have J92 : ∀ (v5 : Int32) (H : Heap) (locs : List Loc), v5 = (mSh2 (A 6 p0.toNatClampNeg) (mSh1 (A 6 p0.toNatClampNeg))) → MG D K s H locs w ad C A B → W p l e rmX3_shareFor s m args below meth c H locs 0 0 Q (F0 m 92 ls [.int v5]) := by
            intro v5 H locs ev5 G
            subst ev5
            refine lv_istore (pc := 92) (lv' := [(5, .int (mSh2 (A 6 p0.toNatClampNeg) (mSh1 (A 6 p0.toNatClampNeg)))), (4, .int (mSh1 (A 6 p0.toNatClampNeg))), (3, .int ((2000 + ((A 7 p0.toNatClampNeg) / 365)) - (A 3 p0.toNatClampNeg))), (2, .int (A 6 p0.toNatClampNeg)), (0, .ref (ad 0)), (1, .int p0)]) hx hb dX3_shareFor_92 hl (by decide) rfl (fun ls hl => ?_)
            refine lv_iload_n (pc := 94) hx hb dX3_shareFor_94 rfl (lv_at hl 3 rfl) ?_
            refine lv_iload (pc := 95) hx hb dX3_shareFor_95 (lv_at hl 1 rfl) ?_
            refine lv_isub (pc := 97) hx hb dX3_shareFor_97 ?_
            refine lv_iload (pc := 98) hx hb dX3_shareFor_98 (lv_at hl 0 rfl) ?_
            refine lv_isub (pc := 100) hx hb dX3_shareFor_100 ?_
            refine lv_istore (pc := 101) (lv' := [(6, .int (((A 6 p0.toNatClampNeg) - (mSh1 (A 6 p0.toNatClampNeg))) - (mSh2 (A 6 p0.toNatClampNeg) (mSh1 (A 6 p0.toNatClampNeg))))), (5, .int (mSh2 (A 6 p0.toNatClampNeg) (mSh1 (A 6 p0.toNatClampNeg)))), (4, .int (mSh1 (A 6 p0.toNatClampNeg))), (3, .int ((2000 + ((A 7 p0.toNatClampNeg) / 365)) - (A 3 p0.toNatClampNeg))), (2, .int (A 6 p0.toNatClampNeg)), (0, .ref (ad 0)), (1, .int p0)]) hx hb dX3_shareFor_101 hl (by decide) rfl (fun ls hl => ?_)
            refine lv_iload (pc := 103) hx hb dX3_shareFor_103 (lv_at hl 2 rfl) ?_
            refine lv_iconst (pc := 105) (v := 4) hx hb dX3_shareFor_105 (by decide) ?_
            refine lv_imul (pc := 106) hx hb dX3_shareFor_106 ?_
            refine lv_bipush (pc := 107) (v := 100) hx hb dX3_shareFor_107 (by decide) ?_
            refine lv_idiv (pc := 109) hx hb dX3_shareFor_109 (by decide) ?_
            refine lv_iload (pc := 110) hx hb dX3_shareFor_110 (lv_at hl 1 rfl) ?_
            refine lv_iconst (pc := 112) (v := 3) hx hb dX3_shareFor_112 (by decide) ?_
            refine lv_imul (pc := 113) hx hb dX3_shareFor_113 ?_
            refine lv_bipush (pc := 114) (v := 100) hx hb dX3_shareFor_114 (by decide) ?_
            refine lv_idiv (pc := 116) hx hb dX3_shareFor_116 (by decide) ?_
            refine lv_iadd (pc := 117) hx hb dX3_shareFor_117 ?_
            refine lv_iload (pc := 118) hx hb dX3_shareFor_118 (lv_at hl 0 rfl) ?_
            refine lv_bipush (pc := 120) (v := 100) hx hb dX3_shareFor_120 (by decide) ?_
            refine lv_idiv (pc := 122) hx hb dX3_shareFor_122 (by decide) ?_
            refine lv_iadd (pc := 123) hx hb dX3_shareFor_123 ?_
            refine lv_istore (pc := 124) (lv' := [(7, .int (((((mSh1 (A 6 p0.toNatClampNeg)) * 4) / 100) + (((mSh2 (A 6 p0.toNatClampNeg) (mSh1 (A 6 p0.toNatClampNeg))) * 3) / 100)) + ((((A 6 p0.toNatClampNeg) - (mSh1 (A 6 p0.toNatClampNeg))) - (mSh2 (A 6 p0.toNatClampNeg) (mSh1 (A 6 p0.toNatClampNeg)))) / 100))), (6, .int (((A 6 p0.toNatClampNeg) - (mSh1 (A 6 p0.toNatClampNeg))) - (mSh2 (A 6 p0.toNatClampNeg) (mSh1 (A 6 p0.toNatClampNeg))))), (5, .int (mSh2 (A 6 p0.toNatClampNeg) (mSh1 (A 6 p0.toNatClampNeg)))), (4, .int (mSh1 (A 6 p0.toNatClampNeg))), (3, .int ((2000 + ((A 7 p0.toNatClampNeg) / 365)) - (A 3 p0.toNatClampNeg))), (2, .int (A 6 p0.toNatClampNeg)), (0, .ref (ad 0)), (1, .int p0)]) hx hb dX3_shareFor_124 hl (by decide) rfl (fun ls hl => ?_)
            refine lv_iload (pc := 126) hx hb dX3_shareFor_126 (lv_at hl 0 rfl) ?_
            refine lv_sipush (pc := 128) (v := 12500) hx hb dX3_shareFor_128 (by decide) ?_
            have J142 : ∀ (v6 : Int32) (H : Heap) (locs : List Loc), v6 = (mSh3 (((((mSh1 (A 6 p0.toNatClampNeg)) * 4) / 100) + (((mSh2 (A 6 p0.toNatClampNeg) (mSh1 (A 6 p0.toNatClampNeg))) * 3) / 100)) + ((((A 6 p0.toNatClampNeg) - (mSh1 (A 6 p0.toNatClampNeg))) - (mSh2 (A 6 p0.toNatClampNeg) (mSh1 (A 6 p0.toNatClampNeg)))) / 100))) → MG D K s H locs w ad C A B → W p l e rmX3_shareFor s m args below meth c H locs 0 0 Q (F0 m 142 ls [.int v6]) := by
              intro v6 H locs ev6 G
              subst ev6
              rw [hQ]
              refine m_iret (sp := ((mF_shareFor C A B p0), C, A, B)) S G hr hlocks (hdg := dX3_shareFor_142) ?_ ?_ ?_
              · exact Nat.le_of_ble_eq_true rfl
              · exact Nat.le_of_ble_eq_true rfl
              · unfold mF_shareFor; rw [if_neg c1, if_neg c2, if_pos c3]
            refine lv_icmp_le (pc := 131) (tgt := 140) hx hb dX3_shareFor_131 (by decide) (fun c7 => ?_) (fun c7 => ?_)
            · refine lv_iload (pc := 140) hx hb dX3_shareFor_140 (lv_at hl 0 rfl) ?_
              exact J142 _ _ _ (by unfold mSh3; rw [if_pos c7]) G
            · refine lv_sipush (pc := 134) (v := 12500) hx hb dX3_shareFor_134 (by decide) ?_
              refine lv_goto (pc := 137) (tgt := 142) hx hb dX3_shareFor_137 (by decide) ?_
              exact J142 _ _ _ (by unfold mSh3; rw [if_neg c7]) G
          refine lv_icmp_ge (pc := 80) (tgt := 90) hx hb dX3_shareFor_80 (by decide) (fun c8 => ?_) (fun c8 => ?_)
          · refine lv_ldc (pc := 90) (v := 150000) hx hb hown (hts _ q1492) dX3_shareFor_90 ?_
            exact J92 _ _ _ (by unfold mSh2; rw [if_pos c8]) G
          · refine lv_iload_n (pc := 83) hx hb dX3_shareFor_83 rfl (lv_at hl 2 rfl) ?_
            refine lv_iload (pc := 84) hx hb dX3_shareFor_84 (lv_at hl 0 rfl) ?_
            refine lv_isub (pc := 86) hx hb dX3_shareFor_86 ?_
            refine lv_goto (pc := 87) (tgt := 92) hx hb dX3_shareFor_87 (by decide) ?_
            exact J92 _ _ _ (by unfold mSh2; rw [if_neg c8]) G
        refine lv_icmp_ge (pc := 66) (tgt := 73) hx hb dX3_shareFor_66 (by decide) (fun c9 => ?_) (fun c9 => ?_)
        · refine lv_ldc (pc := 73) (v := 50000) hx hb hown (hts _ q1464) dX3_shareFor_73 ?_
          exact J75 _ _ _ (by unfold mSh1; rw [if_pos c9]) G
        · refine lv_iload_n (pc := 69) hx hb dX3_shareFor_69 rfl (lv_at hl 1 rfl) ?_
          refine lv_goto (pc := 70) (tgt := 75) hx hb dX3_shareFor_70 (by decide) ?_
          exact J75 _ _ _ (by unfold mSh1; rw [if_neg c9]) G
      · refine lv_iload_n (pc := 55) hx hb dX3_shareFor_55 rfl (lv_at hl 0 rfl) ?_
        refine lv_bipush (pc := 56) (v := 70) hx hb dX3_shareFor_56 (by decide) ?_
        refine lv_icmp_le (pc := 58) (tgt := 63) hx hb dX3_shareFor_58 (by decide) (fun c10 => ?_) (fun c10 => ?_)
        · refine lv_iload_n (pc := 63) hx hb dX3_shareFor_63 rfl (lv_at hl 1 rfl) ?_
          refine lv_ldc (pc := 64) (v := 50000) hx hb hown (hts _ q1464) dX3_shareFor_64 ?_
          have J75 : ∀ (v11 : Int32) (H : Heap) (locs : List Loc), v11 = (mSh1 (A 6 p0.toNatClampNeg)) → MG D K s H locs w ad C A B → W p l e rmX3_shareFor s m args below meth c H locs 0 0 Q (F0 m 75 ls [.int v11]) := by
            intro v11 H locs ev11 G
            subst ev11
            refine lv_istore (pc := 75) (lv' := [(4, .int (mSh1 (A 6 p0.toNatClampNeg))), (3, .int ((2000 + ((A 7 p0.toNatClampNeg) / 365)) - (A 3 p0.toNatClampNeg))), (2, .int (A 6 p0.toNatClampNeg)), (0, .ref (ad 0)), (1, .int p0)]) hx hb dX3_shareFor_75 hl (by decide) rfl (fun ls hl => ?_)
            refine lv_iload_n (pc := 77) hx hb dX3_shareFor_77 rfl (lv_at hl 2 rfl) ?_
            refine lv_ldc (pc := 78) (v := 200000) hx hb hown (hts _ q1491) dX3_shareFor_78 ?_
            have J92 : ∀ (v12 : Int32) (H : Heap) (locs : List Loc), v12 = (mSh2 (A 6 p0.toNatClampNeg) (mSh1 (A 6 p0.toNatClampNeg))) → MG D K s H locs w ad C A B → W p l e rmX3_shareFor s m args below meth c H locs 0 0 Q (F0 m 92 ls [.int v12]) := by
              intro v12 H locs ev12 G
              subst ev12
              refine lv_istore (pc := 92) (lv' := [(5, .int (mSh2 (A 6 p0.toNatClampNeg) (mSh1 (A 6 p0.toNatClampNeg)))), (4, .int (mSh1 (A 6 p0.toNatClampNeg))), (3, .int ((2000 + ((A 7 p0.toNatClampNeg) / 365)) - (A 3 p0.toNatClampNeg))), (2, .int (A 6 p0.toNatClampNeg)), (0, .ref (ad 0)), (1, .int p0)]) hx hb dX3_shareFor_92 hl (by decide) rfl (fun ls hl => ?_)
              refine lv_iload_n (pc := 94) hx hb dX3_shareFor_94 rfl (lv_at hl 3 rfl) ?_
              refine lv_iload (pc := 95) hx hb dX3_shareFor_95 (lv_at hl 1 rfl) ?_
              refine lv_isub (pc := 97) hx hb dX3_shareFor_97 ?_
              refine lv_iload (pc := 98) hx hb dX3_shareFor_98 (lv_at hl 0 rfl) ?_
              refine lv_isub (pc := 100) hx hb dX3_shareFor_100 ?_
              refine lv_istore (pc := 101) (lv' := [(6, .int (((A 6 p0.toNatClampNeg) - (mSh1 (A 6 p0.toNatClampNeg))) - (mSh2 (A 6 p0.toNatClampNeg) (mSh1 (A 6 p0.toNatClampNeg))))), (5, .int (mSh2 (A 6 p0.toNatClampNeg) (mSh1 (A 6 p0.toNatClampNeg)))), (4, .int (mSh1 (A 6 p0.toNatClampNeg))), (3, .int ((2000 + ((A 7 p0.toNatClampNeg) / 365)) - (A 3 p0.toNatClampNeg))), (2, .int (A 6 p0.toNatClampNeg)), (0, .ref (ad 0)), (1, .int p0)]) hx hb dX3_shareFor_101 hl (by decide) rfl (fun ls hl => ?_)
              refine lv_iload (pc := 103) hx hb dX3_shareFor_103 (lv_at hl 2 rfl) ?_
              refine lv_iconst (pc := 105) (v := 4) hx hb dX3_shareFor_105 (by decide) ?_
              refine lv_imul (pc := 106) hx hb dX3_shareFor_106 ?_
              refine lv_bipush (pc := 107) (v := 100) hx hb dX3_shareFor_107 (by decide) ?_
              refine lv_idiv (pc := 109) hx hb dX3_shareFor_109 (by decide) ?_
              refine lv_iload (pc := 110) hx hb dX3_shareFor_110 (lv_at hl 1 rfl) ?_
              refine lv_iconst (pc := 112) (v := 3) hx hb dX3_shareFor_112 (by decide) ?_
              refine lv_imul (pc := 113) hx hb dX3_shareFor_113 ?_
              refine lv_bipush (pc := 114) (v := 100) hx hb dX3_shareFor_114 (by decide) ?_
              refine lv_idiv (pc := 116) hx hb dX3_shareFor_116 (by decide) ?_
              refine lv_iadd (pc := 117) hx hb dX3_shareFor_117 ?_
              refine lv_iload (pc := 118) hx hb dX3_shareFor_118 (lv_at hl 0 rfl) ?_
              refine lv_bipush (pc := 120) (v := 100) hx hb dX3_shareFor_120 (by decide) ?_
              refine lv_idiv (pc := 122) hx hb dX3_shareFor_122 (by decide) ?_
              refine lv_iadd (pc := 123) hx hb dX3_shareFor_123 ?_
              refine lv_istore (pc := 124) (lv' := [(7, .int (((((mSh1 (A 6 p0.toNatClampNeg)) * 4) / 100) + (((mSh2 (A 6 p0.toNatClampNeg) (mSh1 (A 6 p0.toNatClampNeg))) * 3) / 100)) + ((((A 6 p0.toNatClampNeg) - (mSh1 (A 6 p0.toNatClampNeg))) - (mSh2 (A 6 p0.toNatClampNeg) (mSh1 (A 6 p0.toNatClampNeg)))) / 100))), (6, .int (((A 6 p0.toNatClampNeg) - (mSh1 (A 6 p0.toNatClampNeg))) - (mSh2 (A 6 p0.toNatClampNeg) (mSh1 (A 6 p0.toNatClampNeg))))), (5, .int (mSh2 (A 6 p0.toNatClampNeg) (mSh1 (A 6 p0.toNatClampNeg)))), (4, .int (mSh1 (A 6 p0.toNatClampNeg))), (3, .int ((2000 + ((A 7 p0.toNatClampNeg) / 365)) - (A 3 p0.toNatClampNeg))), (2, .int (A 6 p0.toNatClampNeg)), (0, .ref (ad 0)), (1, .int p0)]) hx hb dX3_shareFor_124 hl (by decide) rfl (fun ls hl => ?_)
              refine lv_iload (pc := 126) hx hb dX3_shareFor_126 (lv_at hl 0 rfl) ?_
              refine lv_sipush (pc := 128) (v := 12500) hx hb dX3_shareFor_128 (by decide) ?_
              have J142 : ∀ (v13 : Int32) (H : Heap) (locs : List Loc), v13 = (mSh3 (((((mSh1 (A 6 p0.toNatClampNeg)) * 4) / 100) + (((mSh2 (A 6 p0.toNatClampNeg) (mSh1 (A 6 p0.toNatClampNeg))) * 3) / 100)) + ((((A 6 p0.toNatClampNeg) - (mSh1 (A 6 p0.toNatClampNeg))) - (mSh2 (A 6 p0.toNatClampNeg) (mSh1 (A 6 p0.toNatClampNeg)))) / 100))) → MG D K s H locs w ad C A B → W p l e rmX3_shareFor s m args below meth c H locs 0 0 Q (F0 m 142 ls [.int v13]) := by
                intro v13 H locs ev13 G
                subst ev13
                rw [hQ]
                refine m_iret (sp := ((mF_shareFor C A B p0), C, A, B)) S G hr hlocks (hdg := dX3_shareFor_142) ?_ ?_ ?_
                · exact Nat.le_of_ble_eq_true rfl
                · exact Nat.le_of_ble_eq_true rfl
                · unfold mF_shareFor; rw [if_neg c1, if_neg c2, if_neg c3, if_pos c10]
              refine lv_icmp_le (pc := 131) (tgt := 140) hx hb dX3_shareFor_131 (by decide) (fun c14 => ?_) (fun c14 => ?_)
              · refine lv_iload (pc := 140) hx hb dX3_shareFor_140 (lv_at hl 0 rfl) ?_
                exact J142 _ _ _ (by unfold mSh3; rw [if_pos c14]) G
              · refine lv_sipush (pc := 134) (v := 12500) hx hb dX3_shareFor_134 (by decide) ?_
                refine lv_goto (pc := 137) (tgt := 142) hx hb dX3_shareFor_137 (by decide) ?_
                exact J142 _ _ _ (by unfold mSh3; rw [if_neg c14]) G
            refine lv_icmp_ge (pc := 80) (tgt := 90) hx hb dX3_shareFor_80 (by decide) (fun c15 => ?_) (fun c15 => ?_)
            · refine lv_ldc (pc := 90) (v := 150000) hx hb hown (hts _ q1492) dX3_shareFor_90 ?_
              exact J92 _ _ _ (by unfold mSh2; rw [if_pos c15]) G
            · refine lv_iload_n (pc := 83) hx hb dX3_shareFor_83 rfl (lv_at hl 2 rfl) ?_
              refine lv_iload (pc := 84) hx hb dX3_shareFor_84 (lv_at hl 0 rfl) ?_
              refine lv_isub (pc := 86) hx hb dX3_shareFor_86 ?_
              refine lv_goto (pc := 87) (tgt := 92) hx hb dX3_shareFor_87 (by decide) ?_
              exact J92 _ _ _ (by unfold mSh2; rw [if_neg c15]) G
          refine lv_icmp_ge (pc := 66) (tgt := 73) hx hb dX3_shareFor_66 (by decide) (fun c16 => ?_) (fun c16 => ?_)
          · refine lv_ldc (pc := 73) (v := 50000) hx hb hown (hts _ q1464) dX3_shareFor_73 ?_
            exact J75 _ _ _ (by unfold mSh1; rw [if_pos c16]) G
          · refine lv_iload_n (pc := 69) hx hb dX3_shareFor_69 rfl (lv_at hl 1 rfl) ?_
            refine lv_goto (pc := 70) (tgt := 75) hx hb dX3_shareFor_70 (by decide) ?_
            exact J75 _ _ _ (by unfold mSh1; rw [if_neg c16]) G
        · refine lv_iconst (pc := 61) (v := 0) hx hb dX3_shareFor_61 (by decide) ?_
          rw [hQ]
          refine m_iret (sp := ((mF_shareFor C A B p0), C, A, B)) S G hr hlocks (hdg := dX3_shareFor_62) ?_ ?_ ?_
          · exact Nat.le_of_ble_eq_true rfl
          · exact Nat.le_of_ble_eq_true rfl
          · unfold mF_shareFor; rw [if_neg c1, if_neg c2, if_neg c3, if_neg c10]
def mF_interestFor (C : Nat → Int32) (A : Nat → Nat → Int32) (B : Nat → Int64) (p0 : Int32) : Int32 := if (A 4 p0.toNatClampNeg) = 4 then (A 15 p0.toNatClampNeg) else ((((((A 13 p0.toNatClampNeg) : Int32).toInt64 * (((C 19) - (A 14 p0.toNatClampNeg)) : Int32).toInt64) * ((C 18) : Int32).toInt64) / 100000) : Int64).toInt32
abbrev rmX3_interestFor : Room := ({ frames := 0, cells := 0, slots := 0, locals := 0 } : Room)
set_option maxHeartbeats 4000000 in
theorem metX3_interestFor (l : Launch) (D : va_G) (K ad : Nat → Nat) (C : Nat → Int32) (A : Nat → Nat → Int32) (B : Nat → Int64) (p0 : Int32) (hp : vp_in p0 30) : MMet l yX3_interestFor (ws_ yX3_interestFor cX3_interestFor 2 (some .int)) rmX3_interestFor D K [.int p0] ad C A B (some (.int (mF_interestFor C A B p0))) C A B := by
  intro w hP
  refine gMet.of (by decide) (Nat.le_of_ble_eq_true rfl) ?_
  intro p e s m args below meth c H locs ls S M hr hlocks hname G hl
  have hx := S.1
  have hb := S.2.1
  have hown := S.2.2.2.1
  have hts := S.2.2.2.2
  have hl : lv_has ls 2 [(0, .ref (ad 0)), (1, .int p0)] := hl
  obtain ⟨Q, hQ⟩ : ∃ Q, Q = gE below D K (mPost D K w ad (some (.int ((mF_interestFor C A B p0), C, A, B).1)) ((mF_interestFor C A B p0), C, A, B).2.1 ((mF_interestFor C A B p0), C, A, B).2.2.1 ((mF_interestFor C A B p0), C, A, B).2.2.2) args s rmX3_interestFor.cells rmX3_interestFor.slots := ⟨_, rfl⟩
  rw [← hQ]
  have G : MG D K s H locs w ad C A B := MG.of G hP
  refine lv_aload_n (pc := 0) hx hb dX3_interestFor_0 rfl (lv_at hl 0 rfl) ?_
  refine m_get (pc := 1) (v := .ref (ad 4)) S M G 4 (by decide) q1327 rfl rfl dX3_interestFor_1 ?_
  refine lv_iload_n (pc := 4) hx hb dX3_interestFor_4 rfl (lv_at hl 1 rfl) ?_
  refine m_ald (pc := 5) (v := (A 4 p0.toNatClampNeg)) S M G 4 rfl hp rfl dX3_interestFor_5 ?_
  refine lv_iconst (pc := 6) (v := 4) hx hb dX3_interestFor_6 (by decide) ?_
  refine lv_icmp_ne (pc := 7) (tgt := 17) hx hb dX3_interestFor_7 (by decide) (fun c1 => ?_) (fun c1 => ?_)
  · refine lv_aload_n (pc := 17) hx hb dX3_interestFor_17 rfl (lv_at hl 0 rfl) ?_
    refine m_get (pc := 18) (v := .ref (ad 13)) S M G 13 (by decide) q1336 rfl rfl dX3_interestFor_18 ?_
    refine lv_iload_n (pc := 21) hx hb dX3_interestFor_21 rfl (lv_at hl 1 rfl) ?_
    refine m_ald (pc := 22) (v := (A 13 p0.toNatClampNeg)) S M G 13 rfl hp rfl dX3_interestFor_22 ?_
    refine lv_i2l (pc := 23) hx hb dX3_interestFor_23 rfl ?_
    refine lv_aload_n (pc := 24) hx hb dX3_interestFor_24 rfl (lv_at hl 0 rfl) ?_
    refine m_get (pc := 25) (v := .int (C 19)) S M G 19 (by decide) q1342 rfl rfl dX3_interestFor_25 ?_
    refine lv_aload_n (pc := 28) hx hb dX3_interestFor_28 rfl (lv_at hl 0 rfl) ?_
    refine m_get (pc := 29) (v := .ref (ad 14)) S M G 14 (by decide) q1337 rfl rfl dX3_interestFor_29 ?_
    refine lv_iload_n (pc := 32) hx hb dX3_interestFor_32 rfl (lv_at hl 1 rfl) ?_
    refine m_ald (pc := 33) (v := (A 14 p0.toNatClampNeg)) S M G 14 rfl hp rfl dX3_interestFor_33 ?_
    refine lv_isub (pc := 34) hx hb dX3_interestFor_34 ?_
    refine lv_i2l (pc := 35) hx hb dX3_interestFor_35 rfl ?_
    refine lv_lmul (pc := 36) hx hb dX3_interestFor_36 ?_
    refine lv_aload_n (pc := 37) hx hb dX3_interestFor_37 rfl (lv_at hl 0 rfl) ?_
    refine m_get (pc := 38) (v := .int (C 18)) S M G 18 (by decide) q1341 rfl rfl dX3_interestFor_38 ?_
    refine lv_i2l (pc := 41) hx hb dX3_interestFor_41 rfl ?_
    refine lv_lmul (pc := 42) hx hb dX3_interestFor_42 ?_
    refine lv_ldc2 (pc := 43) (v := 100000) hx hb hown (hts _ q1486) dX3_interestFor_43 ?_
    refine lv_ldiv (pc := 46) hx hb dX3_interestFor_46 (by decide) ?_
    refine lv_l2i (pc := 47) hx hb dX3_interestFor_47 rfl ?_
    rw [hQ]
    refine m_iret (sp := ((mF_interestFor C A B p0), C, A, B)) S G hr hlocks (hdg := dX3_interestFor_48) ?_ ?_ ?_
    · exact Nat.le_of_ble_eq_true rfl
    · exact Nat.le_of_ble_eq_true rfl
    · unfold mF_interestFor; rw [if_neg c1]
  · refine lv_aload_n (pc := 10) hx hb dX3_interestFor_10 rfl (lv_at hl 0 rfl) ?_
    refine m_get (pc := 11) (v := .ref (ad 15)) S M G 15 (by decide) q1338 rfl rfl dX3_interestFor_11 ?_
    refine lv_iload_n (pc := 14) hx hb dX3_interestFor_14 rfl (lv_at hl 1 rfl) ?_
    refine m_ald (pc := 15) (v := (A 15 p0.toNatClampNeg)) S M G 15 rfl hp rfl dX3_interestFor_15 ?_
    rw [hQ]
    refine m_iret (sp := ((mF_interestFor C A B p0), C, A, B)) S G hr hlocks (hdg := dX3_interestFor_16) ?_ ?_ ?_
    · exact Nat.le_of_ble_eq_true rfl
    · exact Nat.le_of_ble_eq_true rfl
    · unfold mF_interestFor; rw [if_pos c1]
def mRight (p1 p2 : Int32) : Int32 := (if (mWithin p1 0 1000000) = 0 then 0 else (if (mWithin p2 (-1) 0) = 0 then (if (mWithin p2 1800 2000) = 0 then 0 else 1) else 1))
def mS_lot (C : Nat → Int32) (A : Nat → Nat → Int32) (B : Nat → Int64) (p0 p1 p2 : Int32) : mSp Int32 := if (mWithin p0 0 5) = 0 then (0, (upd C 23 1), A, B) else (if (mRight p1 p2) = 0 then (0, (upd C 23 2), A, B) else (if (C 0) = 30 then (0, (upd C 23 3), A, B) else ((((C 0) + 1) - 1), (upd (upd C 23 0) 0 ((C 0) + 1)), (mClr (updA (updA (updA (updA (updA A 1 (C 0).toNatClampNeg p0) 2 (C 0).toNatClampNeg (mCall p1)) 3 (C 0).toNatClampNeg p2) 4 (C 0).toNatClampNeg 0) 11 (C 0).toNatClampNeg (-1)) (C 0) 10), B)))
abbrev rmX3_lot : Room := ({ frames := 2, cells := 0, slots := 0, locals := 40 } : Room)
set_option maxHeartbeats 4000000 in
theorem metX3_lot (l : Launch) (D : va_G) (K ad : Nat → Nat) (C : Nat → Int32) (A : Nat → Nat → Int32) (B : Nat → Int64) (p0 p1 p2 : Int32) (hC : 0 ≤ (C 0).toInt ∧ (C 0).toInt ≤ 30) : MMet l yX3_lot (ws_ yX3_lot cX3_lot 5 (some .int)) rmX3_lot D K [.int p0, .int p1, .int p2] ad C A B (some (.int (mS_lot C A B p0 p1 p2).1)) (mS_lot C A B p0 p1 p2).2.1 (mS_lot C A B p0 p1 p2).2.2.1 (mS_lot C A B p0 p1 p2).2.2.2 := by
  intro w hP
  refine gMet.of (by decide) (Nat.le_of_ble_eq_true rfl) ?_
  intro p e s m args below meth c H locs ls S M hr hlocks hname G hl
  have hx := S.1
  have hb := S.2.1
  have hown := S.2.2.2.1
  have hts := S.2.2.2.2
  have hl : lv_has ls 5 [(0, .ref (ad 0)), (1, .int p0), (2, .int p1), (3, .int p2)] := hl
  obtain ⟨Q, hQ⟩ : ∃ Q, Q = gE below D K (mPost D K w ad (some (.int (mS_lot C A B p0 p1 p2).1)) (mS_lot C A B p0 p1 p2).2.1 (mS_lot C A B p0 p1 p2).2.2.1 (mS_lot C A B p0 p1 p2).2.2.2) args s rmX3_lot.cells rmX3_lot.slots := ⟨_, rfl⟩
  rw [← hQ]
  have G : MG D K s H locs w ad C A B := MG.of G hP
  refine lv_iload_n (pc := 0) hx hb dX3_lot_0 rfl (lv_at hl 2 rfl) ?_
  refine lv_iconst (pc := 1) (v := 0) hx hb dX3_lot_1 (by decide) ?_
  refine lv_ldc (pc := 2) (v := 1000000) hx hb hown (hts _ q1404) dX3_lot_2 ?_
  refine m_callS (pc := 4) (v := .int (mWithin p1 0 1000000)) S M G hl.1 [.int p1, .int 0, .int 1000000] [] (fun w => metX3_isWithin l D K w p1 0 1000000) 3 q1407 q1405 q1406 q26 (by decide) rfl (⟨Nat.le_of_ble_eq_true rfl, Nat.le_of_ble_eq_true rfl⟩) rfl (Nat.le_of_ble_eq_true rfl) dX3_lot_4 ⟨Nat.le_of_ble_eq_true rfl, Nat.le_of_ble_eq_true rfl⟩ (fun H locs G => ?_)
  refine W.eq (g2 := F0 m 7 ls [.int (mWithin p1 0 1000000)]) rfl ?_
  have J37 : ∀ (v1 : Int32) (H : Heap) (locs : List Loc), v1 = (mRight p1 p2) → MG D K s H locs w ad C A B → W p l e rmX3_lot s m args below meth c H locs 0 0 Q (F0 m 37 ls [.int v1]) := by
    intro v1 H locs ev1 G
    subst ev1
    refine lv_istore (pc := 37) (lv' := [(4, .int (mRight p1 p2)), (0, .ref (ad 0)), (1, .int p0), (2, .int p1), (3, .int p2)]) hx hb dX3_lot_37 hl (by decide) rfl (fun ls hl => ?_)
    refine lv_aload_n (pc := 39) hx hb dX3_lot_39 rfl (lv_at hl 1 rfl) ?_
    refine lv_iload_n (pc := 40) hx hb dX3_lot_40 rfl (lv_at hl 2 rfl) ?_
    refine lv_iconst (pc := 41) (v := 0) hx hb dX3_lot_41 (by decide) ?_
    refine lv_iconst (pc := 42) (v := 5) hx hb dX3_lot_42 (by decide) ?_
    refine m_callS (pc := 43) (v := .int (mWithin p0 0 5)) S M G hl.1 [.int p0, .int 0, .int 5] [.ref (ad 0)] (fun w => metX3_isWithin l D K w p0 0 5) 3 q1407 q1405 q1406 q26 (by decide) rfl (⟨Nat.le_of_ble_eq_true rfl, Nat.le_of_ble_eq_true rfl⟩) rfl (Nat.le_of_ble_eq_true rfl) dX3_lot_43 ⟨Nat.le_of_ble_eq_true rfl, Nat.le_of_ble_eq_true rfl⟩ (fun H locs G => ?_)
    refine W.eq (g2 := F0 m 46 ls [.int (mWithin p0 0 5), .ref (ad 0)]) rfl ?_
    refine lv_if_ne (pc := 46) (tgt := 53) hx hb dX3_lot_46 (by decide) (fun c2 => ?_) (fun c2 => ?_)
    · refine lv_iload (pc := 53) hx hb dX3_lot_53 (lv_at hl 0 rfl) ?_
      refine lv_if_ne (pc := 55) (tgt := 62) hx hb dX3_lot_55 (by decide) (fun c3 => ?_) (fun c3 => ?_)
      · refine lv_aload_n (pc := 62) hx hb dX3_lot_62 rfl (lv_at hl 1 rfl) ?_
        refine m_get (pc := 63) (v := .int (C 0)) S M G 0 (by decide) q1323 rfl rfl dX3_lot_63 ?_
        refine lv_bipush (pc := 66) (v := 30) hx hb dX3_lot_66 (by decide) ?_
        refine lv_icmp_ne (pc := 68) (tgt := 75) hx hb dX3_lot_68 (by decide) (fun c4 => ?_) (fun c4 => ?_)
        · refine lv_iconst (pc := 75) (v := 0) hx hb dX3_lot_75 (by decide) ?_
          refine m_putC (pc := 76) S M G 23 (by decide) q1346 rfl rfl rfl rfl (C' := (upd C 23 0)) (B' := B) (mfs_C23 _ _ _ _) dX3_lot_76 (fun H locs G => ?_)
          refine lv_aload_n (pc := 79) hx hb dX3_lot_79 rfl (lv_at hl 1 rfl) ?_
          refine m_get (pc := 80) (v := .int 0) S M G 23 (by decide) q1346 rfl rfl dX3_lot_80 ?_
          refine lv_if_le (pc := 83) (tgt := 88) hx hb dX3_lot_83 (by decide) (fun _ => ?_) (fun c => absurd c (by decide))
          refine lv_aload_n (pc := 88) hx hb dX3_lot_88 rfl (lv_at hl 1 rfl) ?_
          refine m_get (pc := 89) (v := .ref (ad 1)) S M G 1 (by decide) q1324 rfl rfl dX3_lot_89 ?_
          refine lv_aload_n (pc := 92) hx hb dX3_lot_92 rfl (lv_at hl 1 rfl) ?_
          refine m_get (pc := 93) (v := .int (C 0)) S M G 0 (by decide) q1323 rfl rfl dX3_lot_93 ?_
          refine lv_iload_n (pc := 96) hx hb dX3_lot_96 rfl (lv_at hl 2 rfl) ?_
          refine m_ast (pc := 97) S M G 1 rfl (mCnt_in hC c4) dX3_lot_97 (fun H locs G => ?_)
          refine lv_aload_n (pc := 98) hx hb dX3_lot_98 rfl (lv_at hl 1 rfl) ?_
          refine m_get (pc := 99) (v := .ref (ad 2)) S M G 2 (by decide) q1325 rfl rfl dX3_lot_99 ?_
          refine lv_aload_n (pc := 102) hx hb dX3_lot_102 rfl (lv_at hl 1 rfl) ?_
          refine m_get (pc := 103) (v := .int (C 0)) S M G 0 (by decide) q1323 rfl rfl dX3_lot_103 ?_
          refine lv_iload_n (pc := 106) hx hb dX3_lot_106 rfl (lv_at hl 3 rfl) ?_
          refine m_callS (pc := 107) (v := .int (mCall p1)) S M G hl.1 [.int p1] [.int (C 0), .ref (ad 2)] (fun w => metX3_call l D K w p1) 1 q1410 q1408 q1409 q26 (by decide) rfl (⟨Nat.le_of_ble_eq_true rfl, Nat.le_of_ble_eq_true rfl⟩) rfl (Nat.le_of_ble_eq_true rfl) dX3_lot_107 ⟨Nat.le_of_ble_eq_true rfl, Nat.le_of_ble_eq_true rfl⟩ (fun H locs G => ?_)
          refine W.eq (g2 := F0 m 110 ls [.int (mCall p1), .int (C 0), .ref (ad 2)]) rfl ?_
          refine m_ast (pc := 110) S M G 2 rfl (mCnt_in hC c4) dX3_lot_110 (fun H locs G => ?_)
          refine lv_aload_n (pc := 111) hx hb dX3_lot_111 rfl (lv_at hl 1 rfl) ?_
          refine m_get (pc := 112) (v := .ref (ad 3)) S M G 3 (by decide) q1326 rfl rfl dX3_lot_112 ?_
          refine lv_aload_n (pc := 115) hx hb dX3_lot_115 rfl (lv_at hl 1 rfl) ?_
          refine m_get (pc := 116) (v := .int (C 0)) S M G 0 (by decide) q1323 rfl rfl dX3_lot_116 ?_
          refine lv_iload_n (pc := 119) hx hb dX3_lot_119 rfl (lv_at hl 4 rfl) ?_
          refine m_ast (pc := 120) S M G 3 rfl (mCnt_in hC c4) dX3_lot_120 (fun H locs G => ?_)
          refine lv_aload_n (pc := 121) hx hb dX3_lot_121 rfl (lv_at hl 1 rfl) ?_
          refine m_get (pc := 122) (v := .ref (ad 4)) S M G 4 (by decide) q1327 rfl rfl dX3_lot_122 ?_
          refine lv_aload_n (pc := 125) hx hb dX3_lot_125 rfl (lv_at hl 1 rfl) ?_
          refine m_get (pc := 126) (v := .int (C 0)) S M G 0 (by decide) q1323 rfl rfl dX3_lot_126 ?_
          refine lv_iconst (pc := 129) (v := 0) hx hb dX3_lot_129 (by decide) ?_
          refine m_ast (pc := 130) S M G 4 rfl (mCnt_in hC c4) dX3_lot_130 (fun H locs G => ?_)
          refine lv_aload_n (pc := 131) hx hb dX3_lot_131 rfl (lv_at hl 1 rfl) ?_
          refine m_get (pc := 132) (v := .ref (ad 11)) S M G 11 (by decide) q1334 rfl rfl dX3_lot_132 ?_
          refine lv_aload_n (pc := 135) hx hb dX3_lot_135 rfl (lv_at hl 1 rfl) ?_
          refine m_get (pc := 136) (v := .int (C 0)) S M G 0 (by decide) q1323 rfl rfl dX3_lot_136 ?_
          refine lv_iconst (pc := 139) (v := (-1)) hx hb dX3_lot_139 (by decide) ?_
          refine m_ast (pc := 140) S M G 11 rfl (mCnt_in hC c4) dX3_lot_140 (fun H locs G => ?_)
          refine lv_aload_n (pc := 141) hx hb dX3_lot_141 rfl (lv_at hl 1 rfl) ?_
          refine lv_aload_n (pc := 142) hx hb dX3_lot_142 rfl (lv_at hl 1 rfl) ?_
          refine m_get (pc := 143) (v := .int (C 0)) S M G 0 (by decide) q1323 rfl rfl dX3_lot_143 ?_
          refine m_callV (pc := 146) S M G hl.1 [.int (C 0)] [] (metX3_clearBids l D K ad (upd C 23 0) (updA (updA (updA (updA (updA A 1 (C 0).toNatClampNeg p0) 2 (C 0).toNatClampNeg (mCall p1)) 3 (C 0).toNatClampNeg p2) 4 (C 0).toNatClampNeg 0) 11 (C 0).toNatClampNeg (-1)) B (C 0) (mCnt_in hC c4)) 1 q1417 q1414 q1416 qs9 q26 (by decide) rfl (⟨Nat.le_of_ble_eq_true rfl, Nat.le_of_ble_eq_true rfl⟩) rfl (Nat.le_of_ble_eq_true rfl) dX3_lot_146 ⟨Nat.le_of_ble_eq_true rfl, Nat.le_of_ble_eq_true rfl⟩ (fun H locs G => ?_)
          have G : MG D K s H locs w ad (upd C 23 0) (mClr (updA (updA (updA (updA (updA A 1 (C 0).toNatClampNeg p0) 2 (C 0).toNatClampNeg (mCall p1)) 3 (C 0).toNatClampNeg p2) 4 (C 0).toNatClampNeg 0) 11 (C 0).toNatClampNeg (-1)) (C 0) 10) B := G
          refine W.eq (g2 := F0 m 149 ls []) rfl ?_
          refine lv_aload_n (pc := 149) hx hb dX3_lot_149 rfl (lv_at hl 1 rfl) ?_
          refine lv_dup (pc := 150) hx hb dX3_lot_150 rfl ?_
          refine m_get (pc := 151) (v := .int (C 0)) S M G 0 (by decide) q1323 rfl rfl dX3_lot_151 ?_
          refine lv_iconst (pc := 154) (v := 1) hx hb dX3_lot_154 (by decide) ?_
          refine lv_iadd (pc := 155) hx hb dX3_lot_155 ?_
          refine m_putC (pc := 156) S M G 0 (by decide) q1323 rfl rfl rfl rfl (C' := (upd (upd C 23 0) 0 ((C 0) + 1))) (B' := B) (mfs_C0 _ _ _ _) dX3_lot_156 (fun H locs G => ?_)
          refine lv_aload_n (pc := 159) hx hb dX3_lot_159 rfl (lv_at hl 1 rfl) ?_
          refine m_get (pc := 160) (v := .int ((C 0) + 1)) S M G 0 (by decide) q1323 rfl rfl dX3_lot_160 ?_
          refine lv_iconst (pc := 163) (v := 1) hx hb dX3_lot_163 (by decide) ?_
          refine lv_isub (pc := 164) hx hb dX3_lot_164 ?_
          rw [hQ]
          refine m_iret (sp := (mS_lot C A B p0 p1 p2)) S G hr hlocks (hdg := dX3_lot_165) ?_ ?_ ?_
          · exact Nat.le_of_ble_eq_true rfl
          · exact Nat.le_of_ble_eq_true rfl
          · unfold mS_lot; rw [if_neg c2, if_neg c3, if_neg c4]
        · refine lv_iconst (pc := 71) (v := 3) hx hb dX3_lot_71 (by decide) ?_
          refine lv_goto (pc := 72) (tgt := 76) hx hb dX3_lot_72 (by decide) ?_
          refine m_putC (pc := 76) S M G 23 (by decide) q1346 rfl rfl rfl rfl (C' := (upd C 23 3)) (B' := B) (mfs_C23 _ _ _ _) dX3_lot_76 (fun H locs G => ?_)
          refine lv_aload_n (pc := 79) hx hb dX3_lot_79 rfl (lv_at hl 1 rfl) ?_
          refine m_get (pc := 80) (v := .int 3) S M G 23 (by decide) q1346 rfl rfl dX3_lot_80 ?_
          refine lv_if_le (pc := 83) (tgt := 88) hx hb dX3_lot_83 (by decide) (fun c => absurd c (by decide)) (fun _ => ?_)
          refine lv_iconst (pc := 86) (v := 0) hx hb dX3_lot_86 (by decide) ?_
          rw [hQ]
          refine m_iret (sp := (mS_lot C A B p0 p1 p2)) S G hr hlocks (hdg := dX3_lot_87) ?_ ?_ ?_
          · exact Nat.le_of_ble_eq_true rfl
          · exact Nat.le_of_ble_eq_true rfl
          · unfold mS_lot; rw [if_neg c2, if_neg c3, if_pos c4]
      · refine lv_iconst (pc := 58) (v := 2) hx hb dX3_lot_58 (by decide) ?_
        refine lv_goto (pc := 59) (tgt := 76) hx hb dX3_lot_59 (by decide) ?_
        refine m_putC (pc := 76) S M G 23 (by decide) q1346 rfl rfl rfl rfl (C' := (upd C 23 2)) (B' := B) (mfs_C23 _ _ _ _) dX3_lot_76 (fun H locs G => ?_)
        refine lv_aload_n (pc := 79) hx hb dX3_lot_79 rfl (lv_at hl 1 rfl) ?_
        refine m_get (pc := 80) (v := .int 2) S M G 23 (by decide) q1346 rfl rfl dX3_lot_80 ?_
        refine lv_if_le (pc := 83) (tgt := 88) hx hb dX3_lot_83 (by decide) (fun c => absurd c (by decide)) (fun _ => ?_)
        refine lv_iconst (pc := 86) (v := 0) hx hb dX3_lot_86 (by decide) ?_
        rw [hQ]
        refine m_iret (sp := (mS_lot C A B p0 p1 p2)) S G hr hlocks (hdg := dX3_lot_87) ?_ ?_ ?_
        · exact Nat.le_of_ble_eq_true rfl
        · exact Nat.le_of_ble_eq_true rfl
        · unfold mS_lot; rw [if_neg c2, if_pos c3]
    · refine lv_iconst (pc := 49) (v := 1) hx hb dX3_lot_49 (by decide) ?_
      refine lv_goto (pc := 50) (tgt := 76) hx hb dX3_lot_50 (by decide) ?_
      refine m_putC (pc := 76) S M G 23 (by decide) q1346 rfl rfl rfl rfl (C' := (upd C 23 1)) (B' := B) (mfs_C23 _ _ _ _) dX3_lot_76 (fun H locs G => ?_)
      refine lv_aload_n (pc := 79) hx hb dX3_lot_79 rfl (lv_at hl 1 rfl) ?_
      refine m_get (pc := 80) (v := .int 1) S M G 23 (by decide) q1346 rfl rfl dX3_lot_80 ?_
      refine lv_if_le (pc := 83) (tgt := 88) hx hb dX3_lot_83 (by decide) (fun c => absurd c (by decide)) (fun _ => ?_)
      refine lv_iconst (pc := 86) (v := 0) hx hb dX3_lot_86 (by decide) ?_
      rw [hQ]
      refine m_iret (sp := (mS_lot C A B p0 p1 p2)) S G hr hlocks (hdg := dX3_lot_87) ?_ ?_ ?_
      · exact Nat.le_of_ble_eq_true rfl
      · exact Nat.le_of_ble_eq_true rfl
      · unfold mS_lot; rw [if_pos c2]
  refine lv_if_eq (pc := 7) (tgt := 36) hx hb dX3_lot_7 (by decide) (fun c5 => ?_) (fun c5 => ?_)
  · refine lv_iconst (pc := 36) (v := 0) hx hb dX3_lot_36 (by decide) ?_
    exact J37 _ _ _ (by unfold mRight; rw [if_pos c5]) G
  · refine lv_iload_n (pc := 10) hx hb dX3_lot_10 rfl (lv_at hl 3 rfl) ?_
    refine lv_iconst (pc := 11) (v := (-1)) hx hb dX3_lot_11 (by decide) ?_
    refine lv_iconst (pc := 12) (v := 0) hx hb dX3_lot_12 (by decide) ?_
    refine m_callS (pc := 13) (v := .int (mWithin p2 (-1) 0)) S M G hl.1 [.int p2, .int (-1), .int 0] [] (fun w => metX3_isWithin l D K w p2 (-1) 0) 3 q1407 q1405 q1406 q26 (by decide) rfl (⟨Nat.le_of_ble_eq_true rfl, Nat.le_of_ble_eq_true rfl⟩) rfl (Nat.le_of_ble_eq_true rfl) dX3_lot_13 ⟨Nat.le_of_ble_eq_true rfl, Nat.le_of_ble_eq_true rfl⟩ (fun H locs G => ?_)
    refine W.eq (g2 := F0 m 16 ls [.int (mWithin p2 (-1) 0)]) rfl ?_
    refine lv_if_ne (pc := 16) (tgt := 32) hx hb dX3_lot_16 (by decide) (fun c6 => ?_) (fun c6 => ?_)
    · refine lv_iconst (pc := 32) (v := 1) hx hb dX3_lot_32 (by decide) ?_
      refine lv_goto (pc := 33) (tgt := 37) hx hb dX3_lot_33 (by decide) ?_
      exact J37 _ _ _ (by unfold mRight; rw [if_neg c5, if_neg c6]) G
    · refine lv_iload_n (pc := 19) hx hb dX3_lot_19 rfl (lv_at hl 3 rfl) ?_
      refine lv_sipush (pc := 20) (v := 1800) hx hb dX3_lot_20 (by decide) ?_
      refine lv_sipush (pc := 23) (v := 2000) hx hb dX3_lot_23 (by decide) ?_
      refine m_callS (pc := 26) (v := .int (mWithin p2 1800 2000)) S M G hl.1 [.int p2, .int 1800, .int 2000] [] (fun w => metX3_isWithin l D K w p2 1800 2000) 3 q1407 q1405 q1406 q26 (by decide) rfl (⟨Nat.le_of_ble_eq_true rfl, Nat.le_of_ble_eq_true rfl⟩) rfl (Nat.le_of_ble_eq_true rfl) dX3_lot_26 ⟨Nat.le_of_ble_eq_true rfl, Nat.le_of_ble_eq_true rfl⟩ (fun H locs G => ?_)
      refine W.eq (g2 := F0 m 29 ls [.int (mWithin p2 1800 2000)]) rfl ?_
      refine lv_if_eq (pc := 29) (tgt := 36) hx hb dX3_lot_29 (by decide) (fun c7 => ?_) (fun c7 => ?_)
      · refine lv_iconst (pc := 36) (v := 0) hx hb dX3_lot_36 (by decide) ?_
        exact J37 _ _ _ (by unfold mRight; rw [if_neg c5, if_pos c6, if_pos c7]) G
      · refine lv_iconst (pc := 32) (v := 1) hx hb dX3_lot_32 (by decide) ?_
        refine lv_goto (pc := 33) (tgt := 37) hx hb dX3_lot_33 (by decide) ?_
        exact J37 _ _ _ (by unfold mRight; rw [if_neg c5, if_pos c6, if_neg c7]) G
def mS_bid (C : Nat → Int32) (A : Nat → Nat → Int32) (B : Nat → Int64) (p0 p1 p2 : Int32) : mSp Int32 := if (mF_isLot C A B p0) = 0 then (0, (upd C 23 1), A, B) else (if (mBuyer p1) = 0 then (0, (upd C 23 1), A, B) else (if (mWithin p2 1 1000000) = 0 then (0, (upd C 23 2), A, B) else (if (A 4 p0.toNatClampNeg) = 0 then (if (A 8 ((10 * p0) + p1).toNatClampNeg) = (-1) then ((mCall p2), (upd (upd C 23 0) 10 ((C 10) + 1)), (updA (updA A 9 ((10 * p0) + p1).toNatClampNeg (C 10)) 8 ((10 * p0) + p1).toNatClampNeg (mCall p2)), B) else ((mCall p2), (upd C 23 0), (updA A 8 ((10 * p0) + p1).toNatClampNeg (mCall p2)), B)) else (0, (upd C 23 3), A, B))))
abbrev rmX3_bid : Room := ({ frames := 2, cells := 0, slots := 0, locals := 43 } : Room)
set_option maxHeartbeats 4000000 in
theorem metX3_bid (l : Launch) (D : va_G) (K ad : Nat → Nat) (C : Nat → Int32) (A : Nat → Nat → Int32) (B : Nat → Int64) (p0 p1 p2 : Int32) (hC : 0 ≤ (C 0).toInt ∧ (C 0).toInt ≤ 30) : MMet l yX3_bid (ws_ yX3_bid cX3_bid 4 (some .int)) rmX3_bid D K [.int p0, .int p1, .int p2] ad C A B (some (.int (mS_bid C A B p0 p1 p2).1)) (mS_bid C A B p0 p1 p2).2.1 (mS_bid C A B p0 p1 p2).2.2.1 (mS_bid C A B p0 p1 p2).2.2.2 := by
  intro w hP
  refine gMet.of (by decide) (Nat.le_of_ble_eq_true rfl) ?_
  intro p e s m args below meth c H locs ls S M hr hlocks hname G hl
  have hx := S.1
  have hb := S.2.1
  have hown := S.2.2.2.1
  have hts := S.2.2.2.2
  have hl : lv_has ls 4 [(0, .ref (ad 0)), (1, .int p0), (2, .int p1), (3, .int p2)] := hl
  obtain ⟨Q, hQ⟩ : ∃ Q, Q = gE below D K (mPost D K w ad (some (.int (mS_bid C A B p0 p1 p2).1)) (mS_bid C A B p0 p1 p2).2.1 (mS_bid C A B p0 p1 p2).2.2.1 (mS_bid C A B p0 p1 p2).2.2.2) args s rmX3_bid.cells rmX3_bid.slots := ⟨_, rfl⟩
  rw [← hQ]
  have G : MG D K s H locs w ad C A B := MG.of G hP
  refine lv_aload_n (pc := 0) hx hb dX3_bid_0 rfl (lv_at hl 0 rfl) ?_
  refine lv_aload_n (pc := 1) hx hb dX3_bid_1 rfl (lv_at hl 0 rfl) ?_
  refine lv_iload_n (pc := 2) hx hb dX3_bid_2 rfl (lv_at hl 1 rfl) ?_
  refine m_callV (pc := 3) S M G hl.1 [.int p0] [.ref (ad 0)] (metX3_isLot l D K ad C A B p0 ) 1 q1425 q1422 q1424 qs10 q26 (by decide) rfl (⟨Nat.le_of_ble_eq_true rfl, Nat.le_of_ble_eq_true rfl⟩) rfl (Nat.le_of_ble_eq_true rfl) dX3_bid_3 ⟨Nat.le_of_ble_eq_true rfl, Nat.le_of_ble_eq_true rfl⟩ (fun H locs G => ?_)
  have G : MG D K s H locs w ad C A B := G
  refine W.eq (g2 := F0 m 6 ls [.int (mF_isLot C A B p0), .ref (ad 0)]) rfl ?_
  refine lv_if_eq (pc := 6) (tgt := 16) hx hb dX3_bid_6 (by decide) (fun c1 => ?_) (fun c1 => ?_)
  · refine lv_iconst (pc := 16) (v := 1) hx hb dX3_bid_16 (by decide) ?_
    refine lv_goto (pc := 17) (tgt := 48) hx hb dX3_bid_17 (by decide) ?_
    refine m_putC (pc := 48) S M G 23 (by decide) q1346 rfl rfl rfl rfl (C' := (upd C 23 1)) (B' := B) (mfs_C23 _ _ _ _) dX3_bid_48 (fun H locs G => ?_)
    refine lv_aload_n (pc := 51) hx hb dX3_bid_51 rfl (lv_at hl 0 rfl) ?_
    refine m_get (pc := 52) (v := .int 1) S M G 23 (by decide) q1346 rfl rfl dX3_bid_52 ?_
    refine lv_if_le (pc := 55) (tgt := 60) hx hb dX3_bid_55 (by decide) (fun c => absurd c (by decide)) (fun _ => ?_)
    refine lv_iconst (pc := 58) (v := 0) hx hb dX3_bid_58 (by decide) ?_
    rw [hQ]
    refine m_iret (sp := (mS_bid C A B p0 p1 p2)) S G hr hlocks (hdg := dX3_bid_59) ?_ ?_ ?_
    · exact Nat.le_of_ble_eq_true rfl
    · exact Nat.le_of_ble_eq_true rfl
    · unfold mS_bid; rw [if_pos c1]
  · refine lv_iload_n (pc := 9) hx hb dX3_bid_9 rfl (lv_at hl 2 rfl) ?_
    refine m_callS (pc := 10) (v := .int (mBuyer p1)) S M G hl.1 [.int p1] [.ref (ad 0)] (fun w => metX3_isBuyer l D K w p1) 1 q1428 q1426 q1427 q26 (by decide) rfl (⟨Nat.le_of_ble_eq_true rfl, Nat.le_of_ble_eq_true rfl⟩) rfl (Nat.le_of_ble_eq_true rfl) dX3_bid_10 ⟨Nat.le_of_ble_eq_true rfl, Nat.le_of_ble_eq_true rfl⟩ (fun H locs G => ?_)
    refine W.eq (g2 := F0 m 13 ls [.int (mBuyer p1), .ref (ad 0)]) rfl ?_
    refine lv_if_ne (pc := 13) (tgt := 20) hx hb dX3_bid_13 (by decide) (fun c2 => ?_) (fun c2 => ?_)
    · refine lv_iload_n (pc := 20) hx hb dX3_bid_20 rfl (lv_at hl 3 rfl) ?_
      refine lv_iconst (pc := 21) (v := 1) hx hb dX3_bid_21 (by decide) ?_
      refine lv_ldc (pc := 22) (v := 1000000) hx hb hown (hts _ q1404) dX3_bid_22 ?_
      refine m_callS (pc := 24) (v := .int (mWithin p2 1 1000000)) S M G hl.1 [.int p2, .int 1, .int 1000000] [.ref (ad 0)] (fun w => metX3_isWithin l D K w p2 1 1000000) 3 q1407 q1405 q1406 q26 (by decide) rfl (⟨Nat.le_of_ble_eq_true rfl, Nat.le_of_ble_eq_true rfl⟩) rfl (Nat.le_of_ble_eq_true rfl) dX3_bid_24 ⟨Nat.le_of_ble_eq_true rfl, Nat.le_of_ble_eq_true rfl⟩ (fun H locs G => ?_)
      refine W.eq (g2 := F0 m 27 ls [.int (mWithin p2 1 1000000), .ref (ad 0)]) rfl ?_
      refine lv_if_ne (pc := 27) (tgt := 34) hx hb dX3_bid_27 (by decide) (fun c3 => ?_) (fun c3 => ?_)
      · refine lv_aload_n (pc := 34) hx hb dX3_bid_34 rfl (lv_at hl 0 rfl) ?_
        refine m_get (pc := 35) (v := .ref (ad 4)) S M G 4 (by decide) q1327 rfl rfl dX3_bid_35 ?_
        refine lv_iload_n (pc := 38) hx hb dX3_bid_38 rfl (lv_at hl 1 rfl) ?_
        refine m_ald (pc := 39) (v := (A 4 p0.toNatClampNeg)) S M G 4 rfl (mLot_in hC c1) rfl dX3_bid_39 ?_
        refine lv_if_eq (pc := 40) (tgt := 47) hx hb dX3_bid_40 (by decide) (fun c4 => ?_) (fun c4 => ?_)
        · refine lv_iconst (pc := 47) (v := 0) hx hb dX3_bid_47 (by decide) ?_
          refine m_putC (pc := 48) S M G 23 (by decide) q1346 rfl rfl rfl rfl (C' := (upd C 23 0)) (B' := B) (mfs_C23 _ _ _ _) dX3_bid_48 (fun H locs G => ?_)
          refine lv_aload_n (pc := 51) hx hb dX3_bid_51 rfl (lv_at hl 0 rfl) ?_
          refine m_get (pc := 52) (v := .int 0) S M G 23 (by decide) q1346 rfl rfl dX3_bid_52 ?_
          refine lv_if_le (pc := 55) (tgt := 60) hx hb dX3_bid_55 (by decide) (fun _ => ?_) (fun c => absurd c (by decide))
          refine lv_aload_n (pc := 60) hx hb dX3_bid_60 rfl (lv_at hl 0 rfl) ?_
          refine m_get (pc := 61) (v := .ref (ad 8)) S M G 8 (by decide) q1331 rfl rfl dX3_bid_61 ?_
          refine lv_bipush (pc := 64) (v := 10) hx hb dX3_bid_64 (by decide) ?_
          refine lv_iload_n (pc := 66) hx hb dX3_bid_66 rfl (lv_at hl 1 rfl) ?_
          refine lv_imul (pc := 67) hx hb dX3_bid_67 ?_
          refine lv_iload_n (pc := 68) hx hb dX3_bid_68 rfl (lv_at hl 2 rfl) ?_
          refine lv_iadd (pc := 69) hx hb dX3_bid_69 ?_
          refine m_ald (pc := 70) (v := (A 8 ((10 * p0) + p1).toNatClampNeg)) S M G 8 rfl (m_ixb (mLot_in hC c1) (mBuy_in c2)) rfl dX3_bid_70 ?_
          refine lv_iconst (pc := 71) (v := (-1)) hx hb dX3_bid_71 (by decide) ?_
          refine lv_icmp_ne (pc := 72) (tgt := 100) hx hb dX3_bid_72 (by decide) (fun c5 => ?_) (fun c5 => ?_)
          · refine lv_aload_n (pc := 100) hx hb dX3_bid_100 rfl (lv_at hl 0 rfl) ?_
            refine m_get (pc := 101) (v := .ref (ad 8)) S M G 8 (by decide) q1331 rfl rfl dX3_bid_101 ?_
            refine lv_bipush (pc := 104) (v := 10) hx hb dX3_bid_104 (by decide) ?_
            refine lv_iload_n (pc := 106) hx hb dX3_bid_106 rfl (lv_at hl 1 rfl) ?_
            refine lv_imul (pc := 107) hx hb dX3_bid_107 ?_
            refine lv_iload_n (pc := 108) hx hb dX3_bid_108 rfl (lv_at hl 2 rfl) ?_
            refine lv_iadd (pc := 109) hx hb dX3_bid_109 ?_
            refine lv_iload_n (pc := 110) hx hb dX3_bid_110 rfl (lv_at hl 3 rfl) ?_
            refine m_callS (pc := 111) (v := .int (mCall p2)) S M G hl.1 [.int p2] [.int ((10 * p0) + p1), .ref (ad 8)] (fun w => metX3_call l D K w p2) 1 q1410 q1408 q1409 q26 (by decide) rfl (⟨Nat.le_of_ble_eq_true rfl, Nat.le_of_ble_eq_true rfl⟩) rfl (Nat.le_of_ble_eq_true rfl) dX3_bid_111 ⟨Nat.le_of_ble_eq_true rfl, Nat.le_of_ble_eq_true rfl⟩ (fun H locs G => ?_)
            refine W.eq (g2 := F0 m 114 ls [.int (mCall p2), .int ((10 * p0) + p1), .ref (ad 8)]) rfl ?_
            refine m_ast (pc := 114) S M G 8 rfl (m_ixb (mLot_in hC c1) (mBuy_in c2)) dX3_bid_114 (fun H locs G => ?_)
            refine lv_iload_n (pc := 115) hx hb dX3_bid_115 rfl (lv_at hl 3 rfl) ?_
            refine m_callS (pc := 116) (v := .int (mCall p2)) S M G hl.1 [.int p2] [] (fun w => metX3_call l D K w p2) 1 q1410 q1408 q1409 q26 (by decide) rfl (⟨Nat.le_of_ble_eq_true rfl, Nat.le_of_ble_eq_true rfl⟩) rfl (Nat.le_of_ble_eq_true rfl) dX3_bid_116 ⟨Nat.le_of_ble_eq_true rfl, Nat.le_of_ble_eq_true rfl⟩ (fun H locs G => ?_)
            refine W.eq (g2 := F0 m 119 ls [.int (mCall p2)]) rfl ?_
            rw [hQ]
            refine m_iret (sp := (mS_bid C A B p0 p1 p2)) S G hr hlocks (hdg := dX3_bid_119) ?_ ?_ ?_
            · exact Nat.le_of_ble_eq_true rfl
            · exact Nat.le_of_ble_eq_true rfl
            · unfold mS_bid; rw [if_neg c1, if_neg c2, if_neg c3, if_pos c4, if_neg c5]
          · refine lv_aload_n (pc := 75) hx hb dX3_bid_75 rfl (lv_at hl 0 rfl) ?_
            refine m_get (pc := 76) (v := .ref (ad 9)) S M G 9 (by decide) q1332 rfl rfl dX3_bid_76 ?_
            refine lv_bipush (pc := 79) (v := 10) hx hb dX3_bid_79 (by decide) ?_
            refine lv_iload_n (pc := 81) hx hb dX3_bid_81 rfl (lv_at hl 1 rfl) ?_
            refine lv_imul (pc := 82) hx hb dX3_bid_82 ?_
            refine lv_iload_n (pc := 83) hx hb dX3_bid_83 rfl (lv_at hl 2 rfl) ?_
            refine lv_iadd (pc := 84) hx hb dX3_bid_84 ?_
            refine lv_aload_n (pc := 85) hx hb dX3_bid_85 rfl (lv_at hl 0 rfl) ?_
            refine m_get (pc := 86) (v := .int (C 10)) S M G 10 (by decide) q1333 rfl rfl dX3_bid_86 ?_
            refine m_ast (pc := 89) S M G 9 rfl (m_ixb (mLot_in hC c1) (mBuy_in c2)) dX3_bid_89 (fun H locs G => ?_)
            refine lv_aload_n (pc := 90) hx hb dX3_bid_90 rfl (lv_at hl 0 rfl) ?_
            refine lv_dup (pc := 91) hx hb dX3_bid_91 rfl ?_
            refine m_get (pc := 92) (v := .int (C 10)) S M G 10 (by decide) q1333 rfl rfl dX3_bid_92 ?_
            refine lv_iconst (pc := 95) (v := 1) hx hb dX3_bid_95 (by decide) ?_
            refine lv_iadd (pc := 96) hx hb dX3_bid_96 ?_
            refine m_putC (pc := 97) S M G 10 (by decide) q1333 rfl rfl rfl rfl (C' := (upd (upd C 23 0) 10 ((C 10) + 1))) (B' := B) (mfs_C10 _ _ _ _) dX3_bid_97 (fun H locs G => ?_)
            refine lv_aload_n (pc := 100) hx hb dX3_bid_100 rfl (lv_at hl 0 rfl) ?_
            refine m_get (pc := 101) (v := .ref (ad 8)) S M G 8 (by decide) q1331 rfl rfl dX3_bid_101 ?_
            refine lv_bipush (pc := 104) (v := 10) hx hb dX3_bid_104 (by decide) ?_
            refine lv_iload_n (pc := 106) hx hb dX3_bid_106 rfl (lv_at hl 1 rfl) ?_
            refine lv_imul (pc := 107) hx hb dX3_bid_107 ?_
            refine lv_iload_n (pc := 108) hx hb dX3_bid_108 rfl (lv_at hl 2 rfl) ?_
            refine lv_iadd (pc := 109) hx hb dX3_bid_109 ?_
            refine lv_iload_n (pc := 110) hx hb dX3_bid_110 rfl (lv_at hl 3 rfl) ?_
            refine m_callS (pc := 111) (v := .int (mCall p2)) S M G hl.1 [.int p2] [.int ((10 * p0) + p1), .ref (ad 8)] (fun w => metX3_call l D K w p2) 1 q1410 q1408 q1409 q26 (by decide) rfl (⟨Nat.le_of_ble_eq_true rfl, Nat.le_of_ble_eq_true rfl⟩) rfl (Nat.le_of_ble_eq_true rfl) dX3_bid_111 ⟨Nat.le_of_ble_eq_true rfl, Nat.le_of_ble_eq_true rfl⟩ (fun H locs G => ?_)
            refine W.eq (g2 := F0 m 114 ls [.int (mCall p2), .int ((10 * p0) + p1), .ref (ad 8)]) rfl ?_
            refine m_ast (pc := 114) S M G 8 rfl (m_ixb (mLot_in hC c1) (mBuy_in c2)) dX3_bid_114 (fun H locs G => ?_)
            refine lv_iload_n (pc := 115) hx hb dX3_bid_115 rfl (lv_at hl 3 rfl) ?_
            refine m_callS (pc := 116) (v := .int (mCall p2)) S M G hl.1 [.int p2] [] (fun w => metX3_call l D K w p2) 1 q1410 q1408 q1409 q26 (by decide) rfl (⟨Nat.le_of_ble_eq_true rfl, Nat.le_of_ble_eq_true rfl⟩) rfl (Nat.le_of_ble_eq_true rfl) dX3_bid_116 ⟨Nat.le_of_ble_eq_true rfl, Nat.le_of_ble_eq_true rfl⟩ (fun H locs G => ?_)
            refine W.eq (g2 := F0 m 119 ls [.int (mCall p2)]) rfl ?_
            rw [hQ]
            refine m_iret (sp := (mS_bid C A B p0 p1 p2)) S G hr hlocks (hdg := dX3_bid_119) ?_ ?_ ?_
            · exact Nat.le_of_ble_eq_true rfl
            · exact Nat.le_of_ble_eq_true rfl
            · unfold mS_bid; rw [if_neg c1, if_neg c2, if_neg c3, if_pos c4, if_pos c5]
        · refine lv_iconst (pc := 43) (v := 3) hx hb dX3_bid_43 (by decide) ?_
          refine lv_goto (pc := 44) (tgt := 48) hx hb dX3_bid_44 (by decide) ?_
          refine m_putC (pc := 48) S M G 23 (by decide) q1346 rfl rfl rfl rfl (C' := (upd C 23 3)) (B' := B) (mfs_C23 _ _ _ _) dX3_bid_48 (fun H locs G => ?_)
          refine lv_aload_n (pc := 51) hx hb dX3_bid_51 rfl (lv_at hl 0 rfl) ?_
          refine m_get (pc := 52) (v := .int 3) S M G 23 (by decide) q1346 rfl rfl dX3_bid_52 ?_
          refine lv_if_le (pc := 55) (tgt := 60) hx hb dX3_bid_55 (by decide) (fun c => absurd c (by decide)) (fun _ => ?_)
          refine lv_iconst (pc := 58) (v := 0) hx hb dX3_bid_58 (by decide) ?_
          rw [hQ]
          refine m_iret (sp := (mS_bid C A B p0 p1 p2)) S G hr hlocks (hdg := dX3_bid_59) ?_ ?_ ?_
          · exact Nat.le_of_ble_eq_true rfl
          · exact Nat.le_of_ble_eq_true rfl
          · unfold mS_bid; rw [if_neg c1, if_neg c2, if_neg c3, if_neg c4]
      · refine lv_iconst (pc := 30) (v := 2) hx hb dX3_bid_30 (by decide) ?_
        refine lv_goto (pc := 31) (tgt := 48) hx hb dX3_bid_31 (by decide) ?_
        refine m_putC (pc := 48) S M G 23 (by decide) q1346 rfl rfl rfl rfl (C' := (upd C 23 2)) (B' := B) (mfs_C23 _ _ _ _) dX3_bid_48 (fun H locs G => ?_)
        refine lv_aload_n (pc := 51) hx hb dX3_bid_51 rfl (lv_at hl 0 rfl) ?_
        refine m_get (pc := 52) (v := .int 2) S M G 23 (by decide) q1346 rfl rfl dX3_bid_52 ?_
        refine lv_if_le (pc := 55) (tgt := 60) hx hb dX3_bid_55 (by decide) (fun c => absurd c (by decide)) (fun _ => ?_)
        refine lv_iconst (pc := 58) (v := 0) hx hb dX3_bid_58 (by decide) ?_
        rw [hQ]
        refine m_iret (sp := (mS_bid C A B p0 p1 p2)) S G hr hlocks (hdg := dX3_bid_59) ?_ ?_ ?_
        · exact Nat.le_of_ble_eq_true rfl
        · exact Nat.le_of_ble_eq_true rfl
        · unfold mS_bid; rw [if_neg c1, if_neg c2, if_pos c3]
    · refine lv_iconst (pc := 16) (v := 1) hx hb dX3_bid_16 (by decide) ?_
      refine lv_goto (pc := 17) (tgt := 48) hx hb dX3_bid_17 (by decide) ?_
      refine m_putC (pc := 48) S M G 23 (by decide) q1346 rfl rfl rfl rfl (C' := (upd C 23 1)) (B' := B) (mfs_C23 _ _ _ _) dX3_bid_48 (fun H locs G => ?_)
      refine lv_aload_n (pc := 51) hx hb dX3_bid_51 rfl (lv_at hl 0 rfl) ?_
      refine m_get (pc := 52) (v := .int 1) S M G 23 (by decide) q1346 rfl rfl dX3_bid_52 ?_
      refine lv_if_le (pc := 55) (tgt := 60) hx hb dX3_bid_55 (by decide) (fun c => absurd c (by decide)) (fun _ => ?_)
      refine lv_iconst (pc := 58) (v := 0) hx hb dX3_bid_58 (by decide) ?_
      rw [hQ]
      refine m_iret (sp := (mS_bid C A B p0 p1 p2)) S G hr hlocks (hdg := dX3_bid_59) ?_ ?_ ?_
      · exact Nat.le_of_ble_eq_true rfl
      · exact Nat.le_of_ble_eq_true rfl
      · unfold mS_bid; rw [if_neg c1, if_pos c2]
def mPr1 (o r : Int32) : Int32 := (if o = (-1) then r else (o + (mStep o)))
def mPr2 (o r q : Int32) : Int32 := (if o = (-1) then (if r = 0 then 50 else q) else q)
def mPr3 (r q : Int32) : Int32 := (if r ≤ q then q else r)
def mPr4 (b q : Int32) : Int32 := (if q ≤ b then q else b)
def mS_hammer (C : Nat → Int32) (A : Nat → Nat → Int32) (B : Nat → Int64) (p0 : Int32) : mSp Int32 := if (mF_isLot C A B p0) = 0 then (0, (upd C 23 1), A, B) else (if (A 4 p0.toNatClampNeg) = 0 then (if (mHi A p0 10) = (-1) then ((-1), (upd C 23 0), (updA A 4 p0.toNatClampNeg 1), B) else (if (A 2 p0.toNatClampNeg) ≤ (A 8 (mHi A p0 10).toNatClampNeg) then ((mPr4 (A 8 (mHi A p0 10).toNatClampNeg) (mPr3 (A 2 p0.toNatClampNeg) (mPr2 (mHb A p0 (mHi A p0 10) 10) (A 2 p0.toNatClampNeg) (mPr1 (mHb A p0 (mHi A p0 10) 10) (A 2 p0.toNatClampNeg))))), (upd C 23 0), (updA (updA (updA (updA A 4 p0.toNatClampNeg 2) 5 p0.toNatClampNeg ((mHi A p0 10) - (10 * p0))) 6 p0.toNatClampNeg (mPr4 (A 8 (mHi A p0 10).toNatClampNeg) (mPr3 (A 2 p0.toNatClampNeg) (mPr2 (mHb A p0 (mHi A p0 10) 10) (A 2 p0.toNatClampNeg) (mPr1 (mHb A p0 (mHi A p0 10) 10) (A 2 p0.toNatClampNeg)))))) 7 p0.toNatClampNeg (C 19)), B) else ((-1), (upd C 23 0), (updA A 4 p0.toNatClampNeg 1), B))) else (0, (upd C 23 2), A, B))
abbrev rmX3_hammer : Room := ({ frames := 2, cells := 0, slots := 0, locals := 43 } : Room)
set_option maxHeartbeats 4000000 in
theorem metX3_hammer (l : Launch) (D : va_G) (K ad : Nat → Nat) (C : Nat → Int32) (A : Nat → Nat → Int32) (B : Nat → Int64) (p0 : Int32) (hC : 0 ≤ (C 0).toInt ∧ (C 0).toInt ≤ 30) : MMet l yX3_hammer (ws_ yX3_hammer cX3_hammer 5 (some .int)) rmX3_hammer D K [.int p0] ad C A B (some (.int (mS_hammer C A B p0).1)) (mS_hammer C A B p0).2.1 (mS_hammer C A B p0).2.2.1 (mS_hammer C A B p0).2.2.2 := by
  intro w hP
  refine gMet.of (by decide) (Nat.le_of_ble_eq_true rfl) ?_
  intro p e s m args below meth c H locs ls S M hr hlocks hname G hl
  have hx := S.1
  have hb := S.2.1
  have hown := S.2.2.2.1
  have hts := S.2.2.2.2
  have hl : lv_has ls 5 [(0, .ref (ad 0)), (1, .int p0)] := hl
  obtain ⟨Q, hQ⟩ : ∃ Q, Q = gE below D K (mPost D K w ad (some (.int (mS_hammer C A B p0).1)) (mS_hammer C A B p0).2.1 (mS_hammer C A B p0).2.2.1 (mS_hammer C A B p0).2.2.2) args s rmX3_hammer.cells rmX3_hammer.slots := ⟨_, rfl⟩
  rw [← hQ]
  have G : MG D K s H locs w ad C A B := MG.of G hP
  refine lv_aload_n (pc := 0) hx hb dX3_hammer_0 rfl (lv_at hl 0 rfl) ?_
  refine lv_aload_n (pc := 1) hx hb dX3_hammer_1 rfl (lv_at hl 0 rfl) ?_
  refine lv_iload_n (pc := 2) hx hb dX3_hammer_2 rfl (lv_at hl 1 rfl) ?_
  refine m_callV (pc := 3) S M G hl.1 [.int p0] [.ref (ad 0)] (metX3_isLot l D K ad C A B p0 ) 1 q1425 q1422 q1424 qs10 q26 (by decide) rfl (⟨Nat.le_of_ble_eq_true rfl, Nat.le_of_ble_eq_true rfl⟩) rfl (Nat.le_of_ble_eq_true rfl) dX3_hammer_3 ⟨Nat.le_of_ble_eq_true rfl, Nat.le_of_ble_eq_true rfl⟩ (fun H locs G => ?_)
  have G : MG D K s H locs w ad C A B := G
  refine W.eq (g2 := F0 m 6 ls [.int (mF_isLot C A B p0), .ref (ad 0)]) rfl ?_
  refine lv_if_ne (pc := 6) (tgt := 13) hx hb dX3_hammer_6 (by decide) (fun c1 => ?_) (fun c1 => ?_)
  · refine lv_aload_n (pc := 13) hx hb dX3_hammer_13 rfl (lv_at hl 0 rfl) ?_
    refine m_get (pc := 14) (v := .ref (ad 4)) S M G 4 (by decide) q1327 rfl rfl dX3_hammer_14 ?_
    refine lv_iload_n (pc := 17) hx hb dX3_hammer_17 rfl (lv_at hl 1 rfl) ?_
    refine m_ald (pc := 18) (v := (A 4 p0.toNatClampNeg)) S M G 4 rfl (mLot_in hC c1) rfl dX3_hammer_18 ?_
    refine lv_if_eq (pc := 19) (tgt := 26) hx hb dX3_hammer_19 (by decide) (fun c2 => ?_) (fun c2 => ?_)
    · refine lv_iconst (pc := 26) (v := 0) hx hb dX3_hammer_26 (by decide) ?_
      refine m_putC (pc := 27) S M G 23 (by decide) q1346 rfl rfl rfl rfl (C' := (upd C 23 0)) (B' := B) (mfs_C23 _ _ _ _) dX3_hammer_27 (fun H locs G => ?_)
      refine lv_aload_n (pc := 30) hx hb dX3_hammer_30 rfl (lv_at hl 0 rfl) ?_
      refine m_get (pc := 31) (v := .int 0) S M G 23 (by decide) q1346 rfl rfl dX3_hammer_31 ?_
      refine lv_if_le (pc := 34) (tgt := 39) hx hb dX3_hammer_34 (by decide) (fun _ => ?_) (fun c => absurd c (by decide))
      refine lv_aload_n (pc := 39) hx hb dX3_hammer_39 rfl (lv_at hl 0 rfl) ?_
      refine lv_iload_n (pc := 40) hx hb dX3_hammer_40 rfl (lv_at hl 1 rfl) ?_
      refine m_callV (pc := 41) S M G hl.1 [.int p0] [] (metX3_highest l D K ad (upd C 23 0) A B p0 (mLot_in hC c1)) 1 q1436 q1433 q1435 qs11 q26 (by decide) rfl (⟨Nat.le_of_ble_eq_true rfl, Nat.le_of_ble_eq_true rfl⟩) rfl (Nat.le_of_ble_eq_true rfl) dX3_hammer_41 ⟨Nat.le_of_ble_eq_true rfl, Nat.le_of_ble_eq_true rfl⟩ (fun H locs G => ?_)
      have G : MG D K s H locs w ad (upd C 23 0) A B := G
      refine W.eq (g2 := F0 m 44 ls [.int (mHi A p0 10)]) rfl ?_
      refine lv_istore_n (pc := 44) (lv' := [(2, .int (mHi A p0 10)), (0, .ref (ad 0)), (1, .int p0)]) hx hb dX3_hammer_44 rfl hl (by decide) rfl (fun ls hl => ?_)
      refine lv_iload_n (pc := 45) hx hb dX3_hammer_45 rfl (lv_at hl 0 rfl) ?_
      refine lv_iconst (pc := 46) (v := (-1)) hx hb dX3_hammer_46 (by decide) ?_
      refine lv_icmp_eq (pc := 47) (tgt := 65) hx hb dX3_hammer_47 (by decide) (fun c3 => ?_) (fun c3 => ?_)
      · refine lv_aload_n (pc := 65) hx hb dX3_hammer_65 rfl (lv_at hl 1 rfl) ?_
        refine m_get (pc := 66) (v := .ref (ad 4)) S M G 4 (by decide) q1327 rfl rfl dX3_hammer_66 ?_
        refine lv_iload_n (pc := 69) hx hb dX3_hammer_69 rfl (lv_at hl 2 rfl) ?_
        refine lv_iconst (pc := 70) (v := 1) hx hb dX3_hammer_70 (by decide) ?_
        refine m_ast (pc := 71) S M G 4 rfl (mLot_in hC c1) dX3_hammer_71 (fun H locs G => ?_)
        refine lv_iconst (pc := 72) (v := (-1)) hx hb dX3_hammer_72 (by decide) ?_
        rw [hQ]
        refine m_iret (sp := (mS_hammer C A B p0)) S G hr hlocks (hdg := dX3_hammer_73) ?_ ?_ ?_
        · exact Nat.le_of_ble_eq_true rfl
        · exact Nat.le_of_ble_eq_true rfl
        · unfold mS_hammer; rw [if_neg c1, if_pos c2, if_pos c3]
      · refine lv_aload_n (pc := 50) hx hb dX3_hammer_50 rfl (lv_at hl 1 rfl) ?_
        refine m_get (pc := 51) (v := .ref (ad 8)) S M G 8 (by decide) q1331 rfl rfl dX3_hammer_51 ?_
        refine lv_iload_n (pc := 54) hx hb dX3_hammer_54 rfl (lv_at hl 0 rfl) ?_
        refine m_ald (pc := 55) (v := (A 8 (mHi A p0 10).toNatClampNeg)) S M G 8 rfl (vp_cons (mHi_in A (mLot_in hC c1) 10 (Nat.le_refl _)) c3) rfl dX3_hammer_55 ?_
        refine lv_aload_n (pc := 56) hx hb dX3_hammer_56 rfl (lv_at hl 1 rfl) ?_
        refine m_get (pc := 57) (v := .ref (ad 2)) S M G 2 (by decide) q1325 rfl rfl dX3_hammer_57 ?_
        refine lv_iload_n (pc := 60) hx hb dX3_hammer_60 rfl (lv_at hl 2 rfl) ?_
        refine m_ald (pc := 61) (v := (A 2 p0.toNatClampNeg)) S M G 2 rfl (mLot_in hC c1) rfl dX3_hammer_61 ?_
        refine lv_icmp_ge (pc := 62) (tgt := 74) hx hb dX3_hammer_62 (by decide) (fun c4 => ?_) (fun c4 => ?_)
        · refine lv_aload_n (pc := 74) hx hb dX3_hammer_74 rfl (lv_at hl 1 rfl) ?_
          refine lv_iload_n (pc := 75) hx hb dX3_hammer_75 rfl (lv_at hl 2 rfl) ?_
          refine lv_iload_n (pc := 76) hx hb dX3_hammer_76 rfl (lv_at hl 0 rfl) ?_
          refine m_callV (pc := 77) S M G hl.1 [.int p0, .int (mHi A p0 10)] [] (metX3_highestBut l D K ad (upd C 23 0) A B p0 (mHi A p0 10) (mLot_in hC c1)) 2 q1440 q1437 q1439 qs12 q26 (by decide) rfl (⟨Nat.le_of_ble_eq_true rfl, Nat.le_of_ble_eq_true rfl⟩) rfl (Nat.le_of_ble_eq_true rfl) dX3_hammer_77 ⟨Nat.le_of_ble_eq_true rfl, Nat.le_of_ble_eq_true rfl⟩ (fun H locs G => ?_)
          have G : MG D K s H locs w ad (upd C 23 0) A B := G
          refine W.eq (g2 := F0 m 80 ls [.int (mHb A p0 (mHi A p0 10) 10)]) rfl ?_
          refine lv_istore_n (pc := 80) (lv' := [(3, .int (mHb A p0 (mHi A p0 10) 10)), (2, .int (mHi A p0 10)), (0, .ref (ad 0)), (1, .int p0)]) hx hb dX3_hammer_80 rfl hl (by decide) rfl (fun ls hl => ?_)
          refine lv_iload_n (pc := 81) hx hb dX3_hammer_81 rfl (lv_at hl 0 rfl) ?_
          refine lv_iconst (pc := 82) (v := (-1)) hx hb dX3_hammer_82 (by decide) ?_
          have J101 : ∀ (v5 : Int32) (H : Heap) (locs : List Loc), v5 = (mPr1 (mHb A p0 (mHi A p0 10) 10) (A 2 p0.toNatClampNeg)) → MG D K s H locs w ad (upd C 23 0) A B → W p l e rmX3_hammer s m args below meth c H locs 0 0 Q (F0 m 101 ls [.int v5]) := by
            intro v5 H locs ev5 G
            subst ev5
            refine lv_istore (pc := 101) (lv' := [(4, .int (mPr1 (mHb A p0 (mHi A p0 10) 10) (A 2 p0.toNatClampNeg))), (3, .int (mHb A p0 (mHi A p0 10) 10)), (2, .int (mHi A p0 10)), (0, .ref (ad 0)), (1, .int p0)]) hx hb dX3_hammer_101 hl (by decide) rfl (fun ls hl => ?_)
            refine lv_iload_n (pc := 103) hx hb dX3_hammer_103 rfl (lv_at hl 1 rfl) ?_
            refine lv_iconst (pc := 104) (v := (-1)) hx hb dX3_hammer_104 (by decide) ?_
            have J124 : ∀ (v6 : Int32) (H : Heap) (locs : List Loc), v6 = (mPr2 (mHb A p0 (mHi A p0 10) 10) (A 2 p0.toNatClampNeg) (mPr1 (mHb A p0 (mHi A p0 10) 10) (A 2 p0.toNatClampNeg))) → MG D K s H locs w ad (upd C 23 0) A B → W p l e rmX3_hammer s m args below meth c H locs 0 0 Q (F0 m 124 ls [.int v6]) := by
              intro v6 H locs ev6 G
              subst ev6
              refine lv_istore (pc := 124) (lv' := [(4, .int (mPr2 (mHb A p0 (mHi A p0 10) 10) (A 2 p0.toNatClampNeg) (mPr1 (mHb A p0 (mHi A p0 10) 10) (A 2 p0.toNatClampNeg)))), (3, .int (mHb A p0 (mHi A p0 10) 10)), (2, .int (mHi A p0 10)), (0, .ref (ad 0)), (1, .int p0)]) hx hb dX3_hammer_124 hl (by decide) rfl (fun ls hl => ?_)
              refine lv_iload (pc := 126) hx hb dX3_hammer_126 (lv_at hl 0 rfl) ?_
              refine lv_aload_n (pc := 128) hx hb dX3_hammer_128 rfl (lv_at hl 3 rfl) ?_
              refine m_get (pc := 129) (v := .ref (ad 2)) S M G 2 (by decide) q1325 rfl rfl dX3_hammer_129 ?_
              refine lv_iload_n (pc := 132) hx hb dX3_hammer_132 rfl (lv_at hl 4 rfl) ?_
              refine m_ald (pc := 133) (v := (A 2 p0.toNatClampNeg)) S M G 2 rfl (mLot_in hC c1) rfl dX3_hammer_133 ?_
              have J148 : ∀ (v7 : Int32) (H : Heap) (locs : List Loc), v7 = (mPr3 (A 2 p0.toNatClampNeg) (mPr2 (mHb A p0 (mHi A p0 10) 10) (A 2 p0.toNatClampNeg) (mPr1 (mHb A p0 (mHi A p0 10) 10) (A 2 p0.toNatClampNeg)))) → MG D K s H locs w ad (upd C 23 0) A B → W p l e rmX3_hammer s m args below meth c H locs 0 0 Q (F0 m 148 ls [.int v7]) := by
                intro v7 H locs ev7 G
                subst ev7
                refine lv_istore (pc := 148) (lv' := [(4, .int (mPr3 (A 2 p0.toNatClampNeg) (mPr2 (mHb A p0 (mHi A p0 10) 10) (A 2 p0.toNatClampNeg) (mPr1 (mHb A p0 (mHi A p0 10) 10) (A 2 p0.toNatClampNeg))))), (3, .int (mHb A p0 (mHi A p0 10) 10)), (2, .int (mHi A p0 10)), (0, .ref (ad 0)), (1, .int p0)]) hx hb dX3_hammer_148 hl (by decide) rfl (fun ls hl => ?_)
                refine lv_iload (pc := 150) hx hb dX3_hammer_150 (lv_at hl 0 rfl) ?_
                refine lv_aload_n (pc := 152) hx hb dX3_hammer_152 rfl (lv_at hl 3 rfl) ?_
                refine m_get (pc := 153) (v := .ref (ad 8)) S M G 8 (by decide) q1331 rfl rfl dX3_hammer_153 ?_
                refine lv_iload_n (pc := 156) hx hb dX3_hammer_156 rfl (lv_at hl 2 rfl) ?_
                refine m_ald (pc := 157) (v := (A 8 (mHi A p0 10).toNatClampNeg)) S M G 8 rfl (vp_cons (mHi_in A (mLot_in hC c1) 10 (Nat.le_refl _)) c3) rfl dX3_hammer_157 ?_
                have J172 : ∀ (v8 : Int32) (H : Heap) (locs : List Loc), v8 = (mPr4 (A 8 (mHi A p0 10).toNatClampNeg) (mPr3 (A 2 p0.toNatClampNeg) (mPr2 (mHb A p0 (mHi A p0 10) 10) (A 2 p0.toNatClampNeg) (mPr1 (mHb A p0 (mHi A p0 10) 10) (A 2 p0.toNatClampNeg))))) → MG D K s H locs w ad (upd C 23 0) A B → W p l e rmX3_hammer s m args below meth c H locs 0 0 Q (F0 m 172 ls [.int v8]) := by
                  intro v8 H locs ev8 G
                  subst ev8
                  refine lv_istore (pc := 172) (lv' := [(4, .int (mPr4 (A 8 (mHi A p0 10).toNatClampNeg) (mPr3 (A 2 p0.toNatClampNeg) (mPr2 (mHb A p0 (mHi A p0 10) 10) (A 2 p0.toNatClampNeg) (mPr1 (mHb A p0 (mHi A p0 10) 10) (A 2 p0.toNatClampNeg)))))), (3, .int (mHb A p0 (mHi A p0 10) 10)), (2, .int (mHi A p0 10)), (0, .ref (ad 0)), (1, .int p0)]) hx hb dX3_hammer_172 hl (by decide) rfl (fun ls hl => ?_)
                  refine lv_aload_n (pc := 174) hx hb dX3_hammer_174 rfl (lv_at hl 3 rfl) ?_
                  refine m_get (pc := 175) (v := .ref (ad 4)) S M G 4 (by decide) q1327 rfl rfl dX3_hammer_175 ?_
                  refine lv_iload_n (pc := 178) hx hb dX3_hammer_178 rfl (lv_at hl 4 rfl) ?_
                  refine lv_iconst (pc := 179) (v := 2) hx hb dX3_hammer_179 (by decide) ?_
                  refine m_ast (pc := 180) S M G 4 rfl (mLot_in hC c1) dX3_hammer_180 (fun H locs G => ?_)
                  refine lv_aload_n (pc := 181) hx hb dX3_hammer_181 rfl (lv_at hl 3 rfl) ?_
                  refine m_get (pc := 182) (v := .ref (ad 5)) S M G 5 (by decide) q1328 rfl rfl dX3_hammer_182 ?_
                  refine lv_iload_n (pc := 185) hx hb dX3_hammer_185 rfl (lv_at hl 4 rfl) ?_
                  refine lv_iload_n (pc := 186) hx hb dX3_hammer_186 rfl (lv_at hl 2 rfl) ?_
                  refine lv_bipush (pc := 187) (v := 10) hx hb dX3_hammer_187 (by decide) ?_
                  refine lv_iload_n (pc := 189) hx hb dX3_hammer_189 rfl (lv_at hl 4 rfl) ?_
                  refine lv_imul (pc := 190) hx hb dX3_hammer_190 ?_
                  refine lv_isub (pc := 191) hx hb dX3_hammer_191 ?_
                  refine m_ast (pc := 192) S M G 5 rfl (mLot_in hC c1) dX3_hammer_192 (fun H locs G => ?_)
                  refine lv_aload_n (pc := 193) hx hb dX3_hammer_193 rfl (lv_at hl 3 rfl) ?_
                  refine m_get (pc := 194) (v := .ref (ad 6)) S M G 6 (by decide) q1329 rfl rfl dX3_hammer_194 ?_
                  refine lv_iload_n (pc := 197) hx hb dX3_hammer_197 rfl (lv_at hl 4 rfl) ?_
                  refine lv_iload (pc := 198) hx hb dX3_hammer_198 (lv_at hl 0 rfl) ?_
                  refine m_ast (pc := 200) S M G 6 rfl (mLot_in hC c1) dX3_hammer_200 (fun H locs G => ?_)
                  refine lv_aload_n (pc := 201) hx hb dX3_hammer_201 rfl (lv_at hl 3 rfl) ?_
                  refine m_get (pc := 202) (v := .ref (ad 7)) S M G 7 (by decide) q1330 rfl rfl dX3_hammer_202 ?_
                  refine lv_iload_n (pc := 205) hx hb dX3_hammer_205 rfl (lv_at hl 4 rfl) ?_
                  refine lv_aload_n (pc := 206) hx hb dX3_hammer_206 rfl (lv_at hl 3 rfl) ?_
                  refine m_get (pc := 207) (v := .int (C 19)) S M G 19 (by decide) q1342 rfl rfl dX3_hammer_207 ?_
                  refine m_ast (pc := 210) S M G 7 rfl (mLot_in hC c1) dX3_hammer_210 (fun H locs G => ?_)
                  refine lv_iload (pc := 211) hx hb dX3_hammer_211 (lv_at hl 0 rfl) ?_
                  rw [hQ]
                  refine m_iret (sp := (mS_hammer C A B p0)) S G hr hlocks (hdg := dX3_hammer_213) ?_ ?_ ?_
                  · exact Nat.le_of_ble_eq_true rfl
                  · exact Nat.le_of_ble_eq_true rfl
                  · unfold mS_hammer; rw [if_neg c1, if_pos c2, if_neg c3, if_pos c4]
                refine lv_icmp_le (pc := 158) (tgt := 170) hx hb dX3_hammer_158 (by decide) (fun c9 => ?_) (fun c9 => ?_)
                · refine lv_iload (pc := 170) hx hb dX3_hammer_170 (lv_at hl 0 rfl) ?_
                  exact J172 _ _ _ (by unfold mPr4; rw [if_pos c9]) G
                · refine lv_aload_n (pc := 161) hx hb dX3_hammer_161 rfl (lv_at hl 3 rfl) ?_
                  refine m_get (pc := 162) (v := .ref (ad 8)) S M G 8 (by decide) q1331 rfl rfl dX3_hammer_162 ?_
                  refine lv_iload_n (pc := 165) hx hb dX3_hammer_165 rfl (lv_at hl 2 rfl) ?_
                  refine m_ald (pc := 166) (v := (A 8 (mHi A p0 10).toNatClampNeg)) S M G 8 rfl (vp_cons (mHi_in A (mLot_in hC c1) 10 (Nat.le_refl _)) c3) rfl dX3_hammer_166 ?_
                  refine lv_goto (pc := 167) (tgt := 172) hx hb dX3_hammer_167 (by decide) ?_
                  exact J172 _ _ _ (by unfold mPr4; rw [if_neg c9]) G
              refine lv_icmp_ge (pc := 134) (tgt := 146) hx hb dX3_hammer_134 (by decide) (fun c10 => ?_) (fun c10 => ?_)
              · refine lv_iload (pc := 146) hx hb dX3_hammer_146 (lv_at hl 0 rfl) ?_
                exact J148 _ _ _ (by unfold mPr3; rw [if_pos c10]) G
              · refine lv_aload_n (pc := 137) hx hb dX3_hammer_137 rfl (lv_at hl 3 rfl) ?_
                refine m_get (pc := 138) (v := .ref (ad 2)) S M G 2 (by decide) q1325 rfl rfl dX3_hammer_138 ?_
                refine lv_iload_n (pc := 141) hx hb dX3_hammer_141 rfl (lv_at hl 4 rfl) ?_
                refine m_ald (pc := 142) (v := (A 2 p0.toNatClampNeg)) S M G 2 rfl (mLot_in hC c1) rfl dX3_hammer_142 ?_
                refine lv_goto (pc := 143) (tgt := 148) hx hb dX3_hammer_143 (by decide) ?_
                exact J148 _ _ _ (by unfold mPr3; rw [if_neg c10]) G
            refine lv_icmp_ne (pc := 105) (tgt := 122) hx hb dX3_hammer_105 (by decide) (fun c11 => ?_) (fun c11 => ?_)
            · refine lv_iload (pc := 122) hx hb dX3_hammer_122 (lv_at hl 0 rfl) ?_
              exact J124 _ _ _ (by unfold mPr2; rw [if_neg c11]) G
            · refine lv_aload_n (pc := 108) hx hb dX3_hammer_108 rfl (lv_at hl 3 rfl) ?_
              refine m_get (pc := 109) (v := .ref (ad 2)) S M G 2 (by decide) q1325 rfl rfl dX3_hammer_109 ?_
              refine lv_iload_n (pc := 112) hx hb dX3_hammer_112 rfl (lv_at hl 4 rfl) ?_
              refine m_ald (pc := 113) (v := (A 2 p0.toNatClampNeg)) S M G 2 rfl (mLot_in hC c1) rfl dX3_hammer_113 ?_
              refine lv_if_ne (pc := 114) (tgt := 122) hx hb dX3_hammer_114 (by decide) (fun c12 => ?_) (fun c12 => ?_)
              · refine lv_iload (pc := 122) hx hb dX3_hammer_122 (lv_at hl 0 rfl) ?_
                exact J124 _ _ _ (by unfold mPr2; rw [if_pos c11, if_neg c12]) G
              · refine lv_bipush (pc := 117) (v := 50) hx hb dX3_hammer_117 (by decide) ?_
                refine lv_goto (pc := 119) (tgt := 124) hx hb dX3_hammer_119 (by decide) ?_
                exact J124 _ _ _ (by unfold mPr2; rw [if_pos c11, if_pos c12]) G
          refine lv_icmp_ne (pc := 83) (tgt := 95) hx hb dX3_hammer_83 (by decide) (fun c13 => ?_) (fun c13 => ?_)
          · refine lv_iload_n (pc := 95) hx hb dX3_hammer_95 rfl (lv_at hl 0 rfl) ?_
            refine lv_iload_n (pc := 96) hx hb dX3_hammer_96 rfl (lv_at hl 0 rfl) ?_
            refine m_callS (pc := 97) (v := .int (mStep (mHb A p0 (mHi A p0 10) 10))) S M G hl.1 [.int (mHb A p0 (mHi A p0 10) 10)] [.int (mHb A p0 (mHi A p0 10) 10)] (fun w => metX3_step l D K w (mHb A p0 (mHi A p0 10) 10)) 1 q1413 q1411 q1412 q26 (by decide) rfl (⟨Nat.le_of_ble_eq_true rfl, Nat.le_of_ble_eq_true rfl⟩) rfl (Nat.le_of_ble_eq_true rfl) dX3_hammer_97 ⟨Nat.le_of_ble_eq_true rfl, Nat.le_of_ble_eq_true rfl⟩ (fun H locs G => ?_)
            refine W.eq (g2 := F0 m 100 ls [.int (mStep (mHb A p0 (mHi A p0 10) 10)), .int (mHb A p0 (mHi A p0 10) 10)]) rfl ?_
            refine lv_iadd (pc := 100) hx hb dX3_hammer_100 ?_
            exact J101 _ _ _ (by unfold mPr1; rw [if_neg c13]) G
          · refine lv_aload_n (pc := 86) hx hb dX3_hammer_86 rfl (lv_at hl 2 rfl) ?_
            refine m_get (pc := 87) (v := .ref (ad 2)) S M G 2 (by decide) q1325 rfl rfl dX3_hammer_87 ?_
            refine lv_iload_n (pc := 90) hx hb dX3_hammer_90 rfl (lv_at hl 3 rfl) ?_
            refine m_ald (pc := 91) (v := (A 2 p0.toNatClampNeg)) S M G 2 rfl (mLot_in hC c1) rfl dX3_hammer_91 ?_
            refine lv_goto (pc := 92) (tgt := 101) hx hb dX3_hammer_92 (by decide) ?_
            exact J101 _ _ _ (by unfold mPr1; rw [if_pos c13]) G
        · refine lv_aload_n (pc := 65) hx hb dX3_hammer_65 rfl (lv_at hl 1 rfl) ?_
          refine m_get (pc := 66) (v := .ref (ad 4)) S M G 4 (by decide) q1327 rfl rfl dX3_hammer_66 ?_
          refine lv_iload_n (pc := 69) hx hb dX3_hammer_69 rfl (lv_at hl 2 rfl) ?_
          refine lv_iconst (pc := 70) (v := 1) hx hb dX3_hammer_70 (by decide) ?_
          refine m_ast (pc := 71) S M G 4 rfl (mLot_in hC c1) dX3_hammer_71 (fun H locs G => ?_)
          refine lv_iconst (pc := 72) (v := (-1)) hx hb dX3_hammer_72 (by decide) ?_
          rw [hQ]
          refine m_iret (sp := (mS_hammer C A B p0)) S G hr hlocks (hdg := dX3_hammer_73) ?_ ?_ ?_
          · exact Nat.le_of_ble_eq_true rfl
          · exact Nat.le_of_ble_eq_true rfl
          · unfold mS_hammer; rw [if_neg c1, if_pos c2, if_neg c3, if_neg c4]
    · refine lv_iconst (pc := 22) (v := 2) hx hb dX3_hammer_22 (by decide) ?_
      refine lv_goto (pc := 23) (tgt := 27) hx hb dX3_hammer_23 (by decide) ?_
      refine m_putC (pc := 27) S M G 23 (by decide) q1346 rfl rfl rfl rfl (C' := (upd C 23 2)) (B' := B) (mfs_C23 _ _ _ _) dX3_hammer_27 (fun H locs G => ?_)
      refine lv_aload_n (pc := 30) hx hb dX3_hammer_30 rfl (lv_at hl 0 rfl) ?_
      refine m_get (pc := 31) (v := .int 2) S M G 23 (by decide) q1346 rfl rfl dX3_hammer_31 ?_
      refine lv_if_le (pc := 34) (tgt := 39) hx hb dX3_hammer_34 (by decide) (fun c => absurd c (by decide)) (fun _ => ?_)
      refine lv_iconst (pc := 37) (v := 0) hx hb dX3_hammer_37 (by decide) ?_
      rw [hQ]
      refine m_iret (sp := (mS_hammer C A B p0)) S G hr hlocks (hdg := dX3_hammer_38) ?_ ?_ ?_
      · exact Nat.le_of_ble_eq_true rfl
      · exact Nat.le_of_ble_eq_true rfl
      · unfold mS_hammer; rw [if_neg c1, if_neg c2]
  · refine lv_iconst (pc := 9) (v := 1) hx hb dX3_hammer_9 (by decide) ?_
    refine lv_goto (pc := 10) (tgt := 27) hx hb dX3_hammer_10 (by decide) ?_
    refine m_putC (pc := 27) S M G 23 (by decide) q1346 rfl rfl rfl rfl (C' := (upd C 23 1)) (B' := B) (mfs_C23 _ _ _ _) dX3_hammer_27 (fun H locs G => ?_)
    refine lv_aload_n (pc := 30) hx hb dX3_hammer_30 rfl (lv_at hl 0 rfl) ?_
    refine m_get (pc := 31) (v := .int 1) S M G 23 (by decide) q1346 rfl rfl dX3_hammer_31 ?_
    refine lv_if_le (pc := 34) (tgt := 39) hx hb dX3_hammer_34 (by decide) (fun c => absurd c (by decide)) (fun _ => ?_)
    refine lv_iconst (pc := 37) (v := 0) hx hb dX3_hammer_37 (by decide) ?_
    rw [hQ]
    refine m_iret (sp := (mS_hammer C A B p0)) S G hr hlocks (hdg := dX3_hammer_38) ?_ ?_ ?_
    · exact Nat.le_of_ble_eq_true rfl
    · exact Nat.le_of_ble_eq_true rfl
    · unfold mS_hammer; rw [if_pos c1]
def mS_again (C : Nat → Int32) (A : Nat → Nat → Int32) (B : Nat → Int64) (p0 p1 : Int32) : mSp Int32 := if (mF_isLot C A B p0) = 0 then (0, (upd C 23 1), A, B) else (if (mWithin p1 0 1000000) = 0 then (0, (upd C 23 2), A, B) else (if (A 4 p0.toNatClampNeg) = 1 then ((mCnt A p0 10), (upd C 23 0), (updA (updA (mClr A p0 10) 2 p0.toNatClampNeg (mCall p1)) 4 p0.toNatClampNeg 0), B) else (0, (upd C 23 3), A, B)))
abbrev rmX3_again : Room := ({ frames := 2, cells := 0, slots := 0, locals := 43 } : Room)
set_option maxHeartbeats 4000000 in
theorem metX3_again (l : Launch) (D : va_G) (K ad : Nat → Nat) (C : Nat → Int32) (A : Nat → Nat → Int32) (B : Nat → Int64) (p0 p1 : Int32) (hC : 0 ≤ (C 0).toInt ∧ (C 0).toInt ≤ 30) : MMet l yX3_again (ws_ yX3_again cX3_again 4 (some .int)) rmX3_again D K [.int p0, .int p1] ad C A B (some (.int (mS_again C A B p0 p1).1)) (mS_again C A B p0 p1).2.1 (mS_again C A B p0 p1).2.2.1 (mS_again C A B p0 p1).2.2.2 := by
  intro w hP
  refine gMet.of (by decide) (Nat.le_of_ble_eq_true rfl) ?_
  intro p e s m args below meth c H locs ls S M hr hlocks hname G hl
  have hx := S.1
  have hb := S.2.1
  have hown := S.2.2.2.1
  have hts := S.2.2.2.2
  have hl : lv_has ls 4 [(0, .ref (ad 0)), (1, .int p0), (2, .int p1)] := hl
  obtain ⟨Q, hQ⟩ : ∃ Q, Q = gE below D K (mPost D K w ad (some (.int (mS_again C A B p0 p1).1)) (mS_again C A B p0 p1).2.1 (mS_again C A B p0 p1).2.2.1 (mS_again C A B p0 p1).2.2.2) args s rmX3_again.cells rmX3_again.slots := ⟨_, rfl⟩
  rw [← hQ]
  have G : MG D K s H locs w ad C A B := MG.of G hP
  refine lv_aload_n (pc := 0) hx hb dX3_again_0 rfl (lv_at hl 0 rfl) ?_
  refine lv_aload_n (pc := 1) hx hb dX3_again_1 rfl (lv_at hl 0 rfl) ?_
  refine lv_iload_n (pc := 2) hx hb dX3_again_2 rfl (lv_at hl 1 rfl) ?_
  refine m_callV (pc := 3) S M G hl.1 [.int p0] [.ref (ad 0)] (metX3_isLot l D K ad C A B p0 ) 1 q1425 q1422 q1424 qs10 q26 (by decide) rfl (⟨Nat.le_of_ble_eq_true rfl, Nat.le_of_ble_eq_true rfl⟩) rfl (Nat.le_of_ble_eq_true rfl) dX3_again_3 ⟨Nat.le_of_ble_eq_true rfl, Nat.le_of_ble_eq_true rfl⟩ (fun H locs G => ?_)
  have G : MG D K s H locs w ad C A B := G
  refine W.eq (g2 := F0 m 6 ls [.int (mF_isLot C A B p0), .ref (ad 0)]) rfl ?_
  refine lv_if_ne (pc := 6) (tgt := 13) hx hb dX3_again_6 (by decide) (fun c1 => ?_) (fun c1 => ?_)
  · refine lv_iload_n (pc := 13) hx hb dX3_again_13 rfl (lv_at hl 2 rfl) ?_
    refine lv_iconst (pc := 14) (v := 0) hx hb dX3_again_14 (by decide) ?_
    refine lv_ldc (pc := 15) (v := 1000000) hx hb hown (hts _ q1404) dX3_again_15 ?_
    refine m_callS (pc := 17) (v := .int (mWithin p1 0 1000000)) S M G hl.1 [.int p1, .int 0, .int 1000000] [.ref (ad 0)] (fun w => metX3_isWithin l D K w p1 0 1000000) 3 q1407 q1405 q1406 q26 (by decide) rfl (⟨Nat.le_of_ble_eq_true rfl, Nat.le_of_ble_eq_true rfl⟩) rfl (Nat.le_of_ble_eq_true rfl) dX3_again_17 ⟨Nat.le_of_ble_eq_true rfl, Nat.le_of_ble_eq_true rfl⟩ (fun H locs G => ?_)
    refine W.eq (g2 := F0 m 20 ls [.int (mWithin p1 0 1000000), .ref (ad 0)]) rfl ?_
    refine lv_if_ne (pc := 20) (tgt := 27) hx hb dX3_again_20 (by decide) (fun c2 => ?_) (fun c2 => ?_)
    · refine lv_aload_n (pc := 27) hx hb dX3_again_27 rfl (lv_at hl 0 rfl) ?_
      refine m_get (pc := 28) (v := .ref (ad 4)) S M G 4 (by decide) q1327 rfl rfl dX3_again_28 ?_
      refine lv_iload_n (pc := 31) hx hb dX3_again_31 rfl (lv_at hl 1 rfl) ?_
      refine m_ald (pc := 32) (v := (A 4 p0.toNatClampNeg)) S M G 4 rfl (mLot_in hC c1) rfl dX3_again_32 ?_
      refine lv_iconst (pc := 33) (v := 1) hx hb dX3_again_33 (by decide) ?_
      refine lv_icmp_eq (pc := 34) (tgt := 41) hx hb dX3_again_34 (by decide) (fun c3 => ?_) (fun c3 => ?_)
      · refine lv_iconst (pc := 41) (v := 0) hx hb dX3_again_41 (by decide) ?_
        refine m_putC (pc := 42) S M G 23 (by decide) q1346 rfl rfl rfl rfl (C' := (upd C 23 0)) (B' := B) (mfs_C23 _ _ _ _) dX3_again_42 (fun H locs G => ?_)
        refine lv_aload_n (pc := 45) hx hb dX3_again_45 rfl (lv_at hl 0 rfl) ?_
        refine m_get (pc := 46) (v := .int 0) S M G 23 (by decide) q1346 rfl rfl dX3_again_46 ?_
        refine lv_if_le (pc := 49) (tgt := 54) hx hb dX3_again_49 (by decide) (fun _ => ?_) (fun c => absurd c (by decide))
        refine lv_aload_n (pc := 54) hx hb dX3_again_54 rfl (lv_at hl 0 rfl) ?_
        refine lv_iload_n (pc := 55) hx hb dX3_again_55 rfl (lv_at hl 1 rfl) ?_
        refine m_callV (pc := 56) S M G hl.1 [.int p0] [] (metX3_bidMany l D K ad (upd C 23 0) A B p0 (mLot_in hC c1)) 1 q1448 q1445 q1447 qs13 q26 (by decide) rfl (⟨Nat.le_of_ble_eq_true rfl, Nat.le_of_ble_eq_true rfl⟩) rfl (Nat.le_of_ble_eq_true rfl) dX3_again_56 ⟨Nat.le_of_ble_eq_true rfl, Nat.le_of_ble_eq_true rfl⟩ (fun H locs G => ?_)
        have G : MG D K s H locs w ad (upd C 23 0) A B := G
        refine W.eq (g2 := F0 m 59 ls [.int (mCnt A p0 10)]) rfl ?_
        refine lv_istore_n (pc := 59) (lv' := [(3, .int (mCnt A p0 10)), (0, .ref (ad 0)), (1, .int p0), (2, .int p1)]) hx hb dX3_again_59 rfl hl (by decide) rfl (fun ls hl => ?_)
        refine lv_aload_n (pc := 60) hx hb dX3_again_60 rfl (lv_at hl 1 rfl) ?_
        refine lv_iload_n (pc := 61) hx hb dX3_again_61 rfl (lv_at hl 2 rfl) ?_
        refine m_callV (pc := 62) S M G hl.1 [.int p0] [] (metX3_clearBids l D K ad (upd C 23 0) A B p0 (mLot_in hC c1)) 1 q1417 q1414 q1416 qs9 q26 (by decide) rfl (⟨Nat.le_of_ble_eq_true rfl, Nat.le_of_ble_eq_true rfl⟩) rfl (Nat.le_of_ble_eq_true rfl) dX3_again_62 ⟨Nat.le_of_ble_eq_true rfl, Nat.le_of_ble_eq_true rfl⟩ (fun H locs G => ?_)
        have G : MG D K s H locs w ad (upd C 23 0) (mClr A p0 10) B := G
        refine W.eq (g2 := F0 m 65 ls []) rfl ?_
        refine lv_aload_n (pc := 65) hx hb dX3_again_65 rfl (lv_at hl 1 rfl) ?_
        refine m_get (pc := 66) (v := .ref (ad 2)) S M G 2 (by decide) q1325 rfl rfl dX3_again_66 ?_
        refine lv_iload_n (pc := 69) hx hb dX3_again_69 rfl (lv_at hl 2 rfl) ?_
        refine lv_iload_n (pc := 70) hx hb dX3_again_70 rfl (lv_at hl 3 rfl) ?_
        refine m_callS (pc := 71) (v := .int (mCall p1)) S M G hl.1 [.int p1] [.int p0, .ref (ad 2)] (fun w => metX3_call l D K w p1) 1 q1410 q1408 q1409 q26 (by decide) rfl (⟨Nat.le_of_ble_eq_true rfl, Nat.le_of_ble_eq_true rfl⟩) rfl (Nat.le_of_ble_eq_true rfl) dX3_again_71 ⟨Nat.le_of_ble_eq_true rfl, Nat.le_of_ble_eq_true rfl⟩ (fun H locs G => ?_)
        refine W.eq (g2 := F0 m 74 ls [.int (mCall p1), .int p0, .ref (ad 2)]) rfl ?_
        refine m_ast (pc := 74) S M G 2 rfl (mLot_in hC c1) dX3_again_74 (fun H locs G => ?_)
        refine lv_aload_n (pc := 75) hx hb dX3_again_75 rfl (lv_at hl 1 rfl) ?_
        refine m_get (pc := 76) (v := .ref (ad 4)) S M G 4 (by decide) q1327 rfl rfl dX3_again_76 ?_
        refine lv_iload_n (pc := 79) hx hb dX3_again_79 rfl (lv_at hl 2 rfl) ?_
        refine lv_iconst (pc := 80) (v := 0) hx hb dX3_again_80 (by decide) ?_
        refine m_ast (pc := 81) S M G 4 rfl (mLot_in hC c1) dX3_again_81 (fun H locs G => ?_)
        refine lv_iload_n (pc := 82) hx hb dX3_again_82 rfl (lv_at hl 0 rfl) ?_
        rw [hQ]
        refine m_iret (sp := (mS_again C A B p0 p1)) S G hr hlocks (hdg := dX3_again_83) ?_ ?_ ?_
        · exact Nat.le_of_ble_eq_true rfl
        · exact Nat.le_of_ble_eq_true rfl
        · unfold mS_again; rw [if_neg c1, if_neg c2, if_pos c3]
      · refine lv_iconst (pc := 37) (v := 3) hx hb dX3_again_37 (by decide) ?_
        refine lv_goto (pc := 38) (tgt := 42) hx hb dX3_again_38 (by decide) ?_
        refine m_putC (pc := 42) S M G 23 (by decide) q1346 rfl rfl rfl rfl (C' := (upd C 23 3)) (B' := B) (mfs_C23 _ _ _ _) dX3_again_42 (fun H locs G => ?_)
        refine lv_aload_n (pc := 45) hx hb dX3_again_45 rfl (lv_at hl 0 rfl) ?_
        refine m_get (pc := 46) (v := .int 3) S M G 23 (by decide) q1346 rfl rfl dX3_again_46 ?_
        refine lv_if_le (pc := 49) (tgt := 54) hx hb dX3_again_49 (by decide) (fun c => absurd c (by decide)) (fun _ => ?_)
        refine lv_iconst (pc := 52) (v := 0) hx hb dX3_again_52 (by decide) ?_
        rw [hQ]
        refine m_iret (sp := (mS_again C A B p0 p1)) S G hr hlocks (hdg := dX3_again_53) ?_ ?_ ?_
        · exact Nat.le_of_ble_eq_true rfl
        · exact Nat.le_of_ble_eq_true rfl
        · unfold mS_again; rw [if_neg c1, if_neg c2, if_neg c3]
    · refine lv_iconst (pc := 23) (v := 2) hx hb dX3_again_23 (by decide) ?_
      refine lv_goto (pc := 24) (tgt := 42) hx hb dX3_again_24 (by decide) ?_
      refine m_putC (pc := 42) S M G 23 (by decide) q1346 rfl rfl rfl rfl (C' := (upd C 23 2)) (B' := B) (mfs_C23 _ _ _ _) dX3_again_42 (fun H locs G => ?_)
      refine lv_aload_n (pc := 45) hx hb dX3_again_45 rfl (lv_at hl 0 rfl) ?_
      refine m_get (pc := 46) (v := .int 2) S M G 23 (by decide) q1346 rfl rfl dX3_again_46 ?_
      refine lv_if_le (pc := 49) (tgt := 54) hx hb dX3_again_49 (by decide) (fun c => absurd c (by decide)) (fun _ => ?_)
      refine lv_iconst (pc := 52) (v := 0) hx hb dX3_again_52 (by decide) ?_
      rw [hQ]
      refine m_iret (sp := (mS_again C A B p0 p1)) S G hr hlocks (hdg := dX3_again_53) ?_ ?_ ?_
      · exact Nat.le_of_ble_eq_true rfl
      · exact Nat.le_of_ble_eq_true rfl
      · unfold mS_again; rw [if_neg c1, if_pos c2]
  · refine lv_iconst (pc := 9) (v := 1) hx hb dX3_again_9 (by decide) ?_
    refine lv_goto (pc := 10) (tgt := 42) hx hb dX3_again_10 (by decide) ?_
    refine m_putC (pc := 42) S M G 23 (by decide) q1346 rfl rfl rfl rfl (C' := (upd C 23 1)) (B' := B) (mfs_C23 _ _ _ _) dX3_again_42 (fun H locs G => ?_)
    refine lv_aload_n (pc := 45) hx hb dX3_again_45 rfl (lv_at hl 0 rfl) ?_
    refine m_get (pc := 46) (v := .int 1) S M G 23 (by decide) q1346 rfl rfl dX3_again_46 ?_
    refine lv_if_le (pc := 49) (tgt := 54) hx hb dX3_again_49 (by decide) (fun c => absurd c (by decide)) (fun _ => ?_)
    refine lv_iconst (pc := 52) (v := 0) hx hb dX3_again_52 (by decide) ?_
    rw [hQ]
    refine m_iret (sp := (mS_again C A B p0 p1)) S G hr hlocks (hdg := dX3_again_53) ?_ ?_ ?_
    · exact Nat.le_of_ble_eq_true rfl
    · exact Nat.le_of_ble_eq_true rfl
    · unfold mS_again; rw [if_pos c1]
def mS_lots (C : Nat → Int32) (A : Nat → Nat → Int32) (B : Nat → Int64) : mSp Int32 := ((C 0), (upd C 23 0), A, B)
abbrev rmX3_lots : Room := ({ frames := 0, cells := 0, slots := 0, locals := 0 } : Room)
set_option maxHeartbeats 4000000 in
theorem metX3_lots (l : Launch) (D : va_G) (K ad : Nat → Nat) (C : Nat → Int32) (A : Nat → Nat → Int32) (B : Nat → Int64) : MMet l yX3_lots (ws_ yX3_lots cX3_lots 1 (some .int)) rmX3_lots D K [] ad C A B (some (.int (mS_lots C A B).1)) (mS_lots C A B).2.1 (mS_lots C A B).2.2.1 (mS_lots C A B).2.2.2 := by
  intro w hP
  refine gMet.of (by decide) (Nat.le_of_ble_eq_true rfl) ?_
  intro p e s m args below meth c H locs ls S M hr hlocks hname G hl
  have hx := S.1
  have hb := S.2.1
  have hown := S.2.2.2.1
  have hts := S.2.2.2.2
  have hl : lv_has ls 1 [(0, .ref (ad 0))] := hl
  obtain ⟨Q, hQ⟩ : ∃ Q, Q = gE below D K (mPost D K w ad (some (.int (mS_lots C A B).1)) (mS_lots C A B).2.1 (mS_lots C A B).2.2.1 (mS_lots C A B).2.2.2) args s rmX3_lots.cells rmX3_lots.slots := ⟨_, rfl⟩
  rw [← hQ]
  have G : MG D K s H locs w ad C A B := MG.of G hP
  refine lv_aload_n (pc := 0) hx hb dX3_lots_0 rfl (lv_at hl 0 rfl) ?_
  refine lv_iconst (pc := 1) (v := 0) hx hb dX3_lots_1 (by decide) ?_
  refine m_putC (pc := 2) S M G 23 (by decide) q1346 rfl rfl rfl rfl (C' := (upd C 23 0)) (B' := B) (mfs_C23 _ _ _ _) dX3_lots_2 (fun H locs G => ?_)
  refine lv_aload_n (pc := 5) hx hb dX3_lots_5 rfl (lv_at hl 0 rfl) ?_
  refine m_get (pc := 6) (v := .int (C 0)) S M G 0 (by decide) q1323 rfl rfl dX3_lots_6 ?_
  rw [hQ]
  refine m_iret (sp := (mS_lots C A B)) S G hr hlocks (hdg := dX3_lots_9) ?_ ?_ ?_
  · exact Nat.le_of_ble_eq_true rfl
  · exact Nat.le_of_ble_eq_true rfl
  · rfl
def mS_callOf (C : Nat → Int32) (A : Nat → Nat → Int32) (B : Nat → Int64) (p0 : Int32) : mSp Int32 := if (mWithin p0 0 1000000) = 0 then (0, (upd C 23 1), A, B) else ((mCall p0), (upd C 23 0), A, B)
abbrev rmX3_callOf : Room := ({ frames := 2, cells := 0, slots := 0, locals := 40 } : Room)
set_option maxHeartbeats 4000000 in
theorem metX3_callOf (l : Launch) (D : va_G) (K ad : Nat → Nat) (C : Nat → Int32) (A : Nat → Nat → Int32) (B : Nat → Int64) (p0 : Int32) : MMet l yX3_callOf (ws_ yX3_callOf cX3_callOf 2 (some .int)) rmX3_callOf D K [.int p0] ad C A B (some (.int (mS_callOf C A B p0).1)) (mS_callOf C A B p0).2.1 (mS_callOf C A B p0).2.2.1 (mS_callOf C A B p0).2.2.2 := by
  intro w hP
  refine gMet.of (by decide) (Nat.le_of_ble_eq_true rfl) ?_
  intro p e s m args below meth c H locs ls S M hr hlocks hname G hl
  have hx := S.1
  have hb := S.2.1
  have hown := S.2.2.2.1
  have hts := S.2.2.2.2
  have hl : lv_has ls 2 [(0, .ref (ad 0)), (1, .int p0)] := hl
  obtain ⟨Q, hQ⟩ : ∃ Q, Q = gE below D K (mPost D K w ad (some (.int (mS_callOf C A B p0).1)) (mS_callOf C A B p0).2.1 (mS_callOf C A B p0).2.2.1 (mS_callOf C A B p0).2.2.2) args s rmX3_callOf.cells rmX3_callOf.slots := ⟨_, rfl⟩
  rw [← hQ]
  have G : MG D K s H locs w ad C A B := MG.of G hP
  refine lv_aload_n (pc := 0) hx hb dX3_callOf_0 rfl (lv_at hl 0 rfl) ?_
  refine lv_iload_n (pc := 1) hx hb dX3_callOf_1 rfl (lv_at hl 1 rfl) ?_
  refine lv_iconst (pc := 2) (v := 0) hx hb dX3_callOf_2 (by decide) ?_
  refine lv_ldc (pc := 3) (v := 1000000) hx hb hown (hts _ q1404) dX3_callOf_3 ?_
  refine m_callS (pc := 5) (v := .int (mWithin p0 0 1000000)) S M G hl.1 [.int p0, .int 0, .int 1000000] [.ref (ad 0)] (fun w => metX3_isWithin l D K w p0 0 1000000) 3 q1407 q1405 q1406 q26 (by decide) rfl (⟨Nat.le_of_ble_eq_true rfl, Nat.le_of_ble_eq_true rfl⟩) rfl (Nat.le_of_ble_eq_true rfl) dX3_callOf_5 ⟨Nat.le_of_ble_eq_true rfl, Nat.le_of_ble_eq_true rfl⟩ (fun H locs G => ?_)
  refine W.eq (g2 := F0 m 8 ls [.int (mWithin p0 0 1000000), .ref (ad 0)]) rfl ?_
  refine lv_if_eq (pc := 8) (tgt := 15) hx hb dX3_callOf_8 (by decide) (fun c1 => ?_) (fun c1 => ?_)
  · refine lv_iconst (pc := 15) (v := 1) hx hb dX3_callOf_15 (by decide) ?_
    refine m_putC (pc := 16) S M G 23 (by decide) q1346 rfl rfl rfl rfl (C' := (upd C 23 1)) (B' := B) (mfs_C23 _ _ _ _) dX3_callOf_16 (fun H locs G => ?_)
    refine lv_aload_n (pc := 19) hx hb dX3_callOf_19 rfl (lv_at hl 0 rfl) ?_
    refine m_get (pc := 20) (v := .int 1) S M G 23 (by decide) q1346 rfl rfl dX3_callOf_20 ?_
    refine lv_if_ne (pc := 23) (tgt := 33) hx hb dX3_callOf_23 (by decide) (fun _ => ?_) (fun c => absurd c (by decide))
    refine lv_iconst (pc := 33) (v := 0) hx hb dX3_callOf_33 (by decide) ?_
    rw [hQ]
    refine m_iret (sp := (mS_callOf C A B p0)) S G hr hlocks (hdg := dX3_callOf_34) ?_ ?_ ?_
    · exact Nat.le_of_ble_eq_true rfl
    · exact Nat.le_of_ble_eq_true rfl
    · unfold mS_callOf; rw [if_pos c1]
  · refine lv_iconst (pc := 11) (v := 0) hx hb dX3_callOf_11 (by decide) ?_
    refine lv_goto (pc := 12) (tgt := 16) hx hb dX3_callOf_12 (by decide) ?_
    refine m_putC (pc := 16) S M G 23 (by decide) q1346 rfl rfl rfl rfl (C' := (upd C 23 0)) (B' := B) (mfs_C23 _ _ _ _) dX3_callOf_16 (fun H locs G => ?_)
    refine lv_aload_n (pc := 19) hx hb dX3_callOf_19 rfl (lv_at hl 0 rfl) ?_
    refine m_get (pc := 20) (v := .int 0) S M G 23 (by decide) q1346 rfl rfl dX3_callOf_20 ?_
    refine lv_if_ne (pc := 23) (tgt := 33) hx hb dX3_callOf_23 (by decide) (fun c => absurd c (by decide)) (fun _ => ?_)
    refine lv_iload_n (pc := 26) hx hb dX3_callOf_26 rfl (lv_at hl 1 rfl) ?_
    refine m_callS (pc := 27) (v := .int (mCall p0)) S M G hl.1 [.int p0] [] (fun w => metX3_call l D K w p0) 1 q1410 q1408 q1409 q26 (by decide) rfl (⟨Nat.le_of_ble_eq_true rfl, Nat.le_of_ble_eq_true rfl⟩) rfl (Nat.le_of_ble_eq_true rfl) dX3_callOf_27 ⟨Nat.le_of_ble_eq_true rfl, Nat.le_of_ble_eq_true rfl⟩ (fun H locs G => ?_)
    refine W.eq (g2 := F0 m 30 ls [.int (mCall p0)]) rfl ?_
    refine lv_goto (pc := 30) (tgt := 34) hx hb dX3_callOf_30 (by decide) ?_
    rw [hQ]
    refine m_iret (sp := (mS_callOf C A B p0)) S G hr hlocks (hdg := dX3_callOf_34) ?_ ?_ ?_
    · exact Nat.le_of_ble_eq_true rfl
    · exact Nat.le_of_ble_eq_true rfl
    · unfold mS_callOf; rw [if_neg c1]
theorem vp_lt {x : Int32} {n : Nat} (h : vp_in x n) : x.toNatClampNeg < n := Nat.not_le.mp fun q => h (Or.inr q)
def mS_pay (C : Nat → Int32) (A : Nat → Nat → Int32) (B : Nat → Int64) (p0 : Int32) : mSp Int32 := if (mF_isLot C A B p0) = 0 then (0, (upd C 23 1), A, B) else (if (A 4 p0.toNatClampNeg) = 2 then (if (A 11 p0.toNatClampNeg) = (-1) then (((A 6 p0.toNatClampNeg) + (mFee (A 6 p0.toNatClampNeg))), (upd C 23 0), (updA A 4 p0.toNatClampNeg 3), (vp_updL (vp_updL B 20 ((B 20) + (((A 6 p0.toNatClampNeg) + (mFee (A 6 p0.toNatClampNeg))) : Int32).toInt64)) 22 ((B 22) + ((mFee (A 6 p0.toNatClampNeg)) : Int32).toInt64))) else (if (A 12 p0.toNatClampNeg) ≤ (A 6 p0.toNatClampNeg) then (((A 6 p0.toNatClampNeg) + (mFee (A 6 p0.toNatClampNeg))), (upd C 23 0), (updA (updA (updA A 4 p0.toNatClampNeg 3) 16 (A 11 p0.toNatClampNeg).toNatClampNeg ((A 16 (A 11 p0.toNatClampNeg).toNatClampNeg) + 0)) 11 p0.toNatClampNeg (-1)), (vp_updL (vp_updL B 20 ((B 20) + (((A 6 p0.toNatClampNeg) + (mFee (A 6 p0.toNatClampNeg))) : Int32).toInt64)) 22 ((B 22) + ((mFee (A 6 p0.toNatClampNeg)) : Int32).toInt64))) else (((A 6 p0.toNatClampNeg) + (mFee (A 6 p0.toNatClampNeg))), (upd C 23 0), (updA (updA (updA A 4 p0.toNatClampNeg 3) 16 (A 11 p0.toNatClampNeg).toNatClampNeg ((A 16 (A 11 p0.toNatClampNeg).toNatClampNeg) + ((A 12 p0.toNatClampNeg) - (A 6 p0.toNatClampNeg)))) 11 p0.toNatClampNeg (-1)), (vp_updL (vp_updL B 20 ((B 20) + (((A 6 p0.toNatClampNeg) + (mFee (A 6 p0.toNatClampNeg))) : Int32).toInt64)) 22 ((B 22) + ((mFee (A 6 p0.toNatClampNeg)) : Int32).toInt64))))) else (0, (upd C 23 2), A, B))
abbrev rmX3_pay : Room := ({ frames := 2, cells := 0, slots := 0, locals := 43 } : Room)
set_option maxHeartbeats 4000000 in
theorem metX3_pay (l : Launch) (D : va_G) (K ad : Nat → Nat) (C : Nat → Int32) (A : Nat → Nat → Int32) (B : Nat → Int64) (p0 : Int32) (hC : 0 ≤ (C 0).toInt ∧ (C 0).toInt ≤ 30) (hg : ∀ i, i < 30 → A 11 i = -1 ∨ vp_in (A 11 i) 10) : MMet l yX3_pay (ws_ yX3_pay cX3_pay 3 (some .int)) rmX3_pay D K [.int p0] ad C A B (some (.int (mS_pay C A B p0).1)) (mS_pay C A B p0).2.1 (mS_pay C A B p0).2.2.1 (mS_pay C A B p0).2.2.2 := by
  intro w hP
  refine gMet.of (by decide) (Nat.le_of_ble_eq_true rfl) ?_
  intro p e s m args below meth c H locs ls S M hr hlocks hname G hl
  have hx := S.1
  have hb := S.2.1
  have hown := S.2.2.2.1
  have hts := S.2.2.2.2
  have hl : lv_has ls 3 [(0, .ref (ad 0)), (1, .int p0)] := hl
  obtain ⟨Q, hQ⟩ : ∃ Q, Q = gE below D K (mPost D K w ad (some (.int (mS_pay C A B p0).1)) (mS_pay C A B p0).2.1 (mS_pay C A B p0).2.2.1 (mS_pay C A B p0).2.2.2) args s rmX3_pay.cells rmX3_pay.slots := ⟨_, rfl⟩
  rw [← hQ]
  have G : MG D K s H locs w ad C A B := MG.of G hP
  refine lv_aload_n (pc := 0) hx hb dX3_pay_0 rfl (lv_at hl 0 rfl) ?_
  refine lv_aload_n (pc := 1) hx hb dX3_pay_1 rfl (lv_at hl 0 rfl) ?_
  refine lv_iload_n (pc := 2) hx hb dX3_pay_2 rfl (lv_at hl 1 rfl) ?_
  refine m_callV (pc := 3) S M G hl.1 [.int p0] [.ref (ad 0)] (metX3_isLot l D K ad C A B p0 ) 1 q1425 q1422 q1424 qs10 q26 (by decide) rfl (⟨Nat.le_of_ble_eq_true rfl, Nat.le_of_ble_eq_true rfl⟩) rfl (Nat.le_of_ble_eq_true rfl) dX3_pay_3 ⟨Nat.le_of_ble_eq_true rfl, Nat.le_of_ble_eq_true rfl⟩ (fun H locs G => ?_)
  have G : MG D K s H locs w ad C A B := G
  refine W.eq (g2 := F0 m 6 ls [.int (mF_isLot C A B p0), .ref (ad 0)]) rfl ?_
  refine lv_if_ne (pc := 6) (tgt := 13) hx hb dX3_pay_6 (by decide) (fun c1 => ?_) (fun c1 => ?_)
  · refine lv_aload_n (pc := 13) hx hb dX3_pay_13 rfl (lv_at hl 0 rfl) ?_
    refine m_get (pc := 14) (v := .ref (ad 4)) S M G 4 (by decide) q1327 rfl rfl dX3_pay_14 ?_
    refine lv_iload_n (pc := 17) hx hb dX3_pay_17 rfl (lv_at hl 1 rfl) ?_
    refine m_ald (pc := 18) (v := (A 4 p0.toNatClampNeg)) S M G 4 rfl (mLot_in hC c1) rfl dX3_pay_18 ?_
    refine lv_iconst (pc := 19) (v := 2) hx hb dX3_pay_19 (by decide) ?_
    refine lv_icmp_eq (pc := 20) (tgt := 27) hx hb dX3_pay_20 (by decide) (fun c2 => ?_) (fun c2 => ?_)
    · refine lv_iconst (pc := 27) (v := 0) hx hb dX3_pay_27 (by decide) ?_
      refine m_putC (pc := 28) S M G 23 (by decide) q1346 rfl rfl rfl rfl (C' := (upd C 23 0)) (B' := B) (mfs_C23 _ _ _ _) dX3_pay_28 (fun H locs G => ?_)
      refine lv_aload_n (pc := 31) hx hb dX3_pay_31 rfl (lv_at hl 0 rfl) ?_
      refine m_get (pc := 32) (v := .int 0) S M G 23 (by decide) q1346 rfl rfl dX3_pay_32 ?_
      refine lv_if_le (pc := 35) (tgt := 40) hx hb dX3_pay_35 (by decide) (fun _ => ?_) (fun c => absurd c (by decide))
      refine lv_aload_n (pc := 40) hx hb dX3_pay_40 rfl (lv_at hl 0 rfl) ?_
      refine m_get (pc := 41) (v := .ref (ad 6)) S M G 6 (by decide) q1329 rfl rfl dX3_pay_41 ?_
      refine lv_iload_n (pc := 44) hx hb dX3_pay_44 rfl (lv_at hl 1 rfl) ?_
      refine m_ald (pc := 45) (v := (A 6 p0.toNatClampNeg)) S M G 6 rfl (mLot_in hC c1) rfl dX3_pay_45 ?_
      refine m_callS (pc := 46) (v := .int (mFee (A 6 p0.toNatClampNeg))) S M G hl.1 [.int (A 6 p0.toNatClampNeg)] [] (fun w => metX3_feeFor l D K w (A 6 p0.toNatClampNeg)) 1 q1463 q1461 q1462 q26 (by decide) rfl (⟨Nat.le_of_ble_eq_true rfl, Nat.le_of_ble_eq_true rfl⟩) rfl (Nat.le_of_ble_eq_true rfl) dX3_pay_46 ⟨Nat.le_of_ble_eq_true rfl, Nat.le_of_ble_eq_true rfl⟩ (fun H locs G => ?_)
      refine W.eq (g2 := F0 m 49 ls [.int (mFee (A 6 p0.toNatClampNeg))]) rfl ?_
      refine lv_istore_n (pc := 49) (lv' := [(2, .int (mFee (A 6 p0.toNatClampNeg))), (0, .ref (ad 0)), (1, .int p0)]) hx hb dX3_pay_49 rfl hl (by decide) rfl (fun ls hl => ?_)
      refine lv_aload_n (pc := 50) hx hb dX3_pay_50 rfl (lv_at hl 1 rfl) ?_
      refine lv_dup (pc := 51) hx hb dX3_pay_51 rfl ?_
      refine m_get (pc := 52) (v := .long (B 20)) S M G 20 (by decide) q1343 rfl rfl dX3_pay_52 ?_
      refine lv_aload_n (pc := 55) hx hb dX3_pay_55 rfl (lv_at hl 1 rfl) ?_
      refine m_get (pc := 56) (v := .ref (ad 6)) S M G 6 (by decide) q1329 rfl rfl dX3_pay_56 ?_
      refine lv_iload_n (pc := 59) hx hb dX3_pay_59 rfl (lv_at hl 2 rfl) ?_
      refine m_ald (pc := 60) (v := (A 6 p0.toNatClampNeg)) S M G 6 rfl (mLot_in hC c1) rfl dX3_pay_60 ?_
      refine lv_iload_n (pc := 61) hx hb dX3_pay_61 rfl (lv_at hl 0 rfl) ?_
      refine lv_iadd (pc := 62) hx hb dX3_pay_62 ?_
      refine lv_i2l (pc := 63) hx hb dX3_pay_63 rfl ?_
      refine lv_ladd (pc := 64) hx hb dX3_pay_64 ?_
      refine m_putC (pc := 65) S M G 20 (by decide) q1343 rfl rfl rfl rfl (C' := (upd C 23 0)) (B' := (vp_updL B 20 ((B 20) + (((A 6 p0.toNatClampNeg) + (mFee (A 6 p0.toNatClampNeg))) : Int32).toInt64))) (mfs_B20 _ _ _ _) dX3_pay_65 (fun H locs G => ?_)
      refine lv_aload_n (pc := 68) hx hb dX3_pay_68 rfl (lv_at hl 1 rfl) ?_
      refine lv_dup (pc := 69) hx hb dX3_pay_69 rfl ?_
      refine m_get (pc := 70) (v := .long (B 22)) S M G 22 (by decide) q1345 rfl rfl dX3_pay_70 ?_
      refine lv_iload_n (pc := 73) hx hb dX3_pay_73 rfl (lv_at hl 0 rfl) ?_
      refine lv_i2l (pc := 74) hx hb dX3_pay_74 rfl ?_
      refine lv_ladd (pc := 75) hx hb dX3_pay_75 ?_
      refine m_putC (pc := 76) S M G 22 (by decide) q1345 rfl rfl rfl rfl (C' := (upd C 23 0)) (B' := (vp_updL (vp_updL B 20 ((B 20) + (((A 6 p0.toNatClampNeg) + (mFee (A 6 p0.toNatClampNeg))) : Int32).toInt64)) 22 ((B 22) + ((mFee (A 6 p0.toNatClampNeg)) : Int32).toInt64))) (mfs_B22 _ _ _ _) dX3_pay_76 (fun H locs G => ?_)
      refine lv_aload_n (pc := 79) hx hb dX3_pay_79 rfl (lv_at hl 1 rfl) ?_
      refine m_get (pc := 80) (v := .ref (ad 4)) S M G 4 (by decide) q1327 rfl rfl dX3_pay_80 ?_
      refine lv_iload_n (pc := 83) hx hb dX3_pay_83 rfl (lv_at hl 2 rfl) ?_
      refine lv_iconst (pc := 84) (v := 3) hx hb dX3_pay_84 (by decide) ?_
      refine m_ast (pc := 85) S M G 4 rfl (mLot_in hC c1) dX3_pay_85 (fun H locs G => ?_)
      refine lv_aload_n (pc := 86) hx hb dX3_pay_86 rfl (lv_at hl 1 rfl) ?_
      refine m_get (pc := 87) (v := .ref (ad 11)) S M G 11 (by decide) q1334 rfl rfl dX3_pay_87 ?_
      refine lv_iload_n (pc := 90) hx hb dX3_pay_90 rfl (lv_at hl 2 rfl) ?_
      refine m_ald (pc := 91) (v := (A 11 p0.toNatClampNeg)) S M G 11 rfl (mLot_in hC c1) ((updA_n (by decide) _).trans rfl) dX3_pay_91 ?_
      refine lv_iconst (pc := 92) (v := (-1)) hx hb dX3_pay_92 (by decide) ?_
      refine lv_icmp_eq (pc := 93) (tgt := 149) hx hb dX3_pay_93 (by decide) (fun c3 => ?_) (fun c3 => ?_)
      · refine lv_aload_n (pc := 149) hx hb dX3_pay_149 rfl (lv_at hl 1 rfl) ?_
        refine m_get (pc := 150) (v := .ref (ad 6)) S M G 6 (by decide) q1329 rfl rfl dX3_pay_150 ?_
        refine lv_iload_n (pc := 153) hx hb dX3_pay_153 rfl (lv_at hl 2 rfl) ?_
        refine m_ald (pc := 154) (v := (A 6 p0.toNatClampNeg)) S M G 6 rfl (mLot_in hC c1) ((updA_n (by decide) _).trans rfl) dX3_pay_154 ?_
        refine lv_iload_n (pc := 155) hx hb dX3_pay_155 rfl (lv_at hl 0 rfl) ?_
        refine lv_iadd (pc := 156) hx hb dX3_pay_156 ?_
        rw [hQ]
        refine m_iret (sp := (mS_pay C A B p0)) S G hr hlocks (hdg := dX3_pay_157) ?_ ?_ ?_
        · exact Nat.le_of_ble_eq_true rfl
        · exact Nat.le_of_ble_eq_true rfl
        · unfold mS_pay; rw [if_neg c1, if_pos c2, if_pos c3]
      · refine lv_aload_n (pc := 96) hx hb dX3_pay_96 rfl (lv_at hl 1 rfl) ?_
        refine m_get (pc := 97) (v := .ref (ad 16)) S M G 16 (by decide) q1339 rfl rfl dX3_pay_97 ?_
        refine lv_aload_n (pc := 100) hx hb dX3_pay_100 rfl (lv_at hl 1 rfl) ?_
        refine m_get (pc := 101) (v := .ref (ad 11)) S M G 11 (by decide) q1334 rfl rfl dX3_pay_101 ?_
        refine lv_iload_n (pc := 104) hx hb dX3_pay_104 rfl (lv_at hl 2 rfl) ?_
        refine m_ald (pc := 105) (v := (A 11 p0.toNatClampNeg)) S M G 11 rfl (mLot_in hC c1) ((updA_n (by decide) _).trans rfl) dX3_pay_105 ?_
        refine lv_dup2_11 (pc := 106) hx hb dX3_pay_106 rfl rfl ?_
        refine m_ald (pc := 107) (v := (A 16 (A 11 p0.toNatClampNeg).toNatClampNeg)) S M G 16 rfl ((hg _ (vp_lt (mLot_in hC c1))).resolve_left c3) ((updA_n (by decide) _).trans rfl) dX3_pay_107 ?_
        refine lv_aload_n (pc := 108) hx hb dX3_pay_108 rfl (lv_at hl 1 rfl) ?_
        refine m_get (pc := 109) (v := .ref (ad 12)) S M G 12 (by decide) q1335 rfl rfl dX3_pay_109 ?_
        refine lv_iload_n (pc := 112) hx hb dX3_pay_112 rfl (lv_at hl 2 rfl) ?_
        refine m_ald (pc := 113) (v := (A 12 p0.toNatClampNeg)) S M G 12 rfl (mLot_in hC c1) ((updA_n (by decide) _).trans rfl) dX3_pay_113 ?_
        refine lv_aload_n (pc := 114) hx hb dX3_pay_114 rfl (lv_at hl 1 rfl) ?_
        refine m_get (pc := 115) (v := .ref (ad 6)) S M G 6 (by decide) q1329 rfl rfl dX3_pay_115 ?_
        refine lv_iload_n (pc := 118) hx hb dX3_pay_118 rfl (lv_at hl 2 rfl) ?_
        refine m_ald (pc := 119) (v := (A 6 p0.toNatClampNeg)) S M G 6 rfl (mLot_in hC c1) ((updA_n (by decide) _).trans rfl) dX3_pay_119 ?_
        refine lv_icmp_le (pc := 120) (tgt := 139) hx hb dX3_pay_120 (by decide) (fun c4 => ?_) (fun c4 => ?_)
        · refine lv_iconst (pc := 139) (v := 0) hx hb dX3_pay_139 (by decide) ?_
          refine lv_iadd (pc := 140) hx hb dX3_pay_140 ?_
          refine m_ast (pc := 141) S M G 16 rfl ((hg _ (vp_lt (mLot_in hC c1))).resolve_left c3) dX3_pay_141 (fun H locs G => ?_)
          refine lv_aload_n (pc := 142) hx hb dX3_pay_142 rfl (lv_at hl 1 rfl) ?_
          refine m_get (pc := 143) (v := .ref (ad 11)) S M G 11 (by decide) q1334 rfl rfl dX3_pay_143 ?_
          refine lv_iload_n (pc := 146) hx hb dX3_pay_146 rfl (lv_at hl 2 rfl) ?_
          refine lv_iconst (pc := 147) (v := (-1)) hx hb dX3_pay_147 (by decide) ?_
          refine m_ast (pc := 148) S M G 11 rfl (mLot_in hC c1) dX3_pay_148 (fun H locs G => ?_)
          refine lv_aload_n (pc := 149) hx hb dX3_pay_149 rfl (lv_at hl 1 rfl) ?_
          refine m_get (pc := 150) (v := .ref (ad 6)) S M G 6 (by decide) q1329 rfl rfl dX3_pay_150 ?_
          refine lv_iload_n (pc := 153) hx hb dX3_pay_153 rfl (lv_at hl 2 rfl) ?_
          refine m_ald (pc := 154) (v := (A 6 p0.toNatClampNeg)) S M G 6 rfl (mLot_in hC c1) ((updA_n (by decide) _).trans ((updA_n (by decide) _).trans ((updA_n (by decide) _).trans rfl))) dX3_pay_154 ?_
          refine lv_iload_n (pc := 155) hx hb dX3_pay_155 rfl (lv_at hl 0 rfl) ?_
          refine lv_iadd (pc := 156) hx hb dX3_pay_156 ?_
          rw [hQ]
          refine m_iret (sp := (mS_pay C A B p0)) S G hr hlocks (hdg := dX3_pay_157) ?_ ?_ ?_
          · exact Nat.le_of_ble_eq_true rfl
          · exact Nat.le_of_ble_eq_true rfl
          · unfold mS_pay; rw [if_neg c1, if_pos c2, if_neg c3, if_pos c4]
        · refine lv_aload_n (pc := 123) hx hb dX3_pay_123 rfl (lv_at hl 1 rfl) ?_
          refine m_get (pc := 124) (v := .ref (ad 12)) S M G 12 (by decide) q1335 rfl rfl dX3_pay_124 ?_
          refine lv_iload_n (pc := 127) hx hb dX3_pay_127 rfl (lv_at hl 2 rfl) ?_
          refine m_ald (pc := 128) (v := (A 12 p0.toNatClampNeg)) S M G 12 rfl (mLot_in hC c1) ((updA_n (by decide) _).trans rfl) dX3_pay_128 ?_
          refine lv_aload_n (pc := 129) hx hb dX3_pay_129 rfl (lv_at hl 1 rfl) ?_
          refine m_get (pc := 130) (v := .ref (ad 6)) S M G 6 (by decide) q1329 rfl rfl dX3_pay_130 ?_
          refine lv_iload_n (pc := 133) hx hb dX3_pay_133 rfl (lv_at hl 2 rfl) ?_
          refine m_ald (pc := 134) (v := (A 6 p0.toNatClampNeg)) S M G 6 rfl (mLot_in hC c1) ((updA_n (by decide) _).trans rfl) dX3_pay_134 ?_
          refine lv_isub (pc := 135) hx hb dX3_pay_135 ?_
          refine lv_goto (pc := 136) (tgt := 140) hx hb dX3_pay_136 (by decide) ?_
          refine lv_iadd (pc := 140) hx hb dX3_pay_140 ?_
          refine m_ast (pc := 141) S M G 16 rfl ((hg _ (vp_lt (mLot_in hC c1))).resolve_left c3) dX3_pay_141 (fun H locs G => ?_)
          refine lv_aload_n (pc := 142) hx hb dX3_pay_142 rfl (lv_at hl 1 rfl) ?_
          refine m_get (pc := 143) (v := .ref (ad 11)) S M G 11 (by decide) q1334 rfl rfl dX3_pay_143 ?_
          refine lv_iload_n (pc := 146) hx hb dX3_pay_146 rfl (lv_at hl 2 rfl) ?_
          refine lv_iconst (pc := 147) (v := (-1)) hx hb dX3_pay_147 (by decide) ?_
          refine m_ast (pc := 148) S M G 11 rfl (mLot_in hC c1) dX3_pay_148 (fun H locs G => ?_)
          refine lv_aload_n (pc := 149) hx hb dX3_pay_149 rfl (lv_at hl 1 rfl) ?_
          refine m_get (pc := 150) (v := .ref (ad 6)) S M G 6 (by decide) q1329 rfl rfl dX3_pay_150 ?_
          refine lv_iload_n (pc := 153) hx hb dX3_pay_153 rfl (lv_at hl 2 rfl) ?_
          refine m_ald (pc := 154) (v := (A 6 p0.toNatClampNeg)) S M G 6 rfl (mLot_in hC c1) ((updA_n (by decide) _).trans ((updA_n (by decide) _).trans ((updA_n (by decide) _).trans rfl))) dX3_pay_154 ?_
          refine lv_iload_n (pc := 155) hx hb dX3_pay_155 rfl (lv_at hl 0 rfl) ?_
          refine lv_iadd (pc := 156) hx hb dX3_pay_156 ?_
          rw [hQ]
          refine m_iret (sp := (mS_pay C A B p0)) S G hr hlocks (hdg := dX3_pay_157) ?_ ?_ ?_
          · exact Nat.le_of_ble_eq_true rfl
          · exact Nat.le_of_ble_eq_true rfl
          · unfold mS_pay; rw [if_neg c1, if_pos c2, if_neg c3, if_neg c4]
    · refine lv_iconst (pc := 23) (v := 2) hx hb dX3_pay_23 (by decide) ?_
      refine lv_goto (pc := 24) (tgt := 28) hx hb dX3_pay_24 (by decide) ?_
      refine m_putC (pc := 28) S M G 23 (by decide) q1346 rfl rfl rfl rfl (C' := (upd C 23 2)) (B' := B) (mfs_C23 _ _ _ _) dX3_pay_28 (fun H locs G => ?_)
      refine lv_aload_n (pc := 31) hx hb dX3_pay_31 rfl (lv_at hl 0 rfl) ?_
      refine m_get (pc := 32) (v := .int 2) S M G 23 (by decide) q1346 rfl rfl dX3_pay_32 ?_
      refine lv_if_le (pc := 35) (tgt := 40) hx hb dX3_pay_35 (by decide) (fun c => absurd c (by decide)) (fun _ => ?_)
      refine lv_iconst (pc := 38) (v := 0) hx hb dX3_pay_38 (by decide) ?_
      rw [hQ]
      refine m_iret (sp := (mS_pay C A B p0)) S G hr hlocks (hdg := dX3_pay_39) ?_ ?_ ?_
      · exact Nat.le_of_ble_eq_true rfl
      · exact Nat.le_of_ble_eq_true rfl
      · unfold mS_pay; rw [if_neg c1, if_neg c2]
  · refine lv_iconst (pc := 9) (v := 1) hx hb dX3_pay_9 (by decide) ?_
    refine lv_goto (pc := 10) (tgt := 28) hx hb dX3_pay_10 (by decide) ?_
    refine m_putC (pc := 28) S M G 23 (by decide) q1346 rfl rfl rfl rfl (C' := (upd C 23 1)) (B' := B) (mfs_C23 _ _ _ _) dX3_pay_28 (fun H locs G => ?_)
    refine lv_aload_n (pc := 31) hx hb dX3_pay_31 rfl (lv_at hl 0 rfl) ?_
    refine m_get (pc := 32) (v := .int 1) S M G 23 (by decide) q1346 rfl rfl dX3_pay_32 ?_
    refine lv_if_le (pc := 35) (tgt := 40) hx hb dX3_pay_35 (by decide) (fun c => absurd c (by decide)) (fun _ => ?_)
    refine lv_iconst (pc := 38) (v := 0) hx hb dX3_pay_38 (by decide) ?_
    rw [hQ]
    refine m_iret (sp := (mS_pay C A B p0)) S G hr hlocks (hdg := dX3_pay_39) ?_ ?_ ?_
    · exact Nat.le_of_ble_eq_true rfl
    · exact Nat.le_of_ble_eq_true rfl
    · unfold mS_pay; rw [if_pos c1]
def mS_defaults (C : Nat → Int32) (A : Nat → Nat → Int32) (B : Nat → Int64) (p0 : Int32) : mSp Int32 := if (mF_isLot C A B p0) = 0 then (0, (upd C 23 1), A, B) else (if (A 4 p0.toNatClampNeg) = 2 then (if (A 11 p0.toNatClampNeg) = (-1) then (((mClr (updA (updA A 11 p0.toNatClampNeg (A 5 p0.toNatClampNeg)) 12 p0.toNatClampNeg (A 6 p0.toNatClampNeg)) p0 10) 5 p0.toNatClampNeg), (upd C 23 0), (updA (mClr (updA (updA A 11 p0.toNatClampNeg (A 5 p0.toNatClampNeg)) 12 p0.toNatClampNeg (A 6 p0.toNatClampNeg)) p0 10) 4 p0.toNatClampNeg 0), B) else (((mClr A p0 10) 5 p0.toNatClampNeg), (upd C 23 0), (updA (mClr A p0 10) 4 p0.toNatClampNeg 0), B)) else (0, (upd C 23 2), A, B))
abbrev rmX3_defaults : Room := ({ frames := 2, cells := 0, slots := 0, locals := 43 } : Room)
set_option maxHeartbeats 4000000 in
theorem metX3_defaults (l : Launch) (D : va_G) (K ad : Nat → Nat) (C : Nat → Int32) (A : Nat → Nat → Int32) (B : Nat → Int64) (p0 : Int32) (hC : 0 ≤ (C 0).toInt ∧ (C 0).toInt ≤ 30) : MMet l yX3_defaults (ws_ yX3_defaults cX3_defaults 2 (some .int)) rmX3_defaults D K [.int p0] ad C A B (some (.int (mS_defaults C A B p0).1)) (mS_defaults C A B p0).2.1 (mS_defaults C A B p0).2.2.1 (mS_defaults C A B p0).2.2.2 := by
  intro w hP
  refine gMet.of (by decide) (Nat.le_of_ble_eq_true rfl) ?_
  intro p e s m args below meth c H locs ls S M hr hlocks hname G hl
  have hx := S.1
  have hb := S.2.1
  have hown := S.2.2.2.1
  have hts := S.2.2.2.2
  have hl : lv_has ls 2 [(0, .ref (ad 0)), (1, .int p0)] := hl
  obtain ⟨Q, hQ⟩ : ∃ Q, Q = gE below D K (mPost D K w ad (some (.int (mS_defaults C A B p0).1)) (mS_defaults C A B p0).2.1 (mS_defaults C A B p0).2.2.1 (mS_defaults C A B p0).2.2.2) args s rmX3_defaults.cells rmX3_defaults.slots := ⟨_, rfl⟩
  rw [← hQ]
  have G : MG D K s H locs w ad C A B := MG.of G hP
  refine lv_aload_n (pc := 0) hx hb dX3_defaults_0 rfl (lv_at hl 0 rfl) ?_
  refine lv_aload_n (pc := 1) hx hb dX3_defaults_1 rfl (lv_at hl 0 rfl) ?_
  refine lv_iload_n (pc := 2) hx hb dX3_defaults_2 rfl (lv_at hl 1 rfl) ?_
  refine m_callV (pc := 3) S M G hl.1 [.int p0] [.ref (ad 0)] (metX3_isLot l D K ad C A B p0 ) 1 q1425 q1422 q1424 qs10 q26 (by decide) rfl (⟨Nat.le_of_ble_eq_true rfl, Nat.le_of_ble_eq_true rfl⟩) rfl (Nat.le_of_ble_eq_true rfl) dX3_defaults_3 ⟨Nat.le_of_ble_eq_true rfl, Nat.le_of_ble_eq_true rfl⟩ (fun H locs G => ?_)
  have G : MG D K s H locs w ad C A B := G
  refine W.eq (g2 := F0 m 6 ls [.int (mF_isLot C A B p0), .ref (ad 0)]) rfl ?_
  refine lv_if_ne (pc := 6) (tgt := 13) hx hb dX3_defaults_6 (by decide) (fun c1 => ?_) (fun c1 => ?_)
  · refine lv_aload_n (pc := 13) hx hb dX3_defaults_13 rfl (lv_at hl 0 rfl) ?_
    refine m_get (pc := 14) (v := .ref (ad 4)) S M G 4 (by decide) q1327 rfl rfl dX3_defaults_14 ?_
    refine lv_iload_n (pc := 17) hx hb dX3_defaults_17 rfl (lv_at hl 1 rfl) ?_
    refine m_ald (pc := 18) (v := (A 4 p0.toNatClampNeg)) S M G 4 rfl (mLot_in hC c1) rfl dX3_defaults_18 ?_
    refine lv_iconst (pc := 19) (v := 2) hx hb dX3_defaults_19 (by decide) ?_
    refine lv_icmp_eq (pc := 20) (tgt := 27) hx hb dX3_defaults_20 (by decide) (fun c2 => ?_) (fun c2 => ?_)
    · refine lv_iconst (pc := 27) (v := 0) hx hb dX3_defaults_27 (by decide) ?_
      refine m_putC (pc := 28) S M G 23 (by decide) q1346 rfl rfl rfl rfl (C' := (upd C 23 0)) (B' := B) (mfs_C23 _ _ _ _) dX3_defaults_28 (fun H locs G => ?_)
      refine lv_aload_n (pc := 31) hx hb dX3_defaults_31 rfl (lv_at hl 0 rfl) ?_
      refine m_get (pc := 32) (v := .int 0) S M G 23 (by decide) q1346 rfl rfl dX3_defaults_32 ?_
      refine lv_if_le (pc := 35) (tgt := 40) hx hb dX3_defaults_35 (by decide) (fun _ => ?_) (fun c => absurd c (by decide))
      refine lv_aload_n (pc := 40) hx hb dX3_defaults_40 rfl (lv_at hl 0 rfl) ?_
      refine m_get (pc := 41) (v := .ref (ad 11)) S M G 11 (by decide) q1334 rfl rfl dX3_defaults_41 ?_
      refine lv_iload_n (pc := 44) hx hb dX3_defaults_44 rfl (lv_at hl 1 rfl) ?_
      refine m_ald (pc := 45) (v := (A 11 p0.toNatClampNeg)) S M G 11 rfl (mLot_in hC c1) rfl dX3_defaults_45 ?_
      refine lv_iconst (pc := 46) (v := (-1)) hx hb dX3_defaults_46 (by decide) ?_
      refine lv_icmp_ne (pc := 47) (tgt := 74) hx hb dX3_defaults_47 (by decide) (fun c3 => ?_) (fun c3 => ?_)
      · refine lv_aload_n (pc := 74) hx hb dX3_defaults_74 rfl (lv_at hl 0 rfl) ?_
        refine lv_iload_n (pc := 75) hx hb dX3_defaults_75 rfl (lv_at hl 1 rfl) ?_
        refine m_callV (pc := 76) S M G hl.1 [.int p0] [] (metX3_clearBids l D K ad (upd C 23 0) A B p0 (mLot_in hC c1)) 1 q1417 q1414 q1416 qs9 q26 (by decide) rfl (⟨Nat.le_of_ble_eq_true rfl, Nat.le_of_ble_eq_true rfl⟩) rfl (Nat.le_of_ble_eq_true rfl) dX3_defaults_76 ⟨Nat.le_of_ble_eq_true rfl, Nat.le_of_ble_eq_true rfl⟩ (fun H locs G => ?_)
        have G : MG D K s H locs w ad (upd C 23 0) (mClr A p0 10) B := G
        refine W.eq (g2 := F0 m 79 ls []) rfl ?_
        refine lv_aload_n (pc := 79) hx hb dX3_defaults_79 rfl (lv_at hl 0 rfl) ?_
        refine m_get (pc := 80) (v := .ref (ad 4)) S M G 4 (by decide) q1327 rfl rfl dX3_defaults_80 ?_
        refine lv_iload_n (pc := 83) hx hb dX3_defaults_83 rfl (lv_at hl 1 rfl) ?_
        refine lv_iconst (pc := 84) (v := 0) hx hb dX3_defaults_84 (by decide) ?_
        refine m_ast (pc := 85) S M G 4 rfl (mLot_in hC c1) dX3_defaults_85 (fun H locs G => ?_)
        refine lv_aload_n (pc := 86) hx hb dX3_defaults_86 rfl (lv_at hl 0 rfl) ?_
        refine m_get (pc := 87) (v := .ref (ad 5)) S M G 5 (by decide) q1328 rfl rfl dX3_defaults_87 ?_
        refine lv_iload_n (pc := 90) hx hb dX3_defaults_90 rfl (lv_at hl 1 rfl) ?_
        refine m_ald (pc := 91) (v := ((mClr A p0 10) 5 p0.toNatClampNeg)) S M G 5 rfl (mLot_in hC c1) ((updA_n (by decide) _).trans rfl) dX3_defaults_91 ?_
        rw [hQ]
        refine m_iret (sp := (mS_defaults C A B p0)) S G hr hlocks (hdg := dX3_defaults_92) ?_ ?_ ?_
        · exact Nat.le_of_ble_eq_true rfl
        · exact Nat.le_of_ble_eq_true rfl
        · unfold mS_defaults; rw [if_neg c1, if_pos c2, if_neg c3]
      · refine lv_aload_n (pc := 50) hx hb dX3_defaults_50 rfl (lv_at hl 0 rfl) ?_
        refine m_get (pc := 51) (v := .ref (ad 11)) S M G 11 (by decide) q1334 rfl rfl dX3_defaults_51 ?_
        refine lv_iload_n (pc := 54) hx hb dX3_defaults_54 rfl (lv_at hl 1 rfl) ?_
        refine lv_aload_n (pc := 55) hx hb dX3_defaults_55 rfl (lv_at hl 0 rfl) ?_
        refine m_get (pc := 56) (v := .ref (ad 5)) S M G 5 (by decide) q1328 rfl rfl dX3_defaults_56 ?_
        refine lv_iload_n (pc := 59) hx hb dX3_defaults_59 rfl (lv_at hl 1 rfl) ?_
        refine m_ald (pc := 60) (v := (A 5 p0.toNatClampNeg)) S M G 5 rfl (mLot_in hC c1) rfl dX3_defaults_60 ?_
        refine m_ast (pc := 61) S M G 11 rfl (mLot_in hC c1) dX3_defaults_61 (fun H locs G => ?_)
        refine lv_aload_n (pc := 62) hx hb dX3_defaults_62 rfl (lv_at hl 0 rfl) ?_
        refine m_get (pc := 63) (v := .ref (ad 12)) S M G 12 (by decide) q1335 rfl rfl dX3_defaults_63 ?_
        refine lv_iload_n (pc := 66) hx hb dX3_defaults_66 rfl (lv_at hl 1 rfl) ?_
        refine lv_aload_n (pc := 67) hx hb dX3_defaults_67 rfl (lv_at hl 0 rfl) ?_
        refine m_get (pc := 68) (v := .ref (ad 6)) S M G 6 (by decide) q1329 rfl rfl dX3_defaults_68 ?_
        refine lv_iload_n (pc := 71) hx hb dX3_defaults_71 rfl (lv_at hl 1 rfl) ?_
        refine m_ald (pc := 72) (v := (A 6 p0.toNatClampNeg)) S M G 6 rfl (mLot_in hC c1) ((updA_n (by decide) _).trans rfl) dX3_defaults_72 ?_
        refine m_ast (pc := 73) S M G 12 rfl (mLot_in hC c1) dX3_defaults_73 (fun H locs G => ?_)
        refine lv_aload_n (pc := 74) hx hb dX3_defaults_74 rfl (lv_at hl 0 rfl) ?_
        refine lv_iload_n (pc := 75) hx hb dX3_defaults_75 rfl (lv_at hl 1 rfl) ?_
        refine m_callV (pc := 76) S M G hl.1 [.int p0] [] (metX3_clearBids l D K ad (upd C 23 0) (updA (updA A 11 p0.toNatClampNeg (A 5 p0.toNatClampNeg)) 12 p0.toNatClampNeg (A 6 p0.toNatClampNeg)) B p0 (mLot_in hC c1)) 1 q1417 q1414 q1416 qs9 q26 (by decide) rfl (⟨Nat.le_of_ble_eq_true rfl, Nat.le_of_ble_eq_true rfl⟩) rfl (Nat.le_of_ble_eq_true rfl) dX3_defaults_76 ⟨Nat.le_of_ble_eq_true rfl, Nat.le_of_ble_eq_true rfl⟩ (fun H locs G => ?_)
        have G : MG D K s H locs w ad (upd C 23 0) (mClr (updA (updA A 11 p0.toNatClampNeg (A 5 p0.toNatClampNeg)) 12 p0.toNatClampNeg (A 6 p0.toNatClampNeg)) p0 10) B := G
        refine W.eq (g2 := F0 m 79 ls []) rfl ?_
        refine lv_aload_n (pc := 79) hx hb dX3_defaults_79 rfl (lv_at hl 0 rfl) ?_
        refine m_get (pc := 80) (v := .ref (ad 4)) S M G 4 (by decide) q1327 rfl rfl dX3_defaults_80 ?_
        refine lv_iload_n (pc := 83) hx hb dX3_defaults_83 rfl (lv_at hl 1 rfl) ?_
        refine lv_iconst (pc := 84) (v := 0) hx hb dX3_defaults_84 (by decide) ?_
        refine m_ast (pc := 85) S M G 4 rfl (mLot_in hC c1) dX3_defaults_85 (fun H locs G => ?_)
        refine lv_aload_n (pc := 86) hx hb dX3_defaults_86 rfl (lv_at hl 0 rfl) ?_
        refine m_get (pc := 87) (v := .ref (ad 5)) S M G 5 (by decide) q1328 rfl rfl dX3_defaults_87 ?_
        refine lv_iload_n (pc := 90) hx hb dX3_defaults_90 rfl (lv_at hl 1 rfl) ?_
        refine m_ald (pc := 91) (v := ((mClr (updA (updA A 11 p0.toNatClampNeg (A 5 p0.toNatClampNeg)) 12 p0.toNatClampNeg (A 6 p0.toNatClampNeg)) p0 10) 5 p0.toNatClampNeg)) S M G 5 rfl (mLot_in hC c1) ((updA_n (by decide) _).trans rfl) dX3_defaults_91 ?_
        rw [hQ]
        refine m_iret (sp := (mS_defaults C A B p0)) S G hr hlocks (hdg := dX3_defaults_92) ?_ ?_ ?_
        · exact Nat.le_of_ble_eq_true rfl
        · exact Nat.le_of_ble_eq_true rfl
        · unfold mS_defaults; rw [if_neg c1, if_pos c2, if_pos c3]
    · refine lv_iconst (pc := 23) (v := 2) hx hb dX3_defaults_23 (by decide) ?_
      refine lv_goto (pc := 24) (tgt := 28) hx hb dX3_defaults_24 (by decide) ?_
      refine m_putC (pc := 28) S M G 23 (by decide) q1346 rfl rfl rfl rfl (C' := (upd C 23 2)) (B' := B) (mfs_C23 _ _ _ _) dX3_defaults_28 (fun H locs G => ?_)
      refine lv_aload_n (pc := 31) hx hb dX3_defaults_31 rfl (lv_at hl 0 rfl) ?_
      refine m_get (pc := 32) (v := .int 2) S M G 23 (by decide) q1346 rfl rfl dX3_defaults_32 ?_
      refine lv_if_le (pc := 35) (tgt := 40) hx hb dX3_defaults_35 (by decide) (fun c => absurd c (by decide)) (fun _ => ?_)
      refine lv_iconst (pc := 38) (v := 0) hx hb dX3_defaults_38 (by decide) ?_
      rw [hQ]
      refine m_iret (sp := (mS_defaults C A B p0)) S G hr hlocks (hdg := dX3_defaults_39) ?_ ?_ ?_
      · exact Nat.le_of_ble_eq_true rfl
      · exact Nat.le_of_ble_eq_true rfl
      · unfold mS_defaults; rw [if_neg c1, if_neg c2]
  · refine lv_iconst (pc := 9) (v := 1) hx hb dX3_defaults_9 (by decide) ?_
    refine lv_goto (pc := 10) (tgt := 28) hx hb dX3_defaults_10 (by decide) ?_
    refine m_putC (pc := 28) S M G 23 (by decide) q1346 rfl rfl rfl rfl (C' := (upd C 23 1)) (B' := B) (mfs_C23 _ _ _ _) dX3_defaults_28 (fun H locs G => ?_)
    refine lv_aload_n (pc := 31) hx hb dX3_defaults_31 rfl (lv_at hl 0 rfl) ?_
    refine m_get (pc := 32) (v := .int 1) S M G 23 (by decide) q1346 rfl rfl dX3_defaults_32 ?_
    refine lv_if_le (pc := 35) (tgt := 40) hx hb dX3_defaults_35 (by decide) (fun c => absurd c (by decide)) (fun _ => ?_)
    refine lv_iconst (pc := 38) (v := 0) hx hb dX3_defaults_38 (by decide) ?_
    rw [hQ]
    refine m_iret (sp := (mS_defaults C A B p0)) S G hr hlocks (hdg := dX3_defaults_39) ?_ ?_ ?_
    · exact Nat.le_of_ble_eq_true rfl
    · exact Nat.le_of_ble_eq_true rfl
    · unfold mS_defaults; rw [if_pos c1]
def mS_payGaps (C : Nat → Int32) (A : Nat → Nat → Int32) (B : Nat → Int64) (p0 : Int32) : mSp Int32 := if (mBuyer p0) = 0 then (0, (upd C 23 1), A, B) else (if (A 16 p0.toNatClampNeg) = 0 then (0, (upd C 23 2), A, B) else ((A 16 p0.toNatClampNeg), (upd C 23 0), (updA A 16 p0.toNatClampNeg 0), (vp_updL (vp_updL B 20 ((B 20) + ((A 16 p0.toNatClampNeg) : Int32).toInt64)) 22 ((B 22) + ((A 16 p0.toNatClampNeg) : Int32).toInt64))))
abbrev rmX3_payGaps : Room := ({ frames := 2, cells := 0, slots := 0, locals := 42 } : Room)
set_option maxHeartbeats 4000000 in
theorem metX3_payGaps (l : Launch) (D : va_G) (K ad : Nat → Nat) (C : Nat → Int32) (A : Nat → Nat → Int32) (B : Nat → Int64) (p0 : Int32) : MMet l yX3_payGaps (ws_ yX3_payGaps cX3_payGaps 3 (some .int)) rmX3_payGaps D K [.int p0] ad C A B (some (.int (mS_payGaps C A B p0).1)) (mS_payGaps C A B p0).2.1 (mS_payGaps C A B p0).2.2.1 (mS_payGaps C A B p0).2.2.2 := by
  intro w hP
  refine gMet.of (by decide) (Nat.le_of_ble_eq_true rfl) ?_
  intro p e s m args below meth c H locs ls S M hr hlocks hname G hl
  have hx := S.1
  have hb := S.2.1
  have hown := S.2.2.2.1
  have hts := S.2.2.2.2
  have hl : lv_has ls 3 [(0, .ref (ad 0)), (1, .int p0)] := hl
  obtain ⟨Q, hQ⟩ : ∃ Q, Q = gE below D K (mPost D K w ad (some (.int (mS_payGaps C A B p0).1)) (mS_payGaps C A B p0).2.1 (mS_payGaps C A B p0).2.2.1 (mS_payGaps C A B p0).2.2.2) args s rmX3_payGaps.cells rmX3_payGaps.slots := ⟨_, rfl⟩
  rw [← hQ]
  have G : MG D K s H locs w ad C A B := MG.of G hP
  refine lv_aload_n (pc := 0) hx hb dX3_payGaps_0 rfl (lv_at hl 0 rfl) ?_
  refine lv_iload_n (pc := 1) hx hb dX3_payGaps_1 rfl (lv_at hl 1 rfl) ?_
  refine m_callS (pc := 2) (v := .int (mBuyer p0)) S M G hl.1 [.int p0] [.ref (ad 0)] (fun w => metX3_isBuyer l D K w p0) 1 q1428 q1426 q1427 q26 (by decide) rfl (⟨Nat.le_of_ble_eq_true rfl, Nat.le_of_ble_eq_true rfl⟩) rfl (Nat.le_of_ble_eq_true rfl) dX3_payGaps_2 ⟨Nat.le_of_ble_eq_true rfl, Nat.le_of_ble_eq_true rfl⟩ (fun H locs G => ?_)
  refine W.eq (g2 := F0 m 5 ls [.int (mBuyer p0), .ref (ad 0)]) rfl ?_
  refine lv_if_ne (pc := 5) (tgt := 12) hx hb dX3_payGaps_5 (by decide) (fun c1 => ?_) (fun c1 => ?_)
  · refine lv_aload_n (pc := 12) hx hb dX3_payGaps_12 rfl (lv_at hl 0 rfl) ?_
    refine m_get (pc := 13) (v := .ref (ad 16)) S M G 16 (by decide) q1339 rfl rfl dX3_payGaps_13 ?_
    refine lv_iload_n (pc := 16) hx hb dX3_payGaps_16 rfl (lv_at hl 1 rfl) ?_
    refine m_ald (pc := 17) (v := (A 16 p0.toNatClampNeg)) S M G 16 rfl (mBuy_in c1) rfl dX3_payGaps_17 ?_
    refine lv_if_ne (pc := 18) (tgt := 25) hx hb dX3_payGaps_18 (by decide) (fun c2 => ?_) (fun c2 => ?_)
    · refine lv_iconst (pc := 25) (v := 0) hx hb dX3_payGaps_25 (by decide) ?_
      refine m_putC (pc := 26) S M G 23 (by decide) q1346 rfl rfl rfl rfl (C' := (upd C 23 0)) (B' := B) (mfs_C23 _ _ _ _) dX3_payGaps_26 (fun H locs G => ?_)
      refine lv_aload_n (pc := 29) hx hb dX3_payGaps_29 rfl (lv_at hl 0 rfl) ?_
      refine m_get (pc := 30) (v := .int 0) S M G 23 (by decide) q1346 rfl rfl dX3_payGaps_30 ?_
      refine lv_if_le (pc := 33) (tgt := 38) hx hb dX3_payGaps_33 (by decide) (fun _ => ?_) (fun c => absurd c (by decide))
      refine lv_aload_n (pc := 38) hx hb dX3_payGaps_38 rfl (lv_at hl 0 rfl) ?_
      refine m_get (pc := 39) (v := .ref (ad 16)) S M G 16 (by decide) q1339 rfl rfl dX3_payGaps_39 ?_
      refine lv_iload_n (pc := 42) hx hb dX3_payGaps_42 rfl (lv_at hl 1 rfl) ?_
      refine m_ald (pc := 43) (v := (A 16 p0.toNatClampNeg)) S M G 16 rfl (mBuy_in c1) rfl dX3_payGaps_43 ?_
      refine lv_istore_n (pc := 44) (lv' := [(2, .int (A 16 p0.toNatClampNeg)), (0, .ref (ad 0)), (1, .int p0)]) hx hb dX3_payGaps_44 rfl hl (by decide) rfl (fun ls hl => ?_)
      refine lv_aload_n (pc := 45) hx hb dX3_payGaps_45 rfl (lv_at hl 1 rfl) ?_
      refine m_get (pc := 46) (v := .ref (ad 16)) S M G 16 (by decide) q1339 rfl rfl dX3_payGaps_46 ?_
      refine lv_iload_n (pc := 49) hx hb dX3_payGaps_49 rfl (lv_at hl 2 rfl) ?_
      refine lv_iconst (pc := 50) (v := 0) hx hb dX3_payGaps_50 (by decide) ?_
      refine m_ast (pc := 51) S M G 16 rfl (mBuy_in c1) dX3_payGaps_51 (fun H locs G => ?_)
      refine lv_aload_n (pc := 52) hx hb dX3_payGaps_52 rfl (lv_at hl 1 rfl) ?_
      refine lv_dup (pc := 53) hx hb dX3_payGaps_53 rfl ?_
      refine m_get (pc := 54) (v := .long (B 20)) S M G 20 (by decide) q1343 rfl rfl dX3_payGaps_54 ?_
      refine lv_iload_n (pc := 57) hx hb dX3_payGaps_57 rfl (lv_at hl 0 rfl) ?_
      refine lv_i2l (pc := 58) hx hb dX3_payGaps_58 rfl ?_
      refine lv_ladd (pc := 59) hx hb dX3_payGaps_59 ?_
      refine m_putC (pc := 60) S M G 20 (by decide) q1343 rfl rfl rfl rfl (C' := (upd C 23 0)) (B' := (vp_updL B 20 ((B 20) + ((A 16 p0.toNatClampNeg) : Int32).toInt64))) (mfs_B20 _ _ _ _) dX3_payGaps_60 (fun H locs G => ?_)
      refine lv_aload_n (pc := 63) hx hb dX3_payGaps_63 rfl (lv_at hl 1 rfl) ?_
      refine lv_dup (pc := 64) hx hb dX3_payGaps_64 rfl ?_
      refine m_get (pc := 65) (v := .long (B 22)) S M G 22 (by decide) q1345 rfl rfl dX3_payGaps_65 ?_
      refine lv_iload_n (pc := 68) hx hb dX3_payGaps_68 rfl (lv_at hl 0 rfl) ?_
      refine lv_i2l (pc := 69) hx hb dX3_payGaps_69 rfl ?_
      refine lv_ladd (pc := 70) hx hb dX3_payGaps_70 ?_
      refine m_putC (pc := 71) S M G 22 (by decide) q1345 rfl rfl rfl rfl (C' := (upd C 23 0)) (B' := (vp_updL (vp_updL B 20 ((B 20) + ((A 16 p0.toNatClampNeg) : Int32).toInt64)) 22 ((B 22) + ((A 16 p0.toNatClampNeg) : Int32).toInt64))) (mfs_B22 _ _ _ _) dX3_payGaps_71 (fun H locs G => ?_)
      refine lv_iload_n (pc := 74) hx hb dX3_payGaps_74 rfl (lv_at hl 0 rfl) ?_
      rw [hQ]
      refine m_iret (sp := (mS_payGaps C A B p0)) S G hr hlocks (hdg := dX3_payGaps_75) ?_ ?_ ?_
      · exact Nat.le_of_ble_eq_true rfl
      · exact Nat.le_of_ble_eq_true rfl
      · unfold mS_payGaps; rw [if_neg c1, if_neg c2]
    · refine lv_iconst (pc := 21) (v := 2) hx hb dX3_payGaps_21 (by decide) ?_
      refine lv_goto (pc := 22) (tgt := 26) hx hb dX3_payGaps_22 (by decide) ?_
      refine m_putC (pc := 26) S M G 23 (by decide) q1346 rfl rfl rfl rfl (C' := (upd C 23 2)) (B' := B) (mfs_C23 _ _ _ _) dX3_payGaps_26 (fun H locs G => ?_)
      refine lv_aload_n (pc := 29) hx hb dX3_payGaps_29 rfl (lv_at hl 0 rfl) ?_
      refine m_get (pc := 30) (v := .int 2) S M G 23 (by decide) q1346 rfl rfl dX3_payGaps_30 ?_
      refine lv_if_le (pc := 33) (tgt := 38) hx hb dX3_payGaps_33 (by decide) (fun c => absurd c (by decide)) (fun _ => ?_)
      refine lv_iconst (pc := 36) (v := 0) hx hb dX3_payGaps_36 (by decide) ?_
      rw [hQ]
      refine m_iret (sp := (mS_payGaps C A B p0)) S G hr hlocks (hdg := dX3_payGaps_37) ?_ ?_ ?_
      · exact Nat.le_of_ble_eq_true rfl
      · exact Nat.le_of_ble_eq_true rfl
      · unfold mS_payGaps; rw [if_neg c1, if_pos c2]
  · refine lv_iconst (pc := 8) (v := 1) hx hb dX3_payGaps_8 (by decide) ?_
    refine lv_goto (pc := 9) (tgt := 26) hx hb dX3_payGaps_9 (by decide) ?_
    refine m_putC (pc := 26) S M G 23 (by decide) q1346 rfl rfl rfl rfl (C' := (upd C 23 1)) (B' := B) (mfs_C23 _ _ _ _) dX3_payGaps_26 (fun H locs G => ?_)
    refine lv_aload_n (pc := 29) hx hb dX3_payGaps_29 rfl (lv_at hl 0 rfl) ?_
    refine m_get (pc := 30) (v := .int 1) S M G 23 (by decide) q1346 rfl rfl dX3_payGaps_30 ?_
    refine lv_if_le (pc := 33) (tgt := 38) hx hb dX3_payGaps_33 (by decide) (fun c => absurd c (by decide)) (fun _ => ?_)
    refine lv_iconst (pc := 36) (v := 0) hx hb dX3_payGaps_36 (by decide) ?_
    rw [hQ]
    refine m_iret (sp := (mS_payGaps C A B p0)) S G hr hlocks (hdg := dX3_payGaps_37) ?_ ?_ ?_
    · exact Nat.le_of_ble_eq_true rfl
    · exact Nat.le_of_ble_eq_true rfl
    · unfold mS_payGaps; rw [if_pos c1]
def mS_advance (C : Nat → Int32) (A : Nat → Nat → Int32) (B : Nat → Int64) (p0 p1 : Int32) : mSp Int32 := if (mF_isLot C A B p0) = 0 then (0, (upd C 23 1), A, B) else (if (mWithin p1 1 ((A 2 p0.toNatClampNeg) / 2)) = 0 then (0, (upd C 23 2), A, B) else (if 3 ≤ (A 4 p0.toNatClampNeg) then (0, (upd C 23 3), A, B) else (if (A 13 p0.toNatClampNeg) ≤ 0 then (((A 2 p0.toNatClampNeg) / 2), (upd C 23 0), (updA (updA A 13 p0.toNatClampNeg p1) 14 p0.toNatClampNeg (C 19)), (vp_updL B 21 ((B 21) + (p1 : Int32).toInt64))) else (0, (upd C 23 3), A, B))))
abbrev rmX3_advance : Room := ({ frames := 2, cells := 0, slots := 0, locals := 43 } : Room)
set_option maxHeartbeats 4000000 in
theorem metX3_advance (l : Launch) (D : va_G) (K ad : Nat → Nat) (C : Nat → Int32) (A : Nat → Nat → Int32) (B : Nat → Int64) (p0 p1 : Int32) (hC : 0 ≤ (C 0).toInt ∧ (C 0).toInt ≤ 30) : MMet l yX3_advance (ws_ yX3_advance cX3_advance 3 (some .int)) rmX3_advance D K [.int p0, .int p1] ad C A B (some (.int (mS_advance C A B p0 p1).1)) (mS_advance C A B p0 p1).2.1 (mS_advance C A B p0 p1).2.2.1 (mS_advance C A B p0 p1).2.2.2 := by
  intro w hP
  refine gMet.of (by decide) (Nat.le_of_ble_eq_true rfl) ?_
  intro p e s m args below meth c H locs ls S M hr hlocks hname G hl
  have hx := S.1
  have hb := S.2.1
  have hown := S.2.2.2.1
  have hts := S.2.2.2.2
  have hl : lv_has ls 3 [(0, .ref (ad 0)), (1, .int p0), (2, .int p1)] := hl
  obtain ⟨Q, hQ⟩ : ∃ Q, Q = gE below D K (mPost D K w ad (some (.int (mS_advance C A B p0 p1).1)) (mS_advance C A B p0 p1).2.1 (mS_advance C A B p0 p1).2.2.1 (mS_advance C A B p0 p1).2.2.2) args s rmX3_advance.cells rmX3_advance.slots := ⟨_, rfl⟩
  rw [← hQ]
  have G : MG D K s H locs w ad C A B := MG.of G hP
  refine lv_aload_n (pc := 0) hx hb dX3_advance_0 rfl (lv_at hl 0 rfl) ?_
  refine lv_aload_n (pc := 1) hx hb dX3_advance_1 rfl (lv_at hl 0 rfl) ?_
  refine lv_iload_n (pc := 2) hx hb dX3_advance_2 rfl (lv_at hl 1 rfl) ?_
  refine m_callV (pc := 3) S M G hl.1 [.int p0] [.ref (ad 0)] (metX3_isLot l D K ad C A B p0 ) 1 q1425 q1422 q1424 qs10 q26 (by decide) rfl (⟨Nat.le_of_ble_eq_true rfl, Nat.le_of_ble_eq_true rfl⟩) rfl (Nat.le_of_ble_eq_true rfl) dX3_advance_3 ⟨Nat.le_of_ble_eq_true rfl, Nat.le_of_ble_eq_true rfl⟩ (fun H locs G => ?_)
  have G : MG D K s H locs w ad C A B := G
  refine W.eq (g2 := F0 m 6 ls [.int (mF_isLot C A B p0), .ref (ad 0)]) rfl ?_
  refine lv_if_ne (pc := 6) (tgt := 13) hx hb dX3_advance_6 (by decide) (fun c1 => ?_) (fun c1 => ?_)
  · refine lv_iload_n (pc := 13) hx hb dX3_advance_13 rfl (lv_at hl 2 rfl) ?_
    refine lv_iconst (pc := 14) (v := 1) hx hb dX3_advance_14 (by decide) ?_
    refine lv_aload_n (pc := 15) hx hb dX3_advance_15 rfl (lv_at hl 0 rfl) ?_
    refine m_get (pc := 16) (v := .ref (ad 2)) S M G 2 (by decide) q1325 rfl rfl dX3_advance_16 ?_
    refine lv_iload_n (pc := 19) hx hb dX3_advance_19 rfl (lv_at hl 1 rfl) ?_
    refine m_ald (pc := 20) (v := (A 2 p0.toNatClampNeg)) S M G 2 rfl (mLot_in hC c1) rfl dX3_advance_20 ?_
    refine lv_iconst (pc := 21) (v := 2) hx hb dX3_advance_21 (by decide) ?_
    refine lv_idiv (pc := 22) hx hb dX3_advance_22 (by decide) ?_
    refine m_callS (pc := 23) (v := .int (mWithin p1 1 ((A 2 p0.toNatClampNeg) / 2))) S M G hl.1 [.int p1, .int 1, .int ((A 2 p0.toNatClampNeg) / 2)] [.ref (ad 0)] (fun w => metX3_isWithin l D K w p1 1 ((A 2 p0.toNatClampNeg) / 2)) 3 q1407 q1405 q1406 q26 (by decide) rfl (⟨Nat.le_of_ble_eq_true rfl, Nat.le_of_ble_eq_true rfl⟩) rfl (Nat.le_of_ble_eq_true rfl) dX3_advance_23 ⟨Nat.le_of_ble_eq_true rfl, Nat.le_of_ble_eq_true rfl⟩ (fun H locs G => ?_)
    refine W.eq (g2 := F0 m 26 ls [.int (mWithin p1 1 ((A 2 p0.toNatClampNeg) / 2)), .ref (ad 0)]) rfl ?_
    refine lv_if_ne (pc := 26) (tgt := 33) hx hb dX3_advance_26 (by decide) (fun c2 => ?_) (fun c2 => ?_)
    · refine lv_aload_n (pc := 33) hx hb dX3_advance_33 rfl (lv_at hl 0 rfl) ?_
      refine m_get (pc := 34) (v := .ref (ad 4)) S M G 4 (by decide) q1327 rfl rfl dX3_advance_34 ?_
      refine lv_iload_n (pc := 37) hx hb dX3_advance_37 rfl (lv_at hl 1 rfl) ?_
      refine m_ald (pc := 38) (v := (A 4 p0.toNatClampNeg)) S M G 4 rfl (mLot_in hC c1) rfl dX3_advance_38 ?_
      refine lv_iconst (pc := 39) (v := 3) hx hb dX3_advance_39 (by decide) ?_
      refine lv_icmp_ge (pc := 40) (tgt := 52) hx hb dX3_advance_40 (by decide) (fun c3 => ?_) (fun c3 => ?_)
      · refine lv_iconst (pc := 52) (v := 3) hx hb dX3_advance_52 (by decide) ?_
        refine lv_goto (pc := 53) (tgt := 57) hx hb dX3_advance_53 (by decide) ?_
        refine m_putC (pc := 57) S M G 23 (by decide) q1346 rfl rfl rfl rfl (C' := (upd C 23 3)) (B' := B) (mfs_C23 _ _ _ _) dX3_advance_57 (fun H locs G => ?_)
        refine lv_aload_n (pc := 60) hx hb dX3_advance_60 rfl (lv_at hl 0 rfl) ?_
        refine m_get (pc := 61) (v := .int 3) S M G 23 (by decide) q1346 rfl rfl dX3_advance_61 ?_
        refine lv_if_le (pc := 64) (tgt := 69) hx hb dX3_advance_64 (by decide) (fun c => absurd c (by decide)) (fun _ => ?_)
        refine lv_iconst (pc := 67) (v := 0) hx hb dX3_advance_67 (by decide) ?_
        rw [hQ]
        refine m_iret (sp := (mS_advance C A B p0 p1)) S G hr hlocks (hdg := dX3_advance_68) ?_ ?_ ?_
        · exact Nat.le_of_ble_eq_true rfl
        · exact Nat.le_of_ble_eq_true rfl
        · unfold mS_advance; rw [if_neg c1, if_neg c2, if_pos c3]
      · refine lv_aload_n (pc := 43) hx hb dX3_advance_43 rfl (lv_at hl 0 rfl) ?_
        refine m_get (pc := 44) (v := .ref (ad 13)) S M G 13 (by decide) q1336 rfl rfl dX3_advance_44 ?_
        refine lv_iload_n (pc := 47) hx hb dX3_advance_47 rfl (lv_at hl 1 rfl) ?_
        refine m_ald (pc := 48) (v := (A 13 p0.toNatClampNeg)) S M G 13 rfl (mLot_in hC c1) rfl dX3_advance_48 ?_
        refine lv_if_le (pc := 49) (tgt := 56) hx hb dX3_advance_49 (by decide) (fun c4 => ?_) (fun c4 => ?_)
        · refine lv_iconst (pc := 56) (v := 0) hx hb dX3_advance_56 (by decide) ?_
          refine m_putC (pc := 57) S M G 23 (by decide) q1346 rfl rfl rfl rfl (C' := (upd C 23 0)) (B' := B) (mfs_C23 _ _ _ _) dX3_advance_57 (fun H locs G => ?_)
          refine lv_aload_n (pc := 60) hx hb dX3_advance_60 rfl (lv_at hl 0 rfl) ?_
          refine m_get (pc := 61) (v := .int 0) S M G 23 (by decide) q1346 rfl rfl dX3_advance_61 ?_
          refine lv_if_le (pc := 64) (tgt := 69) hx hb dX3_advance_64 (by decide) (fun _ => ?_) (fun c => absurd c (by decide))
          refine lv_aload_n (pc := 69) hx hb dX3_advance_69 rfl (lv_at hl 0 rfl) ?_
          refine m_get (pc := 70) (v := .ref (ad 13)) S M G 13 (by decide) q1336 rfl rfl dX3_advance_70 ?_
          refine lv_iload_n (pc := 73) hx hb dX3_advance_73 rfl (lv_at hl 1 rfl) ?_
          refine lv_iload_n (pc := 74) hx hb dX3_advance_74 rfl (lv_at hl 2 rfl) ?_
          refine m_ast (pc := 75) S M G 13 rfl (mLot_in hC c1) dX3_advance_75 (fun H locs G => ?_)
          refine lv_aload_n (pc := 76) hx hb dX3_advance_76 rfl (lv_at hl 0 rfl) ?_
          refine m_get (pc := 77) (v := .ref (ad 14)) S M G 14 (by decide) q1337 rfl rfl dX3_advance_77 ?_
          refine lv_iload_n (pc := 80) hx hb dX3_advance_80 rfl (lv_at hl 1 rfl) ?_
          refine lv_aload_n (pc := 81) hx hb dX3_advance_81 rfl (lv_at hl 0 rfl) ?_
          refine m_get (pc := 82) (v := .int (C 19)) S M G 19 (by decide) q1342 rfl rfl dX3_advance_82 ?_
          refine m_ast (pc := 85) S M G 14 rfl (mLot_in hC c1) dX3_advance_85 (fun H locs G => ?_)
          refine lv_aload_n (pc := 86) hx hb dX3_advance_86 rfl (lv_at hl 0 rfl) ?_
          refine lv_dup (pc := 87) hx hb dX3_advance_87 rfl ?_
          refine m_get (pc := 88) (v := .long (B 21)) S M G 21 (by decide) q1344 rfl rfl dX3_advance_88 ?_
          refine lv_iload_n (pc := 91) hx hb dX3_advance_91 rfl (lv_at hl 2 rfl) ?_
          refine lv_i2l (pc := 92) hx hb dX3_advance_92 rfl ?_
          refine lv_ladd (pc := 93) hx hb dX3_advance_93 ?_
          refine m_putC (pc := 94) S M G 21 (by decide) q1344 rfl rfl rfl rfl (C' := (upd C 23 0)) (B' := (vp_updL B 21 ((B 21) + (p1 : Int32).toInt64))) (mfs_B21 _ _ _ _) dX3_advance_94 (fun H locs G => ?_)
          refine lv_aload_n (pc := 97) hx hb dX3_advance_97 rfl (lv_at hl 0 rfl) ?_
          refine m_get (pc := 98) (v := .ref (ad 2)) S M G 2 (by decide) q1325 rfl rfl dX3_advance_98 ?_
          refine lv_iload_n (pc := 101) hx hb dX3_advance_101 rfl (lv_at hl 1 rfl) ?_
          refine m_ald (pc := 102) (v := (A 2 p0.toNatClampNeg)) S M G 2 rfl (mLot_in hC c1) ((updA_n (by decide) _).trans ((updA_n (by decide) _).trans rfl)) dX3_advance_102 ?_
          refine lv_iconst (pc := 103) (v := 2) hx hb dX3_advance_103 (by decide) ?_
          refine lv_idiv (pc := 104) hx hb dX3_advance_104 (by decide) ?_
          rw [hQ]
          refine m_iret (sp := (mS_advance C A B p0 p1)) S G hr hlocks (hdg := dX3_advance_105) ?_ ?_ ?_
          · exact Nat.le_of_ble_eq_true rfl
          · exact Nat.le_of_ble_eq_true rfl
          · unfold mS_advance; rw [if_neg c1, if_neg c2, if_neg c3, if_pos c4]
        · refine lv_iconst (pc := 52) (v := 3) hx hb dX3_advance_52 (by decide) ?_
          refine lv_goto (pc := 53) (tgt := 57) hx hb dX3_advance_53 (by decide) ?_
          refine m_putC (pc := 57) S M G 23 (by decide) q1346 rfl rfl rfl rfl (C' := (upd C 23 3)) (B' := B) (mfs_C23 _ _ _ _) dX3_advance_57 (fun H locs G => ?_)
          refine lv_aload_n (pc := 60) hx hb dX3_advance_60 rfl (lv_at hl 0 rfl) ?_
          refine m_get (pc := 61) (v := .int 3) S M G 23 (by decide) q1346 rfl rfl dX3_advance_61 ?_
          refine lv_if_le (pc := 64) (tgt := 69) hx hb dX3_advance_64 (by decide) (fun c => absurd c (by decide)) (fun _ => ?_)
          refine lv_iconst (pc := 67) (v := 0) hx hb dX3_advance_67 (by decide) ?_
          rw [hQ]
          refine m_iret (sp := (mS_advance C A B p0 p1)) S G hr hlocks (hdg := dX3_advance_68) ?_ ?_ ?_
          · exact Nat.le_of_ble_eq_true rfl
          · exact Nat.le_of_ble_eq_true rfl
          · unfold mS_advance; rw [if_neg c1, if_neg c2, if_neg c3, if_neg c4]
    · refine lv_iconst (pc := 29) (v := 2) hx hb dX3_advance_29 (by decide) ?_
      refine lv_goto (pc := 30) (tgt := 57) hx hb dX3_advance_30 (by decide) ?_
      refine m_putC (pc := 57) S M G 23 (by decide) q1346 rfl rfl rfl rfl (C' := (upd C 23 2)) (B' := B) (mfs_C23 _ _ _ _) dX3_advance_57 (fun H locs G => ?_)
      refine lv_aload_n (pc := 60) hx hb dX3_advance_60 rfl (lv_at hl 0 rfl) ?_
      refine m_get (pc := 61) (v := .int 2) S M G 23 (by decide) q1346 rfl rfl dX3_advance_61 ?_
      refine lv_if_le (pc := 64) (tgt := 69) hx hb dX3_advance_64 (by decide) (fun c => absurd c (by decide)) (fun _ => ?_)
      refine lv_iconst (pc := 67) (v := 0) hx hb dX3_advance_67 (by decide) ?_
      rw [hQ]
      refine m_iret (sp := (mS_advance C A B p0 p1)) S G hr hlocks (hdg := dX3_advance_68) ?_ ?_ ?_
      · exact Nat.le_of_ble_eq_true rfl
      · exact Nat.le_of_ble_eq_true rfl
      · unfold mS_advance; rw [if_neg c1, if_pos c2]
  · refine lv_iconst (pc := 9) (v := 1) hx hb dX3_advance_9 (by decide) ?_
    refine lv_goto (pc := 10) (tgt := 57) hx hb dX3_advance_10 (by decide) ?_
    refine m_putC (pc := 57) S M G 23 (by decide) q1346 rfl rfl rfl rfl (C' := (upd C 23 1)) (B' := B) (mfs_C23 _ _ _ _) dX3_advance_57 (fun H locs G => ?_)
    refine lv_aload_n (pc := 60) hx hb dX3_advance_60 rfl (lv_at hl 0 rfl) ?_
    refine m_get (pc := 61) (v := .int 1) S M G 23 (by decide) q1346 rfl rfl dX3_advance_61 ?_
    refine lv_if_le (pc := 64) (tgt := 69) hx hb dX3_advance_64 (by decide) (fun c => absurd c (by decide)) (fun _ => ?_)
    refine lv_iconst (pc := 67) (v := 0) hx hb dX3_advance_67 (by decide) ?_
    rw [hQ]
    refine m_iret (sp := (mS_advance C A B p0 p1)) S G hr hlocks (hdg := dX3_advance_68) ?_ ?_ ?_
    · exact Nat.le_of_ble_eq_true rfl
    · exact Nat.le_of_ble_eq_true rfl
    · unfold mS_advance; rw [if_pos c1]
def mS_settle (C : Nat → Int32) (A : Nat → Nat → Int32) (B : Nat → Int64) (p0 : Int32) : mSp Int32 := if (mF_isLot C A B p0) = 0 then (0, (upd C 23 1), A, B) else (if (A 4 p0.toNatClampNeg) = 3 then ((((((A 6 p0.toNatClampNeg) - (((A 6 p0.toNatClampNeg) * (A 17 (A 1 p0.toNatClampNeg).toNatClampNeg)) / 100)) - (mF_shareFor (upd C 23 0) A B p0)) - (A 13 p0.toNatClampNeg)) - (mF_interestFor (upd C 23 0) A B p0)), (upd C 23 0), (updA (updA A 15 p0.toNatClampNeg (mF_interestFor (upd C 23 0) A B p0)) 4 p0.toNatClampNeg 4), (vp_updL (vp_updL B 21 ((B 21) + (((((((A 6 p0.toNatClampNeg) - (((A 6 p0.toNatClampNeg) * (A 17 (A 1 p0.toNatClampNeg).toNatClampNeg)) / 100)) - (mF_shareFor (upd C 23 0) A B p0)) - (A 13 p0.toNatClampNeg)) - (mF_interestFor (upd C 23 0) A B p0)) + (mF_shareFor (upd C 23 0) (updA A 15 p0.toNatClampNeg (mF_interestFor (upd C 23 0) A B p0)) B p0)) : Int32).toInt64)) 22 ((B 22) + (((((A 6 p0.toNatClampNeg) * (A 17 (A 1 p0.toNatClampNeg).toNatClampNeg)) / 100) + (mF_interestFor (upd C 23 0) A B p0)) : Int32).toInt64))) else (0, (upd C 23 2), A, B))
abbrev rmX3_settle : Room := ({ frames := 2, cells := 0, slots := 0, locals := 43 } : Room)
set_option maxHeartbeats 4000000 in
theorem metX3_settle (l : Launch) (D : va_G) (K ad : Nat → Nat) (C : Nat → Int32) (A : Nat → Nat → Int32) (B : Nat → Int64) (p0 : Int32) (hC : 0 ≤ (C 0).toInt ∧ (C 0).toInt ≤ 30) (hs : ∀ i, i < 30 → vp_in (A 1 i) 6) : MMet l yX3_settle (ws_ yX3_settle cX3_settle 5 (some .int)) rmX3_settle D K [.int p0] ad C A B (some (.int (mS_settle C A B p0).1)) (mS_settle C A B p0).2.1 (mS_settle C A B p0).2.2.1 (mS_settle C A B p0).2.2.2 := by
  intro w hP
  refine gMet.of (by decide) (Nat.le_of_ble_eq_true rfl) ?_
  intro p e s m args below meth c H locs ls S M hr hlocks hname G hl
  have hx := S.1
  have hb := S.2.1
  have hown := S.2.2.2.1
  have hts := S.2.2.2.2
  have hl : lv_has ls 5 [(0, .ref (ad 0)), (1, .int p0)] := hl
  obtain ⟨Q, hQ⟩ : ∃ Q, Q = gE below D K (mPost D K w ad (some (.int (mS_settle C A B p0).1)) (mS_settle C A B p0).2.1 (mS_settle C A B p0).2.2.1 (mS_settle C A B p0).2.2.2) args s rmX3_settle.cells rmX3_settle.slots := ⟨_, rfl⟩
  rw [← hQ]
  have G : MG D K s H locs w ad C A B := MG.of G hP
  refine lv_aload_n (pc := 0) hx hb dX3_settle_0 rfl (lv_at hl 0 rfl) ?_
  refine lv_aload_n (pc := 1) hx hb dX3_settle_1 rfl (lv_at hl 0 rfl) ?_
  refine lv_iload_n (pc := 2) hx hb dX3_settle_2 rfl (lv_at hl 1 rfl) ?_
  refine m_callV (pc := 3) S M G hl.1 [.int p0] [.ref (ad 0)] (metX3_isLot l D K ad C A B p0 ) 1 q1425 q1422 q1424 qs10 q26 (by decide) rfl (⟨Nat.le_of_ble_eq_true rfl, Nat.le_of_ble_eq_true rfl⟩) rfl (Nat.le_of_ble_eq_true rfl) dX3_settle_3 ⟨Nat.le_of_ble_eq_true rfl, Nat.le_of_ble_eq_true rfl⟩ (fun H locs G => ?_)
  have G : MG D K s H locs w ad C A B := G
  refine W.eq (g2 := F0 m 6 ls [.int (mF_isLot C A B p0), .ref (ad 0)]) rfl ?_
  refine lv_if_ne (pc := 6) (tgt := 13) hx hb dX3_settle_6 (by decide) (fun c1 => ?_) (fun c1 => ?_)
  · refine lv_aload_n (pc := 13) hx hb dX3_settle_13 rfl (lv_at hl 0 rfl) ?_
    refine m_get (pc := 14) (v := .ref (ad 4)) S M G 4 (by decide) q1327 rfl rfl dX3_settle_14 ?_
    refine lv_iload_n (pc := 17) hx hb dX3_settle_17 rfl (lv_at hl 1 rfl) ?_
    refine m_ald (pc := 18) (v := (A 4 p0.toNatClampNeg)) S M G 4 rfl (mLot_in hC c1) rfl dX3_settle_18 ?_
    refine lv_iconst (pc := 19) (v := 3) hx hb dX3_settle_19 (by decide) ?_
    refine lv_icmp_eq (pc := 20) (tgt := 27) hx hb dX3_settle_20 (by decide) (fun c2 => ?_) (fun c2 => ?_)
    · refine lv_iconst (pc := 27) (v := 0) hx hb dX3_settle_27 (by decide) ?_
      refine m_putC (pc := 28) S M G 23 (by decide) q1346 rfl rfl rfl rfl (C' := (upd C 23 0)) (B' := B) (mfs_C23 _ _ _ _) dX3_settle_28 (fun H locs G => ?_)
      refine lv_aload_n (pc := 31) hx hb dX3_settle_31 rfl (lv_at hl 0 rfl) ?_
      refine m_get (pc := 32) (v := .int 0) S M G 23 (by decide) q1346 rfl rfl dX3_settle_32 ?_
      refine lv_if_le (pc := 35) (tgt := 40) hx hb dX3_settle_35 (by decide) (fun _ => ?_) (fun c => absurd c (by decide))
      refine lv_aload_n (pc := 40) hx hb dX3_settle_40 rfl (lv_at hl 0 rfl) ?_
      refine m_get (pc := 41) (v := .ref (ad 6)) S M G 6 (by decide) q1329 rfl rfl dX3_settle_41 ?_
      refine lv_iload_n (pc := 44) hx hb dX3_settle_44 rfl (lv_at hl 1 rfl) ?_
      refine m_ald (pc := 45) (v := (A 6 p0.toNatClampNeg)) S M G 6 rfl (mLot_in hC c1) rfl dX3_settle_45 ?_
      refine lv_aload_n (pc := 46) hx hb dX3_settle_46 rfl (lv_at hl 0 rfl) ?_
      refine m_get (pc := 47) (v := .ref (ad 17)) S M G 17 (by decide) q1340 rfl rfl dX3_settle_47 ?_
      refine lv_aload_n (pc := 50) hx hb dX3_settle_50 rfl (lv_at hl 0 rfl) ?_
      refine m_get (pc := 51) (v := .ref (ad 1)) S M G 1 (by decide) q1324 rfl rfl dX3_settle_51 ?_
      refine lv_iload_n (pc := 54) hx hb dX3_settle_54 rfl (lv_at hl 1 rfl) ?_
      refine m_ald (pc := 55) (v := (A 1 p0.toNatClampNeg)) S M G 1 rfl (mLot_in hC c1) rfl dX3_settle_55 ?_
      refine m_ald (pc := 56) (v := (A 17 (A 1 p0.toNatClampNeg).toNatClampNeg)) S M G 17 rfl (hs _ (vp_lt (mLot_in hC c1))) rfl dX3_settle_56 ?_
      refine lv_imul (pc := 57) hx hb dX3_settle_57 ?_
      refine lv_bipush (pc := 58) (v := 100) hx hb dX3_settle_58 (by decide) ?_
      refine lv_idiv (pc := 60) hx hb dX3_settle_60 (by decide) ?_
      refine lv_istore_n (pc := 61) (lv' := [(2, .int (((A 6 p0.toNatClampNeg) * (A 17 (A 1 p0.toNatClampNeg).toNatClampNeg)) / 100)), (0, .ref (ad 0)), (1, .int p0)]) hx hb dX3_settle_61 rfl hl (by decide) rfl (fun ls hl => ?_)
      refine lv_aload_n (pc := 62) hx hb dX3_settle_62 rfl (lv_at hl 1 rfl) ?_
      refine lv_iload_n (pc := 63) hx hb dX3_settle_63 rfl (lv_at hl 2 rfl) ?_
      refine m_callV (pc := 64) S M G hl.1 [.int p0] [] (metX3_interestFor l D K ad (upd C 23 0) A B p0 (mLot_in hC c1)) 1 q1485 q1482 q1484 qs14 q26 (by decide) rfl (⟨Nat.le_of_ble_eq_true rfl, Nat.le_of_ble_eq_true rfl⟩) rfl (Nat.le_of_ble_eq_true rfl) dX3_settle_64 ⟨Nat.le_of_ble_eq_true rfl, Nat.le_of_ble_eq_true rfl⟩ (fun H locs G => ?_)
      have G : MG D K s H locs w ad (upd C 23 0) A B := G
      refine W.eq (g2 := F0 m 67 ls [.int (mF_interestFor (upd C 23 0) A B p0)]) rfl ?_
      refine lv_istore_n (pc := 67) (lv' := [(3, .int (mF_interestFor (upd C 23 0) A B p0)), (2, .int (((A 6 p0.toNatClampNeg) * (A 17 (A 1 p0.toNatClampNeg).toNatClampNeg)) / 100)), (0, .ref (ad 0)), (1, .int p0)]) hx hb dX3_settle_67 rfl hl (by decide) rfl (fun ls hl => ?_)
      refine lv_aload_n (pc := 68) hx hb dX3_settle_68 rfl (lv_at hl 2 rfl) ?_
      refine m_get (pc := 69) (v := .ref (ad 6)) S M G 6 (by decide) q1329 rfl rfl dX3_settle_69 ?_
      refine lv_iload_n (pc := 72) hx hb dX3_settle_72 rfl (lv_at hl 3 rfl) ?_
      refine m_ald (pc := 73) (v := (A 6 p0.toNatClampNeg)) S M G 6 rfl (mLot_in hC c1) rfl dX3_settle_73 ?_
      refine lv_iload_n (pc := 74) hx hb dX3_settle_74 rfl (lv_at hl 1 rfl) ?_
      refine lv_isub (pc := 75) hx hb dX3_settle_75 ?_
      refine lv_aload_n (pc := 76) hx hb dX3_settle_76 rfl (lv_at hl 2 rfl) ?_
      refine lv_iload_n (pc := 77) hx hb dX3_settle_77 rfl (lv_at hl 3 rfl) ?_
      refine m_callV (pc := 78) S M G hl.1 [.int p0] [.int ((A 6 p0.toNatClampNeg) - (((A 6 p0.toNatClampNeg) * (A 17 (A 1 p0.toNatClampNeg).toNatClampNeg)) / 100))] (metX3_shareFor l D K ad (upd C 23 0) A B p0 (mLot_in hC c1)) 1 q1490 q1487 q1489 qs15 q26 (by decide) rfl (⟨Nat.le_of_ble_eq_true rfl, Nat.le_of_ble_eq_true rfl⟩) rfl (Nat.le_of_ble_eq_true rfl) dX3_settle_78 ⟨Nat.le_of_ble_eq_true rfl, Nat.le_of_ble_eq_true rfl⟩ (fun H locs G => ?_)
      have G : MG D K s H locs w ad (upd C 23 0) A B := G
      refine W.eq (g2 := F0 m 81 ls [.int (mF_shareFor (upd C 23 0) A B p0), .int ((A 6 p0.toNatClampNeg) - (((A 6 p0.toNatClampNeg) * (A 17 (A 1 p0.toNatClampNeg).toNatClampNeg)) / 100))]) rfl ?_
      refine lv_isub (pc := 81) hx hb dX3_settle_81 ?_
      refine lv_aload_n (pc := 82) hx hb dX3_settle_82 rfl (lv_at hl 2 rfl) ?_
      refine m_get (pc := 83) (v := .ref (ad 13)) S M G 13 (by decide) q1336 rfl rfl dX3_settle_83 ?_
      refine lv_iload_n (pc := 86) hx hb dX3_settle_86 rfl (lv_at hl 3 rfl) ?_
      refine m_ald (pc := 87) (v := (A 13 p0.toNatClampNeg)) S M G 13 rfl (mLot_in hC c1) rfl dX3_settle_87 ?_
      refine lv_isub (pc := 88) hx hb dX3_settle_88 ?_
      refine lv_iload_n (pc := 89) hx hb dX3_settle_89 rfl (lv_at hl 0 rfl) ?_
      refine lv_isub (pc := 90) hx hb dX3_settle_90 ?_
      refine lv_istore (pc := 91) (lv' := [(4, .int (((((A 6 p0.toNatClampNeg) - (((A 6 p0.toNatClampNeg) * (A 17 (A 1 p0.toNatClampNeg).toNatClampNeg)) / 100)) - (mF_shareFor (upd C 23 0) A B p0)) - (A 13 p0.toNatClampNeg)) - (mF_interestFor (upd C 23 0) A B p0))), (3, .int (mF_interestFor (upd C 23 0) A B p0)), (2, .int (((A 6 p0.toNatClampNeg) * (A 17 (A 1 p0.toNatClampNeg).toNatClampNeg)) / 100)), (0, .ref (ad 0)), (1, .int p0)]) hx hb dX3_settle_91 hl (by decide) rfl (fun ls hl => ?_)
      refine lv_aload_n (pc := 93) hx hb dX3_settle_93 rfl (lv_at hl 3 rfl) ?_
      refine m_get (pc := 94) (v := .ref (ad 15)) S M G 15 (by decide) q1338 rfl rfl dX3_settle_94 ?_
      refine lv_iload_n (pc := 97) hx hb dX3_settle_97 rfl (lv_at hl 4 rfl) ?_
      refine lv_iload_n (pc := 98) hx hb dX3_settle_98 rfl (lv_at hl 1 rfl) ?_
      refine m_ast (pc := 99) S M G 15 rfl (mLot_in hC c1) dX3_settle_99 (fun H locs G => ?_)
      refine lv_aload_n (pc := 100) hx hb dX3_settle_100 rfl (lv_at hl 3 rfl) ?_
      refine lv_dup (pc := 101) hx hb dX3_settle_101 rfl ?_
      refine m_get (pc := 102) (v := .long (B 21)) S M G 21 (by decide) q1344 rfl rfl dX3_settle_102 ?_
      refine lv_iload (pc := 105) hx hb dX3_settle_105 (lv_at hl 0 rfl) ?_
      refine lv_aload_n (pc := 107) hx hb dX3_settle_107 rfl (lv_at hl 3 rfl) ?_
      refine lv_iload_n (pc := 108) hx hb dX3_settle_108 rfl (lv_at hl 4 rfl) ?_
      refine m_callV (pc := 109) S M G hl.1 [.int p0] [.int (((((A 6 p0.toNatClampNeg) - (((A 6 p0.toNatClampNeg) * (A 17 (A 1 p0.toNatClampNeg).toNatClampNeg)) / 100)) - (mF_shareFor (upd C 23 0) A B p0)) - (A 13 p0.toNatClampNeg)) - (mF_interestFor (upd C 23 0) A B p0)), .long (B 21), .ref (ad 0)] (metX3_shareFor l D K ad (upd C 23 0) (updA A 15 p0.toNatClampNeg (mF_interestFor (upd C 23 0) A B p0)) B p0 (mLot_in hC c1)) 1 q1490 q1487 q1489 qs15 q26 (by decide) rfl (⟨Nat.le_of_ble_eq_true rfl, Nat.le_of_ble_eq_true rfl⟩) rfl (Nat.le_of_ble_eq_true rfl) dX3_settle_109 ⟨Nat.le_of_ble_eq_true rfl, Nat.le_of_ble_eq_true rfl⟩ (fun H locs G => ?_)
      have G : MG D K s H locs w ad (upd C 23 0) (updA A 15 p0.toNatClampNeg (mF_interestFor (upd C 23 0) A B p0)) B := G
      refine W.eq (g2 := F0 m 112 ls [.int (mF_shareFor (upd C 23 0) (updA A 15 p0.toNatClampNeg (mF_interestFor (upd C 23 0) A B p0)) B p0), .int (((((A 6 p0.toNatClampNeg) - (((A 6 p0.toNatClampNeg) * (A 17 (A 1 p0.toNatClampNeg).toNatClampNeg)) / 100)) - (mF_shareFor (upd C 23 0) A B p0)) - (A 13 p0.toNatClampNeg)) - (mF_interestFor (upd C 23 0) A B p0)), .long (B 21), .ref (ad 0)]) rfl ?_
      refine lv_iadd (pc := 112) hx hb dX3_settle_112 ?_
      refine lv_i2l (pc := 113) hx hb dX3_settle_113 rfl ?_
      refine lv_ladd (pc := 114) hx hb dX3_settle_114 ?_
      refine m_putC (pc := 115) S M G 21 (by decide) q1344 rfl rfl rfl rfl (C' := (upd C 23 0)) (B' := (vp_updL B 21 ((B 21) + (((((((A 6 p0.toNatClampNeg) - (((A 6 p0.toNatClampNeg) * (A 17 (A 1 p0.toNatClampNeg).toNatClampNeg)) / 100)) - (mF_shareFor (upd C 23 0) A B p0)) - (A 13 p0.toNatClampNeg)) - (mF_interestFor (upd C 23 0) A B p0)) + (mF_shareFor (upd C 23 0) (updA A 15 p0.toNatClampNeg (mF_interestFor (upd C 23 0) A B p0)) B p0)) : Int32).toInt64))) (mfs_B21 _ _ _ _) dX3_settle_115 (fun H locs G => ?_)
      refine lv_aload_n (pc := 118) hx hb dX3_settle_118 rfl (lv_at hl 3 rfl) ?_
      refine lv_dup (pc := 119) hx hb dX3_settle_119 rfl ?_
      refine m_get (pc := 120) (v := .long (B 22)) S M G 22 (by decide) q1345 rfl rfl dX3_settle_120 ?_
      refine lv_iload_n (pc := 123) hx hb dX3_settle_123 rfl (lv_at hl 2 rfl) ?_
      refine lv_iload_n (pc := 124) hx hb dX3_settle_124 rfl (lv_at hl 1 rfl) ?_
      refine lv_iadd (pc := 125) hx hb dX3_settle_125 ?_
      refine lv_i2l (pc := 126) hx hb dX3_settle_126 rfl ?_
      refine lv_ladd (pc := 127) hx hb dX3_settle_127 ?_
      refine m_putC (pc := 128) S M G 22 (by decide) q1345 rfl rfl rfl rfl (C' := (upd C 23 0)) (B' := (vp_updL (vp_updL B 21 ((B 21) + (((((((A 6 p0.toNatClampNeg) - (((A 6 p0.toNatClampNeg) * (A 17 (A 1 p0.toNatClampNeg).toNatClampNeg)) / 100)) - (mF_shareFor (upd C 23 0) A B p0)) - (A 13 p0.toNatClampNeg)) - (mF_interestFor (upd C 23 0) A B p0)) + (mF_shareFor (upd C 23 0) (updA A 15 p0.toNatClampNeg (mF_interestFor (upd C 23 0) A B p0)) B p0)) : Int32).toInt64)) 22 ((B 22) + (((((A 6 p0.toNatClampNeg) * (A 17 (A 1 p0.toNatClampNeg).toNatClampNeg)) / 100) + (mF_interestFor (upd C 23 0) A B p0)) : Int32).toInt64))) (mfs_B22 _ _ _ _) dX3_settle_128 (fun H locs G => ?_)
      refine lv_aload_n (pc := 131) hx hb dX3_settle_131 rfl (lv_at hl 3 rfl) ?_
      refine m_get (pc := 132) (v := .ref (ad 4)) S M G 4 (by decide) q1327 rfl rfl dX3_settle_132 ?_
      refine lv_iload_n (pc := 135) hx hb dX3_settle_135 rfl (lv_at hl 4 rfl) ?_
      refine lv_iconst (pc := 136) (v := 4) hx hb dX3_settle_136 (by decide) ?_
      refine m_ast (pc := 137) S M G 4 rfl (mLot_in hC c1) dX3_settle_137 (fun H locs G => ?_)
      refine lv_iload (pc := 138) hx hb dX3_settle_138 (lv_at hl 0 rfl) ?_
      rw [hQ]
      refine m_iret (sp := (mS_settle C A B p0)) S G hr hlocks (hdg := dX3_settle_140) ?_ ?_ ?_
      · exact Nat.le_of_ble_eq_true rfl
      · exact Nat.le_of_ble_eq_true rfl
      · unfold mS_settle; rw [if_neg c1, if_pos c2]
    · refine lv_iconst (pc := 23) (v := 2) hx hb dX3_settle_23 (by decide) ?_
      refine lv_goto (pc := 24) (tgt := 28) hx hb dX3_settle_24 (by decide) ?_
      refine m_putC (pc := 28) S M G 23 (by decide) q1346 rfl rfl rfl rfl (C' := (upd C 23 2)) (B' := B) (mfs_C23 _ _ _ _) dX3_settle_28 (fun H locs G => ?_)
      refine lv_aload_n (pc := 31) hx hb dX3_settle_31 rfl (lv_at hl 0 rfl) ?_
      refine m_get (pc := 32) (v := .int 2) S M G 23 (by decide) q1346 rfl rfl dX3_settle_32 ?_
      refine lv_if_le (pc := 35) (tgt := 40) hx hb dX3_settle_35 (by decide) (fun c => absurd c (by decide)) (fun _ => ?_)
      refine lv_iconst (pc := 38) (v := 0) hx hb dX3_settle_38 (by decide) ?_
      rw [hQ]
      refine m_iret (sp := (mS_settle C A B p0)) S G hr hlocks (hdg := dX3_settle_39) ?_ ?_ ?_
      · exact Nat.le_of_ble_eq_true rfl
      · exact Nat.le_of_ble_eq_true rfl
      · unfold mS_settle; rw [if_neg c1, if_neg c2]
  · refine lv_iconst (pc := 9) (v := 1) hx hb dX3_settle_9 (by decide) ?_
    refine lv_goto (pc := 10) (tgt := 28) hx hb dX3_settle_10 (by decide) ?_
    refine m_putC (pc := 28) S M G 23 (by decide) q1346 rfl rfl rfl rfl (C' := (upd C 23 1)) (B' := B) (mfs_C23 _ _ _ _) dX3_settle_28 (fun H locs G => ?_)
    refine lv_aload_n (pc := 31) hx hb dX3_settle_31 rfl (lv_at hl 0 rfl) ?_
    refine m_get (pc := 32) (v := .int 1) S M G 23 (by decide) q1346 rfl rfl dX3_settle_32 ?_
    refine lv_if_le (pc := 35) (tgt := 40) hx hb dX3_settle_35 (by decide) (fun c => absurd c (by decide)) (fun _ => ?_)
    refine lv_iconst (pc := 38) (v := 0) hx hb dX3_settle_38 (by decide) ?_
    rw [hQ]
    refine m_iret (sp := (mS_settle C A B p0)) S G hr hlocks (hdg := dX3_settle_39) ?_ ?_ ?_
    · exact Nat.le_of_ble_eq_true rfl
    · exact Nat.le_of_ble_eq_true rfl
    · unfold mS_settle; rw [if_pos c1]
def mS_commission (C : Nat → Int32) (A : Nat → Nat → Int32) (B : Nat → Int64) (p0 p1 : Int32) : mSp Int32 := if (mWithin p0 0 5) = 0 then (0, (upd C 23 1), A, B) else (if (mWithin p1 0 50) = 0 then (0, (upd C 23 2), A, B) else ((A 17 p0.toNatClampNeg), (upd C 23 0), (updA A 17 p0.toNatClampNeg p1), B))
abbrev rmX3_commission : Room := ({ frames := 1, cells := 0, slots := 0, locals := 22 } : Room)
set_option maxHeartbeats 4000000 in
theorem metX3_commission (l : Launch) (D : va_G) (K ad : Nat → Nat) (C : Nat → Int32) (A : Nat → Nat → Int32) (B : Nat → Int64) (p0 p1 : Int32) : MMet l yX3_commission (ws_ yX3_commission cX3_commission 4 (some .int)) rmX3_commission D K [.int p0, .int p1] ad C A B (some (.int (mS_commission C A B p0 p1).1)) (mS_commission C A B p0 p1).2.1 (mS_commission C A B p0 p1).2.2.1 (mS_commission C A B p0 p1).2.2.2 := by
  intro w hP
  refine gMet.of (by decide) (Nat.le_of_ble_eq_true rfl) ?_
  intro p e s m args below meth c H locs ls S M hr hlocks hname G hl
  have hx := S.1
  have hb := S.2.1
  have hown := S.2.2.2.1
  have hts := S.2.2.2.2
  have hl : lv_has ls 4 [(0, .ref (ad 0)), (1, .int p0), (2, .int p1)] := hl
  obtain ⟨Q, hQ⟩ : ∃ Q, Q = gE below D K (mPost D K w ad (some (.int (mS_commission C A B p0 p1).1)) (mS_commission C A B p0 p1).2.1 (mS_commission C A B p0 p1).2.2.1 (mS_commission C A B p0 p1).2.2.2) args s rmX3_commission.cells rmX3_commission.slots := ⟨_, rfl⟩
  rw [← hQ]
  have G : MG D K s H locs w ad C A B := MG.of G hP
  refine lv_aload_n (pc := 0) hx hb dX3_commission_0 rfl (lv_at hl 0 rfl) ?_
  refine lv_iload_n (pc := 1) hx hb dX3_commission_1 rfl (lv_at hl 1 rfl) ?_
  refine lv_iconst (pc := 2) (v := 0) hx hb dX3_commission_2 (by decide) ?_
  refine lv_iconst (pc := 3) (v := 5) hx hb dX3_commission_3 (by decide) ?_
  refine m_callS (pc := 4) (v := .int (mWithin p0 0 5)) S M G hl.1 [.int p0, .int 0, .int 5] [.ref (ad 0)] (fun w => metX3_isWithin l D K w p0 0 5) 3 q1407 q1405 q1406 q26 (by decide) rfl (⟨Nat.le_of_ble_eq_true rfl, Nat.le_of_ble_eq_true rfl⟩) rfl (Nat.le_of_ble_eq_true rfl) dX3_commission_4 ⟨Nat.le_of_ble_eq_true rfl, Nat.le_of_ble_eq_true rfl⟩ (fun H locs G => ?_)
  refine W.eq (g2 := F0 m 7 ls [.int (mWithin p0 0 5), .ref (ad 0)]) rfl ?_
  refine lv_if_ne (pc := 7) (tgt := 14) hx hb dX3_commission_7 (by decide) (fun c1 => ?_) (fun c1 => ?_)
  · refine lv_iload_n (pc := 14) hx hb dX3_commission_14 rfl (lv_at hl 2 rfl) ?_
    refine lv_iconst (pc := 15) (v := 0) hx hb dX3_commission_15 (by decide) ?_
    refine lv_bipush (pc := 16) (v := 50) hx hb dX3_commission_16 (by decide) ?_
    refine m_callS (pc := 18) (v := .int (mWithin p1 0 50)) S M G hl.1 [.int p1, .int 0, .int 50] [.ref (ad 0)] (fun w => metX3_isWithin l D K w p1 0 50) 3 q1407 q1405 q1406 q26 (by decide) rfl (⟨Nat.le_of_ble_eq_true rfl, Nat.le_of_ble_eq_true rfl⟩) rfl (Nat.le_of_ble_eq_true rfl) dX3_commission_18 ⟨Nat.le_of_ble_eq_true rfl, Nat.le_of_ble_eq_true rfl⟩ (fun H locs G => ?_)
    refine W.eq (g2 := F0 m 21 ls [.int (mWithin p1 0 50), .ref (ad 0)]) rfl ?_
    refine lv_if_ne (pc := 21) (tgt := 28) hx hb dX3_commission_21 (by decide) (fun c2 => ?_) (fun c2 => ?_)
    · refine lv_iconst (pc := 28) (v := 0) hx hb dX3_commission_28 (by decide) ?_
      refine m_putC (pc := 29) S M G 23 (by decide) q1346 rfl rfl rfl rfl (C' := (upd C 23 0)) (B' := B) (mfs_C23 _ _ _ _) dX3_commission_29 (fun H locs G => ?_)
      refine lv_aload_n (pc := 32) hx hb dX3_commission_32 rfl (lv_at hl 0 rfl) ?_
      refine m_get (pc := 33) (v := .int 0) S M G 23 (by decide) q1346 rfl rfl dX3_commission_33 ?_
      refine lv_if_le (pc := 36) (tgt := 41) hx hb dX3_commission_36 (by decide) (fun _ => ?_) (fun c => absurd c (by decide))
      refine lv_aload_n (pc := 41) hx hb dX3_commission_41 rfl (lv_at hl 0 rfl) ?_
      refine m_get (pc := 42) (v := .ref (ad 17)) S M G 17 (by decide) q1340 rfl rfl dX3_commission_42 ?_
      refine lv_iload_n (pc := 45) hx hb dX3_commission_45 rfl (lv_at hl 1 rfl) ?_
      refine m_ald (pc := 46) (v := (A 17 p0.toNatClampNeg)) S M G 17 rfl (mSel_in c1) rfl dX3_commission_46 ?_
      refine lv_istore_n (pc := 47) (lv' := [(3, .int (A 17 p0.toNatClampNeg)), (0, .ref (ad 0)), (1, .int p0), (2, .int p1)]) hx hb dX3_commission_47 rfl hl (by decide) rfl (fun ls hl => ?_)
      refine lv_aload_n (pc := 48) hx hb dX3_commission_48 rfl (lv_at hl 1 rfl) ?_
      refine m_get (pc := 49) (v := .ref (ad 17)) S M G 17 (by decide) q1340 rfl rfl dX3_commission_49 ?_
      refine lv_iload_n (pc := 52) hx hb dX3_commission_52 rfl (lv_at hl 2 rfl) ?_
      refine lv_iload_n (pc := 53) hx hb dX3_commission_53 rfl (lv_at hl 3 rfl) ?_
      refine m_ast (pc := 54) S M G 17 rfl (mSel_in c1) dX3_commission_54 (fun H locs G => ?_)
      refine lv_iload_n (pc := 55) hx hb dX3_commission_55 rfl (lv_at hl 0 rfl) ?_
      rw [hQ]
      refine m_iret (sp := (mS_commission C A B p0 p1)) S G hr hlocks (hdg := dX3_commission_56) ?_ ?_ ?_
      · exact Nat.le_of_ble_eq_true rfl
      · exact Nat.le_of_ble_eq_true rfl
      · unfold mS_commission; rw [if_neg c1, if_neg c2]
    · refine lv_iconst (pc := 24) (v := 2) hx hb dX3_commission_24 (by decide) ?_
      refine lv_goto (pc := 25) (tgt := 29) hx hb dX3_commission_25 (by decide) ?_
      refine m_putC (pc := 29) S M G 23 (by decide) q1346 rfl rfl rfl rfl (C' := (upd C 23 2)) (B' := B) (mfs_C23 _ _ _ _) dX3_commission_29 (fun H locs G => ?_)
      refine lv_aload_n (pc := 32) hx hb dX3_commission_32 rfl (lv_at hl 0 rfl) ?_
      refine m_get (pc := 33) (v := .int 2) S M G 23 (by decide) q1346 rfl rfl dX3_commission_33 ?_
      refine lv_if_le (pc := 36) (tgt := 41) hx hb dX3_commission_36 (by decide) (fun c => absurd c (by decide)) (fun _ => ?_)
      refine lv_iconst (pc := 39) (v := 0) hx hb dX3_commission_39 (by decide) ?_
      rw [hQ]
      refine m_iret (sp := (mS_commission C A B p0 p1)) S G hr hlocks (hdg := dX3_commission_40) ?_ ?_ ?_
      · exact Nat.le_of_ble_eq_true rfl
      · exact Nat.le_of_ble_eq_true rfl
      · unfold mS_commission; rw [if_neg c1, if_pos c2]
  · refine lv_iconst (pc := 10) (v := 1) hx hb dX3_commission_10 (by decide) ?_
    refine lv_goto (pc := 11) (tgt := 29) hx hb dX3_commission_11 (by decide) ?_
    refine m_putC (pc := 29) S M G 23 (by decide) q1346 rfl rfl rfl rfl (C' := (upd C 23 1)) (B' := B) (mfs_C23 _ _ _ _) dX3_commission_29 (fun H locs G => ?_)
    refine lv_aload_n (pc := 32) hx hb dX3_commission_32 rfl (lv_at hl 0 rfl) ?_
    refine m_get (pc := 33) (v := .int 1) S M G 23 (by decide) q1346 rfl rfl dX3_commission_33 ?_
    refine lv_if_le (pc := 36) (tgt := 41) hx hb dX3_commission_36 (by decide) (fun c => absurd c (by decide)) (fun _ => ?_)
    refine lv_iconst (pc := 39) (v := 0) hx hb dX3_commission_39 (by decide) ?_
    rw [hQ]
    refine m_iret (sp := (mS_commission C A B p0 p1)) S G hr hlocks (hdg := dX3_commission_40) ?_ ?_ ?_
    · exact Nat.le_of_ble_eq_true rfl
    · exact Nat.le_of_ble_eq_true rfl
    · unfold mS_commission; rw [if_pos c1]
def mS_rate (C : Nat → Int32) (A : Nat → Nat → Int32) (B : Nat → Int64) (p0 : Int32) : mSp Int32 := if (mWithin p0 0 100) = 0 then (0, (upd C 23 1), A, B) else ((C 18), (upd (upd C 23 0) 18 p0), A, B)
abbrev rmX3_rate : Room := ({ frames := 1, cells := 0, slots := 0, locals := 22 } : Room)
set_option maxHeartbeats 4000000 in
theorem metX3_rate (l : Launch) (D : va_G) (K ad : Nat → Nat) (C : Nat → Int32) (A : Nat → Nat → Int32) (B : Nat → Int64) (p0 : Int32) : MMet l yX3_rate (ws_ yX3_rate cX3_rate 3 (some .int)) rmX3_rate D K [.int p0] ad C A B (some (.int (mS_rate C A B p0).1)) (mS_rate C A B p0).2.1 (mS_rate C A B p0).2.2.1 (mS_rate C A B p0).2.2.2 := by
  intro w hP
  refine gMet.of (by decide) (Nat.le_of_ble_eq_true rfl) ?_
  intro p e s m args below meth c H locs ls S M hr hlocks hname G hl
  have hx := S.1
  have hb := S.2.1
  have hown := S.2.2.2.1
  have hts := S.2.2.2.2
  have hl : lv_has ls 3 [(0, .ref (ad 0)), (1, .int p0)] := hl
  obtain ⟨Q, hQ⟩ : ∃ Q, Q = gE below D K (mPost D K w ad (some (.int (mS_rate C A B p0).1)) (mS_rate C A B p0).2.1 (mS_rate C A B p0).2.2.1 (mS_rate C A B p0).2.2.2) args s rmX3_rate.cells rmX3_rate.slots := ⟨_, rfl⟩
  rw [← hQ]
  have G : MG D K s H locs w ad C A B := MG.of G hP
  refine lv_aload_n (pc := 0) hx hb dX3_rate_0 rfl (lv_at hl 0 rfl) ?_
  refine lv_iload_n (pc := 1) hx hb dX3_rate_1 rfl (lv_at hl 1 rfl) ?_
  refine lv_iconst (pc := 2) (v := 0) hx hb dX3_rate_2 (by decide) ?_
  refine lv_bipush (pc := 3) (v := 100) hx hb dX3_rate_3 (by decide) ?_
  refine m_callS (pc := 5) (v := .int (mWithin p0 0 100)) S M G hl.1 [.int p0, .int 0, .int 100] [.ref (ad 0)] (fun w => metX3_isWithin l D K w p0 0 100) 3 q1407 q1405 q1406 q26 (by decide) rfl (⟨Nat.le_of_ble_eq_true rfl, Nat.le_of_ble_eq_true rfl⟩) rfl (Nat.le_of_ble_eq_true rfl) dX3_rate_5 ⟨Nat.le_of_ble_eq_true rfl, Nat.le_of_ble_eq_true rfl⟩ (fun H locs G => ?_)
  refine W.eq (g2 := F0 m 8 ls [.int (mWithin p0 0 100), .ref (ad 0)]) rfl ?_
  refine lv_if_eq (pc := 8) (tgt := 15) hx hb dX3_rate_8 (by decide) (fun c1 => ?_) (fun c1 => ?_)
  · refine lv_iconst (pc := 15) (v := 1) hx hb dX3_rate_15 (by decide) ?_
    refine m_putC (pc := 16) S M G 23 (by decide) q1346 rfl rfl rfl rfl (C' := (upd C 23 1)) (B' := B) (mfs_C23 _ _ _ _) dX3_rate_16 (fun H locs G => ?_)
    refine lv_aload_n (pc := 19) hx hb dX3_rate_19 rfl (lv_at hl 0 rfl) ?_
    refine m_get (pc := 20) (v := .int 1) S M G 23 (by decide) q1346 rfl rfl dX3_rate_20 ?_
    refine lv_if_le (pc := 23) (tgt := 28) hx hb dX3_rate_23 (by decide) (fun c => absurd c (by decide)) (fun _ => ?_)
    refine lv_iconst (pc := 26) (v := 0) hx hb dX3_rate_26 (by decide) ?_
    rw [hQ]
    refine m_iret (sp := (mS_rate C A B p0)) S G hr hlocks (hdg := dX3_rate_27) ?_ ?_ ?_
    · exact Nat.le_of_ble_eq_true rfl
    · exact Nat.le_of_ble_eq_true rfl
    · unfold mS_rate; rw [if_pos c1]
  · refine lv_iconst (pc := 11) (v := 0) hx hb dX3_rate_11 (by decide) ?_
    refine lv_goto (pc := 12) (tgt := 16) hx hb dX3_rate_12 (by decide) ?_
    refine m_putC (pc := 16) S M G 23 (by decide) q1346 rfl rfl rfl rfl (C' := (upd C 23 0)) (B' := B) (mfs_C23 _ _ _ _) dX3_rate_16 (fun H locs G => ?_)
    refine lv_aload_n (pc := 19) hx hb dX3_rate_19 rfl (lv_at hl 0 rfl) ?_
    refine m_get (pc := 20) (v := .int 0) S M G 23 (by decide) q1346 rfl rfl dX3_rate_20 ?_
    refine lv_if_le (pc := 23) (tgt := 28) hx hb dX3_rate_23 (by decide) (fun _ => ?_) (fun c => absurd c (by decide))
    refine lv_aload_n (pc := 28) hx hb dX3_rate_28 rfl (lv_at hl 0 rfl) ?_
    refine m_get (pc := 29) (v := .int (C 18)) S M G 18 (by decide) q1341 rfl rfl dX3_rate_29 ?_
    refine lv_istore_n (pc := 32) (lv' := [(2, .int (C 18)), (0, .ref (ad 0)), (1, .int p0)]) hx hb dX3_rate_32 rfl hl (by decide) rfl (fun ls hl => ?_)
    refine lv_aload_n (pc := 33) hx hb dX3_rate_33 rfl (lv_at hl 1 rfl) ?_
    refine lv_iload_n (pc := 34) hx hb dX3_rate_34 rfl (lv_at hl 2 rfl) ?_
    refine m_putC (pc := 35) S M G 18 (by decide) q1341 rfl rfl rfl rfl (C' := (upd (upd C 23 0) 18 p0)) (B' := B) (mfs_C18 _ _ _ _) dX3_rate_35 (fun H locs G => ?_)
    refine lv_iload_n (pc := 38) hx hb dX3_rate_38 rfl (lv_at hl 0 rfl) ?_
    rw [hQ]
    refine m_iret (sp := (mS_rate C A B p0)) S G hr hlocks (hdg := dX3_rate_39) ?_ ?_ ?_
    · exact Nat.le_of_ble_eq_true rfl
    · exact Nat.le_of_ble_eq_true rfl
    · unfold mS_rate; rw [if_neg c1]
def mS_days (C : Nat → Int32) (A : Nat → Nat → Int32) (B : Nat → Int64) (p0 : Int32) : mSp Int32 := if (mWithin p0 1 200) = 0 then (0, (upd (upd C 23 1) 19 ((C 19) + 0)), A, B) else (if ((C 19) + p0) ≤ 7300 then (((C 19) + p0), (upd (upd C 23 0) 19 ((C 19) + p0)), A, B) else (0, (upd (upd C 23 2) 19 ((C 19) + 0)), A, B))
abbrev rmX3_days : Room := ({ frames := 1, cells := 0, slots := 0, locals := 22 } : Room)
set_option maxHeartbeats 4000000 in
theorem metX3_days (l : Launch) (D : va_G) (K ad : Nat → Nat) (C : Nat → Int32) (A : Nat → Nat → Int32) (B : Nat → Int64) (p0 : Int32) : MMet l yX3_days (ws_ yX3_days cX3_days 2 (some .int)) rmX3_days D K [.int p0] ad C A B (some (.int (mS_days C A B p0).1)) (mS_days C A B p0).2.1 (mS_days C A B p0).2.2.1 (mS_days C A B p0).2.2.2 := by
  intro w hP
  refine gMet.of (by decide) (Nat.le_of_ble_eq_true rfl) ?_
  intro p e s m args below meth c H locs ls S M hr hlocks hname G hl
  have hx := S.1
  have hb := S.2.1
  have hown := S.2.2.2.1
  have hts := S.2.2.2.2
  have hl : lv_has ls 2 [(0, .ref (ad 0)), (1, .int p0)] := hl
  obtain ⟨Q, hQ⟩ : ∃ Q, Q = gE below D K (mPost D K w ad (some (.int (mS_days C A B p0).1)) (mS_days C A B p0).2.1 (mS_days C A B p0).2.2.1 (mS_days C A B p0).2.2.2) args s rmX3_days.cells rmX3_days.slots := ⟨_, rfl⟩
  rw [← hQ]
  have G : MG D K s H locs w ad C A B := MG.of G hP
  refine lv_aload_n (pc := 0) hx hb dX3_days_0 rfl (lv_at hl 0 rfl) ?_
  refine lv_iload_n (pc := 1) hx hb dX3_days_1 rfl (lv_at hl 1 rfl) ?_
  refine lv_iconst (pc := 2) (v := 1) hx hb dX3_days_2 (by decide) ?_
  refine lv_sipush (pc := 3) (v := 200) hx hb dX3_days_3 (by decide) ?_
  refine m_callS (pc := 6) (v := .int (mWithin p0 1 200)) S M G hl.1 [.int p0, .int 1, .int 200] [.ref (ad 0)] (fun w => metX3_isWithin l D K w p0 1 200) 3 q1407 q1405 q1406 q26 (by decide) rfl (⟨Nat.le_of_ble_eq_true rfl, Nat.le_of_ble_eq_true rfl⟩) rfl (Nat.le_of_ble_eq_true rfl) dX3_days_6 ⟨Nat.le_of_ble_eq_true rfl, Nat.le_of_ble_eq_true rfl⟩ (fun H locs G => ?_)
  refine W.eq (g2 := F0 m 9 ls [.int (mWithin p0 1 200), .ref (ad 0)]) rfl ?_
  refine lv_if_ne (pc := 9) (tgt := 16) hx hb dX3_days_9 (by decide) (fun c1 => ?_) (fun c1 => ?_)
  · refine lv_aload_n (pc := 16) hx hb dX3_days_16 rfl (lv_at hl 0 rfl) ?_
    refine m_get (pc := 17) (v := .int (C 19)) S M G 19 (by decide) q1342 rfl rfl dX3_days_17 ?_
    refine lv_iload_n (pc := 20) hx hb dX3_days_20 rfl (lv_at hl 1 rfl) ?_
    refine lv_iadd (pc := 21) hx hb dX3_days_21 ?_
    refine lv_sipush (pc := 22) (v := 7300) hx hb dX3_days_22 (by decide) ?_
    refine lv_icmp_le (pc := 25) (tgt := 32) hx hb dX3_days_25 (by decide) (fun c2 => ?_) (fun c2 => ?_)
    · refine lv_iconst (pc := 32) (v := 0) hx hb dX3_days_32 (by decide) ?_
      refine m_putC (pc := 33) S M G 23 (by decide) q1346 rfl rfl rfl rfl (C' := (upd C 23 0)) (B' := B) (mfs_C23 _ _ _ _) dX3_days_33 (fun H locs G => ?_)
      refine lv_aload_n (pc := 36) hx hb dX3_days_36 rfl (lv_at hl 0 rfl) ?_
      refine lv_dup (pc := 37) hx hb dX3_days_37 rfl ?_
      refine m_get (pc := 38) (v := .int (C 19)) S M G 19 (by decide) q1342 rfl rfl dX3_days_38 ?_
      refine lv_aload_n (pc := 41) hx hb dX3_days_41 rfl (lv_at hl 0 rfl) ?_
      refine m_get (pc := 42) (v := .int 0) S M G 23 (by decide) q1346 rfl rfl dX3_days_42 ?_
      refine lv_if_ne (pc := 45) (tgt := 52) hx hb dX3_days_45 (by decide) (fun c => absurd c (by decide)) (fun _ => ?_)
      refine lv_iload_n (pc := 48) hx hb dX3_days_48 rfl (lv_at hl 1 rfl) ?_
      refine lv_goto (pc := 49) (tgt := 53) hx hb dX3_days_49 (by decide) ?_
      refine lv_iadd (pc := 53) hx hb dX3_days_53 ?_
      refine m_putC (pc := 54) S M G 19 (by decide) q1342 rfl rfl rfl rfl (C' := (upd (upd C 23 0) 19 ((C 19) + p0))) (B' := B) (mfs_C19 _ _ _ _) dX3_days_54 (fun H locs G => ?_)
      refine lv_aload_n (pc := 57) hx hb dX3_days_57 rfl (lv_at hl 0 rfl) ?_
      refine m_get (pc := 58) (v := .int 0) S M G 23 (by decide) q1346 rfl rfl dX3_days_58 ?_
      refine lv_if_ne (pc := 61) (tgt := 71) hx hb dX3_days_61 (by decide) (fun c => absurd c (by decide)) (fun _ => ?_)
      refine lv_aload_n (pc := 64) hx hb dX3_days_64 rfl (lv_at hl 0 rfl) ?_
      refine m_get (pc := 65) (v := .int ((C 19) + p0)) S M G 19 (by decide) q1342 rfl rfl dX3_days_65 ?_
      refine lv_goto (pc := 68) (tgt := 72) hx hb dX3_days_68 (by decide) ?_
      rw [hQ]
      refine m_iret (sp := (mS_days C A B p0)) S G hr hlocks (hdg := dX3_days_72) ?_ ?_ ?_
      · exact Nat.le_of_ble_eq_true rfl
      · exact Nat.le_of_ble_eq_true rfl
      · unfold mS_days; rw [if_neg c1, if_pos c2]
    · refine lv_iconst (pc := 28) (v := 2) hx hb dX3_days_28 (by decide) ?_
      refine lv_goto (pc := 29) (tgt := 33) hx hb dX3_days_29 (by decide) ?_
      refine m_putC (pc := 33) S M G 23 (by decide) q1346 rfl rfl rfl rfl (C' := (upd C 23 2)) (B' := B) (mfs_C23 _ _ _ _) dX3_days_33 (fun H locs G => ?_)
      refine lv_aload_n (pc := 36) hx hb dX3_days_36 rfl (lv_at hl 0 rfl) ?_
      refine lv_dup (pc := 37) hx hb dX3_days_37 rfl ?_
      refine m_get (pc := 38) (v := .int (C 19)) S M G 19 (by decide) q1342 rfl rfl dX3_days_38 ?_
      refine lv_aload_n (pc := 41) hx hb dX3_days_41 rfl (lv_at hl 0 rfl) ?_
      refine m_get (pc := 42) (v := .int 2) S M G 23 (by decide) q1346 rfl rfl dX3_days_42 ?_
      refine lv_if_ne (pc := 45) (tgt := 52) hx hb dX3_days_45 (by decide) (fun _ => ?_) (fun c => absurd c (by decide))
      refine lv_iconst (pc := 52) (v := 0) hx hb dX3_days_52 (by decide) ?_
      refine lv_iadd (pc := 53) hx hb dX3_days_53 ?_
      refine m_putC (pc := 54) S M G 19 (by decide) q1342 rfl rfl rfl rfl (C' := (upd (upd C 23 2) 19 ((C 19) + 0))) (B' := B) (mfs_C19 _ _ _ _) dX3_days_54 (fun H locs G => ?_)
      refine lv_aload_n (pc := 57) hx hb dX3_days_57 rfl (lv_at hl 0 rfl) ?_
      refine m_get (pc := 58) (v := .int 2) S M G 23 (by decide) q1346 rfl rfl dX3_days_58 ?_
      refine lv_if_ne (pc := 61) (tgt := 71) hx hb dX3_days_61 (by decide) (fun _ => ?_) (fun c => absurd c (by decide))
      refine lv_iconst (pc := 71) (v := 0) hx hb dX3_days_71 (by decide) ?_
      rw [hQ]
      refine m_iret (sp := (mS_days C A B p0)) S G hr hlocks (hdg := dX3_days_72) ?_ ?_ ?_
      · exact Nat.le_of_ble_eq_true rfl
      · exact Nat.le_of_ble_eq_true rfl
      · unfold mS_days; rw [if_neg c1, if_neg c2]
  · refine lv_iconst (pc := 12) (v := 1) hx hb dX3_days_12 (by decide) ?_
    refine lv_goto (pc := 13) (tgt := 33) hx hb dX3_days_13 (by decide) ?_
    refine m_putC (pc := 33) S M G 23 (by decide) q1346 rfl rfl rfl rfl (C' := (upd C 23 1)) (B' := B) (mfs_C23 _ _ _ _) dX3_days_33 (fun H locs G => ?_)
    refine lv_aload_n (pc := 36) hx hb dX3_days_36 rfl (lv_at hl 0 rfl) ?_
    refine lv_dup (pc := 37) hx hb dX3_days_37 rfl ?_
    refine m_get (pc := 38) (v := .int (C 19)) S M G 19 (by decide) q1342 rfl rfl dX3_days_38 ?_
    refine lv_aload_n (pc := 41) hx hb dX3_days_41 rfl (lv_at hl 0 rfl) ?_
    refine m_get (pc := 42) (v := .int 1) S M G 23 (by decide) q1346 rfl rfl dX3_days_42 ?_
    refine lv_if_ne (pc := 45) (tgt := 52) hx hb dX3_days_45 (by decide) (fun _ => ?_) (fun c => absurd c (by decide))
    refine lv_iconst (pc := 52) (v := 0) hx hb dX3_days_52 (by decide) ?_
    refine lv_iadd (pc := 53) hx hb dX3_days_53 ?_
    refine m_putC (pc := 54) S M G 19 (by decide) q1342 rfl rfl rfl rfl (C' := (upd (upd C 23 1) 19 ((C 19) + 0))) (B' := B) (mfs_C19 _ _ _ _) dX3_days_54 (fun H locs G => ?_)
    refine lv_aload_n (pc := 57) hx hb dX3_days_57 rfl (lv_at hl 0 rfl) ?_
    refine m_get (pc := 58) (v := .int 1) S M G 23 (by decide) q1346 rfl rfl dX3_days_58 ?_
    refine lv_if_ne (pc := 61) (tgt := 71) hx hb dX3_days_61 (by decide) (fun _ => ?_) (fun c => absurd c (by decide))
    refine lv_iconst (pc := 71) (v := 0) hx hb dX3_days_71 (by decide) ?_
    rw [hQ]
    refine m_iret (sp := (mS_days C A B p0)) S G hr hlocks (hdg := dX3_days_72) ?_ ?_ ?_
    · exact Nat.le_of_ble_eq_true rfl
    · exact Nat.le_of_ble_eq_true rfl
    · unfold mS_days; rw [if_pos c1]
def mAskT (C : Nat → Int32) (A : Nat → Nat → Int32) (B : Nat → Int64) (p0 : Int32) : Int32 := if mF_isLot C A B p0 = 0 then 1 else 0
def mAskR (C : Nat → Int32) (A : Nat → Nat → Int32) (B : Nat → Int64) (p0 : Int32) : Int32 := if mF_isLot C A B p0 = 0 then 0 else 1
def mS_asksFor (C : Nat → Int32) (A : Nat → Nat → Int32) (B : Nat → Int64) (p0 : Int32) : mSp Int32 := (mAskR C A B p0, upd C 23 (mAskT C A B p0), A, B)
theorem mAsk_lot {C : Nat → Int32} {A : Nat → Nat → Int32} {B : Nat → Int64} {p : Int32} (h : ¬ mAskR C A B p = 0) : ¬ mF_isLot C A B p = 0 := by
  intro e
  exact h (if_pos e)
abbrev rmX3_asksFor : Room := ({ frames := 2, cells := 0, slots := 0, locals := 43 } : Room)
set_option maxHeartbeats 4000000 in
theorem metX3_asksFor (l : Launch) (D : va_G) (K ad : Nat → Nat) (C : Nat → Int32) (A : Nat → Nat → Int32) (B : Nat → Int64) (p0 : Int32) : MMet l yX3_asksFor (ws_ yX3_asksFor cX3_asksFor 2 (some .boolean)) rmX3_asksFor D K [.int p0] ad C A B (some (.int (mS_asksFor C A B p0).1)) (mS_asksFor C A B p0).2.1 (mS_asksFor C A B p0).2.2.1 (mS_asksFor C A B p0).2.2.2 := by
  intro w hP
  refine gMet.of (by decide) (Nat.le_of_ble_eq_true rfl) ?_
  intro p e s m args below meth c H locs ls S M hr hlocks hname G hl
  have hx := S.1
  have hb := S.2.1
  have hown := S.2.2.2.1
  have hts := S.2.2.2.2
  have hl : lv_has ls 2 [(0, .ref (ad 0)), (1, .int p0)] := hl
  obtain ⟨Q, hQ⟩ : ∃ Q, Q = gE below D K (mPost D K w ad (some (.int (mS_asksFor C A B p0).1)) (mS_asksFor C A B p0).2.1 (mS_asksFor C A B p0).2.2.1 (mS_asksFor C A B p0).2.2.2) args s rmX3_asksFor.cells rmX3_asksFor.slots := ⟨_, rfl⟩
  rw [← hQ]
  have G : MG D K s H locs w ad C A B := MG.of G hP
  refine lv_aload_n (pc := 0) hx hb dX3_asksFor_0 rfl (lv_at hl 0 rfl) ?_
  refine lv_aload_n (pc := 1) hx hb dX3_asksFor_1 rfl (lv_at hl 0 rfl) ?_
  refine lv_iload_n (pc := 2) hx hb dX3_asksFor_2 rfl (lv_at hl 1 rfl) ?_
  refine m_callV (pc := 3) S M G hl.1 [.int p0] [.ref (ad 0)] (metX3_isLot l D K ad C A B p0 ) 1 q1425 q1422 q1424 qs10 q26 (by decide) rfl (⟨Nat.le_of_ble_eq_true rfl, Nat.le_of_ble_eq_true rfl⟩) rfl (Nat.le_of_ble_eq_true rfl) dX3_asksFor_3 ⟨Nat.le_of_ble_eq_true rfl, Nat.le_of_ble_eq_true rfl⟩ (fun H locs G => ?_)
  have G : MG D K s H locs w ad C A B := G
  refine W.eq (g2 := F0 m 6 ls [.int (mF_isLot C A B p0), .ref (ad 0)]) rfl ?_
  refine lv_if_eq (pc := 6) (tgt := 13) hx hb dX3_asksFor_6 (by decide) (fun c1 => ?_) (fun c1 => ?_)
  · refine lv_iconst (pc := 13) (v := 1) hx hb dX3_asksFor_13 (by decide) ?_
    refine m_putC (pc := 14) S M G 23 (by decide) q1346 rfl rfl rfl rfl (C' := (upd C 23 1)) (B' := B) (mfs_C23 _ _ _ _) dX3_asksFor_14 (fun H locs G => ?_)
    refine lv_aload_n (pc := 17) hx hb dX3_asksFor_17 rfl (lv_at hl 0 rfl) ?_
    refine m_get (pc := 18) (v := .int 1) S M G 23 (by decide) q1346 rfl rfl dX3_asksFor_18 ?_
    refine lv_if_ne (pc := 21) (tgt := 28) hx hb dX3_asksFor_21 (by decide) (fun _ => ?_) (fun c => absurd c (by decide))
    refine lv_iconst (pc := 28) (v := 0) hx hb dX3_asksFor_28 (by decide) ?_
    rw [hQ]
    refine m_zret (sp := (mS_asksFor C A B p0)) S G hr hlocks (hv := ?_) (hdg := dX3_asksFor_29) ?_ ?_ ?_
    · first | exact Or.inl rfl | exact Or.inr rfl | exact mWithin_01 _ _ _
    · exact Nat.le_of_ble_eq_true rfl
    · exact Nat.le_of_ble_eq_true rfl
    · unfold mS_asksFor mAskR mAskT; simp only [if_pos c1]
  · refine lv_iconst (pc := 9) (v := 0) hx hb dX3_asksFor_9 (by decide) ?_
    refine lv_goto (pc := 10) (tgt := 14) hx hb dX3_asksFor_10 (by decide) ?_
    refine m_putC (pc := 14) S M G 23 (by decide) q1346 rfl rfl rfl rfl (C' := (upd C 23 0)) (B' := B) (mfs_C23 _ _ _ _) dX3_asksFor_14 (fun H locs G => ?_)
    refine lv_aload_n (pc := 17) hx hb dX3_asksFor_17 rfl (lv_at hl 0 rfl) ?_
    refine m_get (pc := 18) (v := .int 0) S M G 23 (by decide) q1346 rfl rfl dX3_asksFor_18 ?_
    refine lv_if_ne (pc := 21) (tgt := 28) hx hb dX3_asksFor_21 (by decide) (fun c => absurd c (by decide)) (fun _ => ?_)
    refine lv_iconst (pc := 24) (v := 1) hx hb dX3_asksFor_24 (by decide) ?_
    refine lv_goto (pc := 25) (tgt := 29) hx hb dX3_asksFor_25 (by decide) ?_
    rw [hQ]
    refine m_zret (sp := (mS_asksFor C A B p0)) S G hr hlocks (hv := ?_) (hdg := dX3_asksFor_29) ?_ ?_ ?_
    · first | exact Or.inl rfl | exact Or.inr rfl | exact mWithin_01 _ _ _
    · exact Nat.le_of_ble_eq_true rfl
    · exact Nat.le_of_ble_eq_true rfl
    · unfold mS_asksFor mAskR mAskT; simp only [if_neg c1]
def mS_state (C : Nat → Int32) (A : Nat → Nat → Int32) (B : Nat → Int64) (p0 : Int32) : mSp Int32 := if (mAskR C A B p0) = 0 then (0, (upd C 23 (mAskT C A B p0)), A, B) else ((A 4 p0.toNatClampNeg), (upd C 23 (mAskT C A B p0)), A, B)
abbrev rmX3_state : Room := ({ frames := 3, cells := 0, slots := 0, locals := 64 } : Room)
set_option maxHeartbeats 4000000 in
theorem metX3_state (l : Launch) (D : va_G) (K ad : Nat → Nat) (C : Nat → Int32) (A : Nat → Nat → Int32) (B : Nat → Int64) (p0 : Int32) (hC : 0 ≤ (C 0).toInt ∧ (C 0).toInt ≤ 30) : MMet l yX3_state (ws_ yX3_state cX3_state 2 (some .int)) rmX3_state D K [.int p0] ad C A B (some (.int (mS_state C A B p0).1)) (mS_state C A B p0).2.1 (mS_state C A B p0).2.2.1 (mS_state C A B p0).2.2.2 := by
  intro w hP
  refine gMet.of (by decide) (Nat.le_of_ble_eq_true rfl) ?_
  intro p e s m args below meth c H locs ls S M hr hlocks hname G hl
  have hx := S.1
  have hb := S.2.1
  have hown := S.2.2.2.1
  have hts := S.2.2.2.2
  have hl : lv_has ls 2 [(0, .ref (ad 0)), (1, .int p0)] := hl
  obtain ⟨Q, hQ⟩ : ∃ Q, Q = gE below D K (mPost D K w ad (some (.int (mS_state C A B p0).1)) (mS_state C A B p0).2.1 (mS_state C A B p0).2.2.1 (mS_state C A B p0).2.2.2) args s rmX3_state.cells rmX3_state.slots := ⟨_, rfl⟩
  rw [← hQ]
  have G : MG D K s H locs w ad C A B := MG.of G hP
  refine lv_aload_n (pc := 0) hx hb dX3_state_0 rfl (lv_at hl 0 rfl) ?_
  refine lv_iload_n (pc := 1) hx hb dX3_state_1 rfl (lv_at hl 1 rfl) ?_
  refine m_callV (pc := 2) S M G hl.1 [.int p0] [] (metX3_asksFor l D K ad C A B p0 ) 1 q1512 q1509 q1511 qs16 q26 (by decide) rfl (⟨Nat.le_of_ble_eq_true rfl, Nat.le_of_ble_eq_true rfl⟩) rfl (Nat.le_of_ble_eq_true rfl) dX3_state_2 ⟨Nat.le_of_ble_eq_true rfl, Nat.le_of_ble_eq_true rfl⟩ (fun H locs G => ?_)
  have G : MG D K s H locs w ad (upd C 23 (mAskT C A B p0)) A B := G
  refine W.eq (g2 := F0 m 5 ls [.int (mAskR C A B p0)]) rfl ?_
  refine lv_if_eq (pc := 5) (tgt := 17) hx hb dX3_state_5 (by decide) (fun c1 => ?_) (fun c1 => ?_)
  · refine lv_iconst (pc := 17) (v := 0) hx hb dX3_state_17 (by decide) ?_
    rw [hQ]
    refine m_iret (sp := (mS_state C A B p0)) S G hr hlocks (hdg := dX3_state_18) ?_ ?_ ?_
    · exact Nat.le_of_ble_eq_true rfl
    · exact Nat.le_of_ble_eq_true rfl
    · unfold mS_state; rw [if_pos c1]
  · refine lv_aload_n (pc := 8) hx hb dX3_state_8 rfl (lv_at hl 0 rfl) ?_
    refine m_get (pc := 9) (v := .ref (ad 4)) S M G 4 (by decide) q1327 rfl rfl dX3_state_9 ?_
    refine lv_iload_n (pc := 12) hx hb dX3_state_12 rfl (lv_at hl 1 rfl) ?_
    refine m_ald (pc := 13) (v := (A 4 p0.toNatClampNeg)) S M G 4 rfl (mLot_in hC (mAsk_lot c1)) rfl dX3_state_13 ?_
    refine lv_goto (pc := 14) (tgt := 18) hx hb dX3_state_14 (by decide) ?_
    rw [hQ]
    refine m_iret (sp := (mS_state C A B p0)) S G hr hlocks (hdg := dX3_state_18) ?_ ?_ ?_
    · exact Nat.le_of_ble_eq_true rfl
    · exact Nat.le_of_ble_eq_true rfl
    · unfold mS_state; rw [if_neg c1]
def mS_buyerOf (C : Nat → Int32) (A : Nat → Nat → Int32) (B : Nat → Int64) (p0 : Int32) : mSp Int32 := if (mAskR C A B p0) = 0 then (0, (upd C 23 (mAskT C A B p0)), A, B) else (if (A 4 p0.toNatClampNeg) < 2 then ((-1), (upd C 23 (mAskT C A B p0)), A, B) else ((A 5 p0.toNatClampNeg), (upd C 23 (mAskT C A B p0)), A, B))
abbrev rmX3_buyerOf : Room := ({ frames := 3, cells := 0, slots := 0, locals := 64 } : Room)
set_option maxHeartbeats 4000000 in
theorem metX3_buyerOf (l : Launch) (D : va_G) (K ad : Nat → Nat) (C : Nat → Int32) (A : Nat → Nat → Int32) (B : Nat → Int64) (p0 : Int32) (hC : 0 ≤ (C 0).toInt ∧ (C 0).toInt ≤ 30) : MMet l yX3_buyerOf (ws_ yX3_buyerOf cX3_buyerOf 2 (some .int)) rmX3_buyerOf D K [.int p0] ad C A B (some (.int (mS_buyerOf C A B p0).1)) (mS_buyerOf C A B p0).2.1 (mS_buyerOf C A B p0).2.2.1 (mS_buyerOf C A B p0).2.2.2 := by
  intro w hP
  refine gMet.of (by decide) (Nat.le_of_ble_eq_true rfl) ?_
  intro p e s m args below meth c H locs ls S M hr hlocks hname G hl
  have hx := S.1
  have hb := S.2.1
  have hown := S.2.2.2.1
  have hts := S.2.2.2.2
  have hl : lv_has ls 2 [(0, .ref (ad 0)), (1, .int p0)] := hl
  obtain ⟨Q, hQ⟩ : ∃ Q, Q = gE below D K (mPost D K w ad (some (.int (mS_buyerOf C A B p0).1)) (mS_buyerOf C A B p0).2.1 (mS_buyerOf C A B p0).2.2.1 (mS_buyerOf C A B p0).2.2.2) args s rmX3_buyerOf.cells rmX3_buyerOf.slots := ⟨_, rfl⟩
  rw [← hQ]
  have G : MG D K s H locs w ad C A B := MG.of G hP
  refine lv_aload_n (pc := 0) hx hb dX3_buyerOf_0 rfl (lv_at hl 0 rfl) ?_
  refine lv_iload_n (pc := 1) hx hb dX3_buyerOf_1 rfl (lv_at hl 1 rfl) ?_
  refine m_callV (pc := 2) S M G hl.1 [.int p0] [] (metX3_asksFor l D K ad C A B p0 ) 1 q1512 q1509 q1511 qs16 q26 (by decide) rfl (⟨Nat.le_of_ble_eq_true rfl, Nat.le_of_ble_eq_true rfl⟩) rfl (Nat.le_of_ble_eq_true rfl) dX3_buyerOf_2 ⟨Nat.le_of_ble_eq_true rfl, Nat.le_of_ble_eq_true rfl⟩ (fun H locs G => ?_)
  have G : MG D K s H locs w ad (upd C 23 (mAskT C A B p0)) A B := G
  refine W.eq (g2 := F0 m 5 ls [.int (mAskR C A B p0)]) rfl ?_
  refine lv_if_ne (pc := 5) (tgt := 12) hx hb dX3_buyerOf_5 (by decide) (fun c1 => ?_) (fun c1 => ?_)
  · refine lv_aload_n (pc := 12) hx hb dX3_buyerOf_12 rfl (lv_at hl 0 rfl) ?_
    refine m_get (pc := 13) (v := .ref (ad 4)) S M G 4 (by decide) q1327 rfl rfl dX3_buyerOf_13 ?_
    refine lv_iload_n (pc := 16) hx hb dX3_buyerOf_16 rfl (lv_at hl 1 rfl) ?_
    refine m_ald (pc := 17) (v := (A 4 p0.toNatClampNeg)) S M G 4 rfl (mLot_in hC (mAsk_lot c1)) rfl dX3_buyerOf_17 ?_
    refine lv_iconst (pc := 18) (v := 2) hx hb dX3_buyerOf_18 (by decide) ?_
    refine lv_icmp_lt (pc := 19) (tgt := 31) hx hb dX3_buyerOf_19 (by decide) (fun c2 => ?_) (fun c2 => ?_)
    · refine lv_iconst (pc := 31) (v := (-1)) hx hb dX3_buyerOf_31 (by decide) ?_
      rw [hQ]
      refine m_iret (sp := (mS_buyerOf C A B p0)) S G hr hlocks (hdg := dX3_buyerOf_32) ?_ ?_ ?_
      · exact Nat.le_of_ble_eq_true rfl
      · exact Nat.le_of_ble_eq_true rfl
      · unfold mS_buyerOf; rw [if_neg c1, if_pos c2]
    · refine lv_aload_n (pc := 22) hx hb dX3_buyerOf_22 rfl (lv_at hl 0 rfl) ?_
      refine m_get (pc := 23) (v := .ref (ad 5)) S M G 5 (by decide) q1328 rfl rfl dX3_buyerOf_23 ?_
      refine lv_iload_n (pc := 26) hx hb dX3_buyerOf_26 rfl (lv_at hl 1 rfl) ?_
      refine m_ald (pc := 27) (v := (A 5 p0.toNatClampNeg)) S M G 5 rfl (mLot_in hC (mAsk_lot c1)) rfl dX3_buyerOf_27 ?_
      refine lv_goto (pc := 28) (tgt := 32) hx hb dX3_buyerOf_28 (by decide) ?_
      rw [hQ]
      refine m_iret (sp := (mS_buyerOf C A B p0)) S G hr hlocks (hdg := dX3_buyerOf_32) ?_ ?_ ?_
      · exact Nat.le_of_ble_eq_true rfl
      · exact Nat.le_of_ble_eq_true rfl
      · unfold mS_buyerOf; rw [if_neg c1, if_neg c2]
  · refine lv_iconst (pc := 8) (v := 0) hx hb dX3_buyerOf_8 (by decide) ?_
    refine lv_goto (pc := 9) (tgt := 32) hx hb dX3_buyerOf_9 (by decide) ?_
    rw [hQ]
    refine m_iret (sp := (mS_buyerOf C A B p0)) S G hr hlocks (hdg := dX3_buyerOf_32) ?_ ?_ ?_
    · exact Nat.le_of_ble_eq_true rfl
    · exact Nat.le_of_ble_eq_true rfl
    · unfold mS_buyerOf; rw [if_pos c1]
def mS_price (C : Nat → Int32) (A : Nat → Nat → Int32) (B : Nat → Int64) (p0 : Int32) : mSp Int32 := if (mAskR C A B p0) = 0 then (0, (upd C 23 (mAskT C A B p0)), A, B) else (if (A 4 p0.toNatClampNeg) < 2 then ((-1), (upd C 23 (mAskT C A B p0)), A, B) else ((A 6 p0.toNatClampNeg), (upd C 23 (mAskT C A B p0)), A, B))
abbrev rmX3_price : Room := ({ frames := 3, cells := 0, slots := 0, locals := 64 } : Room)
set_option maxHeartbeats 4000000 in
theorem metX3_price (l : Launch) (D : va_G) (K ad : Nat → Nat) (C : Nat → Int32) (A : Nat → Nat → Int32) (B : Nat → Int64) (p0 : Int32) (hC : 0 ≤ (C 0).toInt ∧ (C 0).toInt ≤ 30) : MMet l yX3_price (ws_ yX3_price cX3_price 2 (some .int)) rmX3_price D K [.int p0] ad C A B (some (.int (mS_price C A B p0).1)) (mS_price C A B p0).2.1 (mS_price C A B p0).2.2.1 (mS_price C A B p0).2.2.2 := by
  intro w hP
  refine gMet.of (by decide) (Nat.le_of_ble_eq_true rfl) ?_
  intro p e s m args below meth c H locs ls S M hr hlocks hname G hl
  have hx := S.1
  have hb := S.2.1
  have hown := S.2.2.2.1
  have hts := S.2.2.2.2
  have hl : lv_has ls 2 [(0, .ref (ad 0)), (1, .int p0)] := hl
  obtain ⟨Q, hQ⟩ : ∃ Q, Q = gE below D K (mPost D K w ad (some (.int (mS_price C A B p0).1)) (mS_price C A B p0).2.1 (mS_price C A B p0).2.2.1 (mS_price C A B p0).2.2.2) args s rmX3_price.cells rmX3_price.slots := ⟨_, rfl⟩
  rw [← hQ]
  have G : MG D K s H locs w ad C A B := MG.of G hP
  refine lv_aload_n (pc := 0) hx hb dX3_price_0 rfl (lv_at hl 0 rfl) ?_
  refine lv_iload_n (pc := 1) hx hb dX3_price_1 rfl (lv_at hl 1 rfl) ?_
  refine m_callV (pc := 2) S M G hl.1 [.int p0] [] (metX3_asksFor l D K ad C A B p0 ) 1 q1512 q1509 q1511 qs16 q26 (by decide) rfl (⟨Nat.le_of_ble_eq_true rfl, Nat.le_of_ble_eq_true rfl⟩) rfl (Nat.le_of_ble_eq_true rfl) dX3_price_2 ⟨Nat.le_of_ble_eq_true rfl, Nat.le_of_ble_eq_true rfl⟩ (fun H locs G => ?_)
  have G : MG D K s H locs w ad (upd C 23 (mAskT C A B p0)) A B := G
  refine W.eq (g2 := F0 m 5 ls [.int (mAskR C A B p0)]) rfl ?_
  refine lv_if_ne (pc := 5) (tgt := 12) hx hb dX3_price_5 (by decide) (fun c1 => ?_) (fun c1 => ?_)
  · refine lv_aload_n (pc := 12) hx hb dX3_price_12 rfl (lv_at hl 0 rfl) ?_
    refine m_get (pc := 13) (v := .ref (ad 4)) S M G 4 (by decide) q1327 rfl rfl dX3_price_13 ?_
    refine lv_iload_n (pc := 16) hx hb dX3_price_16 rfl (lv_at hl 1 rfl) ?_
    refine m_ald (pc := 17) (v := (A 4 p0.toNatClampNeg)) S M G 4 rfl (mLot_in hC (mAsk_lot c1)) rfl dX3_price_17 ?_
    refine lv_iconst (pc := 18) (v := 2) hx hb dX3_price_18 (by decide) ?_
    refine lv_icmp_lt (pc := 19) (tgt := 31) hx hb dX3_price_19 (by decide) (fun c2 => ?_) (fun c2 => ?_)
    · refine lv_iconst (pc := 31) (v := (-1)) hx hb dX3_price_31 (by decide) ?_
      rw [hQ]
      refine m_iret (sp := (mS_price C A B p0)) S G hr hlocks (hdg := dX3_price_32) ?_ ?_ ?_
      · exact Nat.le_of_ble_eq_true rfl
      · exact Nat.le_of_ble_eq_true rfl
      · unfold mS_price; rw [if_neg c1, if_pos c2]
    · refine lv_aload_n (pc := 22) hx hb dX3_price_22 rfl (lv_at hl 0 rfl) ?_
      refine m_get (pc := 23) (v := .ref (ad 6)) S M G 6 (by decide) q1329 rfl rfl dX3_price_23 ?_
      refine lv_iload_n (pc := 26) hx hb dX3_price_26 rfl (lv_at hl 1 rfl) ?_
      refine m_ald (pc := 27) (v := (A 6 p0.toNatClampNeg)) S M G 6 rfl (mLot_in hC (mAsk_lot c1)) rfl dX3_price_27 ?_
      refine lv_goto (pc := 28) (tgt := 32) hx hb dX3_price_28 (by decide) ?_
      rw [hQ]
      refine m_iret (sp := (mS_price C A B p0)) S G hr hlocks (hdg := dX3_price_32) ?_ ?_ ?_
      · exact Nat.le_of_ble_eq_true rfl
      · exact Nat.le_of_ble_eq_true rfl
      · unfold mS_price; rw [if_neg c1, if_neg c2]
  · refine lv_iconst (pc := 8) (v := 0) hx hb dX3_price_8 (by decide) ?_
    refine lv_goto (pc := 9) (tgt := 32) hx hb dX3_price_9 (by decide) ?_
    rw [hQ]
    refine m_iret (sp := (mS_price C A B p0)) S G hr hlocks (hdg := dX3_price_32) ?_ ?_ ?_
    · exact Nat.le_of_ble_eq_true rfl
    · exact Nat.le_of_ble_eq_true rfl
    · unfold mS_price; rw [if_pos c1]
def mS_bids (C : Nat → Int32) (A : Nat → Nat → Int32) (B : Nat → Int64) (p0 : Int32) : mSp Int32 := if (mAskR C A B p0) = 0 then (0, (upd C 23 (mAskT C A B p0)), A, B) else ((mCnt A p0 10), (upd C 23 (mAskT C A B p0)), A, B)
abbrev rmX3_bids : Room := ({ frames := 3, cells := 0, slots := 0, locals := 64 } : Room)
set_option maxHeartbeats 4000000 in
theorem metX3_bids (l : Launch) (D : va_G) (K ad : Nat → Nat) (C : Nat → Int32) (A : Nat → Nat → Int32) (B : Nat → Int64) (p0 : Int32) (hC : 0 ≤ (C 0).toInt ∧ (C 0).toInt ≤ 30) : MMet l yX3_bids (ws_ yX3_bids cX3_bids 2 (some .int)) rmX3_bids D K [.int p0] ad C A B (some (.int (mS_bids C A B p0).1)) (mS_bids C A B p0).2.1 (mS_bids C A B p0).2.2.1 (mS_bids C A B p0).2.2.2 := by
  intro w hP
  refine gMet.of (by decide) (Nat.le_of_ble_eq_true rfl) ?_
  intro p e s m args below meth c H locs ls S M hr hlocks hname G hl
  have hx := S.1
  have hb := S.2.1
  have hown := S.2.2.2.1
  have hts := S.2.2.2.2
  have hl : lv_has ls 2 [(0, .ref (ad 0)), (1, .int p0)] := hl
  obtain ⟨Q, hQ⟩ : ∃ Q, Q = gE below D K (mPost D K w ad (some (.int (mS_bids C A B p0).1)) (mS_bids C A B p0).2.1 (mS_bids C A B p0).2.2.1 (mS_bids C A B p0).2.2.2) args s rmX3_bids.cells rmX3_bids.slots := ⟨_, rfl⟩
  rw [← hQ]
  have G : MG D K s H locs w ad C A B := MG.of G hP
  refine lv_aload_n (pc := 0) hx hb dX3_bids_0 rfl (lv_at hl 0 rfl) ?_
  refine lv_iload_n (pc := 1) hx hb dX3_bids_1 rfl (lv_at hl 1 rfl) ?_
  refine m_callV (pc := 2) S M G hl.1 [.int p0] [] (metX3_asksFor l D K ad C A B p0 ) 1 q1512 q1509 q1511 qs16 q26 (by decide) rfl (⟨Nat.le_of_ble_eq_true rfl, Nat.le_of_ble_eq_true rfl⟩) rfl (Nat.le_of_ble_eq_true rfl) dX3_bids_2 ⟨Nat.le_of_ble_eq_true rfl, Nat.le_of_ble_eq_true rfl⟩ (fun H locs G => ?_)
  have G : MG D K s H locs w ad (upd C 23 (mAskT C A B p0)) A B := G
  refine W.eq (g2 := F0 m 5 ls [.int (mAskR C A B p0)]) rfl ?_
  refine lv_if_eq (pc := 5) (tgt := 16) hx hb dX3_bids_5 (by decide) (fun c1 => ?_) (fun c1 => ?_)
  · refine lv_iconst (pc := 16) (v := 0) hx hb dX3_bids_16 (by decide) ?_
    rw [hQ]
    refine m_iret (sp := (mS_bids C A B p0)) S G hr hlocks (hdg := dX3_bids_17) ?_ ?_ ?_
    · exact Nat.le_of_ble_eq_true rfl
    · exact Nat.le_of_ble_eq_true rfl
    · unfold mS_bids; rw [if_pos c1]
  · refine lv_aload_n (pc := 8) hx hb dX3_bids_8 rfl (lv_at hl 0 rfl) ?_
    refine lv_iload_n (pc := 9) hx hb dX3_bids_9 rfl (lv_at hl 1 rfl) ?_
    refine m_callV (pc := 10) S M G hl.1 [.int p0] [] (metX3_bidMany l D K ad (upd C 23 (mAskT C A B p0)) A B p0 (mLot_in hC (mAsk_lot c1))) 1 q1448 q1445 q1447 qs13 q26 (by decide) rfl (⟨Nat.le_of_ble_eq_true rfl, Nat.le_of_ble_eq_true rfl⟩) rfl (Nat.le_of_ble_eq_true rfl) dX3_bids_10 ⟨Nat.le_of_ble_eq_true rfl, Nat.le_of_ble_eq_true rfl⟩ (fun H locs G => ?_)
    have G : MG D K s H locs w ad (upd C 23 (mAskT C A B p0)) A B := G
    refine W.eq (g2 := F0 m 13 ls [.int (mCnt A p0 10)]) rfl ?_
    refine lv_goto (pc := 13) (tgt := 17) hx hb dX3_bids_13 (by decide) ?_
    rw [hQ]
    refine m_iret (sp := (mS_bids C A B p0)) S G hr hlocks (hdg := dX3_bids_17) ?_ ?_ ?_
    · exact Nat.le_of_ble_eq_true rfl
    · exact Nat.le_of_ble_eq_true rfl
    · unfold mS_bids; rw [if_neg c1]
def mS_fee (C : Nat → Int32) (A : Nat → Nat → Int32) (B : Nat → Int64) (p0 : Int32) : mSp Int32 := if (mWithin p0 0 1000000) = 0 then (0, (upd C 23 1), A, B) else ((mFee p0), (upd C 23 0), A, B)
abbrev rmX3_fee : Room := ({ frames := 1, cells := 0, slots := 0, locals := 23 } : Room)
set_option maxHeartbeats 4000000 in
theorem metX3_fee (l : Launch) (D : va_G) (K ad : Nat → Nat) (C : Nat → Int32) (A : Nat → Nat → Int32) (B : Nat → Int64) (p0 : Int32) : MMet l yX3_fee (ws_ yX3_fee cX3_fee 2 (some .int)) rmX3_fee D K [.int p0] ad C A B (some (.int (mS_fee C A B p0).1)) (mS_fee C A B p0).2.1 (mS_fee C A B p0).2.2.1 (mS_fee C A B p0).2.2.2 := by
  intro w hP
  refine gMet.of (by decide) (Nat.le_of_ble_eq_true rfl) ?_
  intro p e s m args below meth c H locs ls S M hr hlocks hname G hl
  have hx := S.1
  have hb := S.2.1
  have hown := S.2.2.2.1
  have hts := S.2.2.2.2
  have hl : lv_has ls 2 [(0, .ref (ad 0)), (1, .int p0)] := hl
  obtain ⟨Q, hQ⟩ : ∃ Q, Q = gE below D K (mPost D K w ad (some (.int (mS_fee C A B p0).1)) (mS_fee C A B p0).2.1 (mS_fee C A B p0).2.2.1 (mS_fee C A B p0).2.2.2) args s rmX3_fee.cells rmX3_fee.slots := ⟨_, rfl⟩
  rw [← hQ]
  have G : MG D K s H locs w ad C A B := MG.of G hP
  refine lv_aload_n (pc := 0) hx hb dX3_fee_0 rfl (lv_at hl 0 rfl) ?_
  refine lv_iload_n (pc := 1) hx hb dX3_fee_1 rfl (lv_at hl 1 rfl) ?_
  refine lv_iconst (pc := 2) (v := 0) hx hb dX3_fee_2 (by decide) ?_
  refine lv_ldc (pc := 3) (v := 1000000) hx hb hown (hts _ q1404) dX3_fee_3 ?_
  refine m_callS (pc := 5) (v := .int (mWithin p0 0 1000000)) S M G hl.1 [.int p0, .int 0, .int 1000000] [.ref (ad 0)] (fun w => metX3_isWithin l D K w p0 0 1000000) 3 q1407 q1405 q1406 q26 (by decide) rfl (⟨Nat.le_of_ble_eq_true rfl, Nat.le_of_ble_eq_true rfl⟩) rfl (Nat.le_of_ble_eq_true rfl) dX3_fee_5 ⟨Nat.le_of_ble_eq_true rfl, Nat.le_of_ble_eq_true rfl⟩ (fun H locs G => ?_)
  refine W.eq (g2 := F0 m 8 ls [.int (mWithin p0 0 1000000), .ref (ad 0)]) rfl ?_
  refine lv_if_eq (pc := 8) (tgt := 15) hx hb dX3_fee_8 (by decide) (fun c1 => ?_) (fun c1 => ?_)
  · refine lv_iconst (pc := 15) (v := 1) hx hb dX3_fee_15 (by decide) ?_
    refine m_putC (pc := 16) S M G 23 (by decide) q1346 rfl rfl rfl rfl (C' := (upd C 23 1)) (B' := B) (mfs_C23 _ _ _ _) dX3_fee_16 (fun H locs G => ?_)
    refine lv_aload_n (pc := 19) hx hb dX3_fee_19 rfl (lv_at hl 0 rfl) ?_
    refine m_get (pc := 20) (v := .int 1) S M G 23 (by decide) q1346 rfl rfl dX3_fee_20 ?_
    refine lv_if_ne (pc := 23) (tgt := 33) hx hb dX3_fee_23 (by decide) (fun _ => ?_) (fun c => absurd c (by decide))
    refine lv_iconst (pc := 33) (v := 0) hx hb dX3_fee_33 (by decide) ?_
    rw [hQ]
    refine m_iret (sp := (mS_fee C A B p0)) S G hr hlocks (hdg := dX3_fee_34) ?_ ?_ ?_
    · exact Nat.le_of_ble_eq_true rfl
    · exact Nat.le_of_ble_eq_true rfl
    · unfold mS_fee; rw [if_pos c1]
  · refine lv_iconst (pc := 11) (v := 0) hx hb dX3_fee_11 (by decide) ?_
    refine lv_goto (pc := 12) (tgt := 16) hx hb dX3_fee_12 (by decide) ?_
    refine m_putC (pc := 16) S M G 23 (by decide) q1346 rfl rfl rfl rfl (C' := (upd C 23 0)) (B' := B) (mfs_C23 _ _ _ _) dX3_fee_16 (fun H locs G => ?_)
    refine lv_aload_n (pc := 19) hx hb dX3_fee_19 rfl (lv_at hl 0 rfl) ?_
    refine m_get (pc := 20) (v := .int 0) S M G 23 (by decide) q1346 rfl rfl dX3_fee_20 ?_
    refine lv_if_ne (pc := 23) (tgt := 33) hx hb dX3_fee_23 (by decide) (fun c => absurd c (by decide)) (fun _ => ?_)
    refine lv_iload_n (pc := 26) hx hb dX3_fee_26 rfl (lv_at hl 1 rfl) ?_
    refine m_callS (pc := 27) (v := .int (mFee p0)) S M G hl.1 [.int p0] [] (fun w => metX3_feeFor l D K w p0) 1 q1463 q1461 q1462 q26 (by decide) rfl (⟨Nat.le_of_ble_eq_true rfl, Nat.le_of_ble_eq_true rfl⟩) rfl (Nat.le_of_ble_eq_true rfl) dX3_fee_27 ⟨Nat.le_of_ble_eq_true rfl, Nat.le_of_ble_eq_true rfl⟩ (fun H locs G => ?_)
    refine W.eq (g2 := F0 m 30 ls [.int (mFee p0)]) rfl ?_
    refine lv_goto (pc := 30) (tgt := 34) hx hb dX3_fee_30 (by decide) ?_
    rw [hQ]
    refine m_iret (sp := (mS_fee C A B p0)) S G hr hlocks (hdg := dX3_fee_34) ?_ ?_ ?_
    · exact Nat.le_of_ble_eq_true rfl
    · exact Nat.le_of_ble_eq_true rfl
    · unfold mS_fee; rw [if_neg c1]
def mS_share (C : Nat → Int32) (A : Nat → Nat → Int32) (B : Nat → Int64) (p0 : Int32) : mSp Int32 := if (mAskR C A B p0) = 0 then (0, (upd C 23 (mAskT C A B p0)), A, B) else (if (A 4 p0.toNatClampNeg) < 2 then (0, (upd C 23 (mAskT C A B p0)), A, B) else ((mF_shareFor (upd C 23 (mAskT C A B p0)) A B p0), (upd C 23 (mAskT C A B p0)), A, B))
abbrev rmX3_share : Room := ({ frames := 3, cells := 0, slots := 0, locals := 64 } : Room)
set_option maxHeartbeats 4000000 in
theorem metX3_share (l : Launch) (D : va_G) (K ad : Nat → Nat) (C : Nat → Int32) (A : Nat → Nat → Int32) (B : Nat → Int64) (p0 : Int32) (hC : 0 ≤ (C 0).toInt ∧ (C 0).toInt ≤ 30) : MMet l yX3_share (ws_ yX3_share cX3_share 2 (some .int)) rmX3_share D K [.int p0] ad C A B (some (.int (mS_share C A B p0).1)) (mS_share C A B p0).2.1 (mS_share C A B p0).2.2.1 (mS_share C A B p0).2.2.2 := by
  intro w hP
  refine gMet.of (by decide) (Nat.le_of_ble_eq_true rfl) ?_
  intro p e s m args below meth c H locs ls S M hr hlocks hname G hl
  have hx := S.1
  have hb := S.2.1
  have hown := S.2.2.2.1
  have hts := S.2.2.2.2
  have hl : lv_has ls 2 [(0, .ref (ad 0)), (1, .int p0)] := hl
  obtain ⟨Q, hQ⟩ : ∃ Q, Q = gE below D K (mPost D K w ad (some (.int (mS_share C A B p0).1)) (mS_share C A B p0).2.1 (mS_share C A B p0).2.2.1 (mS_share C A B p0).2.2.2) args s rmX3_share.cells rmX3_share.slots := ⟨_, rfl⟩
  rw [← hQ]
  have G : MG D K s H locs w ad C A B := MG.of G hP
  refine lv_aload_n (pc := 0) hx hb dX3_share_0 rfl (lv_at hl 0 rfl) ?_
  refine lv_iload_n (pc := 1) hx hb dX3_share_1 rfl (lv_at hl 1 rfl) ?_
  refine m_callV (pc := 2) S M G hl.1 [.int p0] [] (metX3_asksFor l D K ad C A B p0 ) 1 q1512 q1509 q1511 qs16 q26 (by decide) rfl (⟨Nat.le_of_ble_eq_true rfl, Nat.le_of_ble_eq_true rfl⟩) rfl (Nat.le_of_ble_eq_true rfl) dX3_share_2 ⟨Nat.le_of_ble_eq_true rfl, Nat.le_of_ble_eq_true rfl⟩ (fun H locs G => ?_)
  have G : MG D K s H locs w ad (upd C 23 (mAskT C A B p0)) A B := G
  refine W.eq (g2 := F0 m 5 ls [.int (mAskR C A B p0)]) rfl ?_
  refine lv_if_eq (pc := 5) (tgt := 26) hx hb dX3_share_5 (by decide) (fun c1 => ?_) (fun c1 => ?_)
  · refine lv_iconst (pc := 26) (v := 0) hx hb dX3_share_26 (by decide) ?_
    rw [hQ]
    refine m_iret (sp := (mS_share C A B p0)) S G hr hlocks (hdg := dX3_share_27) ?_ ?_ ?_
    · exact Nat.le_of_ble_eq_true rfl
    · exact Nat.le_of_ble_eq_true rfl
    · unfold mS_share; rw [if_pos c1]
  · refine lv_aload_n (pc := 8) hx hb dX3_share_8 rfl (lv_at hl 0 rfl) ?_
    refine m_get (pc := 9) (v := .ref (ad 4)) S M G 4 (by decide) q1327 rfl rfl dX3_share_9 ?_
    refine lv_iload_n (pc := 12) hx hb dX3_share_12 rfl (lv_at hl 1 rfl) ?_
    refine m_ald (pc := 13) (v := (A 4 p0.toNatClampNeg)) S M G 4 rfl (mLot_in hC (mAsk_lot c1)) rfl dX3_share_13 ?_
    refine lv_iconst (pc := 14) (v := 2) hx hb dX3_share_14 (by decide) ?_
    refine lv_icmp_lt (pc := 15) (tgt := 26) hx hb dX3_share_15 (by decide) (fun c2 => ?_) (fun c2 => ?_)
    · refine lv_iconst (pc := 26) (v := 0) hx hb dX3_share_26 (by decide) ?_
      rw [hQ]
      refine m_iret (sp := (mS_share C A B p0)) S G hr hlocks (hdg := dX3_share_27) ?_ ?_ ?_
      · exact Nat.le_of_ble_eq_true rfl
      · exact Nat.le_of_ble_eq_true rfl
      · unfold mS_share; rw [if_neg c1, if_pos c2]
    · refine lv_aload_n (pc := 18) hx hb dX3_share_18 rfl (lv_at hl 0 rfl) ?_
      refine lv_iload_n (pc := 19) hx hb dX3_share_19 rfl (lv_at hl 1 rfl) ?_
      refine m_callV (pc := 20) S M G hl.1 [.int p0] [] (metX3_shareFor l D K ad (upd C 23 (mAskT C A B p0)) A B p0 (mLot_in hC (mAsk_lot c1))) 1 q1490 q1487 q1489 qs15 q26 (by decide) rfl (⟨Nat.le_of_ble_eq_true rfl, Nat.le_of_ble_eq_true rfl⟩) rfl (Nat.le_of_ble_eq_true rfl) dX3_share_20 ⟨Nat.le_of_ble_eq_true rfl, Nat.le_of_ble_eq_true rfl⟩ (fun H locs G => ?_)
      have G : MG D K s H locs w ad (upd C 23 (mAskT C A B p0)) A B := G
      refine W.eq (g2 := F0 m 23 ls [.int (mF_shareFor (upd C 23 (mAskT C A B p0)) A B p0)]) rfl ?_
      refine lv_goto (pc := 23) (tgt := 27) hx hb dX3_share_23 (by decide) ?_
      rw [hQ]
      refine m_iret (sp := (mS_share C A B p0)) S G hr hlocks (hdg := dX3_share_27) ?_ ?_ ?_
      · exact Nat.le_of_ble_eq_true rfl
      · exact Nat.le_of_ble_eq_true rfl
      · unfold mS_share; rw [if_neg c1, if_neg c2]
def mS_interest (C : Nat → Int32) (A : Nat → Nat → Int32) (B : Nat → Int64) (p0 : Int32) : mSp Int32 := if (mAskR C A B p0) = 0 then (0, (upd C 23 (mAskT C A B p0)), A, B) else ((mF_interestFor (upd C 23 (mAskT C A B p0)) A B p0), (upd C 23 (mAskT C A B p0)), A, B)
abbrev rmX3_interest : Room := ({ frames := 3, cells := 0, slots := 0, locals := 64 } : Room)
set_option maxHeartbeats 4000000 in
theorem metX3_interest (l : Launch) (D : va_G) (K ad : Nat → Nat) (C : Nat → Int32) (A : Nat → Nat → Int32) (B : Nat → Int64) (p0 : Int32) (hC : 0 ≤ (C 0).toInt ∧ (C 0).toInt ≤ 30) : MMet l yX3_interest (ws_ yX3_interest cX3_interest 2 (some .int)) rmX3_interest D K [.int p0] ad C A B (some (.int (mS_interest C A B p0).1)) (mS_interest C A B p0).2.1 (mS_interest C A B p0).2.2.1 (mS_interest C A B p0).2.2.2 := by
  intro w hP
  refine gMet.of (by decide) (Nat.le_of_ble_eq_true rfl) ?_
  intro p e s m args below meth c H locs ls S M hr hlocks hname G hl
  have hx := S.1
  have hb := S.2.1
  have hown := S.2.2.2.1
  have hts := S.2.2.2.2
  have hl : lv_has ls 2 [(0, .ref (ad 0)), (1, .int p0)] := hl
  obtain ⟨Q, hQ⟩ : ∃ Q, Q = gE below D K (mPost D K w ad (some (.int (mS_interest C A B p0).1)) (mS_interest C A B p0).2.1 (mS_interest C A B p0).2.2.1 (mS_interest C A B p0).2.2.2) args s rmX3_interest.cells rmX3_interest.slots := ⟨_, rfl⟩
  rw [← hQ]
  have G : MG D K s H locs w ad C A B := MG.of G hP
  refine lv_aload_n (pc := 0) hx hb dX3_interest_0 rfl (lv_at hl 0 rfl) ?_
  refine lv_iload_n (pc := 1) hx hb dX3_interest_1 rfl (lv_at hl 1 rfl) ?_
  refine m_callV (pc := 2) S M G hl.1 [.int p0] [] (metX3_asksFor l D K ad C A B p0 ) 1 q1512 q1509 q1511 qs16 q26 (by decide) rfl (⟨Nat.le_of_ble_eq_true rfl, Nat.le_of_ble_eq_true rfl⟩) rfl (Nat.le_of_ble_eq_true rfl) dX3_interest_2 ⟨Nat.le_of_ble_eq_true rfl, Nat.le_of_ble_eq_true rfl⟩ (fun H locs G => ?_)
  have G : MG D K s H locs w ad (upd C 23 (mAskT C A B p0)) A B := G
  refine W.eq (g2 := F0 m 5 ls [.int (mAskR C A B p0)]) rfl ?_
  refine lv_if_eq (pc := 5) (tgt := 16) hx hb dX3_interest_5 (by decide) (fun c1 => ?_) (fun c1 => ?_)
  · refine lv_iconst (pc := 16) (v := 0) hx hb dX3_interest_16 (by decide) ?_
    rw [hQ]
    refine m_iret (sp := (mS_interest C A B p0)) S G hr hlocks (hdg := dX3_interest_17) ?_ ?_ ?_
    · exact Nat.le_of_ble_eq_true rfl
    · exact Nat.le_of_ble_eq_true rfl
    · unfold mS_interest; rw [if_pos c1]
  · refine lv_aload_n (pc := 8) hx hb dX3_interest_8 rfl (lv_at hl 0 rfl) ?_
    refine lv_iload_n (pc := 9) hx hb dX3_interest_9 rfl (lv_at hl 1 rfl) ?_
    refine m_callV (pc := 10) S M G hl.1 [.int p0] [] (metX3_interestFor l D K ad (upd C 23 (mAskT C A B p0)) A B p0 (mLot_in hC (mAsk_lot c1))) 1 q1485 q1482 q1484 qs14 q26 (by decide) rfl (⟨Nat.le_of_ble_eq_true rfl, Nat.le_of_ble_eq_true rfl⟩) rfl (Nat.le_of_ble_eq_true rfl) dX3_interest_10 ⟨Nat.le_of_ble_eq_true rfl, Nat.le_of_ble_eq_true rfl⟩ (fun H locs G => ?_)
    have G : MG D K s H locs w ad (upd C 23 (mAskT C A B p0)) A B := G
    refine W.eq (g2 := F0 m 13 ls [.int (mF_interestFor (upd C 23 (mAskT C A B p0)) A B p0)]) rfl ?_
    refine lv_goto (pc := 13) (tgt := 17) hx hb dX3_interest_13 (by decide) ?_
    rw [hQ]
    refine m_iret (sp := (mS_interest C A B p0)) S G hr hlocks (hdg := dX3_interest_17) ?_ ?_ ?_
    · exact Nat.le_of_ble_eq_true rfl
    · exact Nat.le_of_ble_eq_true rfl
    · unfold mS_interest; rw [if_neg c1]
def mS_owes (C : Nat → Int32) (A : Nat → Nat → Int32) (B : Nat → Int64) (p0 : Int32) : mSp Int32 := if (mBuyer p0) = 0 then (0, (upd C 23 1), A, B) else ((A 16 p0.toNatClampNeg), (upd C 23 0), A, B)
abbrev rmX3_owes : Room := ({ frames := 2, cells := 0, slots := 0, locals := 42 } : Room)
set_option maxHeartbeats 4000000 in
theorem metX3_owes (l : Launch) (D : va_G) (K ad : Nat → Nat) (C : Nat → Int32) (A : Nat → Nat → Int32) (B : Nat → Int64) (p0 : Int32) : MMet l yX3_owes (ws_ yX3_owes cX3_owes 2 (some .int)) rmX3_owes D K [.int p0] ad C A B (some (.int (mS_owes C A B p0).1)) (mS_owes C A B p0).2.1 (mS_owes C A B p0).2.2.1 (mS_owes C A B p0).2.2.2 := by
  intro w hP
  refine gMet.of (by decide) (Nat.le_of_ble_eq_true rfl) ?_
  intro p e s m args below meth c H locs ls S M hr hlocks hname G hl
  have hx := S.1
  have hb := S.2.1
  have hown := S.2.2.2.1
  have hts := S.2.2.2.2
  have hl : lv_has ls 2 [(0, .ref (ad 0)), (1, .int p0)] := hl
  obtain ⟨Q, hQ⟩ : ∃ Q, Q = gE below D K (mPost D K w ad (some (.int (mS_owes C A B p0).1)) (mS_owes C A B p0).2.1 (mS_owes C A B p0).2.2.1 (mS_owes C A B p0).2.2.2) args s rmX3_owes.cells rmX3_owes.slots := ⟨_, rfl⟩
  rw [← hQ]
  have G : MG D K s H locs w ad C A B := MG.of G hP
  refine lv_aload_n (pc := 0) hx hb dX3_owes_0 rfl (lv_at hl 0 rfl) ?_
  refine lv_iload_n (pc := 1) hx hb dX3_owes_1 rfl (lv_at hl 1 rfl) ?_
  refine m_callS (pc := 2) (v := .int (mBuyer p0)) S M G hl.1 [.int p0] [.ref (ad 0)] (fun w => metX3_isBuyer l D K w p0) 1 q1428 q1426 q1427 q26 (by decide) rfl (⟨Nat.le_of_ble_eq_true rfl, Nat.le_of_ble_eq_true rfl⟩) rfl (Nat.le_of_ble_eq_true rfl) dX3_owes_2 ⟨Nat.le_of_ble_eq_true rfl, Nat.le_of_ble_eq_true rfl⟩ (fun H locs G => ?_)
  refine W.eq (g2 := F0 m 5 ls [.int (mBuyer p0), .ref (ad 0)]) rfl ?_
  refine lv_if_eq (pc := 5) (tgt := 12) hx hb dX3_owes_5 (by decide) (fun c1 => ?_) (fun c1 => ?_)
  · refine lv_iconst (pc := 12) (v := 1) hx hb dX3_owes_12 (by decide) ?_
    refine m_putC (pc := 13) S M G 23 (by decide) q1346 rfl rfl rfl rfl (C' := (upd C 23 1)) (B' := B) (mfs_C23 _ _ _ _) dX3_owes_13 (fun H locs G => ?_)
    refine lv_aload_n (pc := 16) hx hb dX3_owes_16 rfl (lv_at hl 0 rfl) ?_
    refine m_get (pc := 17) (v := .int 1) S M G 23 (by decide) q1346 rfl rfl dX3_owes_17 ?_
    refine lv_if_ne (pc := 20) (tgt := 32) hx hb dX3_owes_20 (by decide) (fun _ => ?_) (fun c => absurd c (by decide))
    refine lv_iconst (pc := 32) (v := 0) hx hb dX3_owes_32 (by decide) ?_
    rw [hQ]
    refine m_iret (sp := (mS_owes C A B p0)) S G hr hlocks (hdg := dX3_owes_33) ?_ ?_ ?_
    · exact Nat.le_of_ble_eq_true rfl
    · exact Nat.le_of_ble_eq_true rfl
    · unfold mS_owes; rw [if_pos c1]
  · refine lv_iconst (pc := 8) (v := 0) hx hb dX3_owes_8 (by decide) ?_
    refine lv_goto (pc := 9) (tgt := 13) hx hb dX3_owes_9 (by decide) ?_
    refine m_putC (pc := 13) S M G 23 (by decide) q1346 rfl rfl rfl rfl (C' := (upd C 23 0)) (B' := B) (mfs_C23 _ _ _ _) dX3_owes_13 (fun H locs G => ?_)
    refine lv_aload_n (pc := 16) hx hb dX3_owes_16 rfl (lv_at hl 0 rfl) ?_
    refine m_get (pc := 17) (v := .int 0) S M G 23 (by decide) q1346 rfl rfl dX3_owes_17 ?_
    refine lv_if_ne (pc := 20) (tgt := 32) hx hb dX3_owes_20 (by decide) (fun c => absurd c (by decide)) (fun _ => ?_)
    refine lv_aload_n (pc := 23) hx hb dX3_owes_23 rfl (lv_at hl 0 rfl) ?_
    refine m_get (pc := 24) (v := .ref (ad 16)) S M G 16 (by decide) q1339 rfl rfl dX3_owes_24 ?_
    refine lv_iload_n (pc := 27) hx hb dX3_owes_27 rfl (lv_at hl 1 rfl) ?_
    refine m_ald (pc := 28) (v := (A 16 p0.toNatClampNeg)) S M G 16 rfl (mBuy_in c1) rfl dX3_owes_28 ?_
    refine lv_goto (pc := 29) (tgt := 33) hx hb dX3_owes_29 (by decide) ?_
    rw [hQ]
    refine m_iret (sp := (mS_owes C A B p0)) S G hr hlocks (hdg := dX3_owes_33) ?_ ?_ ?_
    · exact Nat.le_of_ble_eq_true rfl
    · exact Nat.le_of_ble_eq_true rfl
    · unfold mS_owes; rw [if_neg c1]
def mS_in (C : Nat → Int32) (A : Nat → Nat → Int32) (B : Nat → Int64) : mSp Int64 := ((B 20), (upd C 23 0), A, B)
abbrev rmX3_in : Room := ({ frames := 0, cells := 0, slots := 0, locals := 0 } : Room)
set_option maxHeartbeats 4000000 in
theorem metX3_in (l : Launch) (D : va_G) (K ad : Nat → Nat) (C : Nat → Int32) (A : Nat → Nat → Int32) (B : Nat → Int64) : MMet l yX3_in (ws_ yX3_in cX3_in 1 (some .long)) rmX3_in D K [] ad C A B (some (.long (mS_in C A B).1)) (mS_in C A B).2.1 (mS_in C A B).2.2.1 (mS_in C A B).2.2.2 := by
  intro w hP
  refine gMet.of (by decide) (Nat.le_of_ble_eq_true rfl) ?_
  intro p e s m args below meth c H locs ls S M hr hlocks hname G hl
  have hx := S.1
  have hb := S.2.1
  have hown := S.2.2.2.1
  have hts := S.2.2.2.2
  have hl : lv_has ls 1 [(0, .ref (ad 0))] := hl
  obtain ⟨Q, hQ⟩ : ∃ Q, Q = gE below D K (mPost D K w ad (some (.long (mS_in C A B).1)) (mS_in C A B).2.1 (mS_in C A B).2.2.1 (mS_in C A B).2.2.2) args s rmX3_in.cells rmX3_in.slots := ⟨_, rfl⟩
  rw [← hQ]
  have G : MG D K s H locs w ad C A B := MG.of G hP
  refine lv_aload_n (pc := 0) hx hb dX3_in_0 rfl (lv_at hl 0 rfl) ?_
  refine lv_iconst (pc := 1) (v := 0) hx hb dX3_in_1 (by decide) ?_
  refine m_putC (pc := 2) S M G 23 (by decide) q1346 rfl rfl rfl rfl (C' := (upd C 23 0)) (B' := B) (mfs_C23 _ _ _ _) dX3_in_2 (fun H locs G => ?_)
  refine lv_aload_n (pc := 5) hx hb dX3_in_5 rfl (lv_at hl 0 rfl) ?_
  refine m_get (pc := 6) (v := .long (B 20)) S M G 20 (by decide) q1343 rfl rfl dX3_in_6 ?_
  rw [hQ]
  refine m_lret (sp := (mS_in C A B)) S G hr hlocks (hdg := dX3_in_9) ?_ ?_ ?_
  · exact Nat.le_of_ble_eq_true rfl
  · exact Nat.le_of_ble_eq_true rfl
  · rfl
def mS_out (C : Nat → Int32) (A : Nat → Nat → Int32) (B : Nat → Int64) : mSp Int64 := ((B 21), (upd C 23 0), A, B)
abbrev rmX3_out : Room := ({ frames := 0, cells := 0, slots := 0, locals := 0 } : Room)
set_option maxHeartbeats 4000000 in
theorem metX3_out (l : Launch) (D : va_G) (K ad : Nat → Nat) (C : Nat → Int32) (A : Nat → Nat → Int32) (B : Nat → Int64) : MMet l yX3_out (ws_ yX3_out cX3_out 1 (some .long)) rmX3_out D K [] ad C A B (some (.long (mS_out C A B).1)) (mS_out C A B).2.1 (mS_out C A B).2.2.1 (mS_out C A B).2.2.2 := by
  intro w hP
  refine gMet.of (by decide) (Nat.le_of_ble_eq_true rfl) ?_
  intro p e s m args below meth c H locs ls S M hr hlocks hname G hl
  have hx := S.1
  have hb := S.2.1
  have hown := S.2.2.2.1
  have hts := S.2.2.2.2
  have hl : lv_has ls 1 [(0, .ref (ad 0))] := hl
  obtain ⟨Q, hQ⟩ : ∃ Q, Q = gE below D K (mPost D K w ad (some (.long (mS_out C A B).1)) (mS_out C A B).2.1 (mS_out C A B).2.2.1 (mS_out C A B).2.2.2) args s rmX3_out.cells rmX3_out.slots := ⟨_, rfl⟩
  rw [← hQ]
  have G : MG D K s H locs w ad C A B := MG.of G hP
  refine lv_aload_n (pc := 0) hx hb dX3_out_0 rfl (lv_at hl 0 rfl) ?_
  refine lv_iconst (pc := 1) (v := 0) hx hb dX3_out_1 (by decide) ?_
  refine m_putC (pc := 2) S M G 23 (by decide) q1346 rfl rfl rfl rfl (C' := (upd C 23 0)) (B' := B) (mfs_C23 _ _ _ _) dX3_out_2 (fun H locs G => ?_)
  refine lv_aload_n (pc := 5) hx hb dX3_out_5 rfl (lv_at hl 0 rfl) ?_
  refine m_get (pc := 6) (v := .long (B 21)) S M G 21 (by decide) q1344 rfl rfl dX3_out_6 ?_
  rw [hQ]
  refine m_lret (sp := (mS_out C A B)) S G hr hlocks (hdg := dX3_out_9) ?_ ?_ ?_
  · exact Nat.le_of_ble_eq_true rfl
  · exact Nat.le_of_ble_eq_true rfl
  · rfl
def mS_kept (C : Nat → Int32) (A : Nat → Nat → Int32) (B : Nat → Int64) : mSp Int64 := ((B 22), (upd C 23 0), A, B)
abbrev rmX3_kept : Room := ({ frames := 0, cells := 0, slots := 0, locals := 0 } : Room)
set_option maxHeartbeats 4000000 in
theorem metX3_kept (l : Launch) (D : va_G) (K ad : Nat → Nat) (C : Nat → Int32) (A : Nat → Nat → Int32) (B : Nat → Int64) : MMet l yX3_kept (ws_ yX3_kept cX3_kept 1 (some .long)) rmX3_kept D K [] ad C A B (some (.long (mS_kept C A B).1)) (mS_kept C A B).2.1 (mS_kept C A B).2.2.1 (mS_kept C A B).2.2.2 := by
  intro w hP
  refine gMet.of (by decide) (Nat.le_of_ble_eq_true rfl) ?_
  intro p e s m args below meth c H locs ls S M hr hlocks hname G hl
  have hx := S.1
  have hb := S.2.1
  have hown := S.2.2.2.1
  have hts := S.2.2.2.2
  have hl : lv_has ls 1 [(0, .ref (ad 0))] := hl
  obtain ⟨Q, hQ⟩ : ∃ Q, Q = gE below D K (mPost D K w ad (some (.long (mS_kept C A B).1)) (mS_kept C A B).2.1 (mS_kept C A B).2.2.1 (mS_kept C A B).2.2.2) args s rmX3_kept.cells rmX3_kept.slots := ⟨_, rfl⟩
  rw [← hQ]
  have G : MG D K s H locs w ad C A B := MG.of G hP
  refine lv_aload_n (pc := 0) hx hb dX3_kept_0 rfl (lv_at hl 0 rfl) ?_
  refine lv_iconst (pc := 1) (v := 0) hx hb dX3_kept_1 (by decide) ?_
  refine m_putC (pc := 2) S M G 23 (by decide) q1346 rfl rfl rfl rfl (C' := (upd C 23 0)) (B' := B) (mfs_C23 _ _ _ _) dX3_kept_2 (fun H locs G => ?_)
  refine lv_aload_n (pc := 5) hx hb dX3_kept_5 rfl (lv_at hl 0 rfl) ?_
  refine m_get (pc := 6) (v := .long (B 22)) S M G 22 (by decide) q1345 rfl rfl dX3_kept_6 ?_
  rw [hQ]
  refine m_lret (sp := (mS_kept C A B)) S G hr hlocks (hdg := dX3_kept_9) ?_ ?_ ?_
  · exact Nat.le_of_ble_eq_true rfl
  · exact Nat.le_of_ble_eq_true rfl
  · rfl
def mS_held (C : Nat → Int32) (A : Nat → Nat → Int32) (B : Nat → Int64) : mSp Int64 := ((((B 20) - (B 21)) - (B 22)), (upd C 23 0), A, B)
abbrev rmX3_held : Room := ({ frames := 0, cells := 0, slots := 0, locals := 0 } : Room)
set_option maxHeartbeats 4000000 in
theorem metX3_held (l : Launch) (D : va_G) (K ad : Nat → Nat) (C : Nat → Int32) (A : Nat → Nat → Int32) (B : Nat → Int64) : MMet l yX3_held (ws_ yX3_held cX3_held 1 (some .long)) rmX3_held D K [] ad C A B (some (.long (mS_held C A B).1)) (mS_held C A B).2.1 (mS_held C A B).2.2.1 (mS_held C A B).2.2.2 := by
  intro w hP
  refine gMet.of (by decide) (Nat.le_of_ble_eq_true rfl) ?_
  intro p e s m args below meth c H locs ls S M hr hlocks hname G hl
  have hx := S.1
  have hb := S.2.1
  have hown := S.2.2.2.1
  have hts := S.2.2.2.2
  have hl : lv_has ls 1 [(0, .ref (ad 0))] := hl
  obtain ⟨Q, hQ⟩ : ∃ Q, Q = gE below D K (mPost D K w ad (some (.long (mS_held C A B).1)) (mS_held C A B).2.1 (mS_held C A B).2.2.1 (mS_held C A B).2.2.2) args s rmX3_held.cells rmX3_held.slots := ⟨_, rfl⟩
  rw [← hQ]
  have G : MG D K s H locs w ad C A B := MG.of G hP
  refine lv_aload_n (pc := 0) hx hb dX3_held_0 rfl (lv_at hl 0 rfl) ?_
  refine lv_iconst (pc := 1) (v := 0) hx hb dX3_held_1 (by decide) ?_
  refine m_putC (pc := 2) S M G 23 (by decide) q1346 rfl rfl rfl rfl (C' := (upd C 23 0)) (B' := B) (mfs_C23 _ _ _ _) dX3_held_2 (fun H locs G => ?_)
  refine lv_aload_n (pc := 5) hx hb dX3_held_5 rfl (lv_at hl 0 rfl) ?_
  refine m_get (pc := 6) (v := .long (B 20)) S M G 20 (by decide) q1343 rfl rfl dX3_held_6 ?_
  refine lv_aload_n (pc := 9) hx hb dX3_held_9 rfl (lv_at hl 0 rfl) ?_
  refine m_get (pc := 10) (v := .long (B 21)) S M G 21 (by decide) q1344 rfl rfl dX3_held_10 ?_
  refine lv_lsub (pc := 13) hx hb dX3_held_13 ?_
  refine lv_aload_n (pc := 14) hx hb dX3_held_14 rfl (lv_at hl 0 rfl) ?_
  refine m_get (pc := 15) (v := .long (B 22)) S M G 22 (by decide) q1345 rfl rfl dX3_held_15 ?_
  refine lv_lsub (pc := 18) hx hb dX3_held_18 ?_
  rw [hQ]
  refine m_lret (sp := (mS_held C A B)) S G hr hlocks (hdg := dX3_held_19) ?_ ?_ ?_
  · exact Nat.le_of_ble_eq_true rfl
  · exact Nat.le_of_ble_eq_true rfl
  · rfl
def mHld (A : Nat → Nat → Int32) : Nat → Int64
  | 0 => 0
  | i + 1 => (mHld A i + (if A 4 (nI i).toNatClampNeg = 3 then (A 6 (nI i).toNatClampNeg).toInt64 else 0)) - (if A 4 (nI i).toNatClampNeg = 4 then 0 else (A 13 (nI i).toNatClampNeg).toInt64)
def mS_heldByLots (C : Nat → Int32) (A : Nat → Nat → Int32) (B : Nat → Int64) : mSp Int64 := (mHld A (C 0).toNatClampNeg, upd C 23 0, A, B)
theorem m_nle {i N : Nat} (hN : N ≤ 30) (hi : i ≤ N) : (nI N ≤ nI i) ↔ i = N := by
  rw [nI_leI (by omega) (by omega)]
  omega
abbrev rmX3_heldByLots : Room := ({ frames := 0, cells := 0, slots := 0, locals := 0 } : Room)
set_option maxHeartbeats 4000000 in
theorem metX3_heldByLots (l : Launch) (D : va_G) (K ad : Nat → Nat) (C : Nat → Int32) (A : Nat → Nat → Int32) (B : Nat → Int64) (N : Nat) (hN : N ≤ 30) (hC0 : C 0 = nI N) : MMet l yX3_heldByLots (ws_ yX3_heldByLots cX3_heldByLots 4 (some .long)) rmX3_heldByLots D K [] ad C A B (some (.long (mS_heldByLots C A B).1)) (mS_heldByLots C A B).2.1 (mS_heldByLots C A B).2.2.1 (mS_heldByLots C A B).2.2.2 := by
  intro w hP
  refine gMet.of (by decide) (Nat.le_of_ble_eq_true rfl) ?_
  intro p e s m args below meth c H locs ls S M hr hlocks hname G hl
  have hx := S.1
  have hb := S.2.1
  have hown := S.2.2.2.1
  have hts := S.2.2.2.2
  have hl : lv_has ls 4 [(0, .ref (ad 0))] := hl
  obtain ⟨Q, hQ⟩ : ∃ Q, Q = gE below D K (mPost D K w ad (some (.long (mS_heldByLots C A B).1)) (mS_heldByLots C A B).2.1 (mS_heldByLots C A B).2.2.1 (mS_heldByLots C A B).2.2.2) args s rmX3_heldByLots.cells rmX3_heldByLots.slots := ⟨_, rfl⟩
  rw [← hQ]
  have G : MG D K s H locs w ad C A B := MG.of G hP
  refine lv_aload_n (pc := 0) hx hb dX3_heldByLots_0 rfl (lv_at hl 0 rfl) ?_
  refine lv_iconst (pc := 1) (v := 0) hx hb dX3_heldByLots_1 (by decide) ?_
  refine m_putC (pc := 2) S M G 23 (by decide) q1346 rfl rfl rfl rfl (C' := (upd C 23 0)) (B' := B) (mfs_C23 _ _ _ _) dX3_heldByLots_2 (fun H locs G => ?_)
  refine lv_lconst (pc := 5) (v := 0) hx hb dX3_heldByLots_5 (by decide) ?_
  refine lv_lstore_n (pc := 6) (lv' := [(1, .long 0), (0, .ref (ad 0))]) hx hb dX3_heldByLots_6 rfl hl (by decide) rfl (fun ls hl => ?_)
  refine lv_iconst (pc := 7) (v := 0) hx hb dX3_heldByLots_7 (by decide) ?_
  refine lv_istore_n (pc := 8) (lv' := [(3, .int 0), (1, .long 0), (0, .ref (ad 0))]) hx hb dX3_heldByLots_8 rfl hl (by decide) rfl (fun ls hl => ?_)
  have Lp : ∀ (n i : Nat) (H : Heap) (locs : List Loc) (ls : Array Slot), i ≤ N → N + 1 ≤ i + n → MG D K s H locs w ad (upd C 23 0) A B → lv_has ls 4 [(1, .long (mHld A i)), (3, .int (nI i)), (0, .ref (ad 0))] → W p l e rmX3_heldByLots s m args below meth c H locs 0 0 Q (F0 m 9 ls []) := by
    intro n
    induction n with
    | zero => intro i H locs ls h1 h2; exact absurd h2 (by omega)
    | succ n ih =>
      intro i H locs ls h1 h2 G hl
      refine lv_iload_n (pc := 9) hx hb dX3_heldByLots_9 rfl (lv_at hl 1 rfl) ?_
      refine lv_aload_n (pc := 10) hx hb dX3_heldByLots_10 rfl (lv_at hl 2 rfl) ?_
      refine m_get (pc := 11) (v := .int (C 0)) S M G 0 (by decide) q1323 rfl rfl dX3_heldByLots_11 ?_
      refine lv_icmp_ge (pc := 14) (tgt := 71) hx hb dX3_heldByLots_14 (by decide) (fun c1 => ?_) (fun c1 => ?_)
      · obtain rfl := (m_nle hN h1).mp (hC0 ▸ c1)
        refine lv_lload_n (pc := 71) hx hb dX3_heldByLots_71 rfl (lv_at hl 0 rfl) ?_
        rw [hQ]
        refine m_lret (sp := (mS_heldByLots C A B)) S G hr hlocks (hdg := dX3_heldByLots_72) ?_ ?_ ?_
        · exact Nat.le_of_ble_eq_true rfl
        · exact Nat.le_of_ble_eq_true rfl
        · unfold mS_heldByLots; rw [hC0, nI_clamp (by omega)]
      · have hi : i < N := Nat.lt_of_le_of_ne h1 (fun e => c1 (hC0 ▸ (m_nle hN h1).mpr e))
        refine lv_lload_n (pc := 17) hx hb dX3_heldByLots_17 rfl (lv_at hl 0 rfl) ?_
        refine lv_aload_n (pc := 18) hx hb dX3_heldByLots_18 rfl (lv_at hl 2 rfl) ?_
        refine m_get (pc := 19) (v := .ref (ad 4)) S M G 4 (by decide) q1327 rfl rfl dX3_heldByLots_19 ?_
        refine lv_iload_n (pc := 22) hx hb dX3_heldByLots_22 rfl (lv_at hl 1 rfl) ?_
        refine m_ald (pc := 23) (v := (A 4 (nI i).toNatClampNeg)) S M G 4 rfl (vp_in_nI (Nat.lt_of_lt_of_le hi hN) (by decide)) rfl dX3_heldByLots_23 ?_
        refine lv_iconst (pc := 24) (v := 3) hx hb dX3_heldByLots_24 (by decide) ?_
        refine lv_icmp_ne (pc := 25) (tgt := 38) hx hb dX3_heldByLots_25 (by decide) (fun c2 => ?_) (fun c2 => ?_)
        · refine lv_lconst (pc := 38) (v := 0) hx hb dX3_heldByLots_38 (by decide) ?_
          refine lv_ladd (pc := 39) hx hb dX3_heldByLots_39 ?_
          refine lv_lstore_n (pc := 40) (lv' := [(1, .long ((mHld A i) + 0)), (3, .int (nI i)), (0, .ref (ad 0))]) hx hb dX3_heldByLots_40 rfl hl (by decide) rfl (fun ls hl => ?_)
          refine lv_lload_n (pc := 41) hx hb dX3_heldByLots_41 rfl (lv_at hl 0 rfl) ?_
          refine lv_aload_n (pc := 42) hx hb dX3_heldByLots_42 rfl (lv_at hl 2 rfl) ?_
          refine m_get (pc := 43) (v := .ref (ad 4)) S M G 4 (by decide) q1327 rfl rfl dX3_heldByLots_43 ?_
          refine lv_iload_n (pc := 46) hx hb dX3_heldByLots_46 rfl (lv_at hl 1 rfl) ?_
          refine m_ald (pc := 47) (v := (A 4 (nI i).toNatClampNeg)) S M G 4 rfl (vp_in_nI (Nat.lt_of_lt_of_le hi hN) (by decide)) rfl dX3_heldByLots_47 ?_
          refine lv_iconst (pc := 48) (v := 4) hx hb dX3_heldByLots_48 (by decide) ?_
          refine lv_icmp_eq (pc := 49) (tgt := 62) hx hb dX3_heldByLots_49 (by decide) (fun c3 => ?_) (fun c3 => ?_)
          · refine lv_lconst (pc := 62) (v := 0) hx hb dX3_heldByLots_62 (by decide) ?_
            refine lv_lsub (pc := 63) hx hb dX3_heldByLots_63 ?_
            refine lv_lstore_n (pc := 64) (lv' := [(1, .long (((mHld A i) + 0) - 0)), (3, .int (nI i)), (0, .ref (ad 0))]) hx hb dX3_heldByLots_64 rfl hl (by decide) rfl (fun ls hl => ?_)
            refine lv_iinc (pc := 65) (v := ((nI i) + 1)) (lv' := [(3, .int ((nI i) + 1)), (1, .long (((mHld A i) + 0) - 0)), (0, .ref (ad 0))]) hx hb dX3_heldByLots_65 hl (k := 1) rfl (by first | rfl | decide) (by decide) rfl (fun ls hl => ?_)
            refine lv_goto (pc := 68) (tgt := 9) hx hb dX3_heldByLots_68 (by decide) ?_
            rw [nI_1] at hl
            have em : (((mHld A i) + 0) - 0) = mHld A (i + 1) := by show _ = (mHld A i + ite _ _ _) - ite _ _ _; rw [if_neg c2, if_pos c3]
            rw [em] at hl
            exact ih (i + 1) H locs ls (by omega) (by omega) G (lv_sub hl [1, 0, 2] rfl)
          · refine lv_aload_n (pc := 52) hx hb dX3_heldByLots_52 rfl (lv_at hl 2 rfl) ?_
            refine m_get (pc := 53) (v := .ref (ad 13)) S M G 13 (by decide) q1336 rfl rfl dX3_heldByLots_53 ?_
            refine lv_iload_n (pc := 56) hx hb dX3_heldByLots_56 rfl (lv_at hl 1 rfl) ?_
            refine m_ald (pc := 57) (v := (A 13 (nI i).toNatClampNeg)) S M G 13 rfl (vp_in_nI (Nat.lt_of_lt_of_le hi hN) (by decide)) rfl dX3_heldByLots_57 ?_
            refine lv_i2l (pc := 58) hx hb dX3_heldByLots_58 rfl ?_
            refine lv_goto (pc := 59) (tgt := 63) hx hb dX3_heldByLots_59 (by decide) ?_
            refine lv_lsub (pc := 63) hx hb dX3_heldByLots_63 ?_
            refine lv_lstore_n (pc := 64) (lv' := [(1, .long (((mHld A i) + 0) - ((A 13 (nI i).toNatClampNeg) : Int32).toInt64)), (3, .int (nI i)), (0, .ref (ad 0))]) hx hb dX3_heldByLots_64 rfl hl (by decide) rfl (fun ls hl => ?_)
            refine lv_iinc (pc := 65) (v := ((nI i) + 1)) (lv' := [(3, .int ((nI i) + 1)), (1, .long (((mHld A i) + 0) - ((A 13 (nI i).toNatClampNeg) : Int32).toInt64)), (0, .ref (ad 0))]) hx hb dX3_heldByLots_65 hl (k := 1) rfl (by first | rfl | decide) (by decide) rfl (fun ls hl => ?_)
            refine lv_goto (pc := 68) (tgt := 9) hx hb dX3_heldByLots_68 (by decide) ?_
            rw [nI_1] at hl
            have em : (((mHld A i) + 0) - ((A 13 (nI i).toNatClampNeg) : Int32).toInt64) = mHld A (i + 1) := by show _ = (mHld A i + ite _ _ _) - ite _ _ _; rw [if_neg c2, if_neg c3]
            rw [em] at hl
            exact ih (i + 1) H locs ls (by omega) (by omega) G (lv_sub hl [1, 0, 2] rfl)
        · refine lv_aload_n (pc := 28) hx hb dX3_heldByLots_28 rfl (lv_at hl 2 rfl) ?_
          refine m_get (pc := 29) (v := .ref (ad 6)) S M G 6 (by decide) q1329 rfl rfl dX3_heldByLots_29 ?_
          refine lv_iload_n (pc := 32) hx hb dX3_heldByLots_32 rfl (lv_at hl 1 rfl) ?_
          refine m_ald (pc := 33) (v := (A 6 (nI i).toNatClampNeg)) S M G 6 rfl (vp_in_nI (Nat.lt_of_lt_of_le hi hN) (by decide)) rfl dX3_heldByLots_33 ?_
          refine lv_i2l (pc := 34) hx hb dX3_heldByLots_34 rfl ?_
          refine lv_goto (pc := 35) (tgt := 39) hx hb dX3_heldByLots_35 (by decide) ?_
          refine lv_ladd (pc := 39) hx hb dX3_heldByLots_39 ?_
          refine lv_lstore_n (pc := 40) (lv' := [(1, .long ((mHld A i) + ((A 6 (nI i).toNatClampNeg) : Int32).toInt64)), (3, .int (nI i)), (0, .ref (ad 0))]) hx hb dX3_heldByLots_40 rfl hl (by decide) rfl (fun ls hl => ?_)
          refine lv_lload_n (pc := 41) hx hb dX3_heldByLots_41 rfl (lv_at hl 0 rfl) ?_
          refine lv_aload_n (pc := 42) hx hb dX3_heldByLots_42 rfl (lv_at hl 2 rfl) ?_
          refine m_get (pc := 43) (v := .ref (ad 4)) S M G 4 (by decide) q1327 rfl rfl dX3_heldByLots_43 ?_
          refine lv_iload_n (pc := 46) hx hb dX3_heldByLots_46 rfl (lv_at hl 1 rfl) ?_
          refine m_ald (pc := 47) (v := (A 4 (nI i).toNatClampNeg)) S M G 4 rfl (vp_in_nI (Nat.lt_of_lt_of_le hi hN) (by decide)) rfl dX3_heldByLots_47 ?_
          refine lv_iconst (pc := 48) (v := 4) hx hb dX3_heldByLots_48 (by decide) ?_
          refine lv_icmp_eq (pc := 49) (tgt := 62) hx hb dX3_heldByLots_49 (by decide) (fun c4 => ?_) (fun c4 => ?_)
          · refine lv_lconst (pc := 62) (v := 0) hx hb dX3_heldByLots_62 (by decide) ?_
            refine lv_lsub (pc := 63) hx hb dX3_heldByLots_63 ?_
            refine lv_lstore_n (pc := 64) (lv' := [(1, .long (((mHld A i) + ((A 6 (nI i).toNatClampNeg) : Int32).toInt64) - 0)), (3, .int (nI i)), (0, .ref (ad 0))]) hx hb dX3_heldByLots_64 rfl hl (by decide) rfl (fun ls hl => ?_)
            refine lv_iinc (pc := 65) (v := ((nI i) + 1)) (lv' := [(3, .int ((nI i) + 1)), (1, .long (((mHld A i) + ((A 6 (nI i).toNatClampNeg) : Int32).toInt64) - 0)), (0, .ref (ad 0))]) hx hb dX3_heldByLots_65 hl (k := 1) rfl (by first | rfl | decide) (by decide) rfl (fun ls hl => ?_)
            refine lv_goto (pc := 68) (tgt := 9) hx hb dX3_heldByLots_68 (by decide) ?_
            rw [nI_1] at hl
            have em : (((mHld A i) + ((A 6 (nI i).toNatClampNeg) : Int32).toInt64) - 0) = mHld A (i + 1) := by show _ = (mHld A i + ite _ _ _) - ite _ _ _; rw [if_pos c2, if_pos c4]
            rw [em] at hl
            exact ih (i + 1) H locs ls (by omega) (by omega) G (lv_sub hl [1, 0, 2] rfl)
          · refine lv_aload_n (pc := 52) hx hb dX3_heldByLots_52 rfl (lv_at hl 2 rfl) ?_
            refine m_get (pc := 53) (v := .ref (ad 13)) S M G 13 (by decide) q1336 rfl rfl dX3_heldByLots_53 ?_
            refine lv_iload_n (pc := 56) hx hb dX3_heldByLots_56 rfl (lv_at hl 1 rfl) ?_
            refine m_ald (pc := 57) (v := (A 13 (nI i).toNatClampNeg)) S M G 13 rfl (vp_in_nI (Nat.lt_of_lt_of_le hi hN) (by decide)) rfl dX3_heldByLots_57 ?_
            refine lv_i2l (pc := 58) hx hb dX3_heldByLots_58 rfl ?_
            refine lv_goto (pc := 59) (tgt := 63) hx hb dX3_heldByLots_59 (by decide) ?_
            refine lv_lsub (pc := 63) hx hb dX3_heldByLots_63 ?_
            refine lv_lstore_n (pc := 64) (lv' := [(1, .long (((mHld A i) + ((A 6 (nI i).toNatClampNeg) : Int32).toInt64) - ((A 13 (nI i).toNatClampNeg) : Int32).toInt64)), (3, .int (nI i)), (0, .ref (ad 0))]) hx hb dX3_heldByLots_64 rfl hl (by decide) rfl (fun ls hl => ?_)
            refine lv_iinc (pc := 65) (v := ((nI i) + 1)) (lv' := [(3, .int ((nI i) + 1)), (1, .long (((mHld A i) + ((A 6 (nI i).toNatClampNeg) : Int32).toInt64) - ((A 13 (nI i).toNatClampNeg) : Int32).toInt64)), (0, .ref (ad 0))]) hx hb dX3_heldByLots_65 hl (k := 1) rfl (by first | rfl | decide) (by decide) rfl (fun ls hl => ?_)
            refine lv_goto (pc := 68) (tgt := 9) hx hb dX3_heldByLots_68 (by decide) ?_
            rw [nI_1] at hl
            have em : (((mHld A i) + ((A 6 (nI i).toNatClampNeg) : Int32).toInt64) - ((A 13 (nI i).toNatClampNeg) : Int32).toInt64) = mHld A (i + 1) := by show _ = (mHld A i + ite _ _ _) - ite _ _ _; rw [if_pos c2, if_neg c4]
            rw [em] at hl
            exact ih (i + 1) H locs ls (by omega) (by omega) G (lv_sub hl [1, 0, 2] rfl)
  exact Lp (N + 1) 0 H locs ls (by omega) (by omega) G (lv_sub hl [1, 0, 2] rfl)
