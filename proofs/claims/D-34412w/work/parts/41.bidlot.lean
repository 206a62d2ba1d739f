/-! DroitLine: lots, money; bid, lot -/
def dLots (X : DQ) : Int32 := (nI (dN X))
abbrev rmX1_lots : Room := ({ frames := 1, cells := 0, slots := 0, locals := 20 } : Room)
set_option maxHeartbeats 4000000 in
theorem metX1_lots (l : Launch) (D : va_G) (K : Nat → Nat) (w : Gh) {dl ca oa : Nat} {X : DQ} (hD : DW D K w dl ca oa X) : gMet l yX1_lots (ws_ yX1_lots cX1_lots 1 (some .int)) rmX1_lots D K [.ref dl] w (fun r' w' => r' = some (.int (dLots X)) ∧ w' = w) := by
  refine gMet.of (by decide) (Nat.le_of_ble_eq_true rfl) ?_
  intro p e s m args below meth c H locs ls S M hr hlocks hname G hl
  have hx := S.1
  have hb := S.2.1
  have hown := S.2.2.2.1
  have hts := S.2.2.2.2
  have hl : lv_has ls 1 [(0, .ref dl)] := hl
  obtain ⟨Q, hQ⟩ : ∃ Q, Q = gE below D K (fun r' w' => r' = some (.int (dLots X)) ∧ w' = w) args s rmX1_lots.cells rmX1_lots.slots := ⟨_, rfl⟩
  rw [← hQ]
  have hD0 := hD
  obtain ⟨sb, fb, sh, lq, mp, md, lmd, ks, es, hN, ky, vl, bv, ta, cap, hV⟩ := hD
  have hdl := hV.1.1
  have hbdl := hV.1.2
  have hDD := hV.2.2.2.2.2.2.2.2.2
  have hlqc := hV.2.2.1.1
  have hblq := hV.2.2.1.2.1
  have hn30 := hV.2.2.1.2.2.1
  have hca := hV.2.2.2.2.2.1.1
  have hbca := hV.2.2.2.2.2.1.2
  have hoa := hV.2.2.2.2.2.2.1.1
  have hboa := hV.2.2.2.2.2.2.1.2
  have hco := hV.2.2.2.2.2.2.2.1
  have hFD0 : FD D ca oa w w := FD.rf
  obtain ⟨fssb, hcsb⟩ : ∃ z, w sb = some (.inr (1, z)) := by obtain ⟨b9, h9, -⟩ := hV.2.1.1; exact ⟨_, h9⟩
  obtain ⟨fsfb, hcfb⟩ : ∃ z, w fb = some (.inr (1, z)) := by obtain ⟨b9, h9, -⟩ := hV.2.1.2.1; exact ⟨_, h9⟩
  obtain ⟨fssh, hcsh⟩ : ∃ z, w sh = some (.inr (1, z)) := by obtain ⟨b9, h9, -⟩ := hV.2.1.2.2; exact ⟨_, h9⟩
  refine lv_aload_n (pc := 0) hx hb dX1_lots_0 rfl (lv_at hl 0 rfl) ?_
  refine g_get (pc := 1) (v := .ref lq) S M G (C := RX1) (T := TX1) (N := 12) (ci := 0) in_X1 hdl rfl 3 (by decide) q171 (Or.inl rfl) rfl dX1_lots_1 ?_
  refine g_callF (pc := 4) S M G hl.1 [] [] (metJ2_size l D K w hlqc) 0 (g_recv M G hlqc (q := (RJ2, TJ2, 3)) rfl) (g_cls M (ci := 6) rfl) q222 q214 ⟨by decide, q216, q215, q221, q219, q217⟩ q220 q218 q22 rfl rfl ⟨Nat.le_of_ble_eq_true rfl, Nat.le_of_ble_eq_true rfl⟩ rfl (Nat.le_of_ble_eq_true rfl) dX1_lots_4 ⟨Nat.le_of_ble_eq_true rfl, Nat.le_of_ble_eq_true rfl⟩ (fun r w2 H locs hp G => ?_)
  obtain ⟨rfl, hw2⟩ := hp
  rw [hw2] at G
  refine W.eq (g2 := F0 m 9 ls [.int (nI (dN X))]) rfl ?_
  rw [hQ]
  refine g_iret S G hr hlocks (hdg := dX1_lots_9) ?_ ?_ ?_
  · exact Nat.le_of_ble_eq_true rfl
  · exact Nat.le_of_ble_eq_true rfl
  · refine ⟨congrArg (fun z => some (Value.int z)) ?_, rfl⟩
    unfold dLots
    rfl
def dM_in (X : DQ) : Int64 := (dM X 0)
abbrev rmX1_in : Room := ({ frames := 0, cells := 0, slots := 0, locals := 0 } : Room)
set_option maxHeartbeats 4000000 in
theorem metX1_in (l : Launch) (D : va_G) (K : Nat → Nat) (w : Gh) {dl ca oa : Nat} {X : DQ} (hD : DW D K w dl ca oa X) : gMet l yX1_in (ws_ yX1_in cX1_in 1 (some .long)) rmX1_in D K [.ref dl] w (fun r' w' => r' = some (.long (dM_in X)) ∧ w' = w) := by
  refine gMet.of (by decide) (Nat.le_of_ble_eq_true rfl) ?_
  intro p e s m args below meth c H locs ls S M hr hlocks hname G hl
  have hx := S.1
  have hb := S.2.1
  have hown := S.2.2.2.1
  have hts := S.2.2.2.2
  have hl : lv_has ls 1 [(0, .ref dl)] := hl
  obtain ⟨Q, hQ⟩ : ∃ Q, Q = gE below D K (fun r' w' => r' = some (.long (dM_in X)) ∧ w' = w) args s rmX1_in.cells rmX1_in.slots := ⟨_, rfl⟩
  rw [← hQ]
  have hD0 := hD
  obtain ⟨sb, fb, sh, lq, mp, md, lmd, ks, es, hN, ky, vl, bv, ta, cap, hV⟩ := hD
  have hdl := hV.1.1
  have hbdl := hV.1.2
  have hDD := hV.2.2.2.2.2.2.2.2.2
  have hlqc := hV.2.2.1.1
  have hblq := hV.2.2.1.2.1
  have hn30 := hV.2.2.1.2.2.1
  have hca := hV.2.2.2.2.2.1.1
  have hbca := hV.2.2.2.2.2.1.2
  have hoa := hV.2.2.2.2.2.2.1.1
  have hboa := hV.2.2.2.2.2.2.1.2
  have hco := hV.2.2.2.2.2.2.2.1
  have hFD0 : FD D ca oa w w := FD.rf
  obtain ⟨fssb, hcsb⟩ : ∃ z, w sb = some (.inr (1, z)) := by obtain ⟨b9, h9, -⟩ := hV.2.1.1; exact ⟨_, h9⟩
  obtain ⟨fsfb, hcfb⟩ : ∃ z, w fb = some (.inr (1, z)) := by obtain ⟨b9, h9, -⟩ := hV.2.1.2.1; exact ⟨_, h9⟩
  obtain ⟨fssh, hcsh⟩ : ∃ z, w sh = some (.inr (1, z)) := by obtain ⟨b9, h9, -⟩ := hV.2.1.2.2; exact ⟨_, h9⟩
  refine lv_aload_n (pc := 0) hx hb dX1_in_0 rfl (lv_at hl 0 rfl) ?_
  refine g_get (pc := 1) (v := .long (dM X 0)) S M G (C := RX1) (T := TX1) (N := 12) (ci := 0) in_X1 hdl rfl 9 (by decide) q180 (Or.inl rfl) rfl dX1_in_1 ?_
  rw [hQ]
  refine g_lret S G hr hlocks (hdg := dX1_in_4) ?_ ?_ ?_
  · exact Nat.le_of_ble_eq_true rfl
  · exact Nat.le_of_ble_eq_true rfl
  · refine ⟨congrArg (fun z => some (Value.long z)) ?_, rfl⟩
    unfold dM_in
    rfl
def dM_out (X : DQ) : Int64 := (dM X 1)
abbrev rmX1_out : Room := ({ frames := 0, cells := 0, slots := 0, locals := 0 } : Room)
set_option maxHeartbeats 4000000 in
theorem metX1_out (l : Launch) (D : va_G) (K : Nat → Nat) (w : Gh) {dl ca oa : Nat} {X : DQ} (hD : DW D K w dl ca oa X) : gMet l yX1_out (ws_ yX1_out cX1_out 1 (some .long)) rmX1_out D K [.ref dl] w (fun r' w' => r' = some (.long (dM_out X)) ∧ w' = w) := by
  refine gMet.of (by decide) (Nat.le_of_ble_eq_true rfl) ?_
  intro p e s m args below meth c H locs ls S M hr hlocks hname G hl
  have hx := S.1
  have hb := S.2.1
  have hown := S.2.2.2.1
  have hts := S.2.2.2.2
  have hl : lv_has ls 1 [(0, .ref dl)] := hl
  obtain ⟨Q, hQ⟩ : ∃ Q, Q = gE below D K (fun r' w' => r' = some (.long (dM_out X)) ∧ w' = w) args s rmX1_out.cells rmX1_out.slots := ⟨_, rfl⟩
  rw [← hQ]
  have hD0 := hD
  obtain ⟨sb, fb, sh, lq, mp, md, lmd, ks, es, hN, ky, vl, bv, ta, cap, hV⟩ := hD
  have hdl := hV.1.1
  have hbdl := hV.1.2
  have hDD := hV.2.2.2.2.2.2.2.2.2
  have hlqc := hV.2.2.1.1
  have hblq := hV.2.2.1.2.1
  have hn30 := hV.2.2.1.2.2.1
  have hca := hV.2.2.2.2.2.1.1
  have hbca := hV.2.2.2.2.2.1.2
  have hoa := hV.2.2.2.2.2.2.1.1
  have hboa := hV.2.2.2.2.2.2.1.2
  have hco := hV.2.2.2.2.2.2.2.1
  have hFD0 : FD D ca oa w w := FD.rf
  obtain ⟨fssb, hcsb⟩ : ∃ z, w sb = some (.inr (1, z)) := by obtain ⟨b9, h9, -⟩ := hV.2.1.1; exact ⟨_, h9⟩
  obtain ⟨fsfb, hcfb⟩ : ∃ z, w fb = some (.inr (1, z)) := by obtain ⟨b9, h9, -⟩ := hV.2.1.2.1; exact ⟨_, h9⟩
  obtain ⟨fssh, hcsh⟩ : ∃ z, w sh = some (.inr (1, z)) := by obtain ⟨b9, h9, -⟩ := hV.2.1.2.2; exact ⟨_, h9⟩
  refine lv_aload_n (pc := 0) hx hb dX1_out_0 rfl (lv_at hl 0 rfl) ?_
  refine g_get (pc := 1) (v := .long (dM X 1)) S M G (C := RX1) (T := TX1) (N := 12) (ci := 0) in_X1 hdl rfl 10 (by decide) q181 (Or.inl rfl) rfl dX1_out_1 ?_
  rw [hQ]
  refine g_lret S G hr hlocks (hdg := dX1_out_4) ?_ ?_ ?_
  · exact Nat.le_of_ble_eq_true rfl
  · exact Nat.le_of_ble_eq_true rfl
  · refine ⟨congrArg (fun z => some (Value.long z)) ?_, rfl⟩
    unfold dM_out
    rfl
def dM_kept (X : DQ) : Int64 := (dM X 2)
abbrev rmX1_kept : Room := ({ frames := 0, cells := 0, slots := 0, locals := 0 } : Room)
set_option maxHeartbeats 4000000 in
theorem metX1_kept (l : Launch) (D : va_G) (K : Nat → Nat) (w : Gh) {dl ca oa : Nat} {X : DQ} (hD : DW D K w dl ca oa X) : gMet l yX1_kept (ws_ yX1_kept cX1_kept 1 (some .long)) rmX1_kept D K [.ref dl] w (fun r' w' => r' = some (.long (dM_kept X)) ∧ w' = w) := by
  refine gMet.of (by decide) (Nat.le_of_ble_eq_true rfl) ?_
  intro p e s m args below meth c H locs ls S M hr hlocks hname G hl
  have hx := S.1
  have hb := S.2.1
  have hown := S.2.2.2.1
  have hts := S.2.2.2.2
  have hl : lv_has ls 1 [(0, .ref dl)] := hl
  obtain ⟨Q, hQ⟩ : ∃ Q, Q = gE below D K (fun r' w' => r' = some (.long (dM_kept X)) ∧ w' = w) args s rmX1_kept.cells rmX1_kept.slots := ⟨_, rfl⟩
  rw [← hQ]
  have hD0 := hD
  obtain ⟨sb, fb, sh, lq, mp, md, lmd, ks, es, hN, ky, vl, bv, ta, cap, hV⟩ := hD
  have hdl := hV.1.1
  have hbdl := hV.1.2
  have hDD := hV.2.2.2.2.2.2.2.2.2
  have hlqc := hV.2.2.1.1
  have hblq := hV.2.2.1.2.1
  have hn30 := hV.2.2.1.2.2.1
  have hca := hV.2.2.2.2.2.1.1
  have hbca := hV.2.2.2.2.2.1.2
  have hoa := hV.2.2.2.2.2.2.1.1
  have hboa := hV.2.2.2.2.2.2.1.2
  have hco := hV.2.2.2.2.2.2.2.1
  have hFD0 : FD D ca oa w w := FD.rf
  obtain ⟨fssb, hcsb⟩ : ∃ z, w sb = some (.inr (1, z)) := by obtain ⟨b9, h9, -⟩ := hV.2.1.1; exact ⟨_, h9⟩
  obtain ⟨fsfb, hcfb⟩ : ∃ z, w fb = some (.inr (1, z)) := by obtain ⟨b9, h9, -⟩ := hV.2.1.2.1; exact ⟨_, h9⟩
  obtain ⟨fssh, hcsh⟩ : ∃ z, w sh = some (.inr (1, z)) := by obtain ⟨b9, h9, -⟩ := hV.2.1.2.2; exact ⟨_, h9⟩
  refine lv_aload_n (pc := 0) hx hb dX1_kept_0 rfl (lv_at hl 0 rfl) ?_
  refine g_get (pc := 1) (v := .long (dM X 2)) S M G (C := RX1) (T := TX1) (N := 12) (ci := 0) in_X1 hdl rfl 11 (by decide) q182 (Or.inl rfl) rfl dX1_kept_1 ?_
  rw [hQ]
  refine g_lret S G hr hlocks (hdg := dX1_kept_4) ?_ ?_ ?_
  · exact Nat.le_of_ble_eq_true rfl
  · exact Nat.le_of_ble_eq_true rfl
  · refine ⟨congrArg (fun z => some (Value.long z)) ?_, rfl⟩
    unfold dM_kept
    rfl
def dM_held (X : DQ) : Int64 := (((dM X 0) - (dM X 1)) - (dM X 2))
abbrev rmX1_held : Room := ({ frames := 0, cells := 0, slots := 0, locals := 0 } : Room)
set_option maxHeartbeats 4000000 in
theorem metX1_held (l : Launch) (D : va_G) (K : Nat → Nat) (w : Gh) {dl ca oa : Nat} {X : DQ} (hD : DW D K w dl ca oa X) : gMet l yX1_held (ws_ yX1_held cX1_held 1 (some .long)) rmX1_held D K [.ref dl] w (fun r' w' => r' = some (.long (dM_held X)) ∧ w' = w) := by
  refine gMet.of (by decide) (Nat.le_of_ble_eq_true rfl) ?_
  intro p e s m args below meth c H locs ls S M hr hlocks hname G hl
  have hx := S.1
  have hb := S.2.1
  have hown := S.2.2.2.1
  have hts := S.2.2.2.2
  have hl : lv_has ls 1 [(0, .ref dl)] := hl
  obtain ⟨Q, hQ⟩ : ∃ Q, Q = gE below D K (fun r' w' => r' = some (.long (dM_held X)) ∧ w' = w) args s rmX1_held.cells rmX1_held.slots := ⟨_, rfl⟩
  rw [← hQ]
  have hD0 := hD
  obtain ⟨sb, fb, sh, lq, mp, md, lmd, ks, es, hN, ky, vl, bv, ta, cap, hV⟩ := hD
  have hdl := hV.1.1
  have hbdl := hV.1.2
  have hDD := hV.2.2.2.2.2.2.2.2.2
  have hlqc := hV.2.2.1.1
  have hblq := hV.2.2.1.2.1
  have hn30 := hV.2.2.1.2.2.1
  have hca := hV.2.2.2.2.2.1.1
  have hbca := hV.2.2.2.2.2.1.2
  have hoa := hV.2.2.2.2.2.2.1.1
  have hboa := hV.2.2.2.2.2.2.1.2
  have hco := hV.2.2.2.2.2.2.2.1
  have hFD0 : FD D ca oa w w := FD.rf
  obtain ⟨fssb, hcsb⟩ : ∃ z, w sb = some (.inr (1, z)) := by obtain ⟨b9, h9, -⟩ := hV.2.1.1; exact ⟨_, h9⟩
  obtain ⟨fsfb, hcfb⟩ : ∃ z, w fb = some (.inr (1, z)) := by obtain ⟨b9, h9, -⟩ := hV.2.1.2.1; exact ⟨_, h9⟩
  obtain ⟨fssh, hcsh⟩ : ∃ z, w sh = some (.inr (1, z)) := by obtain ⟨b9, h9, -⟩ := hV.2.1.2.2; exact ⟨_, h9⟩
  refine lv_aload_n (pc := 0) hx hb dX1_held_0 rfl (lv_at hl 0 rfl) ?_
  refine g_get (pc := 1) (v := .long (dM X 0)) S M G (C := RX1) (T := TX1) (N := 12) (ci := 0) in_X1 hdl rfl 9 (by decide) q180 (Or.inl rfl) rfl dX1_held_1 ?_
  refine lv_aload_n (pc := 4) hx hb dX1_held_4 rfl (lv_at hl 0 rfl) ?_
  refine g_get (pc := 5) (v := .long (dM X 1)) S M G (C := RX1) (T := TX1) (N := 12) (ci := 0) in_X1 hdl rfl 10 (by decide) q181 (Or.inl rfl) rfl dX1_held_5 ?_
  refine lv_lsub (pc := 8) hx hb dX1_held_8 ?_
  refine lv_aload_n (pc := 9) hx hb dX1_held_9 rfl (lv_at hl 0 rfl) ?_
  refine g_get (pc := 10) (v := .long (dM X 2)) S M G (C := RX1) (T := TX1) (N := 12) (ci := 0) in_X1 hdl rfl 11 (by decide) q182 (Or.inl rfl) rfl dX1_held_10 ?_
  refine lv_lsub (pc := 13) hx hb dX1_held_13 ?_
  rw [hQ]
  refine g_lret S G hr hlocks (hdg := dX1_held_14) ?_ ?_ ?_
  · exact Nat.le_of_ble_eq_true rfl
  · exact Nat.le_of_ble_eq_true rfl
  · refine ⟨congrArg (fun z => some (Value.long z)) ?_, rfl⟩
    unfold dM_held
    rfl
def hSum (X : DQ) : Nat → Int64
  | 0 => 0
  | k + 1 => (hSum X k + (if dF X k 4 = 3 then (dF X k 6).toInt64 else 0)) - (if dF X k 4 = 4 then 0 else (dF X k 8).toInt64)
abbrev rmX1_heldByLots : Room := ({ frames := 3, cells := 1, slots := 4, locals := 61 } : Room)
set_option maxHeartbeats 4000000 in
theorem metX1_heldByLots (l : Launch) (D : va_G) (K : Nat → Nat) (w : Gh) {dl ca oa : Nat} {X : DQ} (hD : DW D K w dl ca oa X) : gMet l yX1_heldByLots (ws_ yX1_heldByLots cX1_heldByLots 5 (some .long)) rmX1_heldByLots D K [.ref dl] w (fun r' w' => r' = some (.long (hSum X (dN X))) ∧ DW D K w' dl ca oa X ∧ FD D ca oa w w') := by
  refine gMet.of (by decide) (Nat.le_of_ble_eq_true rfl) ?_
  intro p e s m args below meth c H locs ls S M hr hlocks hname G hl
  have hx := S.1
  have hb := S.2.1
  have hown := S.2.2.2.1
  have hts := S.2.2.2.2
  have hl : lv_has ls 5 [(0, .ref dl)] := hl
  obtain ⟨Q, hQ⟩ : ∃ Q, Q = gE below D K (fun r' w' => r' = some (.long (hSum X (dN X))) ∧ DW D K w' dl ca oa X ∧ FD D ca oa w w') args s rmX1_heldByLots.cells rmX1_heldByLots.slots := ⟨_, rfl⟩
  rw [← hQ]
  have hD0 := hD
  obtain ⟨sb, fb, sh, lq, mp, md, lmd, ks, es, hN, ky, vl, bv, ta, cap, hV⟩ := hD
  have hdl := hV.1.1
  have hbdl := hV.1.2
  have hDD := hV.2.2.2.2.2.2.2.2.2
  have hlqc := hV.2.2.1.1
  have hblq := hV.2.2.1.2.1
  have hn30 := hV.2.2.1.2.2.1
  have hca := hV.2.2.2.2.2.1.1
  have hbca := hV.2.2.2.2.2.1.2
  have hoa := hV.2.2.2.2.2.2.1.1
  have hboa := hV.2.2.2.2.2.2.1.2
  have hco := hV.2.2.2.2.2.2.2.1
  have hFD0 : FD D ca oa w w := FD.rf
  obtain ⟨fssb, hcsb⟩ : ∃ z, w sb = some (.inr (1, z)) := by obtain ⟨b9, h9, -⟩ := hV.2.1.1; exact ⟨_, h9⟩
  obtain ⟨fsfb, hcfb⟩ : ∃ z, w fb = some (.inr (1, z)) := by obtain ⟨b9, h9, -⟩ := hV.2.1.2.1; exact ⟨_, h9⟩
  obtain ⟨fssh, hcsh⟩ : ∃ z, w sh = some (.inr (1, z)) := by obtain ⟨b9, h9, -⟩ := hV.2.1.2.2; exact ⟨_, h9⟩
  refine lv_lconst (pc := 0) (v := 0) hx hb dX1_heldByLots_0 (by decide) ?_
  refine lv_lstore_n (pc := 1) (lv' := [(1, .long 0), (0, .ref dl)]) hx hb dX1_heldByLots_1 rfl hl (by decide) rfl (fun ls hl => ?_)
  refine lv_aload_n (pc := 2) hx hb dX1_heldByLots_2 rfl (lv_at hl 1 rfl) ?_
  refine g_get (pc := 3) (v := .ref lq) S M G (C := RX1) (T := TX1) (N := 12) (ci := 0) in_X1 hdl rfl 3 (by decide) q171 (Or.inl rfl) rfl dX1_heldByLots_3 ?_
  refine g_callF (pc := 6) S M G hl.1 [] [] (metJ2_iterator l D K w hlqc) 0 (g_recv M G hlqc (q := (RJ2, TJ2, 3)) rfl) (g_cls M (ci := 6) rfl) q251 q244 ⟨by decide, q246, q245, q250, q248, q217⟩ q249 q247 q22 rfl rfl ⟨Nat.le_of_ble_eq_true rfl, Nat.le_of_ble_eq_true rfl⟩ rfl (Nat.le_of_ble_eq_true rfl) dX1_heldByLots_6 ⟨Nat.le_of_ble_eq_true rfl, Nat.le_of_ble_eq_true rfl⟩ (fun r w3 H locs hp G => ?_)
  refine W.widen (k := 1) (n := 4) (Nat.le_of_ble_eq_true rfl) (Nat.le_of_ble_eq_true rfl) ?_
  obtain ⟨it, rfl, hwit, hbit, hit3, hF3⟩ := hp
  have hV3 : DV D K w3 dl ca oa X sb fb sh lq mp md lmd ks es hN ky vl bv ta cap := hV.kp (fun a y q1 _ => hF3 a y q1)
  have hFD3 : FD D ca oa w w3 := FD.all hF3
  refine W.eq (g2 := F0 m 11 ls [.ref it]) rfl ?_
  refine lv_astore_n (pc := 11) (lv' := [(3, .ref it), (1, .long 0), (0, .ref dl)]) hx hb dX1_heldByLots_11 rfl hl (by decide) rfl (fun ls hl => ?_)
  have Lh : ∀ (todo j : Nat) (la : Int32) (w5 : Gh) (H : Heap) (locs : List Loc) (ls : Array Slot), j + todo = dN X → DV D K w5 dl ca oa X sb fb sh lq mp md lmd ks es hN ky vl bv ta cap → FD D ca oa w w5 → w5 it = some (.inr (11, [.int (nI j), .int la, .int lmd, .ref lq])) → gS D K w5 s H locs → lv_has ls 5 [(3, .ref it), (1, .long (hSum X j)), (0, .ref dl)] → W p l e rmX1_heldByLots s m args below meth c H locs 1 4 Q (F0 m 12 ls []) := by
    intro todo
    induction todo with
    | zero =>
      intro j la w5 H locs ls hjt hV5 hFD5 hit5 G hl
      have hjN : j = dN X := by omega
      have hend : nI j = nI (dN X) := by rw [hjN]
      have hlq5 := hV5.2.2.1.1
      refine lv_aload_n (pc := 12) hx hb dX1_heldByLots_12 rfl (lv_at hl 0 rfl) ?_
      refine g_callF (pc := 13) S M G hl.1 [] [] (metJ29_hasNext l D K w5 hit5 hlq5) 0 (g_recv M G hit5 (q := (RJ29, TJ29, 4)) rfl) (g_cls M (ci := 11) rfl) q286 q272 ⟨by decide, q274, q273, q285, q283, q281⟩ q284 q282 q55 rfl rfl ⟨Nat.le_of_ble_eq_true rfl, Nat.le_of_ble_eq_true rfl⟩ rfl (Nat.le_of_ble_eq_true rfl) dX1_heldByLots_13 ⟨Nat.le_of_ble_eq_true rfl, Nat.le_of_ble_eq_true rfl⟩ (fun r wz H locs hp G => ?_)
      obtain ⟨rfl, hw2⟩ := hp
      rw [hw2] at G
      rw [if_pos hend]
      refine W.eq (g2 := F0 m 18 ls [.int 0]) rfl ?_
      refine lv_if_eq (pc := 18) (tgt := 79) hx hb dX1_heldByLots_18 (by decide) (fun _ => ?_) (fun c => absurd c (by decide))
      refine lv_lload_n (pc := 79) hx hb dX1_heldByLots_79 rfl (lv_at hl 1 rfl) ?_
      rw [hQ]
      refine g_lret S G hr hlocks (hdg := dX1_heldByLots_80) ?_ ?_ ?_
      · exact Nat.le_of_ble_eq_true rfl
      · exact Nat.le_of_ble_eq_true rfl
      · exact ⟨by rw [hjN], hV5.W, hFD5⟩
    | succ todo ih =>
      intro j la w5 H locs ls hjt hV5 hFD5 hit5 G hl
      have hjn : j < dN X := by omega
      have hend : ¬ nI j = nI (dN X) := fun z => absurd ((nI_eq (by omega) (by omega)).mp z) (by omega)
      obtain ⟨hcap1, hcap2, hta5⟩ : dN X ≤ cap ∧ cap ≤ 33 ∧ w5 ta = some (.inl (D.1 102, cap, gra (lga (dN X) (dL X)))) := by
        rcases hV5.2.2.1.2.2.2 with ⟨h8, -⟩ | ⟨h7, -, h8, -, h9⟩
        · omega
        · exact ⟨h8, by rcases h7 with rfl | rfl | rfl | rfl <;> decide, h9⟩
      have hlq5 := hV5.2.2.1.1
      refine lv_aload_n (pc := 12) hx hb dX1_heldByLots_12 rfl (lv_at hl 0 rfl) ?_
      refine g_callF (pc := 13) S M G hl.1 [] [] (metJ29_hasNext l D K w5 hit5 hlq5) 0 (g_recv M G hit5 (q := (RJ29, TJ29, 4)) rfl) (g_cls M (ci := 11) rfl) q286 q272 ⟨by decide, q274, q273, q285, q283, q281⟩ q284 q282 q55 rfl rfl ⟨Nat.le_of_ble_eq_true rfl, Nat.le_of_ble_eq_true rfl⟩ rfl (Nat.le_of_ble_eq_true rfl) dX1_heldByLots_13 ⟨Nat.le_of_ble_eq_true rfl, Nat.le_of_ble_eq_true rfl⟩ (fun r wz H locs hp G => ?_)
      obtain ⟨rfl, hw2⟩ := hp
      rw [hw2] at G
      rw [if_neg hend]
      refine W.eq (g2 := F0 m 18 ls [.int 1]) rfl ?_
      refine lv_if_eq (pc := 18) (tgt := 79) hx hb dX1_heldByLots_18 (by decide) (fun c => absurd c (by decide)) (fun _ => ?_)
      refine lv_aload_n (pc := 21) hx hb dX1_heldByLots_21 rfl (lv_at hl 0 rfl) ?_
      refine g_callF (pc := 22) S M G hl.1 [] [] (metJ29_next l D K w5 hit5 hbit hlq5 hta5 hcap2 hjn hcap1 (if_pos hjn)) 0 (g_recv M G hit5 (q := (RJ29, TJ29, 4)) rfl) (g_cls M (ci := 11) rfl) q385 q294 ⟨by decide, q296, q295, q384, q382, q281⟩ q383 q381 q55 rfl rfl ⟨Nat.le_of_ble_eq_true rfl, Nat.le_of_ble_eq_true rfl⟩ rfl (Nat.le_of_ble_eq_true rfl) dX1_heldByLots_22 ⟨Nat.le_of_ble_eq_true rfl, Nat.le_of_ble_eq_true rfl⟩ (fun r w6 H locs hp G => ?_)
      obtain ⟨rfl, hw2⟩ := hp
      have hV6 : DV D K w6 dl ca oa X sb fb sh lq mp md lmd ks es hN ky vl bv ta cap := by rw [hw2]; exact hV5.o11 hit5
      have hFD6 : FD D ca oa w w6 := hFD5.tr (by rw [hw2]; exact FD.up hit5 (by decide))
      have hlo6 := (hV6.2.2.2.1 j hjn).1
      have hblo6 := (hV6.2.2.2.1 j hjn).2
      have hit6 : w6 it = some (.inr (11, [.int (nI (j + 1)), .int (nI j), .int lmd, .ref lq])) := by rw [hw2]; exact gu_s
      refine W.eq (g2 := F0 m 27 ls [.ref (dL X j)]) rfl ?_
      refine va_castS (pc := 27) hx hb hown (hts _ q409) (g_cls M (ci := 3) rfl) (g_recv M G hlo6 (q := (RX4, TX4, 14)) rfl) dX1_heldByLots_27 ?_
      refine lv_astore (pc := 30) (lv' := [(4, .ref (dL X j)), (3, .ref it), (1, .long (hSum X j)), (0, .ref dl)]) hx hb dX1_heldByLots_30 hl (by decide) rfl (fun ls hl => ?_)
      refine lv_lload_n (pc := 32) hx hb dX1_heldByLots_32 rfl (lv_at hl 2 rfl) ?_
      refine lv_aload (pc := 33) hx hb dX1_heldByLots_33 (lv_at hl 0 rfl) ?_
      refine g_getN (pc := 35) (v := .int (dF X j 4)) S M G (C := RX4) (T := TX4) (N := 14) (ci := 3) in_X4 hlo6 rfl 4 (by decide) q532 rfl rfl dX1_heldByLots_35 ?_
      refine lv_iconst (pc := 38) (v := 3) hx hb dX1_heldByLots_38 (by decide) ?_
      refine lv_icmp_ne (pc := 39) (tgt := 51) hx hb dX1_heldByLots_39 (by decide) (fun c1 => ?_) (fun c1 => ?_)
      · refine lv_lconst (pc := 51) (v := 0) hx hb dX1_heldByLots_51 (by decide) ?_
        refine lv_ladd (pc := 52) hx hb dX1_heldByLots_52 ?_
        refine lv_lstore_n (pc := 53) (lv' := [(1, .long ((hSum X j) + 0)), (4, .ref (dL X j)), (3, .ref it), (0, .ref dl)]) hx hb dX1_heldByLots_53 rfl hl (by decide) rfl (fun ls hl => ?_)
        refine lv_lload_n (pc := 54) hx hb dX1_heldByLots_54 rfl (lv_at hl 0 rfl) ?_
        refine lv_aload (pc := 55) hx hb dX1_heldByLots_55 (lv_at hl 1 rfl) ?_
        refine g_getN (pc := 57) (v := .int (dF X j 4)) S M G (C := RX4) (T := TX4) (N := 14) (ci := 3) in_X4 hlo6 rfl 4 (by decide) q532 rfl rfl dX1_heldByLots_57 ?_
        refine lv_iconst (pc := 60) (v := 4) hx hb dX1_heldByLots_60 (by decide) ?_
        refine lv_icmp_ne (pc := 61) (tgt := 68) hx hb dX1_heldByLots_61 (by decide) (fun c2 => ?_) (fun c2 => ?_)
        · refine lv_aload (pc := 68) hx hb dX1_heldByLots_68 (lv_at hl 1 rfl) ?_
          refine g_getN (pc := 70) (v := .int (dF X j 8)) S M G (C := RX4) (T := TX4) (N := 14) (ci := 3) in_X4 hlo6 rfl 8 (by decide) q539 rfl rfl dX1_heldByLots_70 ?_
          refine lv_i2l (pc := 73) hx hb dX1_heldByLots_73 rfl ?_
          refine lv_lsub (pc := 74) hx hb dX1_heldByLots_74 ?_
          refine lv_lstore_n (pc := 75) (lv' := [(1, .long (((hSum X j) + 0) - ((dF X j 8) : Int32).toInt64)), (4, .ref (dL X j)), (3, .ref it), (0, .ref dl)]) hx hb dX1_heldByLots_75 rfl hl (by decide) rfl (fun ls hl => ?_)
          refine lv_goto (pc := 76) (tgt := 12) hx hb dX1_heldByLots_76 (by decide) ?_
          have e9 : hSum X (j + 1) = (((hSum X j) + 0) - ((dF X j 8) : Int32).toInt64) := by
            show (hSum X j + (if _ then _ else _)) - (if _ then _ else _) = _
            rw [if_neg c1, if_neg c2]
          exact ih (j + 1) (nI j) w6 H locs ls (by omega) hV6 hFD6 hit6 G (by rw [e9]; exact (lv_sub hl [2, 0, 3] rfl))
        · refine lv_lconst (pc := 64) (v := 0) hx hb dX1_heldByLots_64 (by decide) ?_
          refine lv_goto (pc := 65) (tgt := 74) hx hb dX1_heldByLots_65 (by decide) ?_
          refine lv_lsub (pc := 74) hx hb dX1_heldByLots_74 ?_
          refine lv_lstore_n (pc := 75) (lv' := [(1, .long (((hSum X j) + 0) - 0)), (4, .ref (dL X j)), (3, .ref it), (0, .ref dl)]) hx hb dX1_heldByLots_75 rfl hl (by decide) rfl (fun ls hl => ?_)
          refine lv_goto (pc := 76) (tgt := 12) hx hb dX1_heldByLots_76 (by decide) ?_
          have e9 : hSum X (j + 1) = (((hSum X j) + 0) - 0) := by
            show (hSum X j + (if _ then _ else _)) - (if _ then _ else _) = _
            rw [if_neg c1, if_pos c2]
          exact ih (j + 1) (nI j) w6 H locs ls (by omega) hV6 hFD6 hit6 G (by rw [e9]; exact (lv_sub hl [2, 0, 3] rfl))
      · refine lv_aload (pc := 42) hx hb dX1_heldByLots_42 (lv_at hl 0 rfl) ?_
        refine g_getN (pc := 44) (v := .int (dF X j 6)) S M G (C := RX4) (T := TX4) (N := 14) (ci := 3) in_X4 hlo6 rfl 6 (by decide) q536 rfl rfl dX1_heldByLots_44 ?_
        refine lv_i2l (pc := 47) hx hb dX1_heldByLots_47 rfl ?_
        refine lv_goto (pc := 48) (tgt := 52) hx hb dX1_heldByLots_48 (by decide) ?_
        refine lv_ladd (pc := 52) hx hb dX1_heldByLots_52 ?_
        refine lv_lstore_n (pc := 53) (lv' := [(1, .long ((hSum X j) + ((dF X j 6) : Int32).toInt64)), (4, .ref (dL X j)), (3, .ref it), (0, .ref dl)]) hx hb dX1_heldByLots_53 rfl hl (by decide) rfl (fun ls hl => ?_)
        refine lv_lload_n (pc := 54) hx hb dX1_heldByLots_54 rfl (lv_at hl 0 rfl) ?_
        refine lv_aload (pc := 55) hx hb dX1_heldByLots_55 (lv_at hl 1 rfl) ?_
        refine g_getN (pc := 57) (v := .int (dF X j 4)) S M G (C := RX4) (T := TX4) (N := 14) (ci := 3) in_X4 hlo6 rfl 4 (by decide) q532 rfl rfl dX1_heldByLots_57 ?_
        refine lv_iconst (pc := 60) (v := 4) hx hb dX1_heldByLots_60 (by decide) ?_
        refine lv_icmp_ne (pc := 61) (tgt := 68) hx hb dX1_heldByLots_61 (by decide) (fun c3 => ?_) (fun c3 => ?_)
        · refine lv_aload (pc := 68) hx hb dX1_heldByLots_68 (lv_at hl 1 rfl) ?_
          refine g_getN (pc := 70) (v := .int (dF X j 8)) S M G (C := RX4) (T := TX4) (N := 14) (ci := 3) in_X4 hlo6 rfl 8 (by decide) q539 rfl rfl dX1_heldByLots_70 ?_
          refine lv_i2l (pc := 73) hx hb dX1_heldByLots_73 rfl ?_
          refine lv_lsub (pc := 74) hx hb dX1_heldByLots_74 ?_
          refine lv_lstore_n (pc := 75) (lv' := [(1, .long (((hSum X j) + ((dF X j 6) : Int32).toInt64) - ((dF X j 8) : Int32).toInt64)), (4, .ref (dL X j)), (3, .ref it), (0, .ref dl)]) hx hb dX1_heldByLots_75 rfl hl (by decide) rfl (fun ls hl => ?_)
          refine lv_goto (pc := 76) (tgt := 12) hx hb dX1_heldByLots_76 (by decide) ?_
          have e9 : hSum X (j + 1) = (((hSum X j) + ((dF X j 6) : Int32).toInt64) - ((dF X j 8) : Int32).toInt64) := by
            show (hSum X j + (if _ then _ else _)) - (if _ then _ else _) = _
            rw [if_pos c1, if_neg c3]
          exact ih (j + 1) (nI j) w6 H locs ls (by omega) hV6 hFD6 hit6 G (by rw [e9]; exact (lv_sub hl [2, 0, 3] rfl))
        · refine lv_lconst (pc := 64) (v := 0) hx hb dX1_heldByLots_64 (by decide) ?_
          refine lv_goto (pc := 65) (tgt := 74) hx hb dX1_heldByLots_65 (by decide) ?_
          refine lv_lsub (pc := 74) hx hb dX1_heldByLots_74 ?_
          refine lv_lstore_n (pc := 75) (lv' := [(1, .long (((hSum X j) + ((dF X j 6) : Int32).toInt64) - 0)), (4, .ref (dL X j)), (3, .ref it), (0, .ref dl)]) hx hb dX1_heldByLots_75 rfl hl (by decide) rfl (fun ls hl => ?_)
          refine lv_goto (pc := 76) (tgt := 12) hx hb dX1_heldByLots_76 (by decide) ?_
          have e9 : hSum X (j + 1) = (((hSum X j) + ((dF X j 6) : Int32).toInt64) - 0) := by
            show (hSum X j + (if _ then _ else _)) - (if _ then _ else _) = _
            rw [if_pos c1, if_pos c3]
          exact ih (j + 1) (nI j) w6 H locs ls (by omega) hV6 hFD6 hit6 G (by rw [e9]; exact (lv_sub hl [2, 0, 3] rfl))
  exact Lh (dN X) 0 (-1) w3 H locs ls (by omega) hV3 hFD3 hit3 G (lv_sub hl [0, 1, 2] rfl)
abbrev rmX5_init : Room := ({ frames := 1, cells := 0, slots := 0, locals := 20 } : Room)
set_option maxHeartbeats 4000000 in
theorem metX5_init (l : Launch) (D : va_G) (K : Nat → Nat) (w : Gh) {q : Nat} {a b : Int32} (hq : w q = some (.inr (4, [.int 0, .int 0]))) (hbq : K 0 ≤ q) : gMet l yX5_init (ws_ yX5_init cX5_init 3 none) rmX5_init D K [.ref q, .int a, .int b] w (fun r' w' => r' = none ∧ w' = gu w q (.inr (4, [.int a, .int b]))) := by
  refine gMet.of (by decide) (Nat.le_of_ble_eq_true rfl) ?_
  intro p e s m args below meth c H locs ls S M hr hlocks hname G hl
  have hx := S.1
  have hb := S.2.1
  have hown := S.2.2.2.1
  have hts := S.2.2.2.2
  have hl : lv_has ls 3 [(0, .ref q), (1, .int a), (2, .int b)] := hl
  obtain ⟨Q, hQ⟩ : ∃ Q, Q = gE below D K (fun r' w' => r' = none ∧ w' = gu w q (.inr (4, [.int a, .int b]))) args s rmX5_init.cells rmX5_init.slots := ⟨_, rfl⟩
  rw [← hQ]
  refine lv_aload_n (pc := 0) hx hb dX5_init_0 rfl (lv_at hl 0 rfl) ?_
  refine W.objInit hx hb hown (hts _ q684) (hts _ q62) (hts _ q63) rfl (by rw [S.2.2.1]; exact hl.1) rfl dX5_init_1 (Nat.le_of_ble_eq_true rfl) (Nat.le_of_ble_eq_true rfl) ?_
  refine W.eq (g2 := F0 m 4 ls []) rfl ?_
  refine lv_aload_n (pc := 4) hx hb dX5_init_4 rfl (lv_at hl 0 rfl) ?_
  refine lv_iload_n (pc := 5) hx hb dX5_init_5 rfl (lv_at hl 1 rfl) ?_
  refine g_putF (pc := 6) (v := .int a) S M G (C := RX5) (T := TX5) (N := 2) (ci := 4) in_X5 tyX5 tyX5_ok nmX5 hq hbq rfl 0 (by decide) q685 (Or.inl rfl) rfl hname rfl rfl rfl (Nat.le_of_ble_eq_true rfl) dX5_init_6 (fun H locs G => ?_)
  obtain ⟨w1_, hw1_⟩ : ∃ z9, z9 = gu w q (.inr (4, [.int a, .int 0])) := ⟨_, rfl⟩
  replace G : gS D K w1_ s H locs := by rw [hw1_]; exact G
  have c1_q : w1_ q = some (.inr (4, [.int a, .int 0])) := by rw [hw1_]; exact gu_s
  refine lv_aload_n (pc := 9) hx hb dX5_init_9 rfl (lv_at hl 0 rfl) ?_
  refine lv_iload_n (pc := 10) hx hb dX5_init_10 rfl (lv_at hl 2 rfl) ?_
  refine g_putF (pc := 11) (v := .int b) S M G (C := RX5) (T := TX5) (N := 2) (ci := 4) in_X5 tyX5 tyX5_ok nmX5 c1_q hbq rfl 1 (by decide) q688 (Or.inl rfl) rfl hname rfl rfl rfl (Nat.le_of_ble_eq_true rfl) dX5_init_11 (fun H locs G => ?_)
  obtain ⟨w2_, hw2_⟩ : ∃ z9, z9 = gu w1_ q (.inr (4, [.int a, .int b])) := ⟨_, rfl⟩
  replace G : gS D K w2_ s H locs := by rw [hw2_]; exact G
  have c2_q : w2_ q = some (.inr (4, [.int a, .int b])) := by rw [hw2_]; exact gu_s
  rw [hQ]
  refine g_vret S G hr hlocks (hdg := dX5_init_14) ?_ ?_ ?_
  · exact Nat.le_of_ble_eq_true rfl
  · exact Nat.le_of_ble_eq_true rfl
  · refine ⟨rfl, ?_⟩
    rw [hw2_, hw1_]
    repeat rw [gu_uu]
def lF (a b r : Int32) : Nat → Int32 := fun k => if k = 1 then a else if k = 2 then b else if k = 3 then r else if k = 5 ∨ k = 6 ∨ k = 11 then -1 else 0
abbrev rmX4_init : Room := ({ frames := 1, cells := 0, slots := 0, locals := 20 } : Room)
set_option maxHeartbeats 4000000 in
theorem metX4_init (l : Launch) (D : va_G) (K : Nat → Nat) (w : Gh) {q dl n : Nat} {a b r9 : Int32} (hq : w q = some (.inr (3, [.int 0, .int 0, .int 0, .int 0, .int 0, .int 0, .int 0, .int 0, .int 0, .int 0, .int 0, .int 0, .int 0, .null]))) (hbq : K 0 ≤ q) : gMet l yX4_init (ws_ yX4_init cX4_init 6 none) rmX4_init D K [.ref q, .ref dl, .int (nI n), .int a, .int b, .int r9] w (fun r' w' => r' = none ∧ w' = gu w q (.inr (3, lfs n (lF a b r9) dl))) := by
  refine gMet.of (by decide) (Nat.le_of_ble_eq_true rfl) ?_
  intro p e s m args below meth c H locs ls S M hr hlocks hname G hl
  have hx := S.1
  have hb := S.2.1
  have hown := S.2.2.2.1
  have hts := S.2.2.2.2
  have hl : lv_has ls 6 [(0, .ref q), (1, .ref dl), (2, .int (nI n)), (3, .int a), (4, .int b), (5, .int r9)] := hl
  obtain ⟨Q, hQ⟩ : ∃ Q, Q = gE below D K (fun r' w' => r' = none ∧ w' = gu w q (.inr (3, lfs n (lF a b r9) dl))) args s rmX4_init.cells rmX4_init.slots := ⟨_, rfl⟩
  rw [← hQ]
  refine lv_aload_n (pc := 0) hx hb dX4_init_0 rfl (lv_at hl 0 rfl) ?_
  refine lv_aload_n (pc := 1) hx hb dX4_init_1 rfl (lv_at hl 1 rfl) ?_
  refine g_putF (pc := 2) (v := .ref dl) S M G (C := RX4) (T := TX4) (N := 14) (ci := 3) in_X4 tyX4 tyX4_ok nmX4 hq hbq rfl 13 (by decide) q547 (Or.inl rfl) rfl hname rfl rfl rfl (Nat.le_of_ble_eq_true rfl) dX4_init_2 (fun H locs G => ?_)
  obtain ⟨w1_, hw1_⟩ : ∃ z9, z9 = gu w q (.inr (3, [.int 0, .int 0, .int 0, .int 0, .int 0, .int 0, .int 0, .int 0, .int 0, .int 0, .int 0, .int 0, .int 0, .ref dl])) := ⟨_, rfl⟩
  replace G : gS D K w1_ s H locs := by rw [hw1_]; exact G
  have c1_q : w1_ q = some (.inr (3, [.int 0, .int 0, .int 0, .int 0, .int 0, .int 0, .int 0, .int 0, .int 0, .int 0, .int 0, .int 0, .int 0, .ref dl])) := by rw [hw1_]; exact gu_s
  refine lv_aload_n (pc := 5) hx hb dX4_init_5 rfl (lv_at hl 0 rfl) ?_
  refine W.objInit hx hb hown (hts _ q523) (hts _ q62) (hts _ q63) rfl (by rw [S.2.2.1]; exact hl.1) rfl dX4_init_6 (Nat.le_of_ble_eq_true rfl) (Nat.le_of_ble_eq_true rfl) ?_
  refine W.eq (g2 := F0 m 9 ls []) rfl ?_
  refine lv_aload_n (pc := 9) hx hb dX4_init_9 rfl (lv_at hl 0 rfl) ?_
  refine lv_iconst (pc := 10) (v := 0) hx hb dX4_init_10 (by decide) ?_
  refine g_put (pc := 11) (v := .int 0) S M G (C := RX4) (T := TX4) (N := 14) (ci := 3) in_X4 tyX4 tyX4_ok nmX4 c1_q hbq rfl 4 (by decide) q531 (Or.inl rfl) rfl rfl rfl (Nat.le_of_ble_eq_true rfl) dX4_init_11 (fun H locs G => ?_)
  obtain ⟨w2_, hw2_⟩ : ∃ z9, z9 = gu w1_ q (.inr (3, [.int 0, .int 0, .int 0, .int 0, .int 0, .int 0, .int 0, .int 0, .int 0, .int 0, .int 0, .int 0, .int 0, .ref dl])) := ⟨_, rfl⟩
  replace G : gS D K w2_ s H locs := by rw [hw2_]; exact G
  have c2_q : w2_ q = some (.inr (3, [.int 0, .int 0, .int 0, .int 0, .int 0, .int 0, .int 0, .int 0, .int 0, .int 0, .int 0, .int 0, .int 0, .ref dl])) := by rw [hw2_]; exact gu_s
  refine lv_aload_n (pc := 14) hx hb dX4_init_14 rfl (lv_at hl 0 rfl) ?_
  refine lv_iconst (pc := 15) (v := (-1)) hx hb dX4_init_15 (by decide) ?_
  refine g_put (pc := 16) (v := .int (-1)) S M G (C := RX4) (T := TX4) (N := 14) (ci := 3) in_X4 tyX4 tyX4_ok nmX4 c2_q hbq rfl 5 (by decide) q533 (Or.inl rfl) rfl rfl rfl (Nat.le_of_ble_eq_true rfl) dX4_init_16 (fun H locs G => ?_)
  obtain ⟨w3_, hw3_⟩ : ∃ z9, z9 = gu w2_ q (.inr (3, [.int 0, .int 0, .int 0, .int 0, .int 0, .int (-1), .int 0, .int 0, .int 0, .int 0, .int 0, .int 0, .int 0, .ref dl])) := ⟨_, rfl⟩
  replace G : gS D K w3_ s H locs := by rw [hw3_]; exact G
  have c3_q : w3_ q = some (.inr (3, [.int 0, .int 0, .int 0, .int 0, .int 0, .int (-1), .int 0, .int 0, .int 0, .int 0, .int 0, .int 0, .int 0, .ref dl])) := by rw [hw3_]; exact gu_s
  refine lv_aload_n (pc := 19) hx hb dX4_init_19 rfl (lv_at hl 0 rfl) ?_
  refine lv_iconst (pc := 20) (v := (-1)) hx hb dX4_init_20 (by decide) ?_
  refine g_put (pc := 21) (v := .int (-1)) S M G (C := RX4) (T := TX4) (N := 14) (ci := 3) in_X4 tyX4 tyX4_ok nmX4 c3_q hbq rfl 6 (by decide) q535 (Or.inl rfl) rfl rfl rfl (Nat.le_of_ble_eq_true rfl) dX4_init_21 (fun H locs G => ?_)
  obtain ⟨w4_, hw4_⟩ : ∃ z9, z9 = gu w3_ q (.inr (3, [.int 0, .int 0, .int 0, .int 0, .int 0, .int (-1), .int (-1), .int 0, .int 0, .int 0, .int 0, .int 0, .int 0, .ref dl])) := ⟨_, rfl⟩
  replace G : gS D K w4_ s H locs := by rw [hw4_]; exact G
  have c4_q : w4_ q = some (.inr (3, [.int 0, .int 0, .int 0, .int 0, .int 0, .int (-1), .int (-1), .int 0, .int 0, .int 0, .int 0, .int 0, .int 0, .ref dl])) := by rw [hw4_]; exact gu_s
  refine lv_aload_n (pc := 24) hx hb dX4_init_24 rfl (lv_at hl 0 rfl) ?_
  refine lv_iconst (pc := 25) (v := (-1)) hx hb dX4_init_25 (by decide) ?_
  refine g_put (pc := 26) (v := .int (-1)) S M G (C := RX4) (T := TX4) (N := 14) (ci := 3) in_X4 tyX4 tyX4_ok nmX4 c4_q hbq rfl 11 (by decide) q544 (Or.inl rfl) rfl rfl rfl (Nat.le_of_ble_eq_true rfl) dX4_init_26 (fun H locs G => ?_)
  obtain ⟨w5_, hw5_⟩ : ∃ z9, z9 = gu w4_ q (.inr (3, [.int 0, .int 0, .int 0, .int 0, .int 0, .int (-1), .int (-1), .int 0, .int 0, .int 0, .int 0, .int (-1), .int 0, .ref dl])) := ⟨_, rfl⟩
  replace G : gS D K w5_ s H locs := by rw [hw5_]; exact G
  have c5_q : w5_ q = some (.inr (3, [.int 0, .int 0, .int 0, .int 0, .int 0, .int (-1), .int (-1), .int 0, .int 0, .int 0, .int 0, .int (-1), .int 0, .ref dl])) := by rw [hw5_]; exact gu_s
  refine lv_aload_n (pc := 29) hx hb dX4_init_29 rfl (lv_at hl 0 rfl) ?_
  refine lv_iload_n (pc := 30) hx hb dX4_init_30 rfl (lv_at hl 2 rfl) ?_
  refine g_putF (pc := 31) (v := .int (nI n)) S M G (C := RX4) (T := TX4) (N := 14) (ci := 3) in_X4 tyX4 tyX4_ok nmX4 c5_q hbq rfl 0 (by decide) q524 (Or.inl rfl) rfl hname rfl rfl rfl (Nat.le_of_ble_eq_true rfl) dX4_init_31 (fun H locs G => ?_)
  obtain ⟨w6_, hw6_⟩ : ∃ z9, z9 = gu w5_ q (.inr (3, [.int (nI n), .int 0, .int 0, .int 0, .int 0, .int (-1), .int (-1), .int 0, .int 0, .int 0, .int 0, .int (-1), .int 0, .ref dl])) := ⟨_, rfl⟩
  replace G : gS D K w6_ s H locs := by rw [hw6_]; exact G
  have c6_q : w6_ q = some (.inr (3, [.int (nI n), .int 0, .int 0, .int 0, .int 0, .int (-1), .int (-1), .int 0, .int 0, .int 0, .int 0, .int (-1), .int 0, .ref dl])) := by rw [hw6_]; exact gu_s
  refine lv_aload_n (pc := 34) hx hb dX4_init_34 rfl (lv_at hl 0 rfl) ?_
  refine lv_iload_n (pc := 35) hx hb dX4_init_35 rfl (lv_at hl 3 rfl) ?_
  refine g_putF (pc := 36) (v := .int a) S M G (C := RX4) (T := TX4) (N := 14) (ci := 3) in_X4 tyX4 tyX4_ok nmX4 c6_q hbq rfl 1 (by decide) q526 (Or.inl rfl) rfl hname rfl rfl rfl (Nat.le_of_ble_eq_true rfl) dX4_init_36 (fun H locs G => ?_)
  obtain ⟨w7_, hw7_⟩ : ∃ z9, z9 = gu w6_ q (.inr (3, [.int (nI n), .int a, .int 0, .int 0, .int 0, .int (-1), .int (-1), .int 0, .int 0, .int 0, .int 0, .int (-1), .int 0, .ref dl])) := ⟨_, rfl⟩
  replace G : gS D K w7_ s H locs := by rw [hw7_]; exact G
  have c7_q : w7_ q = some (.inr (3, [.int (nI n), .int a, .int 0, .int 0, .int 0, .int (-1), .int (-1), .int 0, .int 0, .int 0, .int 0, .int (-1), .int 0, .ref dl])) := by rw [hw7_]; exact gu_s
  refine lv_aload_n (pc := 39) hx hb dX4_init_39 rfl (lv_at hl 0 rfl) ?_
  refine lv_iload (pc := 40) hx hb dX4_init_40 (lv_at hl 4 rfl) ?_
  refine g_putF (pc := 42) (v := .int b) S M G (C := RX4) (T := TX4) (N := 14) (ci := 3) in_X4 tyX4 tyX4_ok nmX4 c7_q hbq rfl 2 (by decide) q528 (Or.inl rfl) rfl hname rfl rfl rfl (Nat.le_of_ble_eq_true rfl) dX4_init_42 (fun H locs G => ?_)
  obtain ⟨w8_, hw8_⟩ : ∃ z9, z9 = gu w7_ q (.inr (3, [.int (nI n), .int a, .int b, .int 0, .int 0, .int (-1), .int (-1), .int 0, .int 0, .int 0, .int 0, .int (-1), .int 0, .ref dl])) := ⟨_, rfl⟩
  replace G : gS D K w8_ s H locs := by rw [hw8_]; exact G
  have c8_q : w8_ q = some (.inr (3, [.int (nI n), .int a, .int b, .int 0, .int 0, .int (-1), .int (-1), .int 0, .int 0, .int 0, .int 0, .int (-1), .int 0, .ref dl])) := by rw [hw8_]; exact gu_s
  refine lv_aload_n (pc := 45) hx hb dX4_init_45 rfl (lv_at hl 0 rfl) ?_
  refine lv_iload (pc := 46) hx hb dX4_init_46 (lv_at hl 5 rfl) ?_
  refine g_put (pc := 48) (v := .int r9) S M G (C := RX4) (T := TX4) (N := 14) (ci := 3) in_X4 tyX4 tyX4_ok nmX4 c8_q hbq rfl 3 (by decide) q529 (Or.inl rfl) rfl rfl rfl (Nat.le_of_ble_eq_true rfl) dX4_init_48 (fun H locs G => ?_)
  obtain ⟨w9_, hw9_⟩ : ∃ z9, z9 = gu w8_ q (.inr (3, [.int (nI n), .int a, .int b, .int r9, .int 0, .int (-1), .int (-1), .int 0, .int 0, .int 0, .int 0, .int (-1), .int 0, .ref dl])) := ⟨_, rfl⟩
  replace G : gS D K w9_ s H locs := by rw [hw9_]; exact G
  have c9_q : w9_ q = some (.inr (3, [.int (nI n), .int a, .int b, .int r9, .int 0, .int (-1), .int (-1), .int 0, .int 0, .int 0, .int 0, .int (-1), .int 0, .ref dl])) := by rw [hw9_]; exact gu_s
  rw [hQ]
  refine g_vret S G hr hlocks (hdg := dX4_init_51) ?_ ?_ ?_
  · exact Nat.le_of_ble_eq_true rfl
  · exact Nat.le_of_ble_eq_true rfl
  · refine ⟨rfl, ?_⟩
    rw [hw9_, hw8_, hw7_, hw6_, hw5_, hw4_, hw3_, hw2_, hw1_]
    repeat rw [gu_uu]
    rfl
def bPut (h : Nat) (v : Int32) : List (Nat × Int32) → List (Nat × Int32)
  | [] => [(h, v)]
  | q :: r => if q.1 = h then (h, v) :: r else q :: bPut h v r
theorem bPut_new {h : Nat} {v : Int32} : ∀ {b : List (Nat × Int32)}, (∀ q ∈ b, q.1 ≠ h) → bPut h v b = b ++ [(h, v)]
  | [], _ => rfl
  | q :: r, hb => by
    unfold bPut
    rw [if_neg (hb q (List.mem_cons_self ..)), bPut_new (fun z hz => hb z (List.mem_cons_of_mem _ hz))]
    rfl
theorem bPut_old {hN : Nat → Nat} {bv : Nat → Int32} {a0 : Nat} {v : Int32} : ∀ {es : List Nat}, es.Nodup → (∀ a ∈ es, ∀ b ∈ es, hN a = hN b → a = b) → a0 ∈ es → bPut (hN a0) v (es.map (fun a => (hN a, bv a))) = es.map (fun a => (hN a, va_up bv a0 v a))
  | [], _, _, h0 => by cases h0
  | a :: es, hnd, hinj, h0 => by
    obtain ⟨hna, hnd2⟩ := List.nodup_cons.mp hnd
    rw [List.map_cons, List.map_cons]
    unfold bPut
    by_cases q : a = a0
    · subst q
      rw [if_pos rfl, va_up_self]
      congr 1
      refine List.map_congr_left fun b hb => ?_
      rw [va_up_ne _ _ (fun z => hna (by rw [← z]; exact hb))]
    · rw [if_neg (fun z => q (hinj a (List.mem_cons_self ..) a0 h0 z)), va_up_ne _ _ q]
      have h1 : a0 ∈ es := (List.mem_cons.mp h0).resolve_left (fun z => q z.symm)
      rw [bPut_old hnd2 (fun x hx y hy => hinj x (List.mem_cons_of_mem _ hx) y (List.mem_cons_of_mem _ hy)) h1]
theorem FRM.v12 {D : va_G} {w w' : Gh} {a : Nat} {fs : List Value} (h : FRM D w w') (ha : w a = some (.inr (12, fs))) : w' a = some (.inr (12, fs)) := h a _ ha ⟨fun e => absurd (show (12 : Nat) = 7 from e) (by decide), fun e => absurd (show (12 : Nat) = 8 from e) (by decide)⟩
/-- a bid is left: new, or in place of an earlier one -/
theorem metJ4_putW (l : Launch) (D : va_G) (K : Nat → Nat) (w : Gh) {mp : Nat} {md : Int32} {ks : Option Nat} {es : List Nat} {hN ky vl : Nat → Nat} {bv : Nat → Int32} {key h v : Nat} {x : Int32} (hk : KY w key h) (hh : h < 300) (hM : MS D K w mp md ks es hN ky vl) (h96 : es.length < 96) (hv : ∀ a ∈ es, w (vl a) = some (.inr (12, [.int (bv a)]))) (hx : w v = some (.inr (12, [.int x]))) : gMet l yJ4_put (ws_ yJ4_put cJ4_put 3 (some (.object "java/lang/Object"))) rmJ4_putC D K [.ref mp, .ref key, .ref v] w (fun r' w' => ∃ o, r' = some (va_rf o) ∧ FRM D w w' ∧ ∃ md' es' hN' ky' vl' bv', MS D K w' mp md' ks es' hN' ky' vl' ∧ (∀ a ∈ es', w' (vl' a) = some (.inr (12, [.int (bv' a)]))) ∧ bPut h x (es.map (fun a => (hN a, bv a))) = es'.map (fun a => (hN' a, bv' a))) := by
  by_cases hex : ∃ a ∈ es, hN a = h
  · obtain ⟨a0, ha0, hh0⟩ := hex
    refine (metJ4_putOld l D K w hk hh hM ha0 hh0 (v := v)).imp (fun r w' hp => ?_)
    obtain ⟨rfl, hM', hF⟩ := hp
    refine ⟨some (vl a0), rfl, hF, md, es, hN, ky, va_up vl a0 v, va_up bv a0 x, Or.inl hM', fun a ha => ?_, ?_⟩
    · by_cases q : a = a0
      · rw [q, va_up_self, va_up_self]; exact hF.v12 hx
      · rw [va_up_ne _ _ q, va_up_ne _ _ q]; exact hF.v12 (hv a ha)
    · rw [← hh0]; exact bPut_old hM.cg.2.2.1 hM.cg.2.2.2 ha0
  · have hab : ∀ a ∈ es, hN a ≠ h := fun a ha z => hex ⟨a, ha, z⟩
    refine (metJ4_putNew l D K w hk hh hM h96 hab (v := v)).imp (fun r w' hp => ?_)
    obtain ⟨rfl, np, hnp, hM', hF⟩ := hp
    have hne : ∀ a ∈ es, a ≠ np := by
      intro a ha z
      rcases hM with ⟨_, _, _, _, _, _, _, _, _, hM, -⟩ | ⟨hes, -⟩
      · have h8 := hM.2.2.2.2.2.1 a ha
        rw [z, hnp] at h8
        cases h8
      · rw [hes] at ha; cases ha
    refine ⟨none, rfl, hF, md + 1, es ++ [np], va_up hN np h, va_up ky np key, va_up vl np v, va_up bv np x, Or.inl hM', fun a ha => ?_, ?_⟩
    · rcases List.mem_append.mp ha with z | z
      · rw [va_up_ne _ _ (hne a z), va_up_ne _ _ (hne a z)]; exact hF.v12 (hv a z)
      · rw [List.mem_singleton.mp z, va_up_self, va_up_self]; exact hF.v12 hx
    · rw [bPut_new (fun q hq => by obtain ⟨a, ha, rfl⟩ := List.mem_map.mp hq; exact hab a ha), List.map_append, List.map_singleton, va_up_self, va_up_self]
      congr 1
      refine List.map_congr_left fun a ha => ?_
      rw [va_up_ne _ _ (hne a ha), va_up_ne _ _ (hne a ha)]
def bCode (i b : Int32) : Nat := 10 * i.toNatClampNeg + b.toNatClampNeg
def dS_bid (X : DQ) (i b x : Int32) : Nat × Int32 × DQ := if ¬ i < 0 ∧ i < nI (dN X) then (if ¬ b < 0 ∧ b < 10 then (if bI x 1 1000000 = 0 then (2, 0, X) else (if dF X i.toNatClampNeg 4 = 0 then (0, dCall x, sB X (bPut (bCode i b) (dCall x) (dB X))) else (3, 0, X))) else (1, 0, X)) else (1, 0, X)
abbrev rmX1_bid : Room := ({ frames := 8, cells := 9, slots := 289, locals := 147 } : Room)
set_option maxHeartbeats 4000000 in
theorem metX1_bid (l : Launch) (D : va_G) (K : Nat → Nat) (w : Gh) (hst : l.stackTraces = false) {dl ca oa : Nat} {X : DQ} (hD : DW D K w dl ca oa X) {i b x : Int32} (h96 : (dB X).length < 96) : gXet l yX1_bid (ws_ yX1_bid cX1_bid 5 (some .int)) rmX1_bid D K [.ref dl, .int i, .int b, .int x] w (fun r' w' => (dS_bid X i b x).1 = 0 ∧ r' = some (.int (dS_bid X i b x).2.1) ∧ DW D K w' dl ca oa (dS_bid X i b x).2.2 ∧ FD D ca oa w w') (fun E9 => (dS_bid X i b x).1 ≠ 0 ∧ E9 = eN (dS_bid X i b x).1) := by
  refine gXet.of (by decide) (Nat.le_of_ble_eq_true rfl) ?_
  intro p e s m args below meth c H locs ls S M hr hlocks hexc G hl
  have hx := S.1
  have hb := S.2.1
  have hown := S.2.2.2.1
  have hts := S.2.2.2.2
  have hl : lv_has ls 5 [(0, .ref dl), (1, .int i), (2, .int b), (3, .int x)] := hl
  obtain ⟨Q, hQ⟩ : ∃ Q, Q = gXE below D K w (fun r' w' => (dS_bid X i b x).1 = 0 ∧ r' = some (.int (dS_bid X i b x).2.1) ∧ DW D K w' dl ca oa (dS_bid X i b x).2.2 ∧ FD D ca oa w w') (fun E9 => (dS_bid X i b x).1 ≠ 0 ∧ E9 = eN (dS_bid X i b x).1) args s rmX1_bid.cells rmX1_bid.slots := ⟨_, rfl⟩
  rw [← hQ]
  have hD0 := hD
  obtain ⟨sb, fb, sh, lq, mp, md, lmd, ks, es, hN, ky, vl, bv, ta, cap, hV⟩ := hD
  have hdl := hV.1.1
  have hbdl := hV.1.2
  have hDD := hV.2.2.2.2.2.2.2.2.2
  have hlqc := hV.2.2.1.1
  have hblq := hV.2.2.1.2.1
  have hn30 := hV.2.2.1.2.2.1
  have hca := hV.2.2.2.2.2.1.1
  have hbca := hV.2.2.2.2.2.1.2
  have hoa := hV.2.2.2.2.2.2.1.1
  have hboa := hV.2.2.2.2.2.2.1.2
  have hco := hV.2.2.2.2.2.2.2.1
  have hFD0 : FD D ca oa w w := FD.rf
  obtain ⟨fssb, hcsb⟩ : ∃ z, w sb = some (.inr (1, z)) := by obtain ⟨b9, h9, -⟩ := hV.2.1.1; exact ⟨_, h9⟩
  obtain ⟨fsfb, hcfb⟩ : ∃ z, w fb = some (.inr (1, z)) := by obtain ⟨b9, h9, -⟩ := hV.2.1.2.1; exact ⟨_, h9⟩
  obtain ⟨fssh, hcsh⟩ : ∃ z, w sh = some (.inr (1, z)) := by obtain ⟨b9, h9, -⟩ := hV.2.1.2.2; exact ⟨_, h9⟩
  have hes96 : es.length < 96 := by have h8 := h96; rw [hV.2.2.2.2.1.2.2.2, List.length_map] at h8; exact h8
  refine lv_aload_n (pc := 0) hx hb dX1_bid_0 rfl (lv_at hl 0 rfl) ?_
  refine lv_iload_n (pc := 1) hx hb dX1_bid_1 rfl (lv_at hl 1 rfl) ?_
  refine gx_callV (pc := 2) S M G hl.1 [.int i] [] (metX1_at l D K w hst hD0) 1 (g_recv M G hdl (q := (RX1, TX1, 12)) rfl) q659 q656 q658 qs6 q18 (by decide) rfl ⟨Nat.le_of_ble_eq_true rfl, Nat.le_of_ble_eq_true rfl⟩ rfl (Nat.le_of_ble_eq_true rfl) dX1_bid_2 ⟨Nat.le_of_ble_eq_true rfl, Nat.le_of_ble_eq_true rfl⟩ (fun E9 ce9 q9 H1 locs1 hpx G1 hce hcv hcl => by rw [hQ]; exact gx_thr hexc hlocks G1 hce hcv hcl (Nat.le_of_ble_eq_true rfl) (Nat.le_of_ble_eq_true rfl) (by obtain ⟨c1, hE⟩ := hpx; have e9 : dS_bid X i b x = (1, 0, X) := by unfold dS_bid; rw [if_neg c1]; rw [e9]; exact ⟨by show (1 : Nat) ≠ 0; decide, hE⟩)) (fun r w2 H locs hp G => ?_)
  refine W.widen (k := 1) (n := 6) (Nat.le_of_ble_eq_true rfl) (Nat.le_of_ble_eq_true rfl) ?_
  obtain ⟨c1, rfl, hw2⟩ := hp
  rw [hw2] at G
  obtain ⟨hi, hij⟩ := at_ix c1 (by omega)
  have hlo := (hV.2.2.2.1 _ hi).1
  have hblo := (hV.2.2.2.1 _ hi).2
  refine W.eq (g2 := F0 m 5 ls [.ref (dL X i.toNatClampNeg)]) rfl ?_
  refine lv_astore (pc := 5) (lv' := [(4, .ref (dL X i.toNatClampNeg)), (0, .ref dl), (1, .int i), (2, .int b), (3, .int x)]) hx hb dX1_bid_5 hl (by decide) rfl (fun ls hl => ?_)
  refine lv_iload_n (pc := 7) hx hb dX1_bid_7 rfl (lv_at hl 3 rfl) ?_
  refine lv_bipush (pc := 8) (v := 10) hx hb dX1_bid_8 (by decide) ?_
  refine gx_callS (pc := 10) S M G hl.1 [.int b, .int 10] [] (metX1_inRow l D K w hst) 2 q454 q452 q453 q18 (by decide) rfl ⟨Nat.le_of_ble_eq_true rfl, Nat.le_of_ble_eq_true rfl⟩ rfl (Nat.le_of_ble_eq_true rfl) dX1_bid_10 ⟨Nat.le_of_ble_eq_true rfl, Nat.le_of_ble_eq_true rfl⟩ (fun E9 ce9 q9 H1 locs1 hpx G1 hce hcv hcl => by rw [hQ]; exact gx_thr hexc hlocks G1 hce hcv hcl (Nat.le_of_ble_eq_true rfl) (Nat.le_of_ble_eq_true rfl) (by obtain ⟨c2, hE⟩ := hpx; have e9 : dS_bid X i b x = (1, 0, X) := by unfold dS_bid; rw [if_pos c1, if_neg c2]; rw [e9]; exact ⟨by show (1 : Nat) ≠ 0; decide, hE⟩)) (fun r w2 H locs hp G => ?_)
  refine W.widen (k := 2) (n := 12) (Nat.le_of_ble_eq_true rfl) (Nat.le_of_ble_eq_true rfl) ?_
  obtain ⟨c2, rfl, hw2⟩ := hp
  rw [hw2] at G
  refine W.eq (g2 := F0 m 13 ls []) rfl ?_
  refine lv_iload_n (pc := 13) hx hb dX1_bid_13 rfl (lv_at hl 4 rfl) ?_
  refine lv_iconst (pc := 14) (v := 1) hx hb dX1_bid_14 (by decide) ?_
  refine lv_ldc (pc := 15) (v := 1000000) hx hb hown (hts _ q470) dX1_bid_15 ?_
  refine g_callS (pc := 17) S M G hl.1 [.int x, .int 1, .int 1000000] [] (metX1_isIn l D K w) 3 q473 q471 q472 q18 (by decide) rfl ⟨Nat.le_of_ble_eq_true rfl, Nat.le_of_ble_eq_true rfl⟩ rfl (Nat.le_of_ble_eq_true rfl) dX1_bid_17 ⟨Nat.le_of_ble_eq_true rfl, Nat.le_of_ble_eq_true rfl⟩ (fun r w2 H locs hp G => ?_)
  obtain ⟨rfl, hw2⟩ := hp
  rw [hw2] at G
  refine W.eq (g2 := F0 m 20 ls [.int (bI x 1 1000000)]) rfl ?_
  refine gx_callS (pc := 20) S M G hl.1 [.int (bI x 1 1000000)] [] (metX1_check l D K w hst) 1 q476 q474 q475 q18 (by decide) rfl ⟨Nat.le_of_ble_eq_true rfl, Nat.le_of_ble_eq_true rfl⟩ rfl (Nat.le_of_ble_eq_true rfl) dX1_bid_20 ⟨Nat.le_of_ble_eq_true rfl, Nat.le_of_ble_eq_true rfl⟩ (fun E9 ce9 q9 H1 locs1 hpx G1 hce hcv hcl => by rw [hQ]; exact gx_thr hexc hlocks G1 hce hcv hcl (Nat.le_of_ble_eq_true rfl) (Nat.le_of_ble_eq_true rfl) (by obtain ⟨c3, hE⟩ := hpx; have e9 : dS_bid X i b x = (2, 0, X) := by unfold dS_bid; rw [if_pos c1, if_pos c2, if_pos c3]; rw [e9]; exact ⟨by show (2 : Nat) ≠ 0; decide, hE⟩)) (fun r w2 H locs hp G => ?_)
  refine W.widen (k := 3) (n := 18) (Nat.le_of_ble_eq_true rfl) (Nat.le_of_ble_eq_true rfl) ?_
  obtain ⟨c3, rfl, hw2⟩ := hp
  rw [hw2] at G
  refine W.eq (g2 := F0 m 23 ls []) rfl ?_
  refine lv_aload (pc := 23) hx hb dX1_bid_23 (lv_at hl 0 rfl) ?_
  refine g_getN (pc := 25) (v := .int (dF X i.toNatClampNeg 4)) S M G (C := RX4) (T := TX4) (N := 14) (ci := 3) in_X4 hlo rfl 4 (by decide) q532 rfl rfl dX1_bid_25 ?_
  refine lv_if_ne (pc := 28) (tgt := 35) hx hb dX1_bid_28 (by decide) (fun c4 => ?_) (fun c4 => ?_)
  · refine lv_iconst (pc := 35) (v := 0) hx hb dX1_bid_35 (by decide) ?_
    exact gx_callS (pc := 36) S M G hl.1 [.int 0] [] (metX1_possible l D K w hst) 1 q494 q492 q493 q18 (by decide) rfl ⟨Nat.le_of_ble_eq_true rfl, Nat.le_of_ble_eq_true rfl⟩ rfl (Nat.le_of_ble_eq_true rfl) dX1_bid_36 ⟨Nat.le_of_ble_eq_true rfl, Nat.le_of_ble_eq_true rfl⟩ (fun E9 ce9 q9 H1 locs1 hpx G1 hce hcv hcl => by rw [hQ]; exact gx_thr hexc hlocks G1 hce hcv hcl (Nat.le_of_ble_eq_true rfl) (Nat.le_of_ble_eq_true rfl) (by obtain ⟨c5, hE⟩ := hpx; have e9 : dS_bid X i b x = (3, 0, X) := by unfold dS_bid; rw [if_pos c1, if_pos c2, if_neg c3, if_neg c4]; rw [e9]; exact ⟨by show (3 : Nat) ≠ 0; decide, hE⟩)) (fun r w2 H locs hp G => absurd rfl hp.1)
  · refine lv_iconst (pc := 31) (v := 1) hx hb dX1_bid_31 (by decide) ?_
    refine lv_goto (pc := 32) (tgt := 36) hx hb dX1_bid_32 (by decide) ?_
    refine gx_callS (pc := 36) S M G hl.1 [.int 1] [] (metX1_possible l D K w hst) 1 q494 q492 q493 q18 (by decide) rfl ⟨Nat.le_of_ble_eq_true rfl, Nat.le_of_ble_eq_true rfl⟩ rfl (Nat.le_of_ble_eq_true rfl) dX1_bid_36 ⟨Nat.le_of_ble_eq_true rfl, Nat.le_of_ble_eq_true rfl⟩ (fun E9 ce9 q9 H1 locs1 hpx G1 hce hcv hcl => by rw [hQ]; exact gx_thr hexc hlocks G1 hce hcv hcl (Nat.le_of_ble_eq_true rfl) (Nat.le_of_ble_eq_true rfl) (absurd hpx.1 (by decide))) (fun r w2 H locs hp G => ?_)
    refine W.widen (k := 4) (n := 24) (Nat.le_of_ble_eq_true rfl) (Nat.le_of_ble_eq_true rfl) ?_
    obtain ⟨_, rfl, hw2⟩ := hp
    rw [hw2] at G
    refine W.eq (g2 := F0 m 39 ls []) rfl ?_
    refine lv_aload_n (pc := 39) hx hb dX1_bid_39 rfl (lv_at hl 1 rfl) ?_
    refine g_get (pc := 40) (v := .ref mp) S M G (C := RX1) (T := TX1) (N := 12) (ci := 0) in_X1 hdl rfl 4 (by decide) q172 (Or.inl rfl) rfl dX1_bid_40 ?_
    refine g_new (pc := 43) S M G (C := RX5) (T := TX5) (N := 2) (ci := 4) (fs := [.int 0, .int 0]) in_X5 tyX5 tyX5_ok q679 q680 q42 rfl df_X5 (Nat.le_of_ble_eq_true rfl) (Nat.le_of_ble_eq_true rfl) dX1_bid_43 (fun q1_ H hnq1_ hbq1_ heq1_ hsq1_ G => ?_)
    refine W.widen (k := 5) (n := 26) (Nat.le_of_ble_eq_true rfl) (Nat.le_of_ble_eq_true rfl) ?_
    obtain ⟨w2_, hw2_⟩ : ∃ z9, z9 = gu w q1_ (.inr (4, [.int 0, .int 0])) := ⟨_, rfl⟩
    replace G : gS D K w2_ s H locs := by rw [hw2_]; exact G
    have c2_dl : w2_ dl = some (.inr (0, [.ref sb, .ref fb, .ref sh, .ref lq, .ref mp, .ref ca, .ref oa, .int (dC X 0), .int (dC X 1), .long (dM X 0), .long (dM X 1), .long (dM X 2)])) := by rw [hw2_, gu_n (gne_f hdl hnq1_)]; exact hdl
    have c2_lq : w2_ lq = some (.inr (6, [.int lmd, .ref ta, .int (nI (dN X))])) := by rw [hw2_, gu_n (gne_f hlqc hnq1_)]; exact hlqc
    have c2_ca : w2_ ca = some (.inl (D.1 100, 6, .inl (dA X 0))) := by rw [hw2_, gu_n (gne_f hca hnq1_)]; exact hca
    have c2_oa : w2_ oa = some (.inl (D.1 100, 10, .inl (dA X 1))) := by rw [hw2_, gu_n (gne_f hoa hnq1_)]; exact hoa
    have c2_sb : w2_ sb = some (.inr (1, fssb)) := by rw [hw2_, gu_n (gne_f hcsb hnq1_)]; exact hcsb
    have c2_fb : w2_ fb = some (.inr (1, fsfb)) := by rw [hw2_, gu_n (gne_f hcfb hnq1_)]; exact hcfb
    have c2_sh : w2_ sh = some (.inr (1, fssh)) := by rw [hw2_, gu_n (gne_f hcsh hnq1_)]; exact hcsh
    have c2__dL_X_i_toNatClampNeg_ : w2_ (dL X i.toNatClampNeg) = some (.inr (3, [.int (nI i.toNatClampNeg), .int (dF X i.toNatClampNeg 1), .int (dF X i.toNatClampNeg 2), .int (dF X i.toNatClampNeg 3), .int (dF X i.toNatClampNeg 4), .int (dF X i.toNatClampNeg 5), .int (dF X i.toNatClampNeg 6), .int (dF X i.toNatClampNeg 7), .int (dF X i.toNatClampNeg 8), .int (dF X i.toNatClampNeg 9), .int (dF X i.toNatClampNeg 10), .int (dF X i.toNatClampNeg 11), .int (dF X i.toNatClampNeg 12), .ref dl])) := by rw [hw2_, gu_n (gne_f hlo hnq1_)]; exact hlo
    have c2_q1_ : w2_ q1_ = some (.inr (4, [.int 0, .int 0])) := by rw [hw2_]; exact gu_s
    have hVw2_ : DV D K w2_ dl ca oa X sb fb sh lq mp md lmd ks es hN ky vl bv ta cap := by rw [hw2_]; exact hV.kp (fun a x q1 _ => by rw [gu_n (gne_f q1 hnq1_)]; exact q1)
    have hFw2_ : FD D ca oa w w2_ := hFD0.tr (by rw [hw2_]; exact FD.new hnq1_)
    refine lv_dup (pc := 46) hx hb dX1_bid_46 rfl ?_
    refine lv_iload_n (pc := 47) hx hb dX1_bid_47 rfl (lv_at hl 2 rfl) ?_
    refine lv_iload_n (pc := 48) hx hb dX1_bid_48 rfl (lv_at hl 3 rfl) ?_
    refine g_callI (pc := 49) S M G hl.1 [.int i, .int b] [.ref q1_, .ref mp] (metX5_init l D K w2_ c2_q1_ hbq1_) 2 q683 q681 q682 q42 rfl (by decide) rfl ⟨Nat.le_of_ble_eq_true rfl, Nat.le_of_ble_eq_true rfl⟩ rfl (Nat.le_of_ble_eq_true rfl) dX1_bid_49 ⟨Nat.le_of_ble_eq_true rfl, Nat.le_of_ble_eq_true rfl⟩ (fun r w3 H locs hp G => ?_)
    obtain ⟨rfl, hw2⟩ := hp
    have hnq : w q1_ = none := hnq1_
    have hkk : ∀ a y, w a = some y → w3 a = some y := fun a y q1 => by rw [hw2, gu_n (gne_f q1 hnq), hw2_, gu_n (gne_f q1 hnq)]; exact q1
    have hV3 : DV D K w3 dl ca oa X sb fb sh lq mp md lmd ks es hN ky vl bv ta cap := hV.kp (fun a y q1 _ => hkk a y q1)
    have hFD3 : FD D ca oa w w3 := FD.all hkk
    have hdl3 := hkk _ _ hdl
    have hk3 : w3 q1_ = some (.inr (4, [.int i, .int b])) := by rw [hw2]; exact gu_s
    have hcsb3 := hkk _ _ hcsb
    have hcfb3 := hkk _ _ hcfb
    have hcsh3 := hkk _ _ hcsh
    refine W.eq (g2 := F0 m 52 ls [.ref q1_, .ref mp]) rfl ?_
    refine lv_aload_n (pc := 52) hx hb dX1_bid_52 rfl (lv_at hl 1 rfl) ?_
    refine lv_iload_n (pc := 53) hx hb dX1_bid_53 rfl (lv_at hl 4 rfl) ?_
    refine g_callV (pc := 54) S M G hl.1 [.int x] [.ref q1_, .ref mp] (metX1_called l D K w3 hV3.W) 1 (g_recv M G hdl3 (q := (RX1, TX1, 12)) rfl) q514 q511 q513 qs2 q18 (by decide) rfl ⟨Nat.le_of_ble_eq_true rfl, Nat.le_of_ble_eq_true rfl⟩ rfl (Nat.le_of_ble_eq_true rfl) dX1_bid_54 ⟨Nat.le_of_ble_eq_true rfl, Nat.le_of_ble_eq_true rfl⟩ (fun r w2 H locs hp G => ?_)
    obtain ⟨rfl, hw2⟩ := hp
    rw [hw2] at G
    refine W.eq (g2 := F0 m 57 ls [.int (dCall x), .ref q1_, .ref mp]) rfl ?_
    refine g_callS (pc := 57) S M G hl.1 [.int (dCall x)] [.ref q1_, .ref mp] (metJ20_valueOf l D K w3 hV3.2.2.2.2.2.2.2.2.1) 1 q697 q695 q696 q44 (by decide) rfl ⟨Nat.le_of_ble_eq_true rfl, Nat.le_of_ble_eq_true rfl⟩ rfl (Nat.le_of_ble_eq_true rfl) dX1_bid_57 ⟨Nat.le_of_ble_eq_true rfl, Nat.le_of_ble_eq_true rfl⟩ (fun r w4 H locs hp G => ?_)
    refine W.widen (k := 6) (n := 27) (Nat.le_of_ble_eq_true rfl) (Nat.le_of_ble_eq_true rfl) ?_
    obtain ⟨bx, rfl, hbx4, hkk4⟩ := hp
    have hV4 : DV D K w4 dl ca oa X sb fb sh lq mp md lmd ks es hN ky vl bv ta cap := hV3.kp (fun a y q1 _ => hkk4 a y q1)
    have hFD4 := hFD3.tr (FD.all hkk4)
    have hk4 := hkk4 _ _ hk3
    have hM4 := hV4.2.2.2.2.1.1
    obtain ⟨fm4, hmp4⟩ : ∃ z, w4 mp = some (.inr (7, z)) := by obtain ⟨_, _, _, _, _, _, ho, -⟩ := hM4.base; exact ⟨_, ho⟩
    have hdl4 := hV4.1.1
    refine W.eq (g2 := F0 m 60 ls [.ref bx, .ref q1_, .ref mp]) rfl ?_
    obtain ⟨hb10, hbb⟩ := at_ix (n := 10) c2 (by decide)
    have hKY : KY w4 q1_ (bCode i b) := by unfold KY bCode; rw [show (10 * i.toNatClampNeg + b.toNatClampNeg) / 10 = i.toNatClampNeg from by omega, show (10 * i.toNatClampNeg + b.toNatClampNeg) % 10 = b.toNatClampNeg from by omega, hij, hbb]; exact hk4
    have h300 : bCode i b < 300 := by unfold bCode; omega
    refine g_callF (pc := 60) S M G hl.1 [.ref q1_, .ref bx] [] (metJ4_putW l D K w4 hKY h300 hM4 hes96 hV4.2.2.2.2.1.2.2.1 hbx4) 2 (g_recv M G hmp4 (q := (RJ5, TJ5, 12)) rfl) (g_cls M (ci := 7) rfl) q724 q716 ⟨by decide, q718, q717, q723, q721, q719⟩ q722 q720 q24 rfl rfl ⟨Nat.le_of_ble_eq_true rfl, Nat.le_of_ble_eq_true rfl⟩ rfl (Nat.le_of_ble_eq_true rfl) dX1_bid_60 ⟨Nat.le_of_ble_eq_true rfl, Nat.le_of_ble_eq_true rfl⟩ (fun r w5 H locs hp G => ?_)
    refine W.widen (k := 9) (n := 289) (Nat.le_of_ble_eq_true rfl) (Nat.le_of_ble_eq_true rfl) ?_
    obtain ⟨o5, rfl, hF5, md5, es5, hN5, ky5, vl5, bv5, hM5, hv5, hb5⟩ := hp
    have hV5 : DV D K w5 dl ca oa (sB X (bPut (bCode i b) (dCall x) (dB X))) sb fb sh lq mp md5 lmd ks es5 hN5 ky5 vl5 bv5 ta cap := hV4.map hF5 hM5 (fun k' e => hF5 _ _ (hV4.2.2.2.2.1.2.1 k' e) ⟨fun e => absurd (show (9 : Nat) = 7 from e) (by decide), fun e => absurd (show (9 : Nat) = 8 from e) (by decide)⟩) hv5 (by rw [hV.2.2.2.2.1.2.2.2]; exact hb5)
    have hFD5 := hFD4.tr (FD.m hDD hF5)
    have hdl5 := hV5.1.1
    have hcsb5 := hF5 _ _ (hkk4 _ _ hcsb3) ⟨fun e => absurd (show (1 : Nat) = 7 from e) (by decide), fun e => absurd (show (1 : Nat) = 8 from e) (by decide)⟩
    have hcfb5 := hF5 _ _ (hkk4 _ _ hcfb3) ⟨fun e => absurd (show (1 : Nat) = 7 from e) (by decide), fun e => absurd (show (1 : Nat) = 8 from e) (by decide)⟩
    have hcsh5 := hF5 _ _ (hkk4 _ _ hcsh3) ⟨fun e => absurd (show (1 : Nat) = 7 from e) (by decide), fun e => absurd (show (1 : Nat) = 8 from e) (by decide)⟩
    refine W.eq (g2 := F0 m 65 ls [va_rf o5]) rfl ?_
    refine lv_pop (pc := 65) hx hb dX1_bid_65 (cat_rf _) ?_
    refine lv_aload_n (pc := 66) hx hb dX1_bid_66 rfl (lv_at hl 1 rfl) ?_
    refine lv_iload_n (pc := 67) hx hb dX1_bid_67 rfl (lv_at hl 4 rfl) ?_
    refine g_callV (pc := 68) S M G hl.1 [.int x] [] (metX1_called l D K w5 hV5.W) 1 (g_recv M G hdl5 (q := (RX1, TX1, 12)) rfl) q514 q511 q513 qs2 q18 (by decide) rfl ⟨Nat.le_of_ble_eq_true rfl, Nat.le_of_ble_eq_true rfl⟩ rfl (Nat.le_of_ble_eq_true rfl) dX1_bid_68 ⟨Nat.le_of_ble_eq_true rfl, Nat.le_of_ble_eq_true rfl⟩ (fun r w2 H locs hp G => ?_)
    obtain ⟨rfl, hw2⟩ := hp
    rw [hw2] at G
    refine W.eq (g2 := F0 m 71 ls [.int (dCall x)]) rfl ?_
    rw [hQ]
    refine gx_iret S G hr hlocks (hdg := dX1_bid_71) ?_ ?_ ?_
    · exact Nat.le_of_ble_eq_true rfl
    · exact Nat.le_of_ble_eq_true rfl
    · have e9 : dS_bid X i b x = (0, (dCall x), (sB X (bPut (bCode i b) (dCall x) (dB X)))) := by
        unfold dS_bid
        rw [if_pos c1, if_pos c2, if_neg c3, if_pos c4]
      rw [e9]
      exact ⟨rfl, rfl, hV5.W, hFD5⟩
theorem n4_grow {n N : Nat} (h : n4 n) (hN : N < 30) (hn : n = N) : n3 n ∧ n4 (n + n / 2) := by rcases h with rfl | rfl | rfl | rfl <;> first | omega | exact ⟨by decide, by decide⟩
/-- a lot is added to the list: the empty one, one with room, a full one -/
theorem metJ2_addW (l : Launch) (D : va_G) (K : Nat → Nat) (w : Gh) {q t cap N x : Nat} {el : Nat → Nat} {md : Int32} {xs : List Value} (hDD : DD D) (hq : w q = some (.inr (6, [.int md, .ref t, .int (nI N)]))) (hbq : K 0 ≤ q) (hT : LTB D K w t cap N el) (hN : N < 30) (hel : ∀ i, i < N → ∃ fs, w (el i) = some (.inr (3, fs))) (hxe : w x = some (.inr (3, xs))) : gMet l yJ2_add (ws_ yJ2_add cJ2_add 2 (some .boolean)) rmJ2_addGL D K [.ref q, .ref x] w (fun r' w' => r' = some (.int 1) ∧ ∃ t' cap', w' q = some (.inr (6, [.int (md + 1), .ref t', .int (nI (N + 1))])) ∧ LTB D K w' t' cap' (N + 1) (va_up el N x) ∧ ∀ b y, w b = some y → b ≠ q → (∀ z, y ≠ .inl (D.1 102, z)) → w' b = some y) := by
  have hga : va_up (lga N el) N (some x) = lga (N + 1) (va_up el N x) := by
    funext j
    unfold lga
    by_cases h1 : j = N
    · rw [h1, va_up_self, va_up_self, if_pos (by omega)]
    · rw [va_up_ne _ _ h1, va_up_ne _ _ h1]
      by_cases h2 : j < N
      · rw [if_pos h2, if_pos (by omega)]
      · rw [if_neg h2, if_neg (by omega)]
  rcases hT with ⟨rfl, rfl⟩ | ⟨h4, h0, hNc, hbt, ht⟩
  · refine (metJ2_addEL l D K w hq hbq hxe).imp (fun r w' hp => ?_)
    obtain ⟨h1, t', h2, h3, h5, h6, h7⟩ := hp
    refine ⟨h1, t', 10, h5, Or.inr ⟨Or.inl rfl, by omega, by omega, h3, ?_⟩, fun b y q1 q2 _ => h7 b y q1 q2⟩
    rw [h6, ← hga]
    congr 4
    funext j
    unfold lga va_up
    rw [if_neg (Nat.not_lt_zero j)]
  · by_cases hc : N < cap
    · refine (metJ2_addNL l D K w hq hbq ht hbt (by rcases h4 with rfl | rfl | rfl | rfl <;> decide) hc hxe).imp (fun r w' hp => ?_)
      obtain ⟨h1, h5, h6, h7⟩ := hp
      refine ⟨h1, t, cap, h5, Or.inr ⟨h4, by omega, by omega, hbt, by rw [h6, hga]⟩, fun b y q1 q2 q3 => h7 b y q1 q2 (fun z => ?_)⟩
      rw [z, ht] at q1
      cases q1
      exact q3 _ rfl
    · have hcN : cap = N := by omega
      subst hcN
      obtain ⟨hn3, hn4⟩ := n4_grow h4 hN rfl
      refine (metJ2_addGL l D K w hq hbq ht hn3 (fun i y hy => ?_) (fun i hi => if_neg (by omega)) hxe).imp (fun r w' hp => ?_)
      · by_cases h8 : i < cap
        · rw [show lga cap el i = some (el i) from if_pos h8] at hy; cases hy; exact hel i h8
        · rw [show lga cap el i = none from if_neg h8] at hy; cases hy
      · obtain ⟨h1, t', h2, h3, h5, h6, h7⟩ := hp
        exact ⟨h1, t', cap + cap / 2, h5, Or.inr ⟨hn4, by omega, by rcases hn3 with rfl | rfl | rfl <;> decide, h3, by rw [h6, hga]⟩, fun b y q1 q2 _ => h7 b y q1 q2⟩
theorem DV.addL {D : va_G} {K : Nat → Nat} {w w' : Gh} {dl ca oa : Nat} {X : DQ} {sb fb hb lq mp : Nat} {md lmd : Int32} {ks : Option Nat} {es : List Nat} {hN ky vl : Nat → Nat} {bv : Nat → Int32} {t cap : Nat} (h : DV D K w dl ca oa X sb fb hb lq mp md lmd ks es hN ky vl bv t cap) (hN30 : dN X < 30) {x t' cap' : Nat} {f : Nat → Int32} {lmd' : Int32} (hx : w x = some (.inr (3, lfs (dN X) f dl))) (hbx : K 0 ≤ x) (hq : w' lq = some (.inr (6, [.int lmd', .ref t', .int (nI (dN X + 1))]))) (hT : LTB D K w' t' cap' (dN X + 1) (va_up (dL X) (dN X) x)) (hk : ∀ b y, w b = some y → b ≠ lq → (∀ z, y ≠ .inl (D.1 102, z)) → w' b = some y) : DV D K w' dl ca oa (sN X x f) sb fb hb lq mp md lmd' ks es hN ky vl bv t' cap' := by
  obtain ⟨⟨a1, a2⟩, ⟨b1, b2, b3⟩, ⟨c1, c2, c3, c4⟩, d1, ⟨e1, e2, e3, e4⟩, ⟨f1, f2⟩, ⟨g1, g2⟩, i1, j1, k1⟩ := h
  have ko : ∀ (a c : Nat) (fs : List Value), w a = some (.inr (c, fs)) → c ≠ 6 → w' a = some (.inr (c, fs)) := fun a c fs q1 q2 => hk a _ q1 (gne_c q1 c1 q2) (fun z => (nomatch ·))
  have ka : ∀ (a : Nat) (y : vp_A), w a = some (.inl (D.1 100, y)) → w' a = some (.inl (D.1 100, y)) := fun a y q1 => hk a _ q1 (gne_ao q1 c1) (fun z e => by injection e with e; injection e with e; exact k1.1 e)
  refine ⟨⟨ko _ _ _ a1 (by decide), a2⟩, ⟨b1.kp (fun a fs q => ko a 1 fs q (by decide)), b2.kp (fun a fs q => ko a 1 fs q (by decide)), b3.kp (fun a fs q => ko a 1 fs q (by decide))⟩, ⟨hq, c2, hN30, hT⟩, fun i hi => ?_, ⟨e1.kp (fun a y q1 q2 => ?_), fun k hk2 => ko _ _ _ (e2 k hk2) (by decide), fun a ha => ko _ _ _ (e3 a ha) (by decide), e4⟩, ⟨ka _ _ f1, f2⟩, ⟨ka _ _ g1, g2⟩, i1, fun j hj => ko _ _ _ (j1 j hj) (by decide), k1⟩
  · show w' (va_up (dL X) (dN X) x i) = some (.inr (3, lfs i (va_up (dF X) (dN X) f i) dl)) ∧ K 0 ≤ va_up (dL X) (dN X) x i
    by_cases q : i = dN X
    · rw [q, va_up_self, va_up_self]; exact ⟨ko _ _ _ hx (by decide), hbx⟩
    · have hi' : i < dN X := by have : i < dN X + 1 := hi; omega
      rw [va_up_ne _ _ q, va_up_ne _ _ q]; exact ⟨ko _ _ _ (d1 i hi').1 (by decide), (d1 i hi').2⟩
  · rcases y with ⟨c9, y9⟩ | ⟨c9, fs⟩
    · have q3 : c9 = D.1 103 := by
        rcases q2 with q2 | ⟨y, q2⟩
        · exact Decidable.byContradiction fun z => q2 z
        · cases q2
      exact hk _ _ q1 (gne_ao q1 c1) (fun z e => by injection e with e; injection e with e; exact k1.2.2.2.2 (e.symm.trans q3))
    · have := mapc_o q2
      exact ko _ _ _ q1 (by omega)
theorem FD.addL {D : va_G} {w w' : Gh} {ca oa lq : Nat} {fs : List Value} (hDD : DD D) (hl : w lq = some (.inr (6, fs))) (hk : ∀ b y, w b = some y → b ≠ lq → (∀ z, y ≠ .inl (D.1 102, z)) → w' b = some y) : FD D ca oa w w' := fun a x q1 q2 => by
  refine hk a x q1 ?_ ?_
  · rintro rfl
    rw [hl] at q1
    cases q1
    exact absurd (show (6 : Nat) = 2 from q2) (by decide)
  · rintro z rfl
    rcases q2.1 with e | e
    · exact hDD.1 e.symm
    · exact hDD.2.2.1 e.symm
def dS_lot (X : DQ) (a r b : Int32) (q : Nat) : Nat × Int32 × DQ := if ¬ a < 0 ∧ a < 6 then (if bI r 0 1000000 = 0 then (2, 0, X) else (if bI b (-1) 0 = 0 then (if bI b 1800 2000 = 0 then (2, 0, X) else (if 30 ≤ nI (dN X) then (3, 0, X) else (0, nI (dN X), sN X q (lF a b (dCall r))))) else (if 30 ≤ nI (dN X) then (3, 0, X) else (0, nI (dN X), sN X q (lF a b (dCall r)))))) else (1, 0, X)
abbrev rmX1_lot : Room := ({ frames := 7, cells := 5, slots := 65, locals := 180 } : Room)
set_option maxHeartbeats 4000000 in
theorem metX1_lot (l : Launch) (D : va_G) (K : Nat → Nat) (w : Gh) (hst : l.stackTraces = false) {dl ca oa : Nat} {X : DQ} (hD : DW D K w dl ca oa X) {a r b : Int32} : gXet l yX1_lot (ws_ yX1_lot cX1_lot 4 (some .int)) rmX1_lot D K [.ref dl, .int a, .int r, .int b] w (fun r' w' => ∃ q9, (dS_lot X a r b q9).1 = 0 ∧ r' = some (.int (dS_lot X a r b q9).2.1) ∧ DW D K w' dl ca oa (dS_lot X a r b q9).2.2 ∧ FD D ca oa w w') (fun E9 => (dS_lot X a r b 0).1 ≠ 0 ∧ E9 = eN (dS_lot X a r b 0).1) := by
  refine gXet.of (by decide) (Nat.le_of_ble_eq_true rfl) ?_
  intro p e s m args below meth c H locs ls S M hr hlocks hexc G hl
  have hx := S.1
  have hb := S.2.1
  have hown := S.2.2.2.1
  have hts := S.2.2.2.2
  have hl : lv_has ls 4 [(0, .ref dl), (1, .int a), (2, .int r), (3, .int b)] := hl
  obtain ⟨Q, hQ⟩ : ∃ Q, Q = gXE below D K w (fun r' w' => ∃ q9, (dS_lot X a r b q9).1 = 0 ∧ r' = some (.int (dS_lot X a r b q9).2.1) ∧ DW D K w' dl ca oa (dS_lot X a r b q9).2.2 ∧ FD D ca oa w w') (fun E9 => (dS_lot X a r b 0).1 ≠ 0 ∧ E9 = eN (dS_lot X a r b 0).1) args s rmX1_lot.cells rmX1_lot.slots := ⟨_, rfl⟩
  rw [← hQ]
  have hD0 := hD
  obtain ⟨sb, fb, sh, lq, mp, md, lmd, ks, es, hN, ky, vl, bv, ta, cap, hV⟩ := hD
  have hdl := hV.1.1
  have hbdl := hV.1.2
  have hDD := hV.2.2.2.2.2.2.2.2.2
  have hlqc := hV.2.2.1.1
  have hblq := hV.2.2.1.2.1
  have hn30 := hV.2.2.1.2.2.1
  have hca := hV.2.2.2.2.2.1.1
  have hbca := hV.2.2.2.2.2.1.2
  have hoa := hV.2.2.2.2.2.2.1.1
  have hboa := hV.2.2.2.2.2.2.1.2
  have hco := hV.2.2.2.2.2.2.2.1
  have hFD0 : FD D ca oa w w := FD.rf
  obtain ⟨fssb, hcsb⟩ : ∃ z, w sb = some (.inr (1, z)) := by obtain ⟨b9, h9, -⟩ := hV.2.1.1; exact ⟨_, h9⟩
  obtain ⟨fsfb, hcfb⟩ : ∃ z, w fb = some (.inr (1, z)) := by obtain ⟨b9, h9, -⟩ := hV.2.1.2.1; exact ⟨_, h9⟩
  obtain ⟨fssh, hcsh⟩ : ∃ z, w sh = some (.inr (1, z)) := by obtain ⟨b9, h9, -⟩ := hV.2.1.2.2; exact ⟨_, h9⟩
  refine lv_iload_n (pc := 0) hx hb dX1_lot_0 rfl (lv_at hl 1 rfl) ?_
  refine lv_bipush (pc := 1) (v := 6) hx hb dX1_lot_1 (by decide) ?_
  refine gx_callS (pc := 3) S M G hl.1 [.int a, .int 6] [] (metX1_inRow l D K w hst) 2 q454 q452 q453 q18 (by decide) rfl ⟨Nat.le_of_ble_eq_true rfl, Nat.le_of_ble_eq_true rfl⟩ rfl (Nat.le_of_ble_eq_true rfl) dX1_lot_3 ⟨Nat.le_of_ble_eq_true rfl, Nat.le_of_ble_eq_true rfl⟩ (fun E9 ce9 q9 H1 locs1 hpx G1 hce hcv hcl => by rw [hQ]; exact gx_thr hexc hlocks G1 hce hcv hcl (Nat.le_of_ble_eq_true rfl) (Nat.le_of_ble_eq_true rfl) (by obtain ⟨c1, hE⟩ := hpx; have e9 : dS_lot X a r b 0 = (1, 0, X) := by unfold dS_lot; rw [if_neg c1]; rw [e9]; exact ⟨by show (1 : Nat) ≠ 0; decide, hE⟩)) (fun r w2 H locs hp G => ?_)
  refine W.widen (k := 1) (n := 6) (Nat.le_of_ble_eq_true rfl) (Nat.le_of_ble_eq_true rfl) ?_
  obtain ⟨c1, rfl, hw2⟩ := hp
  rw [hw2] at G
  refine W.eq (g2 := F0 m 6 ls []) rfl ?_
  refine lv_iload_n (pc := 6) hx hb dX1_lot_6 rfl (lv_at hl 2 rfl) ?_
  refine lv_iconst (pc := 7) (v := 0) hx hb dX1_lot_7 (by decide) ?_
  refine lv_ldc (pc := 8) (v := 1000000) hx hb hown (hts _ q470) dX1_lot_8 ?_
  refine g_callS (pc := 10) S M G hl.1 [.int r, .int 0, .int 1000000] [] (metX1_isIn l D K w) 3 q473 q471 q472 q18 (by decide) rfl ⟨Nat.le_of_ble_eq_true rfl, Nat.le_of_ble_eq_true rfl⟩ rfl (Nat.le_of_ble_eq_true rfl) dX1_lot_10 ⟨Nat.le_of_ble_eq_true rfl, Nat.le_of_ble_eq_true rfl⟩ (fun r w2 H locs hp G => ?_)
  obtain ⟨rfl, hw2⟩ := hp
  rw [hw2] at G
  refine W.eq (g2 := F0 m 13 ls [.int (bI r 0 1000000)]) rfl ?_
  refine lv_if_eq (pc := 13) (tgt := 42) hx hb dX1_lot_13 (by decide) (fun c2 => ?_) (fun c2 => ?_)
  · refine lv_iconst (pc := 42) (v := 0) hx hb dX1_lot_42 (by decide) ?_
    exact gx_callS (pc := 43) S M G hl.1 [.int 0] [] (metX1_check l D K w hst) 1 q476 q474 q475 q18 (by decide) rfl ⟨Nat.le_of_ble_eq_true rfl, Nat.le_of_ble_eq_true rfl⟩ rfl (Nat.le_of_ble_eq_true rfl) dX1_lot_43 ⟨Nat.le_of_ble_eq_true rfl, Nat.le_of_ble_eq_true rfl⟩ (fun E9 ce9 q9 H1 locs1 hpx G1 hce hcv hcl => by rw [hQ]; exact gx_thr hexc hlocks G1 hce hcv hcl (Nat.le_of_ble_eq_true rfl) (Nat.le_of_ble_eq_true rfl) (by obtain ⟨c3, hE⟩ := hpx; have e9 : dS_lot X a r b 0 = (2, 0, X) := by unfold dS_lot; rw [if_pos c1, if_pos c2]; rw [e9]; exact ⟨by show (2 : Nat) ≠ 0; decide, hE⟩)) (fun r w2 H locs hp G => absurd rfl hp.1)
  · refine lv_iload_n (pc := 16) hx hb dX1_lot_16 rfl (lv_at hl 3 rfl) ?_
    refine lv_iconst (pc := 17) (v := (-1)) hx hb dX1_lot_17 (by decide) ?_
    refine lv_iconst (pc := 18) (v := 0) hx hb dX1_lot_18 (by decide) ?_
    refine g_callS (pc := 19) S M G hl.1 [.int b, .int (-1), .int 0] [] (metX1_isIn l D K w) 3 q473 q471 q472 q18 (by decide) rfl ⟨Nat.le_of_ble_eq_true rfl, Nat.le_of_ble_eq_true rfl⟩ rfl (Nat.le_of_ble_eq_true rfl) dX1_lot_19 ⟨Nat.le_of_ble_eq_true rfl, Nat.le_of_ble_eq_true rfl⟩ (fun r w2 H locs hp G => ?_)
    obtain ⟨rfl, hw2⟩ := hp
    rw [hw2] at G
    refine W.eq (g2 := F0 m 22 ls [.int (bI b (-1) 0)]) rfl ?_
    refine lv_if_ne (pc := 22) (tgt := 38) hx hb dX1_lot_22 (by decide) (fun c4 => ?_) (fun c4 => ?_)
    · refine lv_iconst (pc := 38) (v := 1) hx hb dX1_lot_38 (by decide) ?_
      refine lv_goto (pc := 39) (tgt := 43) hx hb dX1_lot_39 (by decide) ?_
      refine gx_callS (pc := 43) S M G hl.1 [.int 1] [] (metX1_check l D K w hst) 1 q476 q474 q475 q18 (by decide) rfl ⟨Nat.le_of_ble_eq_true rfl, Nat.le_of_ble_eq_true rfl⟩ rfl (Nat.le_of_ble_eq_true rfl) dX1_lot_43 ⟨Nat.le_of_ble_eq_true rfl, Nat.le_of_ble_eq_true rfl⟩ (fun E9 ce9 q9 H1 locs1 hpx G1 hce hcv hcl => by rw [hQ]; exact gx_thr hexc hlocks G1 hce hcv hcl (Nat.le_of_ble_eq_true rfl) (Nat.le_of_ble_eq_true rfl) (absurd hpx.1 (by decide))) (fun r w2 H locs hp G => ?_)
      refine W.widen (k := 2) (n := 12) (Nat.le_of_ble_eq_true rfl) (Nat.le_of_ble_eq_true rfl) ?_
      obtain ⟨_, rfl, hw2⟩ := hp
      rw [hw2] at G
      refine W.eq (g2 := F0 m 46 ls []) rfl ?_
      refine lv_aload_n (pc := 46) hx hb dX1_lot_46 rfl (lv_at hl 0 rfl) ?_
      refine g_get (pc := 47) (v := .ref lq) S M G (C := RX1) (T := TX1) (N := 12) (ci := 0) in_X1 hdl rfl 3 (by decide) q171 (Or.inl rfl) rfl dX1_lot_47 ?_
      refine g_callF (pc := 50) S M G hl.1 [] [] (metJ2_size l D K w hlqc) 0 (g_recv M G hlqc (q := (RJ2, TJ2, 3)) rfl) (g_cls M (ci := 6) rfl) q222 q214 ⟨by decide, q216, q215, q221, q219, q217⟩ q220 q218 q22 rfl rfl ⟨Nat.le_of_ble_eq_true rfl, Nat.le_of_ble_eq_true rfl⟩ rfl (Nat.le_of_ble_eq_true rfl) dX1_lot_50 ⟨Nat.le_of_ble_eq_true rfl, Nat.le_of_ble_eq_true rfl⟩ (fun r w2 H locs hp G => ?_)
      obtain ⟨rfl, hw2⟩ := hp
      rw [hw2] at G
      refine W.eq (g2 := F0 m 55 ls [.int (nI (dN X))]) rfl ?_
      refine lv_bipush (pc := 55) (v := 30) hx hb dX1_lot_55 (by decide) ?_
      refine lv_icmp_ge (pc := 57) (tgt := 64) hx hb dX1_lot_57 (by decide) (fun c6 => ?_) (fun c6 => ?_)
      · refine lv_iconst (pc := 64) (v := 0) hx hb dX1_lot_64 (by decide) ?_
        exact gx_callS (pc := 65) S M G hl.1 [.int 0] [] (metX1_possible l D K w hst) 1 q494 q492 q493 q18 (by decide) rfl ⟨Nat.le_of_ble_eq_true rfl, Nat.le_of_ble_eq_true rfl⟩ rfl (Nat.le_of_ble_eq_true rfl) dX1_lot_65 ⟨Nat.le_of_ble_eq_true rfl, Nat.le_of_ble_eq_true rfl⟩ (fun E9 ce9 q9 H1 locs1 hpx G1 hce hcv hcl => by rw [hQ]; exact gx_thr hexc hlocks G1 hce hcv hcl (Nat.le_of_ble_eq_true rfl) (Nat.le_of_ble_eq_true rfl) (by obtain ⟨c7, hE⟩ := hpx; have e9 : dS_lot X a r b 0 = (3, 0, X) := by unfold dS_lot; rw [if_pos c1, if_neg c2, if_neg c4, if_pos c6]; rw [e9]; exact ⟨by show (3 : Nat) ≠ 0; decide, hE⟩)) (fun r w2 H locs hp G => absurd rfl hp.1)
      · refine lv_iconst (pc := 60) (v := 1) hx hb dX1_lot_60 (by decide) ?_
        refine lv_goto (pc := 61) (tgt := 65) hx hb dX1_lot_61 (by decide) ?_
        refine gx_callS (pc := 65) S M G hl.1 [.int 1] [] (metX1_possible l D K w hst) 1 q494 q492 q493 q18 (by decide) rfl ⟨Nat.le_of_ble_eq_true rfl, Nat.le_of_ble_eq_true rfl⟩ rfl (Nat.le_of_ble_eq_true rfl) dX1_lot_65 ⟨Nat.le_of_ble_eq_true rfl, Nat.le_of_ble_eq_true rfl⟩ (fun E9 ce9 q9 H1 locs1 hpx G1 hce hcv hcl => by rw [hQ]; exact gx_thr hexc hlocks G1 hce hcv hcl (Nat.le_of_ble_eq_true rfl) (Nat.le_of_ble_eq_true rfl) (absurd hpx.1 (by decide))) (fun r w2 H locs hp G => ?_)
        refine W.widen (k := 3) (n := 18) (Nat.le_of_ble_eq_true rfl) (Nat.le_of_ble_eq_true rfl) ?_
        obtain ⟨_, rfl, hw2⟩ := hp
        rw [hw2] at G
        refine W.eq (g2 := F0 m 68 ls []) rfl ?_
        refine lv_aload_n (pc := 68) hx hb dX1_lot_68 rfl (lv_at hl 0 rfl) ?_
        refine g_get (pc := 69) (v := .ref lq) S M G (C := RX1) (T := TX1) (N := 12) (ci := 0) in_X1 hdl rfl 3 (by decide) q171 (Or.inl rfl) rfl dX1_lot_69 ?_
        refine g_new (pc := 72) S M G (C := RX4) (T := TX4) (N := 14) (ci := 3) (fs := [.int 0, .int 0, .int 0, .int 0, .int 0, .int 0, .int 0, .int 0, .int 0, .int 0, .int 0, .int 0, .int 0, .null]) in_X4 tyX4 tyX4_ok q409 q510 q35 rfl df_X4 (Nat.le_of_ble_eq_true rfl) (Nat.le_of_ble_eq_true rfl) dX1_lot_72 (fun q1_ H hnq1_ hbq1_ heq1_ hsq1_ G => ?_)
        refine W.widen (k := 4) (n := 32) (Nat.le_of_ble_eq_true rfl) (Nat.le_of_ble_eq_true rfl) ?_
        obtain ⟨w2_, hw2_⟩ : ∃ z9, z9 = gu w q1_ (.inr (3, [.int 0, .int 0, .int 0, .int 0, .int 0, .int 0, .int 0, .int 0, .int 0, .int 0, .int 0, .int 0, .int 0, .null])) := ⟨_, rfl⟩
        replace G : gS D K w2_ s H locs := by rw [hw2_]; exact G
        have c2_dl : w2_ dl = some (.inr (0, [.ref sb, .ref fb, .ref sh, .ref lq, .ref mp, .ref ca, .ref oa, .int (dC X 0), .int (dC X 1), .long (dM X 0), .long (dM X 1), .long (dM X 2)])) := by rw [hw2_, gu_n (gne_f hdl hnq1_)]; exact hdl
        have c2_lq : w2_ lq = some (.inr (6, [.int lmd, .ref ta, .int (nI (dN X))])) := by rw [hw2_, gu_n (gne_f hlqc hnq1_)]; exact hlqc
        have c2_ca : w2_ ca = some (.inl (D.1 100, 6, .inl (dA X 0))) := by rw [hw2_, gu_n (gne_f hca hnq1_)]; exact hca
        have c2_oa : w2_ oa = some (.inl (D.1 100, 10, .inl (dA X 1))) := by rw [hw2_, gu_n (gne_f hoa hnq1_)]; exact hoa
        have c2_sb : w2_ sb = some (.inr (1, fssb)) := by rw [hw2_, gu_n (gne_f hcsb hnq1_)]; exact hcsb
        have c2_fb : w2_ fb = some (.inr (1, fsfb)) := by rw [hw2_, gu_n (gne_f hcfb hnq1_)]; exact hcfb
        have c2_sh : w2_ sh = some (.inr (1, fssh)) := by rw [hw2_, gu_n (gne_f hcsh hnq1_)]; exact hcsh
        have c2_q1_ : w2_ q1_ = some (.inr (3, [.int 0, .int 0, .int 0, .int 0, .int 0, .int 0, .int 0, .int 0, .int 0, .int 0, .int 0, .int 0, .int 0, .null])) := by rw [hw2_]; exact gu_s
        have hVw2_ : DV D K w2_ dl ca oa X sb fb sh lq mp md lmd ks es hN ky vl bv ta cap := by rw [hw2_]; exact hV.kp (fun a x q1 _ => by rw [gu_n (gne_f q1 hnq1_)]; exact q1)
        have hFw2_ : FD D ca oa w w2_ := hFD0.tr (by rw [hw2_]; exact FD.new hnq1_)
        refine lv_dup (pc := 75) hx hb dX1_lot_75 rfl ?_
        refine lv_aload_n (pc := 76) hx hb dX1_lot_76 rfl (lv_at hl 0 rfl) ?_
        refine lv_aload_n (pc := 77) hx hb dX1_lot_77 rfl (lv_at hl 0 rfl) ?_
        refine g_get (pc := 78) (v := .ref lq) S M G (C := RX1) (T := TX1) (N := 12) (ci := 0) in_X1 c2_dl rfl 3 (by decide) q171 (Or.inl rfl) rfl dX1_lot_78 ?_
        refine g_callF (pc := 81) S M G hl.1 [] [.ref dl, .ref q1_, .ref q1_, .ref lq] (metJ2_size l D K w2_ c2_lq) 0 (g_recv M G c2_lq (q := (RJ2, TJ2, 3)) rfl) (g_cls M (ci := 6) rfl) q222 q214 ⟨by decide, q216, q215, q221, q219, q217⟩ q220 q218 q22 rfl rfl ⟨Nat.le_of_ble_eq_true rfl, Nat.le_of_ble_eq_true rfl⟩ rfl (Nat.le_of_ble_eq_true rfl) dX1_lot_81 ⟨Nat.le_of_ble_eq_true rfl, Nat.le_of_ble_eq_true rfl⟩ (fun r w2 H locs hp G => ?_)
        obtain ⟨rfl, hw2⟩ := hp
        rw [hw2] at G
        refine W.eq (g2 := F0 m 86 ls [.int (nI (dN X)), .ref dl, .ref q1_, .ref q1_, .ref lq]) rfl ?_
        refine lv_iload_n (pc := 86) hx hb dX1_lot_86 rfl (lv_at hl 1 rfl) ?_
        refine lv_iload_n (pc := 87) hx hb dX1_lot_87 rfl (lv_at hl 3 rfl) ?_
        refine lv_aload_n (pc := 88) hx hb dX1_lot_88 rfl (lv_at hl 0 rfl) ?_
        refine lv_iload_n (pc := 89) hx hb dX1_lot_89 rfl (lv_at hl 2 rfl) ?_
        refine g_callV (pc := 90) S M G hl.1 [.int r] [.int b, .int a, .int (nI (dN X)), .ref dl, .ref q1_, .ref q1_, .ref lq] (metX1_called l D K w2_ hVw2_.W) 1 (g_recv M G c2_dl (q := (RX1, TX1, 12)) rfl) q514 q511 q513 qs2 q18 (by decide) rfl ⟨Nat.le_of_ble_eq_true rfl, Nat.le_of_ble_eq_true rfl⟩ rfl (Nat.le_of_ble_eq_true rfl) dX1_lot_90 ⟨Nat.le_of_ble_eq_true rfl, Nat.le_of_ble_eq_true rfl⟩ (fun r w2 H locs hp G => ?_)
        obtain ⟨rfl, hw2⟩ := hp
        rw [hw2] at G
        refine W.eq (g2 := F0 m 93 ls [.int (dCall r), .int b, .int a, .int (nI (dN X)), .ref dl, .ref q1_, .ref q1_, .ref lq]) rfl ?_
        refine g_callI (pc := 93) S M G hl.1 [.ref dl, .int (nI (dN X)), .int a, .int b, .int (dCall r)] [.ref q1_, .ref lq] (metX4_init l D K w2_ c2_q1_ hbq1_) 5 q522 q520 q521 q35 rfl (by decide) rfl ⟨Nat.le_of_ble_eq_true rfl, Nat.le_of_ble_eq_true rfl⟩ rfl (Nat.le_of_ble_eq_true rfl) dX1_lot_93 ⟨Nat.le_of_ble_eq_true rfl, Nat.le_of_ble_eq_true rfl⟩ (fun r w3 H locs hp G => ?_)
        obtain ⟨rfl, hw2⟩ := hp
        have hnq : w q1_ = none := hnq1_
        have hkk : ∀ a y, w a = some y → w3 a = some y := fun a y q1 => by rw [hw2, gu_n (gne_f q1 hnq), hw2_, gu_n (gne_f q1 hnq)]; exact q1
        have hV3 : DV D K w3 dl ca oa X sb fb sh lq mp md lmd ks es hN ky vl bv ta cap := hV.kp (fun a y q1 _ => hkk a y q1)
        have hFD3 : FD D ca oa w w3 := FD.all hkk
        have hdl3 := hkk _ _ hdl
        have hlq3 := hkk _ _ hlqc
        have hlo3 : w3 q1_ = some (.inr (3, lfs (dN X) (lF a b (dCall r)) dl)) := by rw [hw2]; exact gu_s
        refine W.eq (g2 := F0 m 96 ls [.ref q1_, .ref lq]) rfl ?_
        have hN30 : dN X < 30 := Decidable.byContradiction fun z => c6 ((nI_leI (a := 30) (by decide) (by omega)).mpr (by omega))
        refine g_callF (pc := 96) S M G hl.1 [.ref q1_] [] (metJ2_addW l D K w3 hDD hlq3 hblq hV3.2.2.1.2.2.2 hN30 (fun i hi => ⟨_, (hV3.2.2.2.1 i hi).1⟩) hlo3) 1 (g_recv M G hlq3 (q := (RJ2, TJ2, 3)) rfl) (g_cls M (ci := 6) rfl) q585 q578 ⟨by decide, q580, q579, q584, q582, q217⟩ q583 q581 q22 rfl rfl ⟨Nat.le_of_ble_eq_true rfl, Nat.le_of_ble_eq_true rfl⟩ rfl (Nat.le_of_ble_eq_true rfl) dX1_lot_96 ⟨Nat.le_of_ble_eq_true rfl, Nat.le_of_ble_eq_true rfl⟩ (fun r w4 H locs hp G => ?_)
        refine W.widen (k := 5) (n := 65) (Nat.le_of_ble_eq_true rfl) (Nat.le_of_ble_eq_true rfl) ?_
        obtain ⟨rfl, t4, cap4, hlq4, hT4, hk4⟩ := hp
        have hV4 : DV D K w4 dl ca oa (sN X q1_ (lF a b (dCall r))) sb fb sh lq mp md (lmd + 1) ks es hN ky vl bv t4 cap4 := hV3.addL hN30 hlo3 hbq1_ hlq4 hT4 hk4
        have hFD4 := hFD3.tr (FD.addL hDD hlq3 hk4)
        have hdl4 := hV4.1.1
        refine W.eq (g2 := F0 m 101 ls [.int 1]) rfl ?_
        refine lv_pop (pc := 101) hx hb dX1_lot_101 rfl ?_
        refine lv_aload_n (pc := 102) hx hb dX1_lot_102 rfl (lv_at hl 0 rfl) ?_
        refine g_get (pc := 103) (v := .ref lq) S M G (C := RX1) (T := TX1) (N := 12) (ci := 0) in_X1 hdl4 rfl 3 (by decide) q171 (Or.inl rfl) rfl dX1_lot_103 ?_
        refine g_callF (pc := 106) S M G hl.1 [] [] (metJ2_size l D K w4 hlq4) 0 (g_recv M G hlq4 (q := (RJ2, TJ2, 3)) rfl) (g_cls M (ci := 6) rfl) q222 q214 ⟨by decide, q216, q215, q221, q219, q217⟩ q220 q218 q22 rfl rfl ⟨Nat.le_of_ble_eq_true rfl, Nat.le_of_ble_eq_true rfl⟩ rfl (Nat.le_of_ble_eq_true rfl) dX1_lot_106 ⟨Nat.le_of_ble_eq_true rfl, Nat.le_of_ble_eq_true rfl⟩ (fun r w2 H locs hp G => ?_)
        obtain ⟨rfl, hw2⟩ := hp
        rw [hw2] at G
        refine W.eq (g2 := F0 m 111 ls [.int (nI (dN X + 1))]) rfl ?_
        refine lv_iconst (pc := 111) (v := 1) hx hb dX1_lot_111 (by decide) ?_
        refine lv_isub (pc := 112) hx hb dX1_lot_112 ?_
        rw [nI_pred]
        rw [hQ]
        refine gx_iret S G hr hlocks (hdg := dX1_lot_113) ?_ ?_ ?_
        · exact Nat.le_of_ble_eq_true rfl
        · exact Nat.le_of_ble_eq_true rfl
        · refine ⟨q1_, ?_⟩
          have e9 : dS_lot X a r b q1_ = (0, (nI (dN X)), (sN X q1_ (lF a b (dCall r)))) := by
            unfold dS_lot
            rw [if_pos c1, if_neg c2, if_neg c4, if_neg c6]
          rw [e9]
          exact ⟨rfl, rfl, hV4.W, hFD4⟩
    · refine lv_iload_n (pc := 25) hx hb dX1_lot_25 rfl (lv_at hl 3 rfl) ?_
      refine lv_sipush (pc := 26) (v := 1800) hx hb dX1_lot_26 (by decide) ?_
      refine lv_sipush (pc := 29) (v := 2000) hx hb dX1_lot_29 (by decide) ?_
      refine g_callS (pc := 32) S M G hl.1 [.int b, .int 1800, .int 2000] [] (metX1_isIn l D K w) 3 q473 q471 q472 q18 (by decide) rfl ⟨Nat.le_of_ble_eq_true rfl, Nat.le_of_ble_eq_true rfl⟩ rfl (Nat.le_of_ble_eq_true rfl) dX1_lot_32 ⟨Nat.le_of_ble_eq_true rfl, Nat.le_of_ble_eq_true rfl⟩ (fun r w2 H locs hp G => ?_)
      obtain ⟨rfl, hw2⟩ := hp
      rw [hw2] at G
      refine W.eq (g2 := F0 m 35 ls [.int (bI b 1800 2000)]) rfl ?_
      refine lv_if_eq (pc := 35) (tgt := 42) hx hb dX1_lot_35 (by decide) (fun c9 => ?_) (fun c9 => ?_)
      · refine lv_iconst (pc := 42) (v := 0) hx hb dX1_lot_42 (by decide) ?_
        exact gx_callS (pc := 43) S M G hl.1 [.int 0] [] (metX1_check l D K w hst) 1 q476 q474 q475 q18 (by decide) rfl ⟨Nat.le_of_ble_eq_true rfl, Nat.le_of_ble_eq_true rfl⟩ rfl (Nat.le_of_ble_eq_true rfl) dX1_lot_43 ⟨Nat.le_of_ble_eq_true rfl, Nat.le_of_ble_eq_true rfl⟩ (fun E9 ce9 q9 H1 locs1 hpx G1 hce hcv hcl => by rw [hQ]; exact gx_thr hexc hlocks G1 hce hcv hcl (Nat.le_of_ble_eq_true rfl) (Nat.le_of_ble_eq_true rfl) (by obtain ⟨c10, hE⟩ := hpx; have e9 : dS_lot X a r b 0 = (2, 0, X) := by unfold dS_lot; rw [if_pos c1, if_neg c2, if_pos c4, if_pos c9]; rw [e9]; exact ⟨by show (2 : Nat) ≠ 0; decide, hE⟩)) (fun r w2 H locs hp G => absurd rfl hp.1)
      · refine lv_iconst (pc := 38) (v := 1) hx hb dX1_lot_38 (by decide) ?_
        refine lv_goto (pc := 39) (tgt := 43) hx hb dX1_lot_39 (by decide) ?_
        refine gx_callS (pc := 43) S M G hl.1 [.int 1] [] (metX1_check l D K w hst) 1 q476 q474 q475 q18 (by decide) rfl ⟨Nat.le_of_ble_eq_true rfl, Nat.le_of_ble_eq_true rfl⟩ rfl (Nat.le_of_ble_eq_true rfl) dX1_lot_43 ⟨Nat.le_of_ble_eq_true rfl, Nat.le_of_ble_eq_true rfl⟩ (fun E9 ce9 q9 H1 locs1 hpx G1 hce hcv hcl => by rw [hQ]; exact gx_thr hexc hlocks G1 hce hcv hcl (Nat.le_of_ble_eq_true rfl) (Nat.le_of_ble_eq_true rfl) (absurd hpx.1 (by decide))) (fun r w2 H locs hp G => ?_)
        refine W.widen (k := 2) (n := 12) (Nat.le_of_ble_eq_true rfl) (Nat.le_of_ble_eq_true rfl) ?_
        obtain ⟨_, rfl, hw2⟩ := hp
        rw [hw2] at G
        refine W.eq (g2 := F0 m 46 ls []) rfl ?_
        refine lv_aload_n (pc := 46) hx hb dX1_lot_46 rfl (lv_at hl 0 rfl) ?_
        refine g_get (pc := 47) (v := .ref lq) S M G (C := RX1) (T := TX1) (N := 12) (ci := 0) in_X1 hdl rfl 3 (by decide) q171 (Or.inl rfl) rfl dX1_lot_47 ?_
        refine g_callF (pc := 50) S M G hl.1 [] [] (metJ2_size l D K w hlqc) 0 (g_recv M G hlqc (q := (RJ2, TJ2, 3)) rfl) (g_cls M (ci := 6) rfl) q222 q214 ⟨by decide, q216, q215, q221, q219, q217⟩ q220 q218 q22 rfl rfl ⟨Nat.le_of_ble_eq_true rfl, Nat.le_of_ble_eq_true rfl⟩ rfl (Nat.le_of_ble_eq_true rfl) dX1_lot_50 ⟨Nat.le_of_ble_eq_true rfl, Nat.le_of_ble_eq_true rfl⟩ (fun r w2 H locs hp G => ?_)
        obtain ⟨rfl, hw2⟩ := hp
        rw [hw2] at G
        refine W.eq (g2 := F0 m 55 ls [.int (nI (dN X))]) rfl ?_
        refine lv_bipush (pc := 55) (v := 30) hx hb dX1_lot_55 (by decide) ?_
        refine lv_icmp_ge (pc := 57) (tgt := 64) hx hb dX1_lot_57 (by decide) (fun c12 => ?_) (fun c12 => ?_)
        · refine lv_iconst (pc := 64) (v := 0) hx hb dX1_lot_64 (by decide) ?_
          exact gx_callS (pc := 65) S M G hl.1 [.int 0] [] (metX1_possible l D K w hst) 1 q494 q492 q493 q18 (by decide) rfl ⟨Nat.le_of_ble_eq_true rfl, Nat.le_of_ble_eq_true rfl⟩ rfl (Nat.le_of_ble_eq_true rfl) dX1_lot_65 ⟨Nat.le_of_ble_eq_true rfl, Nat.le_of_ble_eq_true rfl⟩ (fun E9 ce9 q9 H1 locs1 hpx G1 hce hcv hcl => by rw [hQ]; exact gx_thr hexc hlocks G1 hce hcv hcl (Nat.le_of_ble_eq_true rfl) (Nat.le_of_ble_eq_true rfl) (by obtain ⟨c13, hE⟩ := hpx; have e9 : dS_lot X a r b 0 = (3, 0, X) := by unfold dS_lot; rw [if_pos c1, if_neg c2, if_pos c4, if_neg c9, if_pos c12]; rw [e9]; exact ⟨by show (3 : Nat) ≠ 0; decide, hE⟩)) (fun r w2 H locs hp G => absurd rfl hp.1)
        · refine lv_iconst (pc := 60) (v := 1) hx hb dX1_lot_60 (by decide) ?_
          refine lv_goto (pc := 61) (tgt := 65) hx hb dX1_lot_61 (by decide) ?_
          refine gx_callS (pc := 65) S M G hl.1 [.int 1] [] (metX1_possible l D K w hst) 1 q494 q492 q493 q18 (by decide) rfl ⟨Nat.le_of_ble_eq_true rfl, Nat.le_of_ble_eq_true rfl⟩ rfl (Nat.le_of_ble_eq_true rfl) dX1_lot_65 ⟨Nat.le_of_ble_eq_true rfl, Nat.le_of_ble_eq_true rfl⟩ (fun E9 ce9 q9 H1 locs1 hpx G1 hce hcv hcl => by rw [hQ]; exact gx_thr hexc hlocks G1 hce hcv hcl (Nat.le_of_ble_eq_true rfl) (Nat.le_of_ble_eq_true rfl) (absurd hpx.1 (by decide))) (fun r w2 H locs hp G => ?_)
          refine W.widen (k := 3) (n := 18) (Nat.le_of_ble_eq_true rfl) (Nat.le_of_ble_eq_true rfl) ?_
          obtain ⟨_, rfl, hw2⟩ := hp
          rw [hw2] at G
          refine W.eq (g2 := F0 m 68 ls []) rfl ?_
          refine lv_aload_n (pc := 68) hx hb dX1_lot_68 rfl (lv_at hl 0 rfl) ?_
          refine g_get (pc := 69) (v := .ref lq) S M G (C := RX1) (T := TX1) (N := 12) (ci := 0) in_X1 hdl rfl 3 (by decide) q171 (Or.inl rfl) rfl dX1_lot_69 ?_
          refine g_new (pc := 72) S M G (C := RX4) (T := TX4) (N := 14) (ci := 3) (fs := [.int 0, .int 0, .int 0, .int 0, .int 0, .int 0, .int 0, .int 0, .int 0, .int 0, .int 0, .int 0, .int 0, .null]) in_X4 tyX4 tyX4_ok q409 q510 q35 rfl df_X4 (Nat.le_of_ble_eq_true rfl) (Nat.le_of_ble_eq_true rfl) dX1_lot_72 (fun q3_ H hnq3_ hbq3_ heq3_ hsq3_ G => ?_)
          refine W.widen (k := 4) (n := 32) (Nat.le_of_ble_eq_true rfl) (Nat.le_of_ble_eq_true rfl) ?_
          obtain ⟨w4_, hw4_⟩ : ∃ z9, z9 = gu w q3_ (.inr (3, [.int 0, .int 0, .int 0, .int 0, .int 0, .int 0, .int 0, .int 0, .int 0, .int 0, .int 0, .int 0, .int 0, .null])) := ⟨_, rfl⟩
          replace G : gS D K w4_ s H locs := by rw [hw4_]; exact G
          have c4_dl : w4_ dl = some (.inr (0, [.ref sb, .ref fb, .ref sh, .ref lq, .ref mp, .ref ca, .ref oa, .int (dC X 0), .int (dC X 1), .long (dM X 0), .long (dM X 1), .long (dM X 2)])) := by rw [hw4_, gu_n (gne_f hdl hnq3_)]; exact hdl
          have c4_lq : w4_ lq = some (.inr (6, [.int lmd, .ref ta, .int (nI (dN X))])) := by rw [hw4_, gu_n (gne_f hlqc hnq3_)]; exact hlqc
          have c4_ca : w4_ ca = some (.inl (D.1 100, 6, .inl (dA X 0))) := by rw [hw4_, gu_n (gne_f hca hnq3_)]; exact hca
          have c4_oa : w4_ oa = some (.inl (D.1 100, 10, .inl (dA X 1))) := by rw [hw4_, gu_n (gne_f hoa hnq3_)]; exact hoa
          have c4_sb : w4_ sb = some (.inr (1, fssb)) := by rw [hw4_, gu_n (gne_f hcsb hnq3_)]; exact hcsb
          have c4_fb : w4_ fb = some (.inr (1, fsfb)) := by rw [hw4_, gu_n (gne_f hcfb hnq3_)]; exact hcfb
          have c4_sh : w4_ sh = some (.inr (1, fssh)) := by rw [hw4_, gu_n (gne_f hcsh hnq3_)]; exact hcsh
          have c4_q3_ : w4_ q3_ = some (.inr (3, [.int 0, .int 0, .int 0, .int 0, .int 0, .int 0, .int 0, .int 0, .int 0, .int 0, .int 0, .int 0, .int 0, .null])) := by rw [hw4_]; exact gu_s
          have hVw4_ : DV D K w4_ dl ca oa X sb fb sh lq mp md lmd ks es hN ky vl bv ta cap := by rw [hw4_]; exact hV.kp (fun a x q1 _ => by rw [gu_n (gne_f q1 hnq3_)]; exact q1)
          have hFw4_ : FD D ca oa w w4_ := hFD0.tr (by rw [hw4_]; exact FD.new hnq3_)
          refine lv_dup (pc := 75) hx hb dX1_lot_75 rfl ?_
          refine lv_aload_n (pc := 76) hx hb dX1_lot_76 rfl (lv_at hl 0 rfl) ?_
          refine lv_aload_n (pc := 77) hx hb dX1_lot_77 rfl (lv_at hl 0 rfl) ?_
          refine g_get (pc := 78) (v := .ref lq) S M G (C := RX1) (T := TX1) (N := 12) (ci := 0) in_X1 c4_dl rfl 3 (by decide) q171 (Or.inl rfl) rfl dX1_lot_78 ?_
          refine g_callF (pc := 81) S M G hl.1 [] [.ref dl, .ref q3_, .ref q3_, .ref lq] (metJ2_size l D K w4_ c4_lq) 0 (g_recv M G c4_lq (q := (RJ2, TJ2, 3)) rfl) (g_cls M (ci := 6) rfl) q222 q214 ⟨by decide, q216, q215, q221, q219, q217⟩ q220 q218 q22 rfl rfl ⟨Nat.le_of_ble_eq_true rfl, Nat.le_of_ble_eq_true rfl⟩ rfl (Nat.le_of_ble_eq_true rfl) dX1_lot_81 ⟨Nat.le_of_ble_eq_true rfl, Nat.le_of_ble_eq_true rfl⟩ (fun r w2 H locs hp G => ?_)
          obtain ⟨rfl, hw2⟩ := hp
          rw [hw2] at G
          refine W.eq (g2 := F0 m 86 ls [.int (nI (dN X)), .ref dl, .ref q3_, .ref q3_, .ref lq]) rfl ?_
          refine lv_iload_n (pc := 86) hx hb dX1_lot_86 rfl (lv_at hl 1 rfl) ?_
          refine lv_iload_n (pc := 87) hx hb dX1_lot_87 rfl (lv_at hl 3 rfl) ?_
          refine lv_aload_n (pc := 88) hx hb dX1_lot_88 rfl (lv_at hl 0 rfl) ?_
          refine lv_iload_n (pc := 89) hx hb dX1_lot_89 rfl (lv_at hl 2 rfl) ?_
          refine g_callV (pc := 90) S M G hl.1 [.int r] [.int b, .int a, .int (nI (dN X)), .ref dl, .ref q3_, .ref q3_, .ref lq] (metX1_called l D K w4_ hVw4_.W) 1 (g_recv M G c4_dl (q := (RX1, TX1, 12)) rfl) q514 q511 q513 qs2 q18 (by decide) rfl ⟨Nat.le_of_ble_eq_true rfl, Nat.le_of_ble_eq_true rfl⟩ rfl (Nat.le_of_ble_eq_true rfl) dX1_lot_90 ⟨Nat.le_of_ble_eq_true rfl, Nat.le_of_ble_eq_true rfl⟩ (fun r w2 H locs hp G => ?_)
          obtain ⟨rfl, hw2⟩ := hp
          rw [hw2] at G
          refine W.eq (g2 := F0 m 93 ls [.int (dCall r), .int b, .int a, .int (nI (dN X)), .ref dl, .ref q3_, .ref q3_, .ref lq]) rfl ?_
          refine g_callI (pc := 93) S M G hl.1 [.ref dl, .int (nI (dN X)), .int a, .int b, .int (dCall r)] [.ref q3_, .ref lq] (metX4_init l D K w4_ c4_q3_ hbq3_) 5 q522 q520 q521 q35 rfl (by decide) rfl ⟨Nat.le_of_ble_eq_true rfl, Nat.le_of_ble_eq_true rfl⟩ rfl (Nat.le_of_ble_eq_true rfl) dX1_lot_93 ⟨Nat.le_of_ble_eq_true rfl, Nat.le_of_ble_eq_true rfl⟩ (fun r w3 H locs hp G => ?_)
          obtain ⟨rfl, hw2⟩ := hp
          have hnq : w q3_ = none := hnq3_
          have hkk : ∀ a y, w a = some y → w3 a = some y := fun a y q1 => by rw [hw2, gu_n (gne_f q1 hnq), hw4_, gu_n (gne_f q1 hnq)]; exact q1
          have hV3 : DV D K w3 dl ca oa X sb fb sh lq mp md lmd ks es hN ky vl bv ta cap := hV.kp (fun a y q1 _ => hkk a y q1)
          have hFD3 : FD D ca oa w w3 := FD.all hkk
          have hdl3 := hkk _ _ hdl
          have hlq3 := hkk _ _ hlqc
          have hlo3 : w3 q3_ = some (.inr (3, lfs (dN X) (lF a b (dCall r)) dl)) := by rw [hw2]; exact gu_s
          refine W.eq (g2 := F0 m 96 ls [.ref q3_, .ref lq]) rfl ?_
          have hN30 : dN X < 30 := Decidable.byContradiction fun z => c12 ((nI_leI (a := 30) (by decide) (by omega)).mpr (by omega))
          refine g_callF (pc := 96) S M G hl.1 [.ref q3_] [] (metJ2_addW l D K w3 hDD hlq3 hblq hV3.2.2.1.2.2.2 hN30 (fun i hi => ⟨_, (hV3.2.2.2.1 i hi).1⟩) hlo3) 1 (g_recv M G hlq3 (q := (RJ2, TJ2, 3)) rfl) (g_cls M (ci := 6) rfl) q585 q578 ⟨by decide, q580, q579, q584, q582, q217⟩ q583 q581 q22 rfl rfl ⟨Nat.le_of_ble_eq_true rfl, Nat.le_of_ble_eq_true rfl⟩ rfl (Nat.le_of_ble_eq_true rfl) dX1_lot_96 ⟨Nat.le_of_ble_eq_true rfl, Nat.le_of_ble_eq_true rfl⟩ (fun r w4 H locs hp G => ?_)
          refine W.widen (k := 5) (n := 65) (Nat.le_of_ble_eq_true rfl) (Nat.le_of_ble_eq_true rfl) ?_
          obtain ⟨rfl, t4, cap4, hlq4, hT4, hk4⟩ := hp
          have hV4 : DV D K w4 dl ca oa (sN X q3_ (lF a b (dCall r))) sb fb sh lq mp md (lmd + 1) ks es hN ky vl bv t4 cap4 := hV3.addL hN30 hlo3 hbq3_ hlq4 hT4 hk4
          have hFD4 := hFD3.tr (FD.addL hDD hlq3 hk4)
          have hdl4 := hV4.1.1
          refine W.eq (g2 := F0 m 101 ls [.int 1]) rfl ?_
          refine lv_pop (pc := 101) hx hb dX1_lot_101 rfl ?_
          refine lv_aload_n (pc := 102) hx hb dX1_lot_102 rfl (lv_at hl 0 rfl) ?_
          refine g_get (pc := 103) (v := .ref lq) S M G (C := RX1) (T := TX1) (N := 12) (ci := 0) in_X1 hdl4 rfl 3 (by decide) q171 (Or.inl rfl) rfl dX1_lot_103 ?_
          refine g_callF (pc := 106) S M G hl.1 [] [] (metJ2_size l D K w4 hlq4) 0 (g_recv M G hlq4 (q := (RJ2, TJ2, 3)) rfl) (g_cls M (ci := 6) rfl) q222 q214 ⟨by decide, q216, q215, q221, q219, q217⟩ q220 q218 q22 rfl rfl ⟨Nat.le_of_ble_eq_true rfl, Nat.le_of_ble_eq_true rfl⟩ rfl (Nat.le_of_ble_eq_true rfl) dX1_lot_106 ⟨Nat.le_of_ble_eq_true rfl, Nat.le_of_ble_eq_true rfl⟩ (fun r w2 H locs hp G => ?_)
          obtain ⟨rfl, hw2⟩ := hp
          rw [hw2] at G
          refine W.eq (g2 := F0 m 111 ls [.int (nI (dN X + 1))]) rfl ?_
          refine lv_iconst (pc := 111) (v := 1) hx hb dX1_lot_111 (by decide) ?_
          refine lv_isub (pc := 112) hx hb dX1_lot_112 ?_
          rw [nI_pred]
          rw [hQ]
          refine gx_iret S G hr hlocks (hdg := dX1_lot_113) ?_ ?_ ?_
          · exact Nat.le_of_ble_eq_true rfl
          · exact Nat.le_of_ble_eq_true rfl
          · refine ⟨q1_, ?_⟩
            have e9 : dS_lot X a r b q1_ = (0, (nI (dN X)), (sN X q3_ (lF a b (dCall r)))) := by
              unfold dS_lot
              rw [if_pos c1, if_neg c2, if_pos c4, if_neg c9, if_neg c12]
            rw [e9]
            exact ⟨rfl, rfl, hV4.W, hFD4⟩
