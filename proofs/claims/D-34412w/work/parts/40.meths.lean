/-! DroitLine's methods -/
/-- what keeps the indices in range -/
def dR (X : DQ) : Prop := ∀ i, i < dN X → (¬ dF X i 11 = -1 → vp_in (dF X i 11) 10) ∧ vp_in (dF X i 1) 6
def dS_state (X : DQ) (i : Int32) : Nat × Int32 × DQ := (if (¬ i < 0 ∧ i < (nI (dN X))) then (0, (dF X i.toNatClampNeg 4), X) else (1, 0, X))
abbrev rmX1_state : Room := ({ frames := 8, cells := 1, slots := 6, locals := 142 } : Room)
set_option maxHeartbeats 4000000 in
theorem metX1_state (l : Launch) (D : va_G) (K : Nat → Nat) (w : Gh) (hst : l.stackTraces = false) {dl ca oa : Nat} {X : DQ} (hD : DW D K w dl ca oa X) {i : Int32} : gXet l yX1_state (ws_ yX1_state cX1_state 2 (some .int)) rmX1_state D K [.ref dl, .int i] w (fun r' w' => (dS_state X i).1 = 0 ∧ r' = some (.int (dS_state X i).2.1) ∧ DW D K w' dl ca oa (dS_state X i).2.2 ∧ FD D ca oa w w') (fun E9 => (dS_state X i).1 ≠ 0 ∧ E9 = eN (dS_state X i).1) := by
  refine gXet.of (by decide) (Nat.le_of_ble_eq_true rfl) ?_
  intro p e s m args below meth c H locs ls S M hr hlocks hexc G hl
  have hx := S.1
  have hb := S.2.1
  have hown := S.2.2.2.1
  have hts := S.2.2.2.2
  have hl : lv_has ls 2 [(0, .ref dl), (1, .int i)] := hl
  obtain ⟨Q, hQ⟩ : ∃ Q, Q = gXE below D K w (fun r' w' => (dS_state X i).1 = 0 ∧ r' = some (.int (dS_state X i).2.1) ∧ DW D K w' dl ca oa (dS_state X i).2.2 ∧ FD D ca oa w w') (fun E9 => (dS_state X i).1 ≠ 0 ∧ E9 = eN (dS_state X i).1) args s rmX1_state.cells rmX1_state.slots := ⟨_, rfl⟩
  rw [← hQ]
  have hD0 := hD
  obtain ⟨sb, fb, sh, lq, mp, md, lmd, ks, es, hN, ky, vl, bv, ta, cap, hV⟩ := hD
  have hdl := hV.1.1
  have hbdl := hV.1.2
  have hDD := hV.2.2.2.2.2.2.2.2.2
  have hlqc := hV.2.2.1.1
  have hblq := hV.2.2.1.2.1
  have hn30 := hV.2.2.1.2.2.1
  have hca := hV.2.2.2.2.2.1.1
  have hbca := hV.2.2.2.2.2.1.2
  have hoa := hV.2.2.2.2.2.2.1.1
  have hboa := hV.2.2.2.2.2.2.1.2
  have hco := hV.2.2.2.2.2.2.2.1
  have hFD0 : FD D ca oa w w := FD.rf
  obtain ⟨fssb, hcsb⟩ : ∃ z, w sb = some (.inr (1, z)) := by obtain ⟨b9, h9, -⟩ := hV.2.1.1; exact ⟨_, h9⟩
  obtain ⟨fsfb, hcfb⟩ : ∃ z, w fb = some (.inr (1, z)) := by obtain ⟨b9, h9, -⟩ := hV.2.1.2.1; exact ⟨_, h9⟩
  obtain ⟨fssh, hcsh⟩ : ∃ z, w sh = some (.inr (1, z)) := by obtain ⟨b9, h9, -⟩ := hV.2.1.2.2; exact ⟨_, h9⟩
  refine lv_aload_n (pc := 0) hx hb dX1_state_0 rfl (lv_at hl 0 rfl) ?_
  refine lv_iload_n (pc := 1) hx hb dX1_state_1 rfl (lv_at hl 1 rfl) ?_
  refine gx_callV (pc := 2) S M G hl.1 [.int i] [] (metX1_at l D K w hst hD0) 1 (g_recv M G hdl (q := (RX1, TX1, 12)) rfl) q659 q656 q658 qs6 q18 (by decide) rfl ⟨Nat.le_of_ble_eq_true rfl, Nat.le_of_ble_eq_true rfl⟩ rfl (Nat.le_of_ble_eq_true rfl) dX1_state_2 ⟨Nat.le_of_ble_eq_true rfl, Nat.le_of_ble_eq_true rfl⟩ (fun E9 ce9 q9 H1 locs1 hpx G1 hce hcv hcl => by rw [hQ]; exact gx_thr hexc hlocks G1 hce hcv hcl (Nat.le_of_ble_eq_true rfl) (Nat.le_of_ble_eq_true rfl) (by obtain ⟨c1, hE⟩ := hpx; have e9 : dS_state X i = (1, 0, X) := by unfold dS_state; rw [if_neg c1]; rw [e9]; exact ⟨by show (1 : Nat) ≠ 0; decide, hE⟩)) (fun r w2 H locs hp G => ?_)
  refine W.widen (k := 1) (n := 6) (Nat.le_of_ble_eq_true rfl) (Nat.le_of_ble_eq_true rfl) ?_
  obtain ⟨c1, rfl, hw2⟩ := hp
  rw [hw2] at G
  obtain ⟨hi, hij⟩ := at_ix c1 (by omega)
  have hlo := (hV.2.2.2.1 _ hi).1
  have hblo := (hV.2.2.2.1 _ hi).2
  refine W.eq (g2 := F0 m 5 ls [.ref (dL X i.toNatClampNeg)]) rfl ?_
  refine g_getN (pc := 5) (v := .int (dF X i.toNatClampNeg 4)) S M G (C := RX4) (T := TX4) (N := 14) (ci := 3) in_X4 hlo rfl 4 (by decide) q532 rfl rfl dX1_state_5 ?_
  rw [hQ]
  refine gx_iret S G hr hlocks (hdg := dX1_state_8) ?_ ?_ ?_
  · exact Nat.le_of_ble_eq_true rfl
  · exact Nat.le_of_ble_eq_true rfl
  · have e9 : dS_state X i = (0, (dF X i.toNatClampNeg 4), X) := by
      unfold dS_state
      rw [if_pos c1]
    rw [e9]
    exact ⟨rfl, rfl, hV.W, hFD0⟩
def dS_buyerOf (X : DQ) (i : Int32) : Nat × Int32 × DQ := (if (¬ i < 0 ∧ i < (nI (dN X))) then (0, (dF X i.toNatClampNeg 5), X) else (1, 0, X))
abbrev rmX1_buyerOf : Room := ({ frames := 8, cells := 1, slots := 6, locals := 142 } : Room)
set_option maxHeartbeats 4000000 in
theorem metX1_buyerOf (l : Launch) (D : va_G) (K : Nat → Nat) (w : Gh) (hst : l.stackTraces = false) {dl ca oa : Nat} {X : DQ} (hD : DW D K w dl ca oa X) {i : Int32} : gXet l yX1_buyerOf (ws_ yX1_buyerOf cX1_buyerOf 2 (some .int)) rmX1_buyerOf D K [.ref dl, .int i] w (fun r' w' => (dS_buyerOf X i).1 = 0 ∧ r' = some (.int (dS_buyerOf X i).2.1) ∧ DW D K w' dl ca oa (dS_buyerOf X i).2.2 ∧ FD D ca oa w w') (fun E9 => (dS_buyerOf X i).1 ≠ 0 ∧ E9 = eN (dS_buyerOf X i).1) := by
  refine gXet.of (by decide) (Nat.le_of_ble_eq_true rfl) ?_
  intro p e s m args below meth c H locs ls S M hr hlocks hexc G hl
  have hx := S.1
  have hb := S.2.1
  have hown := S.2.2.2.1
  have hts := S.2.2.2.2
  have hl : lv_has ls 2 [(0, .ref dl), (1, .int i)] := hl
  obtain ⟨Q, hQ⟩ : ∃ Q, Q = gXE below D K w (fun r' w' => (dS_buyerOf X i).1 = 0 ∧ r' = some (.int (dS_buyerOf X i).2.1) ∧ DW D K w' dl ca oa (dS_buyerOf X i).2.2 ∧ FD D ca oa w w') (fun E9 => (dS_buyerOf X i).1 ≠ 0 ∧ E9 = eN (dS_buyerOf X i).1) args s rmX1_buyerOf.cells rmX1_buyerOf.slots := ⟨_, rfl⟩
  rw [← hQ]
  have hD0 := hD
  obtain ⟨sb, fb, sh, lq, mp, md, lmd, ks, es, hN, ky, vl, bv, ta, cap, hV⟩ := hD
  have hdl := hV.1.1
  have hbdl := hV.1.2
  have hDD := hV.2.2.2.2.2.2.2.2.2
  have hlqc := hV.2.2.1.1
  have hblq := hV.2.2.1.2.1
  have hn30 := hV.2.2.1.2.2.1
  have hca := hV.2.2.2.2.2.1.1
  have hbca := hV.2.2.2.2.2.1.2
  have hoa := hV.2.2.2.2.2.2.1.1
  have hboa := hV.2.2.2.2.2.2.1.2
  have hco := hV.2.2.2.2.2.2.2.1
  have hFD0 : FD D ca oa w w := FD.rf
  obtain ⟨fssb, hcsb⟩ : ∃ z, w sb = some (.inr (1, z)) := by obtain ⟨b9, h9, -⟩ := hV.2.1.1; exact ⟨_, h9⟩
  obtain ⟨fsfb, hcfb⟩ : ∃ z, w fb = some (.inr (1, z)) := by obtain ⟨b9, h9, -⟩ := hV.2.1.2.1; exact ⟨_, h9⟩
  obtain ⟨fssh, hcsh⟩ : ∃ z, w sh = some (.inr (1, z)) := by obtain ⟨b9, h9, -⟩ := hV.2.1.2.2; exact ⟨_, h9⟩
  refine lv_aload_n (pc := 0) hx hb dX1_buyerOf_0 rfl (lv_at hl 0 rfl) ?_
  refine lv_iload_n (pc := 1) hx hb dX1_buyerOf_1 rfl (lv_at hl 1 rfl) ?_
  refine gx_callV (pc := 2) S M G hl.1 [.int i] [] (metX1_at l D K w hst hD0) 1 (g_recv M G hdl (q := (RX1, TX1, 12)) rfl) q659 q656 q658 qs6 q18 (by decide) rfl ⟨Nat.le_of_ble_eq_true rfl, Nat.le_of_ble_eq_true rfl⟩ rfl (Nat.le_of_ble_eq_true rfl) dX1_buyerOf_2 ⟨Nat.le_of_ble_eq_true rfl, Nat.le_of_ble_eq_true rfl⟩ (fun E9 ce9 q9 H1 locs1 hpx G1 hce hcv hcl => by rw [hQ]; exact gx_thr hexc hlocks G1 hce hcv hcl (Nat.le_of_ble_eq_true rfl) (Nat.le_of_ble_eq_true rfl) (by obtain ⟨c1, hE⟩ := hpx; have e9 : dS_buyerOf X i = (1, 0, X) := by unfold dS_buyerOf; rw [if_neg c1]; rw [e9]; exact ⟨by show (1 : Nat) ≠ 0; decide, hE⟩)) (fun r w2 H locs hp G => ?_)
  refine W.widen (k := 1) (n := 6) (Nat.le_of_ble_eq_true rfl) (Nat.le_of_ble_eq_true rfl) ?_
  obtain ⟨c1, rfl, hw2⟩ := hp
  rw [hw2] at G
  obtain ⟨hi, hij⟩ := at_ix c1 (by omega)
  have hlo := (hV.2.2.2.1 _ hi).1
  have hblo := (hV.2.2.2.1 _ hi).2
  refine W.eq (g2 := F0 m 5 ls [.ref (dL X i.toNatClampNeg)]) rfl ?_
  refine g_getN (pc := 5) (v := .int (dF X i.toNatClampNeg 5)) S M G (C := RX4) (T := TX4) (N := 14) (ci := 3) in_X4 hlo rfl 5 (by decide) q534 rfl rfl dX1_buyerOf_5 ?_
  rw [hQ]
  refine gx_iret S G hr hlocks (hdg := dX1_buyerOf_8) ?_ ?_ ?_
  · exact Nat.le_of_ble_eq_true rfl
  · exact Nat.le_of_ble_eq_true rfl
  · have e9 : dS_buyerOf X i = (0, (dF X i.toNatClampNeg 5), X) := by
      unfold dS_buyerOf
      rw [if_pos c1]
    rw [e9]
    exact ⟨rfl, rfl, hV.W, hFD0⟩
def dS_price (X : DQ) (i : Int32) : Nat × Int32 × DQ := (if (¬ i < 0 ∧ i < (nI (dN X))) then (0, (dF X i.toNatClampNeg 6), X) else (1, 0, X))
abbrev rmX1_price : Room := ({ frames := 8, cells := 1, slots := 6, locals := 142 } : Room)
set_option maxHeartbeats 4000000 in
theorem metX1_price (l : Launch) (D : va_G) (K : Nat → Nat) (w : Gh) (hst : l.stackTraces = false) {dl ca oa : Nat} {X : DQ} (hD : DW D K w dl ca oa X) {i : Int32} : gXet l yX1_price (ws_ yX1_price cX1_price 2 (some .int)) rmX1_price D K [.ref dl, .int i] w (fun r' w' => (dS_price X i).1 = 0 ∧ r' = some (.int (dS_price X i).2.1) ∧ DW D K w' dl ca oa (dS_price X i).2.2 ∧ FD D ca oa w w') (fun E9 => (dS_price X i).1 ≠ 0 ∧ E9 = eN (dS_price X i).1) := by
  refine gXet.of (by decide) (Nat.le_of_ble_eq_true rfl) ?_
  intro p e s m args below meth c H locs ls S M hr hlocks hexc G hl
  have hx := S.1
  have hb := S.2.1
  have hown := S.2.2.2.1
  have hts := S.2.2.2.2
  have hl : lv_has ls 2 [(0, .ref dl), (1, .int i)] := hl
  obtain ⟨Q, hQ⟩ : ∃ Q, Q = gXE below D K w (fun r' w' => (dS_price X i).1 = 0 ∧ r' = some (.int (dS_price X i).2.1) ∧ DW D K w' dl ca oa (dS_price X i).2.2 ∧ FD D ca oa w w') (fun E9 => (dS_price X i).1 ≠ 0 ∧ E9 = eN (dS_price X i).1) args s rmX1_price.cells rmX1_price.slots := ⟨_, rfl⟩
  rw [← hQ]
  have hD0 := hD
  obtain ⟨sb, fb, sh, lq, mp, md, lmd, ks, es, hN, ky, vl, bv, ta, cap, hV⟩ := hD
  have hdl := hV.1.1
  have hbdl := hV.1.2
  have hDD := hV.2.2.2.2.2.2.2.2.2
  have hlqc := hV.2.2.1.1
  have hblq := hV.2.2.1.2.1
  have hn30 := hV.2.2.1.2.2.1
  have hca := hV.2.2.2.2.2.1.1
  have hbca := hV.2.2.2.2.2.1.2
  have hoa := hV.2.2.2.2.2.2.1.1
  have hboa := hV.2.2.2.2.2.2.1.2
  have hco := hV.2.2.2.2.2.2.2.1
  have hFD0 : FD D ca oa w w := FD.rf
  obtain ⟨fssb, hcsb⟩ : ∃ z, w sb = some (.inr (1, z)) := by obtain ⟨b9, h9, -⟩ := hV.2.1.1; exact ⟨_, h9⟩
  obtain ⟨fsfb, hcfb⟩ : ∃ z, w fb = some (.inr (1, z)) := by obtain ⟨b9, h9, -⟩ := hV.2.1.2.1; exact ⟨_, h9⟩
  obtain ⟨fssh, hcsh⟩ : ∃ z, w sh = some (.inr (1, z)) := by obtain ⟨b9, h9, -⟩ := hV.2.1.2.2; exact ⟨_, h9⟩
  refine lv_aload_n (pc := 0) hx hb dX1_price_0 rfl (lv_at hl 0 rfl) ?_
  refine lv_iload_n (pc := 1) hx hb dX1_price_1 rfl (lv_at hl 1 rfl) ?_
  refine gx_callV (pc := 2) S M G hl.1 [.int i] [] (metX1_at l D K w hst hD0) 1 (g_recv M G hdl (q := (RX1, TX1, 12)) rfl) q659 q656 q658 qs6 q18 (by decide) rfl ⟨Nat.le_of_ble_eq_true rfl, Nat.le_of_ble_eq_true rfl⟩ rfl (Nat.le_of_ble_eq_true rfl) dX1_price_2 ⟨Nat.le_of_ble_eq_true rfl, Nat.le_of_ble_eq_true rfl⟩ (fun E9 ce9 q9 H1 locs1 hpx G1 hce hcv hcl => by rw [hQ]; exact gx_thr hexc hlocks G1 hce hcv hcl (Nat.le_of_ble_eq_true rfl) (Nat.le_of_ble_eq_true rfl) (by obtain ⟨c1, hE⟩ := hpx; have e9 : dS_price X i = (1, 0, X) := by unfold dS_price; rw [if_neg c1]; rw [e9]; exact ⟨by show (1 : Nat) ≠ 0; decide, hE⟩)) (fun r w2 H locs hp G => ?_)
  refine W.widen (k := 1) (n := 6) (Nat.le_of_ble_eq_true rfl) (Nat.le_of_ble_eq_true rfl) ?_
  obtain ⟨c1, rfl, hw2⟩ := hp
  rw [hw2] at G
  obtain ⟨hi, hij⟩ := at_ix c1 (by omega)
  have hlo := (hV.2.2.2.1 _ hi).1
  have hblo := (hV.2.2.2.1 _ hi).2
  refine W.eq (g2 := F0 m 5 ls [.ref (dL X i.toNatClampNeg)]) rfl ?_
  refine g_getN (pc := 5) (v := .int (dF X i.toNatClampNeg 6)) S M G (C := RX4) (T := TX4) (N := 14) (ci := 3) in_X4 hlo rfl 6 (by decide) q536 rfl rfl dX1_price_5 ?_
  rw [hQ]
  refine gx_iret S G hr hlocks (hdg := dX1_price_8) ?_ ?_ ?_
  · exact Nat.le_of_ble_eq_true rfl
  · exact Nat.le_of_ble_eq_true rfl
  · have e9 : dS_price X i = (0, (dF X i.toNatClampNeg 6), X) := by
      unfold dS_price
      rw [if_pos c1]
    rw [e9]
    exact ⟨rfl, rfl, hV.W, hFD0⟩
def dS_bids (X : DQ) (i : Int32) : Nat × Int32 × DQ := (if (¬ i < 0 ∧ i < (nI (dN X))) then (0, (nI (bN i.toNatClampNeg (dB X))), X) else (1, 0, X))
abbrev rmX1_bids : Room := ({ frames := 8, cells := 4, slots := 16, locals := 168 } : Room)
set_option maxHeartbeats 4000000 in
theorem metX1_bids (l : Launch) (D : va_G) (K : Nat → Nat) (w : Gh) (hst : l.stackTraces = false) {dl ca oa : Nat} {X : DQ} (hD : DW D K w dl ca oa X) {i : Int32} : gXet l yX1_bids (ws_ yX1_bids cX1_bids 2 (some .int)) rmX1_bids D K [.ref dl, .int i] w (fun r' w' => (dS_bids X i).1 = 0 ∧ r' = some (.int (dS_bids X i).2.1) ∧ DW D K w' dl ca oa (dS_bids X i).2.2 ∧ FD D ca oa w w') (fun E9 => (dS_bids X i).1 ≠ 0 ∧ E9 = eN (dS_bids X i).1) := by
  refine gXet.of (by decide) (Nat.le_of_ble_eq_true rfl) ?_
  intro p e s m args below meth c H locs ls S M hr hlocks hexc G hl
  have hx := S.1
  have hb := S.2.1
  have hown := S.2.2.2.1
  have hts := S.2.2.2.2
  have hl : lv_has ls 2 [(0, .ref dl), (1, .int i)] := hl
  obtain ⟨Q, hQ⟩ : ∃ Q, Q = gXE below D K w (fun r' w' => (dS_bids X i).1 = 0 ∧ r' = some (.int (dS_bids X i).2.1) ∧ DW D K w' dl ca oa (dS_bids X i).2.2 ∧ FD D ca oa w w') (fun E9 => (dS_bids X i).1 ≠ 0 ∧ E9 = eN (dS_bids X i).1) args s rmX1_bids.cells rmX1_bids.slots := ⟨_, rfl⟩
  rw [← hQ]
  have hD0 := hD
  obtain ⟨sb, fb, sh, lq, mp, md, lmd, ks, es, hN, ky, vl, bv, ta, cap, hV⟩ := hD
  have hdl := hV.1.1
  have hbdl := hV.1.2
  have hDD := hV.2.2.2.2.2.2.2.2.2
  have hlqc := hV.2.2.1.1
  have hblq := hV.2.2.1.2.1
  have hn30 := hV.2.2.1.2.2.1
  have hca := hV.2.2.2.2.2.1.1
  have hbca := hV.2.2.2.2.2.1.2
  have hoa := hV.2.2.2.2.2.2.1.1
  have hboa := hV.2.2.2.2.2.2.1.2
  have hco := hV.2.2.2.2.2.2.2.1
  have hFD0 : FD D ca oa w w := FD.rf
  obtain ⟨fssb, hcsb⟩ : ∃ z, w sb = some (.inr (1, z)) := by obtain ⟨b9, h9, -⟩ := hV.2.1.1; exact ⟨_, h9⟩
  obtain ⟨fsfb, hcfb⟩ : ∃ z, w fb = some (.inr (1, z)) := by obtain ⟨b9, h9, -⟩ := hV.2.1.2.1; exact ⟨_, h9⟩
  obtain ⟨fssh, hcsh⟩ : ∃ z, w sh = some (.inr (1, z)) := by obtain ⟨b9, h9, -⟩ := hV.2.1.2.2; exact ⟨_, h9⟩
  refine lv_aload_n (pc := 0) hx hb dX1_bids_0 rfl (lv_at hl 0 rfl) ?_
  refine lv_iload_n (pc := 1) hx hb dX1_bids_1 rfl (lv_at hl 1 rfl) ?_
  refine gx_callV (pc := 2) S M G hl.1 [.int i] [] (metX1_at l D K w hst hD0) 1 (g_recv M G hdl (q := (RX1, TX1, 12)) rfl) q659 q656 q658 qs6 q18 (by decide) rfl ⟨Nat.le_of_ble_eq_true rfl, Nat.le_of_ble_eq_true rfl⟩ rfl (Nat.le_of_ble_eq_true rfl) dX1_bids_2 ⟨Nat.le_of_ble_eq_true rfl, Nat.le_of_ble_eq_true rfl⟩ (fun E9 ce9 q9 H1 locs1 hpx G1 hce hcv hcl => by rw [hQ]; exact gx_thr hexc hlocks G1 hce hcv hcl (Nat.le_of_ble_eq_true rfl) (Nat.le_of_ble_eq_true rfl) (by obtain ⟨c1, hE⟩ := hpx; have e9 : dS_bids X i = (1, 0, X) := by unfold dS_bids; rw [if_neg c1]; rw [e9]; exact ⟨by show (1 : Nat) ≠ 0; decide, hE⟩)) (fun r w2 H locs hp G => ?_)
  refine W.widen (k := 1) (n := 6) (Nat.le_of_ble_eq_true rfl) (Nat.le_of_ble_eq_true rfl) ?_
  obtain ⟨c1, rfl, hw2⟩ := hp
  rw [hw2] at G
  obtain ⟨hi, hij⟩ := at_ix c1 (by omega)
  have hlo := (hV.2.2.2.1 _ hi).1
  have hblo := (hV.2.2.2.1 _ hi).2
  refine W.eq (g2 := F0 m 5 ls [.ref (dL X i.toNatClampNeg)]) rfl ?_
  refine g_callV (pc := 5) S M G hl.1 [] [] (metX4_many l D K w hD0 hi) 0 (g_recv M G hlo (q := (RX4, TX4, 14)) rfl) q1122 q1132 q1120 q1121 q35 (by decide) rfl ⟨Nat.le_of_ble_eq_true rfl, Nat.le_of_ble_eq_true rfl⟩ rfl (Nat.le_of_ble_eq_true rfl) dX1_bids_5 ⟨Nat.le_of_ble_eq_true rfl, Nat.le_of_ble_eq_true rfl⟩ (fun r w7 H locs hp G => ?_)
  refine W.widen (k := 4) (n := 16) (Nat.le_of_ble_eq_true rfl) (Nat.le_of_ble_eq_true rfl) ?_
  obtain ⟨rfl, hD7, hF7⟩ := hp
  obtain ⟨sb7, fb7, sh7, lq7, mp7, md7, lmd7, ks7, es7, hN7, ky7, vl7, bv7, ta7, cap7, hV7⟩ := hD7
  have hFD7 := hFD0.tr hF7
  have hlo7 := (hV7.2.2.2.1 _ hi).1
  have hblo7 := (hV7.2.2.2.1 _ hi).2
  have hdl7 := hV7.1.1
  obtain ⟨fssb7, hcsb7⟩ : ∃ z, w7 sb7 = some (.inr (1, z)) := by obtain ⟨b9, h9, -⟩ := hV7.2.1.1; exact ⟨_, h9⟩
  obtain ⟨fsfb7, hcfb7⟩ : ∃ z, w7 fb7 = some (.inr (1, z)) := by obtain ⟨b9, h9, -⟩ := hV7.2.1.2.1; exact ⟨_, h9⟩
  obtain ⟨fssh7, hcsh7⟩ : ∃ z, w7 sh7 = some (.inr (1, z)) := by obtain ⟨b9, h9, -⟩ := hV7.2.1.2.2; exact ⟨_, h9⟩
  refine W.eq (g2 := F0 m 8 ls [.int (nI (bN i.toNatClampNeg (dB X)))]) rfl ?_
  rw [hQ]
  refine gx_iret S G hr hlocks (hdg := dX1_bids_8) ?_ ?_ ?_
  · exact Nat.le_of_ble_eq_true rfl
  · exact Nat.le_of_ble_eq_true rfl
  · have e9 : dS_bids X i = (0, (nI (bN i.toNatClampNeg (dB X))), X) := by
      unfold dS_bids
      rw [if_pos c1]
    rw [e9]
    exact ⟨rfl, rfl, hV7.W, hFD7⟩
def dS_share (X : DQ) (i : Int32) : Nat × Int32 × DQ := (if (¬ i < 0 ∧ i < (nI (dN X))) then (0, (dShare X i.toNatClampNeg), X) else (1, 0, X))
abbrev rmX1_share : Room := ({ frames := 8, cells := 1, slots := 6, locals := 142 } : Room)
set_option maxHeartbeats 4000000 in
theorem metX1_share (l : Launch) (D : va_G) (K : Nat → Nat) (w : Gh) (hst : l.stackTraces = false) {dl ca oa : Nat} {X : DQ} (hD : DW D K w dl ca oa X) {i : Int32} : gXet l yX1_share (ws_ yX1_share cX1_share 2 (some .int)) rmX1_share D K [.ref dl, .int i] w (fun r' w' => (dS_share X i).1 = 0 ∧ r' = some (.int (dS_share X i).2.1) ∧ DW D K w' dl ca oa (dS_share X i).2.2 ∧ FD D ca oa w w') (fun E9 => (dS_share X i).1 ≠ 0 ∧ E9 = eN (dS_share X i).1) := by
  refine gXet.of (by decide) (Nat.le_of_ble_eq_true rfl) ?_
  intro p e s m args below meth c H locs ls S M hr hlocks hexc G hl
  have hx := S.1
  have hb := S.2.1
  have hown := S.2.2.2.1
  have hts := S.2.2.2.2
  have hl : lv_has ls 2 [(0, .ref dl), (1, .int i)] := hl
  obtain ⟨Q, hQ⟩ : ∃ Q, Q = gXE below D K w (fun r' w' => (dS_share X i).1 = 0 ∧ r' = some (.int (dS_share X i).2.1) ∧ DW D K w' dl ca oa (dS_share X i).2.2 ∧ FD D ca oa w w') (fun E9 => (dS_share X i).1 ≠ 0 ∧ E9 = eN (dS_share X i).1) args s rmX1_share.cells rmX1_share.slots := ⟨_, rfl⟩
  rw [← hQ]
  have hD0 := hD
  obtain ⟨sb, fb, sh, lq, mp, md, lmd, ks, es, hN, ky, vl, bv, ta, cap, hV⟩ := hD
  have hdl := hV.1.1
  have hbdl := hV.1.2
  have hDD := hV.2.2.2.2.2.2.2.2.2
  have hlqc := hV.2.2.1.1
  have hblq := hV.2.2.1.2.1
  have hn30 := hV.2.2.1.2.2.1
  have hca := hV.2.2.2.2.2.1.1
  have hbca := hV.2.2.2.2.2.1.2
  have hoa := hV.2.2.2.2.2.2.1.1
  have hboa := hV.2.2.2.2.2.2.1.2
  have hco := hV.2.2.2.2.2.2.2.1
  have hFD0 : FD D ca oa w w := FD.rf
  obtain ⟨fssb, hcsb⟩ : ∃ z, w sb = some (.inr (1, z)) := by obtain ⟨b9, h9, -⟩ := hV.2.1.1; exact ⟨_, h9⟩
  obtain ⟨fsfb, hcfb⟩ : ∃ z, w fb = some (.inr (1, z)) := by obtain ⟨b9, h9, -⟩ := hV.2.1.2.1; exact ⟨_, h9⟩
  obtain ⟨fssh, hcsh⟩ : ∃ z, w sh = some (.inr (1, z)) := by obtain ⟨b9, h9, -⟩ := hV.2.1.2.2; exact ⟨_, h9⟩
  refine lv_aload_n (pc := 0) hx hb dX1_share_0 rfl (lv_at hl 0 rfl) ?_
  refine lv_iload_n (pc := 1) hx hb dX1_share_1 rfl (lv_at hl 1 rfl) ?_
  refine gx_callV (pc := 2) S M G hl.1 [.int i] [] (metX1_at l D K w hst hD0) 1 (g_recv M G hdl (q := (RX1, TX1, 12)) rfl) q659 q656 q658 qs6 q18 (by decide) rfl ⟨Nat.le_of_ble_eq_true rfl, Nat.le_of_ble_eq_true rfl⟩ rfl (Nat.le_of_ble_eq_true rfl) dX1_share_2 ⟨Nat.le_of_ble_eq_true rfl, Nat.le_of_ble_eq_true rfl⟩ (fun E9 ce9 q9 H1 locs1 hpx G1 hce hcv hcl => by rw [hQ]; exact gx_thr hexc hlocks G1 hce hcv hcl (Nat.le_of_ble_eq_true rfl) (Nat.le_of_ble_eq_true rfl) (by obtain ⟨c1, hE⟩ := hpx; have e9 : dS_share X i = (1, 0, X) := by unfold dS_share; rw [if_neg c1]; rw [e9]; exact ⟨by show (1 : Nat) ≠ 0; decide, hE⟩)) (fun r w2 H locs hp G => ?_)
  refine W.widen (k := 1) (n := 6) (Nat.le_of_ble_eq_true rfl) (Nat.le_of_ble_eq_true rfl) ?_
  obtain ⟨c1, rfl, hw2⟩ := hp
  rw [hw2] at G
  obtain ⟨hi, hij⟩ := at_ix c1 (by omega)
  have hlo := (hV.2.2.2.1 _ hi).1
  have hblo := (hV.2.2.2.1 _ hi).2
  refine W.eq (g2 := F0 m 5 ls [.ref (dL X i.toNatClampNeg)]) rfl ?_
  refine g_callV (pc := 5) S M G hl.1 [] [] (metX4_share l D K w hD0 hi) 0 (g_recv M G hlo (q := (RX4, TX4, 14)) rfl) q1234 q1231 q1232 q1233 q35 (by decide) rfl ⟨Nat.le_of_ble_eq_true rfl, Nat.le_of_ble_eq_true rfl⟩ rfl (Nat.le_of_ble_eq_true rfl) dX1_share_5 ⟨Nat.le_of_ble_eq_true rfl, Nat.le_of_ble_eq_true rfl⟩ (fun r w2 H locs hp G => ?_)
  obtain ⟨rfl, hw2⟩ := hp
  rw [hw2] at G
  refine W.eq (g2 := F0 m 8 ls [.int (dShare X i.toNatClampNeg)]) rfl ?_
  rw [hQ]
  refine gx_iret S G hr hlocks (hdg := dX1_share_8) ?_ ?_ ?_
  · exact Nat.le_of_ble_eq_true rfl
  · exact Nat.le_of_ble_eq_true rfl
  · have e9 : dS_share X i = (0, (dShare X i.toNatClampNeg), X) := by
      unfold dS_share
      rw [if_pos c1]
    rw [e9]
    exact ⟨rfl, rfl, hV.W, hFD0⟩
def dS_interest (X : DQ) (i : Int32) : Nat × Int32 × DQ := (if (¬ i < 0 ∧ i < (nI (dN X))) then (0, (dInt X i.toNatClampNeg), X) else (1, 0, X))
abbrev rmX1_interest : Room := ({ frames := 8, cells := 1, slots := 6, locals := 142 } : Room)
set_option maxHeartbeats 4000000 in
theorem metX1_interest (l : Launch) (D : va_G) (K : Nat → Nat) (w : Gh) (hst : l.stackTraces = false) {dl ca oa : Nat} {X : DQ} (hD : DW D K w dl ca oa X) {i : Int32} : gXet l yX1_interest (ws_ yX1_interest cX1_interest 2 (some .int)) rmX1_interest D K [.ref dl, .int i] w (fun r' w' => (dS_interest X i).1 = 0 ∧ r' = some (.int (dS_interest X i).2.1) ∧ DW D K w' dl ca oa (dS_interest X i).2.2 ∧ FD D ca oa w w') (fun E9 => (dS_interest X i).1 ≠ 0 ∧ E9 = eN (dS_interest X i).1) := by
  refine gXet.of (by decide) (Nat.le_of_ble_eq_true rfl) ?_
  intro p e s m args below meth c H locs ls S M hr hlocks hexc G hl
  have hx := S.1
  have hb := S.2.1
  have hown := S.2.2.2.1
  have hts := S.2.2.2.2
  have hl : lv_has ls 2 [(0, .ref dl), (1, .int i)] := hl
  obtain ⟨Q, hQ⟩ : ∃ Q, Q = gXE below D K w (fun r' w' => (dS_interest X i).1 = 0 ∧ r' = some (.int (dS_interest X i).2.1) ∧ DW D K w' dl ca oa (dS_interest X i).2.2 ∧ FD D ca oa w w') (fun E9 => (dS_interest X i).1 ≠ 0 ∧ E9 = eN (dS_interest X i).1) args s rmX1_interest.cells rmX1_interest.slots := ⟨_, rfl⟩
  rw [← hQ]
  have hD0 := hD
  obtain ⟨sb, fb, sh, lq, mp, md, lmd, ks, es, hN, ky, vl, bv, ta, cap, hV⟩ := hD
  have hdl := hV.1.1
  have hbdl := hV.1.2
  have hDD := hV.2.2.2.2.2.2.2.2.2
  have hlqc := hV.2.2.1.1
  have hblq := hV.2.2.1.2.1
  have hn30 := hV.2.2.1.2.2.1
  have hca := hV.2.2.2.2.2.1.1
  have hbca := hV.2.2.2.2.2.1.2
  have hoa := hV.2.2.2.2.2.2.1.1
  have hboa := hV.2.2.2.2.2.2.1.2
  have hco := hV.2.2.2.2.2.2.2.1
  have hFD0 : FD D ca oa w w := FD.rf
  obtain ⟨fssb, hcsb⟩ : ∃ z, w sb = some (.inr (1, z)) := by obtain ⟨b9, h9, -⟩ := hV.2.1.1; exact ⟨_, h9⟩
  obtain ⟨fsfb, hcfb⟩ : ∃ z, w fb = some (.inr (1, z)) := by obtain ⟨b9, h9, -⟩ := hV.2.1.2.1; exact ⟨_, h9⟩
  obtain ⟨fssh, hcsh⟩ : ∃ z, w sh = some (.inr (1, z)) := by obtain ⟨b9, h9, -⟩ := hV.2.1.2.2; exact ⟨_, h9⟩
  refine lv_aload_n (pc := 0) hx hb dX1_interest_0 rfl (lv_at hl 0 rfl) ?_
  refine lv_iload_n (pc := 1) hx hb dX1_interest_1 rfl (lv_at hl 1 rfl) ?_
  refine gx_callV (pc := 2) S M G hl.1 [.int i] [] (metX1_at l D K w hst hD0) 1 (g_recv M G hdl (q := (RX1, TX1, 12)) rfl) q659 q656 q658 qs6 q18 (by decide) rfl ⟨Nat.le_of_ble_eq_true rfl, Nat.le_of_ble_eq_true rfl⟩ rfl (Nat.le_of_ble_eq_true rfl) dX1_interest_2 ⟨Nat.le_of_ble_eq_true rfl, Nat.le_of_ble_eq_true rfl⟩ (fun E9 ce9 q9 H1 locs1 hpx G1 hce hcv hcl => by rw [hQ]; exact gx_thr hexc hlocks G1 hce hcv hcl (Nat.le_of_ble_eq_true rfl) (Nat.le_of_ble_eq_true rfl) (by obtain ⟨c1, hE⟩ := hpx; have e9 : dS_interest X i = (1, 0, X) := by unfold dS_interest; rw [if_neg c1]; rw [e9]; exact ⟨by show (1 : Nat) ≠ 0; decide, hE⟩)) (fun r w2 H locs hp G => ?_)
  refine W.widen (k := 1) (n := 6) (Nat.le_of_ble_eq_true rfl) (Nat.le_of_ble_eq_true rfl) ?_
  obtain ⟨c1, rfl, hw2⟩ := hp
  rw [hw2] at G
  obtain ⟨hi, hij⟩ := at_ix c1 (by omega)
  have hlo := (hV.2.2.2.1 _ hi).1
  have hblo := (hV.2.2.2.1 _ hi).2
  refine W.eq (g2 := F0 m 5 ls [.ref (dL X i.toNatClampNeg)]) rfl ?_
  refine g_callV (pc := 5) S M G hl.1 [] [] (metX4_interestNow l D K w hD0 hi) 0 (g_recv M G hlo (q := (RX4, TX4, 14)) rfl) q1229 q1226 q1227 q1228 q35 (by decide) rfl ⟨Nat.le_of_ble_eq_true rfl, Nat.le_of_ble_eq_true rfl⟩ rfl (Nat.le_of_ble_eq_true rfl) dX1_interest_5 ⟨Nat.le_of_ble_eq_true rfl, Nat.le_of_ble_eq_true rfl⟩ (fun r w2 H locs hp G => ?_)
  obtain ⟨rfl, hw2⟩ := hp
  rw [hw2] at G
  refine W.eq (g2 := F0 m 8 ls [.int (dInt X i.toNatClampNeg)]) rfl ?_
  rw [hQ]
  refine gx_iret S G hr hlocks (hdg := dX1_interest_8) ?_ ?_ ?_
  · exact Nat.le_of_ble_eq_true rfl
  · exact Nat.le_of_ble_eq_true rfl
  · have e9 : dS_interest X i = (0, (dInt X i.toNatClampNeg), X) := by
      unfold dS_interest
      rw [if_pos c1]
    rw [e9]
    exact ⟨rfl, rfl, hV.W, hFD0⟩
def dS_fee (X : DQ) (x : Int32) : Nat × Int32 × DQ := (if (bI x 0 1000000) = 0 then (2, 0, X) else (0, (bOf BDf x 0), X))
abbrev rmX1_fee : Room := ({ frames := 7, cells := 1, slots := 6, locals := 120 } : Room)
set_option maxHeartbeats 4000000 in
theorem metX1_fee (l : Launch) (D : va_G) (K : Nat → Nat) (w : Gh) (hst : l.stackTraces = false) {dl ca oa : Nat} {X : DQ} (hD : DW D K w dl ca oa X) {x : Int32} : gXet l yX1_fee (ws_ yX1_fee cX1_fee 2 (some .int)) rmX1_fee D K [.ref dl, .int x] w (fun r' w' => (dS_fee X x).1 = 0 ∧ r' = some (.int (dS_fee X x).2.1) ∧ DW D K w' dl ca oa (dS_fee X x).2.2 ∧ FD D ca oa w w') (fun E9 => (dS_fee X x).1 ≠ 0 ∧ E9 = eN (dS_fee X x).1) := by
  refine gXet.of (by decide) (Nat.le_of_ble_eq_true rfl) ?_
  intro p e s m args below meth c H locs ls S M hr hlocks hexc G hl
  have hx := S.1
  have hb := S.2.1
  have hown := S.2.2.2.1
  have hts := S.2.2.2.2
  have hl : lv_has ls 2 [(0, .ref dl), (1, .int x)] := hl
  obtain ⟨Q, hQ⟩ : ∃ Q, Q = gXE below D K w (fun r' w' => (dS_fee X x).1 = 0 ∧ r' = some (.int (dS_fee X x).2.1) ∧ DW D K w' dl ca oa (dS_fee X x).2.2 ∧ FD D ca oa w w') (fun E9 => (dS_fee X x).1 ≠ 0 ∧ E9 = eN (dS_fee X x).1) args s rmX1_fee.cells rmX1_fee.slots := ⟨_, rfl⟩
  rw [← hQ]
  have hD0 := hD
  obtain ⟨sb, fb, sh, lq, mp, md, lmd, ks, es, hN, ky, vl, bv, ta, cap, hV⟩ := hD
  have hdl := hV.1.1
  have hbdl := hV.1.2
  have hDD := hV.2.2.2.2.2.2.2.2.2
  have hlqc := hV.2.2.1.1
  have hblq := hV.2.2.1.2.1
  have hn30 := hV.2.2.1.2.2.1
  have hca := hV.2.2.2.2.2.1.1
  have hbca := hV.2.2.2.2.2.1.2
  have hoa := hV.2.2.2.2.2.2.1.1
  have hboa := hV.2.2.2.2.2.2.1.2
  have hco := hV.2.2.2.2.2.2.2.1
  have hFD0 : FD D ca oa w w := FD.rf
  obtain ⟨fssb, hcsb⟩ : ∃ z, w sb = some (.inr (1, z)) := by obtain ⟨b9, h9, -⟩ := hV.2.1.1; exact ⟨_, h9⟩
  obtain ⟨fsfb, hcfb⟩ : ∃ z, w fb = some (.inr (1, z)) := by obtain ⟨b9, h9, -⟩ := hV.2.1.2.1; exact ⟨_, h9⟩
  obtain ⟨fssh, hcsh⟩ : ∃ z, w sh = some (.inr (1, z)) := by obtain ⟨b9, h9, -⟩ := hV.2.1.2.2; exact ⟨_, h9⟩
  refine lv_iload_n (pc := 0) hx hb dX1_fee_0 rfl (lv_at hl 1 rfl) ?_
  refine lv_iconst (pc := 1) (v := 0) hx hb dX1_fee_1 (by decide) ?_
  refine lv_ldc (pc := 2) (v := 1000000) hx hb hown (hts _ q470) dX1_fee_2 ?_
  refine g_callS (pc := 4) S M G hl.1 [.int x, .int 0, .int 1000000] [] (metX1_isIn l D K w) 3 q473 q471 q472 q18 (by decide) rfl ⟨Nat.le_of_ble_eq_true rfl, Nat.le_of_ble_eq_true rfl⟩ rfl (Nat.le_of_ble_eq_true rfl) dX1_fee_4 ⟨Nat.le_of_ble_eq_true rfl, Nat.le_of_ble_eq_true rfl⟩ (fun r w2 H locs hp G => ?_)
  obtain ⟨rfl, hw2⟩ := hp
  rw [hw2] at G
  refine W.eq (g2 := F0 m 7 ls [.int (bI x 0 1000000)]) rfl ?_
  refine gx_callS (pc := 7) S M G hl.1 [.int (bI x 0 1000000)] [] (metX1_check l D K w hst) 1 q476 q474 q475 q18 (by decide) rfl ⟨Nat.le_of_ble_eq_true rfl, Nat.le_of_ble_eq_true rfl⟩ rfl (Nat.le_of_ble_eq_true rfl) dX1_fee_7 ⟨Nat.le_of_ble_eq_true rfl, Nat.le_of_ble_eq_true rfl⟩ (fun E9 ce9 q9 H1 locs1 hpx G1 hce hcv hcl => by rw [hQ]; exact gx_thr hexc hlocks G1 hce hcv hcl (Nat.le_of_ble_eq_true rfl) (Nat.le_of_ble_eq_true rfl) (by obtain ⟨c1, hE⟩ := hpx; have e9 : dS_fee X x = (2, 0, X) := by unfold dS_fee; rw [if_pos c1]; rw [e9]; exact ⟨by show (2 : Nat) ≠ 0; decide, hE⟩)) (fun r w2 H locs hp G => ?_)
  refine W.widen (k := 1) (n := 6) (Nat.le_of_ble_eq_true rfl) (Nat.le_of_ble_eq_true rfl) ?_
  obtain ⟨c1, rfl, hw2⟩ := hp
  rw [hw2] at G
  refine W.eq (g2 := F0 m 10 ls []) rfl ?_
  refine lv_aload_n (pc := 10) hx hb dX1_fee_10 rfl (lv_at hl 0 rfl) ?_
  refine g_get (pc := 11) (v := .ref fb) S M G (C := RX1) (T := TX1) (N := 12) (ci := 0) in_X1 hdl rfl 1 (by decide) q167 (Or.inl rfl) rfl dX1_fee_11 ?_
  refine lv_iload_n (pc := 14) hx hb dX1_fee_14 rfl (lv_at hl 1 rfl) ?_
  refine lv_iconst (pc := 15) (v := 0) hx hb dX1_fee_15 (by decide) ?_
  refine g_callV (pc := 16) S M G hl.1 [.int x, .int 0] [] (metX2_of3 l D K w (f := 0) hV.2.1.2.1) 2 (g_recv M G hcfb (q := (RX2, TX2, 3)) rfl) q1193 q1295 q1191 q1192 q19 (by decide) rfl ⟨Nat.le_of_ble_eq_true rfl, Nat.le_of_ble_eq_true rfl⟩ rfl (Nat.le_of_ble_eq_true rfl) dX1_fee_16 ⟨Nat.le_of_ble_eq_true rfl, Nat.le_of_ble_eq_true rfl⟩ (fun r w2 H locs hp G => ?_)
  obtain ⟨rfl, hw2⟩ := hp
  rw [hw2] at G
  refine W.eq (g2 := F0 m 19 ls [.int (bOf BDf x 0)]) rfl ?_
  rw [hQ]
  refine gx_iret S G hr hlocks (hdg := dX1_fee_19) ?_ ?_ ?_
  · exact Nat.le_of_ble_eq_true rfl
  · exact Nat.le_of_ble_eq_true rfl
  · have e9 : dS_fee X x = (0, (bOf BDf x 0), X) := by
      unfold dS_fee
      rw [if_neg c1]
    rw [e9]
    exact ⟨rfl, rfl, hV.W, hFD0⟩
def dS_callOf (X : DQ) (x : Int32) : Nat × Int32 × DQ := (if (bI x 0 1000000) = 0 then (2, 0, X) else (0, (dCall x), X))
abbrev rmX1_callOf : Room := ({ frames := 7, cells := 1, slots := 6, locals := 120 } : Room)
set_option maxHeartbeats 4000000 in
theorem metX1_callOf (l : Launch) (D : va_G) (K : Nat → Nat) (w : Gh) (hst : l.stackTraces = false) {dl ca oa : Nat} {X : DQ} (hD : DW D K w dl ca oa X) {x : Int32} : gXet l yX1_callOf (ws_ yX1_callOf cX1_callOf 2 (some .int)) rmX1_callOf D K [.ref dl, .int x] w (fun r' w' => (dS_callOf X x).1 = 0 ∧ r' = some (.int (dS_callOf X x).2.1) ∧ DW D K w' dl ca oa (dS_callOf X x).2.2 ∧ FD D ca oa w w') (fun E9 => (dS_callOf X x).1 ≠ 0 ∧ E9 = eN (dS_callOf X x).1) := by
  refine gXet.of (by decide) (Nat.le_of_ble_eq_true rfl) ?_
  intro p e s m args below meth c H locs ls S M hr hlocks hexc G hl
  have hx := S.1
  have hb := S.2.1
  have hown := S.2.2.2.1
  have hts := S.2.2.2.2
  have hl : lv_has ls 2 [(0, .ref dl), (1, .int x)] := hl
  obtain ⟨Q, hQ⟩ : ∃ Q, Q = gXE below D K w (fun r' w' => (dS_callOf X x).1 = 0 ∧ r' = some (.int (dS_callOf X x).2.1) ∧ DW D K w' dl ca oa (dS_callOf X x).2.2 ∧ FD D ca oa w w') (fun E9 => (dS_callOf X x).1 ≠ 0 ∧ E9 = eN (dS_callOf X x).1) args s rmX1_callOf.cells rmX1_callOf.slots := ⟨_, rfl⟩
  rw [← hQ]
  have hD0 := hD
  obtain ⟨sb, fb, sh, lq, mp, md, lmd, ks, es, hN, ky, vl, bv, ta, cap, hV⟩ := hD
  have hdl := hV.1.1
  have hbdl := hV.1.2
  have hDD := hV.2.2.2.2.2.2.2.2.2
  have hlqc := hV.2.2.1.1
  have hblq := hV.2.2.1.2.1
  have hn30 := hV.2.2.1.2.2.1
  have hca := hV.2.2.2.2.2.1.1
  have hbca := hV.2.2.2.2.2.1.2
  have hoa := hV.2.2.2.2.2.2.1.1
  have hboa := hV.2.2.2.2.2.2.1.2
  have hco := hV.2.2.2.2.2.2.2.1
  have hFD0 : FD D ca oa w w := FD.rf
  obtain ⟨fssb, hcsb⟩ : ∃ z, w sb = some (.inr (1, z)) := by obtain ⟨b9, h9, -⟩ := hV.2.1.1; exact ⟨_, h9⟩
  obtain ⟨fsfb, hcfb⟩ : ∃ z, w fb = some (.inr (1, z)) := by obtain ⟨b9, h9, -⟩ := hV.2.1.2.1; exact ⟨_, h9⟩
  obtain ⟨fssh, hcsh⟩ : ∃ z, w sh = some (.inr (1, z)) := by obtain ⟨b9, h9, -⟩ := hV.2.1.2.2; exact ⟨_, h9⟩
  refine lv_iload_n (pc := 0) hx hb dX1_callOf_0 rfl (lv_at hl 1 rfl) ?_
  refine lv_iconst (pc := 1) (v := 0) hx hb dX1_callOf_1 (by decide) ?_
  refine lv_ldc (pc := 2) (v := 1000000) hx hb hown (hts _ q470) dX1_callOf_2 ?_
  refine g_callS (pc := 4) S M G hl.1 [.int x, .int 0, .int 1000000] [] (metX1_isIn l D K w) 3 q473 q471 q472 q18 (by decide) rfl ⟨Nat.le_of_ble_eq_true rfl, Nat.le_of_ble_eq_true rfl⟩ rfl (Nat.le_of_ble_eq_true rfl) dX1_callOf_4 ⟨Nat.le_of_ble_eq_true rfl, Nat.le_of_ble_eq_true rfl⟩ (fun r w2 H locs hp G => ?_)
  obtain ⟨rfl, hw2⟩ := hp
  rw [hw2] at G
  refine W.eq (g2 := F0 m 7 ls [.int (bI x 0 1000000)]) rfl ?_
  refine gx_callS (pc := 7) S M G hl.1 [.int (bI x 0 1000000)] [] (metX1_check l D K w hst) 1 q476 q474 q475 q18 (by decide) rfl ⟨Nat.le_of_ble_eq_true rfl, Nat.le_of_ble_eq_true rfl⟩ rfl (Nat.le_of_ble_eq_true rfl) dX1_callOf_7 ⟨Nat.le_of_ble_eq_true rfl, Nat.le_of_ble_eq_true rfl⟩ (fun E9 ce9 q9 H1 locs1 hpx G1 hce hcv hcl => by rw [hQ]; exact gx_thr hexc hlocks G1 hce hcv hcl (Nat.le_of_ble_eq_true rfl) (Nat.le_of_ble_eq_true rfl) (by obtain ⟨c1, hE⟩ := hpx; have e9 : dS_callOf X x = (2, 0, X) := by unfold dS_callOf; rw [if_pos c1]; rw [e9]; exact ⟨by show (2 : Nat) ≠ 0; decide, hE⟩)) (fun r w2 H locs hp G => ?_)
  refine W.widen (k := 1) (n := 6) (Nat.le_of_ble_eq_true rfl) (Nat.le_of_ble_eq_true rfl) ?_
  obtain ⟨c1, rfl, hw2⟩ := hp
  rw [hw2] at G
  refine W.eq (g2 := F0 m 10 ls []) rfl ?_
  refine lv_aload_n (pc := 10) hx hb dX1_callOf_10 rfl (lv_at hl 0 rfl) ?_
  refine lv_iload_n (pc := 11) hx hb dX1_callOf_11 rfl (lv_at hl 1 rfl) ?_
  refine g_callV (pc := 12) S M G hl.1 [.int x] [] (metX1_called l D K w hD0) 1 (g_recv M G hdl (q := (RX1, TX1, 12)) rfl) q514 q511 q513 qs2 q18 (by decide) rfl ⟨Nat.le_of_ble_eq_true rfl, Nat.le_of_ble_eq_true rfl⟩ rfl (Nat.le_of_ble_eq_true rfl) dX1_callOf_12 ⟨Nat.le_of_ble_eq_true rfl, Nat.le_of_ble_eq_true rfl⟩ (fun r w2 H locs hp G => ?_)
  obtain ⟨rfl, hw2⟩ := hp
  rw [hw2] at G
  refine W.eq (g2 := F0 m 15 ls [.int (dCall x)]) rfl ?_
  rw [hQ]
  refine gx_iret S G hr hlocks (hdg := dX1_callOf_15) ?_ ?_ ?_
  · exact Nat.le_of_ble_eq_true rfl
  · exact Nat.le_of_ble_eq_true rfl
  · have e9 : dS_callOf X x = (0, (dCall x), X) := by
      unfold dS_callOf
      rw [if_neg c1]
    rw [e9]
    exact ⟨rfl, rfl, hV.W, hFD0⟩
def dS_owes (X : DQ) (i : Int32) : Nat × Int32 × DQ := (if (¬ i < 0 ∧ i < 10) then (0, ((dA X 1) i.toNatClampNeg), X) else (1, 0, X))
abbrev rmX1_owes : Room := ({ frames := 7, cells := 1, slots := 6, locals := 121 } : Room)
set_option maxHeartbeats 4000000 in
theorem metX1_owes (l : Launch) (D : va_G) (K : Nat → Nat) (w : Gh) (hst : l.stackTraces = false) {dl ca oa : Nat} {X : DQ} (hD : DW D K w dl ca oa X) {i : Int32} : gXet l yX1_owes (ws_ yX1_owes cX1_owes 2 (some .int)) rmX1_owes D K [.ref dl, .int i] w (fun r' w' => (dS_owes X i).1 = 0 ∧ r' = some (.int (dS_owes X i).2.1) ∧ DW D K w' dl ca oa (dS_owes X i).2.2 ∧ FD D ca oa w w') (fun E9 => (dS_owes X i).1 ≠ 0 ∧ E9 = eN (dS_owes X i).1) := by
  refine gXet.of (by decide) (Nat.le_of_ble_eq_true rfl) ?_
  intro p e s m args below meth c H locs ls S M hr hlocks hexc G hl
  have hx := S.1
  have hb := S.2.1
  have hown := S.2.2.2.1
  have hts := S.2.2.2.2
  have hl : lv_has ls 2 [(0, .ref dl), (1, .int i)] := hl
  obtain ⟨Q, hQ⟩ : ∃ Q, Q = gXE below D K w (fun r' w' => (dS_owes X i).1 = 0 ∧ r' = some (.int (dS_owes X i).2.1) ∧ DW D K w' dl ca oa (dS_owes X i).2.2 ∧ FD D ca oa w w') (fun E9 => (dS_owes X i).1 ≠ 0 ∧ E9 = eN (dS_owes X i).1) args s rmX1_owes.cells rmX1_owes.slots := ⟨_, rfl⟩
  rw [← hQ]
  have hD0 := hD
  obtain ⟨sb, fb, sh, lq, mp, md, lmd, ks, es, hN, ky, vl, bv, ta, cap, hV⟩ := hD
  have hdl := hV.1.1
  have hbdl := hV.1.2
  have hDD := hV.2.2.2.2.2.2.2.2.2
  have hlqc := hV.2.2.1.1
  have hblq := hV.2.2.1.2.1
  have hn30 := hV.2.2.1.2.2.1
  have hca := hV.2.2.2.2.2.1.1
  have hbca := hV.2.2.2.2.2.1.2
  have hoa := hV.2.2.2.2.2.2.1.1
  have hboa := hV.2.2.2.2.2.2.1.2
  have hco := hV.2.2.2.2.2.2.2.1
  have hFD0 : FD D ca oa w w := FD.rf
  obtain ⟨fssb, hcsb⟩ : ∃ z, w sb = some (.inr (1, z)) := by obtain ⟨b9, h9, -⟩ := hV.2.1.1; exact ⟨_, h9⟩
  obtain ⟨fsfb, hcfb⟩ : ∃ z, w fb = some (.inr (1, z)) := by obtain ⟨b9, h9, -⟩ := hV.2.1.2.1; exact ⟨_, h9⟩
  obtain ⟨fssh, hcsh⟩ : ∃ z, w sh = some (.inr (1, z)) := by obtain ⟨b9, h9, -⟩ := hV.2.1.2.2; exact ⟨_, h9⟩
  refine lv_iload_n (pc := 0) hx hb dX1_owes_0 rfl (lv_at hl 1 rfl) ?_
  refine lv_bipush (pc := 1) (v := 10) hx hb dX1_owes_1 (by decide) ?_
  refine gx_callS (pc := 3) S M G hl.1 [.int i, .int 10] [] (metX1_inRow l D K w hst) 2 q454 q452 q453 q18 (by decide) rfl ⟨Nat.le_of_ble_eq_true rfl, Nat.le_of_ble_eq_true rfl⟩ rfl (Nat.le_of_ble_eq_true rfl) dX1_owes_3 ⟨Nat.le_of_ble_eq_true rfl, Nat.le_of_ble_eq_true rfl⟩ (fun E9 ce9 q9 H1 locs1 hpx G1 hce hcv hcl => by rw [hQ]; exact gx_thr hexc hlocks G1 hce hcv hcl (Nat.le_of_ble_eq_true rfl) (Nat.le_of_ble_eq_true rfl) (by obtain ⟨c1, hE⟩ := hpx; have e9 : dS_owes X i = (1, 0, X) := by unfold dS_owes; rw [if_neg c1]; rw [e9]; exact ⟨by show (1 : Nat) ≠ 0; decide, hE⟩)) (fun r w2 H locs hp G => ?_)
  refine W.widen (k := 1) (n := 6) (Nat.le_of_ble_eq_true rfl) (Nat.le_of_ble_eq_true rfl) ?_
  obtain ⟨c1, rfl, hw2⟩ := hp
  rw [hw2] at G
  refine W.eq (g2 := F0 m 6 ls []) rfl ?_
  refine lv_aload_n (pc := 6) hx hb dX1_owes_6 rfl (lv_at hl 0 rfl) ?_
  refine g_get (pc := 7) (v := .ref oa) S M G (C := RX1) (T := TX1) (N := 12) (ci := 0) in_X1 hdl rfl 6 (by decide) q175 (Or.inl rfl) rfl dX1_owes_7 ?_
  refine lv_iload_n (pc := 10) hx hb dX1_owes_10 rfl (lv_at hl 1 rfl) ?_
  refine g_iald (pc := 11) S M G hoa (at_in (n := 10) c1 (by decide)) dX1_owes_11 ?_
  rw [hQ]
  refine gx_iret S G hr hlocks (hdg := dX1_owes_12) ?_ ?_ ?_
  · exact Nat.le_of_ble_eq_true rfl
  · exact Nat.le_of_ble_eq_true rfl
  · have e9 : dS_owes X i = (0, ((dA X 1) i.toNatClampNeg), X) := by
      unfold dS_owes
      rw [if_pos c1]
    rw [e9]
    exact ⟨rfl, rfl, hV.W, hFD0⟩
def dS_rate (X : DQ) (x : Int32) : Nat × Int32 × DQ := (if (bI x 0 100) = 0 then (2, 0, X) else (0, (dC X 0), (sC X 0 x)))
abbrev rmX1_rate : Room := ({ frames := 7, cells := 1, slots := 6, locals := 120 } : Room)
set_option maxHeartbeats 4000000 in
theorem metX1_rate (l : Launch) (D : va_G) (K : Nat → Nat) (w : Gh) (hst : l.stackTraces = false) {dl ca oa : Nat} {X : DQ} (hD : DW D K w dl ca oa X) {x : Int32} : gXet l yX1_rate (ws_ yX1_rate cX1_rate 3 (some .int)) rmX1_rate D K [.ref dl, .int x] w (fun r' w' => (dS_rate X x).1 = 0 ∧ r' = some (.int (dS_rate X x).2.1) ∧ DW D K w' dl ca oa (dS_rate X x).2.2 ∧ FD D ca oa w w') (fun E9 => (dS_rate X x).1 ≠ 0 ∧ E9 = eN (dS_rate X x).1) := by
  refine gXet.of (by decide) (Nat.le_of_ble_eq_true rfl) ?_
  intro p e s m args below meth c H locs ls S M hr hlocks hexc G hl
  have hx := S.1
  have hb := S.2.1
  have hown := S.2.2.2.1
  have hts := S.2.2.2.2
  have hl : lv_has ls 3 [(0, .ref dl), (1, .int x)] := hl
  obtain ⟨Q, hQ⟩ : ∃ Q, Q = gXE below D K w (fun r' w' => (dS_rate X x).1 = 0 ∧ r' = some (.int (dS_rate X x).2.1) ∧ DW D K w' dl ca oa (dS_rate X x).2.2 ∧ FD D ca oa w w') (fun E9 => (dS_rate X x).1 ≠ 0 ∧ E9 = eN (dS_rate X x).1) args s rmX1_rate.cells rmX1_rate.slots := ⟨_, rfl⟩
  rw [← hQ]
  have hD0 := hD
  obtain ⟨sb, fb, sh, lq, mp, md, lmd, ks, es, hN, ky, vl, bv, ta, cap, hV⟩ := hD
  have hdl := hV.1.1
  have hbdl := hV.1.2
  have hDD := hV.2.2.2.2.2.2.2.2.2
  have hlqc := hV.2.2.1.1
  have hblq := hV.2.2.1.2.1
  have hn30 := hV.2.2.1.2.2.1
  have hca := hV.2.2.2.2.2.1.1
  have hbca := hV.2.2.2.2.2.1.2
  have hoa := hV.2.2.2.2.2.2.1.1
  have hboa := hV.2.2.2.2.2.2.1.2
  have hco := hV.2.2.2.2.2.2.2.1
  have hFD0 : FD D ca oa w w := FD.rf
  obtain ⟨fssb, hcsb⟩ : ∃ z, w sb = some (.inr (1, z)) := by obtain ⟨b9, h9, -⟩ := hV.2.1.1; exact ⟨_, h9⟩
  obtain ⟨fsfb, hcfb⟩ : ∃ z, w fb = some (.inr (1, z)) := by obtain ⟨b9, h9, -⟩ := hV.2.1.2.1; exact ⟨_, h9⟩
  obtain ⟨fssh, hcsh⟩ : ∃ z, w sh = some (.inr (1, z)) := by obtain ⟨b9, h9, -⟩ := hV.2.1.2.2; exact ⟨_, h9⟩
  refine lv_iload_n (pc := 0) hx hb dX1_rate_0 rfl (lv_at hl 1 rfl) ?_
  refine lv_iconst (pc := 1) (v := 0) hx hb dX1_rate_1 (by decide) ?_
  refine lv_bipush (pc := 2) (v := 100) hx hb dX1_rate_2 (by decide) ?_
  refine g_callS (pc := 4) S M G hl.1 [.int x, .int 0, .int 100] [] (metX1_isIn l D K w) 3 q473 q471 q472 q18 (by decide) rfl ⟨Nat.le_of_ble_eq_true rfl, Nat.le_of_ble_eq_true rfl⟩ rfl (Nat.le_of_ble_eq_true rfl) dX1_rate_4 ⟨Nat.le_of_ble_eq_true rfl, Nat.le_of_ble_eq_true rfl⟩ (fun r w2 H locs hp G => ?_)
  obtain ⟨rfl, hw2⟩ := hp
  rw [hw2] at G
  refine W.eq (g2 := F0 m 7 ls [.int (bI x 0 100)]) rfl ?_
  refine gx_callS (pc := 7) S M G hl.1 [.int (bI x 0 100)] [] (metX1_check l D K w hst) 1 q476 q474 q475 q18 (by decide) rfl ⟨Nat.le_of_ble_eq_true rfl, Nat.le_of_ble_eq_true rfl⟩ rfl (Nat.le_of_ble_eq_true rfl) dX1_rate_7 ⟨Nat.le_of_ble_eq_true rfl, Nat.le_of_ble_eq_true rfl⟩ (fun E9 ce9 q9 H1 locs1 hpx G1 hce hcv hcl => by rw [hQ]; exact gx_thr hexc hlocks G1 hce hcv hcl (Nat.le_of_ble_eq_true rfl) (Nat.le_of_ble_eq_true rfl) (by obtain ⟨c1, hE⟩ := hpx; have e9 : dS_rate X x = (2, 0, X) := by unfold dS_rate; rw [if_pos c1]; rw [e9]; exact ⟨by show (2 : Nat) ≠ 0; decide, hE⟩)) (fun r w2 H locs hp G => ?_)
  refine W.widen (k := 1) (n := 6) (Nat.le_of_ble_eq_true rfl) (Nat.le_of_ble_eq_true rfl) ?_
  obtain ⟨c1, rfl, hw2⟩ := hp
  rw [hw2] at G
  refine W.eq (g2 := F0 m 10 ls []) rfl ?_
  refine lv_aload_n (pc := 10) hx hb dX1_rate_10 rfl (lv_at hl 0 rfl) ?_
  refine g_get (pc := 11) (v := .int (dC X 0)) S M G (C := RX1) (T := TX1) (N := 12) (ci := 0) in_X1 hdl rfl 7 (by decide) q176 (Or.inl rfl) rfl dX1_rate_11 ?_
  refine lv_istore_n (pc := 14) (lv' := [(2, .int (dC X 0)), (0, .ref dl), (1, .int x)]) hx hb dX1_rate_14 rfl hl (by decide) rfl (fun ls hl => ?_)
  refine lv_aload_n (pc := 15) hx hb dX1_rate_15 rfl (lv_at hl 1 rfl) ?_
  refine lv_iload_n (pc := 16) hx hb dX1_rate_16 rfl (lv_at hl 2 rfl) ?_
  refine g_put (pc := 17) (v := .int x) S M G (C := RX1) (T := TX1) (N := 12) (ci := 0) in_X1 tyX1 tyX1_ok nmX1 hdl hbdl rfl 7 (by decide) q176 (Or.inl rfl) rfl rfl rfl (Nat.le_of_ble_eq_true rfl) dX1_rate_17 (fun H locs G => ?_)
  obtain ⟨w1_, hw1_⟩ : ∃ z9, z9 = gu w dl (.inr (0, [.ref sb, .ref fb, .ref sh, .ref lq, .ref mp, .ref ca, .ref oa, .int x, .int (dC X 1), .long (dM X 0), .long (dM X 1), .long (dM X 2)])) := ⟨_, rfl⟩
  replace G : gS D K w1_ s H locs := by rw [hw1_]; exact G
  have c1_lq : w1_ lq = some (.inr (6, [.int lmd, .ref ta, .int (nI (dN X))])) := by rw [hw1_, gu_n (gne_c hlqc hdl (by decide))]; exact hlqc
  have c1_ca : w1_ ca = some (.inl (D.1 100, 6, .inl (dA X 0))) := by rw [hw1_, gu_n (gne_ao hca hdl)]; exact hca
  have c1_oa : w1_ oa = some (.inl (D.1 100, 10, .inl (dA X 1))) := by rw [hw1_, gu_n (gne_ao hoa hdl)]; exact hoa
  have c1_sb : w1_ sb = some (.inr (1, fssb)) := by rw [hw1_, gu_n (gne_c hcsb hdl (by decide))]; exact hcsb
  have c1_fb : w1_ fb = some (.inr (1, fsfb)) := by rw [hw1_, gu_n (gne_c hcfb hdl (by decide))]; exact hcfb
  have c1_sh : w1_ sh = some (.inr (1, fssh)) := by rw [hw1_, gu_n (gne_c hcsh hdl (by decide))]; exact hcsh
  have c1_dl : w1_ dl = some (.inr (0, [.ref sb, .ref fb, .ref sh, .ref lq, .ref mp, .ref ca, .ref oa, .int x, .int (dC X 1), .long (dM X 0), .long (dM X 1), .long (dM X 2)])) := by rw [hw1_]; exact gu_s
  have hVw1_ : DV D K w1_ dl ca oa (sC X 0 x) sb fb sh lq mp md lmd ks es hN ky vl bv ta cap := by rw [hw1_]; exact hV.putD (X' := (sC X 0 x)) rfl ⟨rfl, rfl, rfl, rfl, rfl⟩
  have hFw1_ : FD D ca oa w w1_ := hFD0.tr (by rw [hw1_]; exact FD.up hdl (by decide))
  refine lv_iload_n (pc := 20) hx hb dX1_rate_20 rfl (lv_at hl 0 rfl) ?_
  rw [hQ]
  refine gx_iret S G hr hlocks (hdg := dX1_rate_21) ?_ ?_ ?_
  · exact Nat.le_of_ble_eq_true rfl
  · exact Nat.le_of_ble_eq_true rfl
  · have e9 : dS_rate X x = (0, (dC X 0), (sC X 0 x)) := by
      unfold dS_rate
      rw [if_neg c1]
    rw [e9]
    exact ⟨rfl, rfl, hVw1_.W, hFw1_⟩
def dS_days (X : DQ) (x : Int32) : Nat × Int32 × DQ := (if (bI x 1 200) = 0 then (2, 0, X) else (if 7300 < ((dC X 1) + x) then (3, 0, X) else (0, ((dC X 1) + x), (sC X 1 ((dC X 1) + x)))))
abbrev rmX1_days : Room := ({ frames := 7, cells := 2, slots := 12, locals := 120 } : Room)
set_option maxHeartbeats 4000000 in
theorem metX1_days (l : Launch) (D : va_G) (K : Nat → Nat) (w : Gh) (hst : l.stackTraces = false) {dl ca oa : Nat} {X : DQ} (hD : DW D K w dl ca oa X) {x : Int32} : gXet l yX1_days (ws_ yX1_days cX1_days 2 (some .int)) rmX1_days D K [.ref dl, .int x] w (fun r' w' => (dS_days X x).1 = 0 ∧ r' = some (.int (dS_days X x).2.1) ∧ DW D K w' dl ca oa (dS_days X x).2.2 ∧ FD D ca oa w w') (fun E9 => (dS_days X x).1 ≠ 0 ∧ E9 = eN (dS_days X x).1) := by
  refine gXet.of (by decide) (Nat.le_of_ble_eq_true rfl) ?_
  intro p e s m args below meth c H locs ls S M hr hlocks hexc G hl
  have hx := S.1
  have hb := S.2.1
  have hown := S.2.2.2.1
  have hts := S.2.2.2.2
  have hl : lv_has ls 2 [(0, .ref dl), (1, .int x)] := hl
  obtain ⟨Q, hQ⟩ : ∃ Q, Q = gXE below D K w (fun r' w' => (dS_days X x).1 = 0 ∧ r' = some (.int (dS_days X x).2.1) ∧ DW D K w' dl ca oa (dS_days X x).2.2 ∧ FD D ca oa w w') (fun E9 => (dS_days X x).1 ≠ 0 ∧ E9 = eN (dS_days X x).1) args s rmX1_days.cells rmX1_days.slots := ⟨_, rfl⟩
  rw [← hQ]
  have hD0 := hD
  obtain ⟨sb, fb, sh, lq, mp, md, lmd, ks, es, hN, ky, vl, bv, ta, cap, hV⟩ := hD
  have hdl := hV.1.1
  have hbdl := hV.1.2
  have hDD := hV.2.2.2.2.2.2.2.2.2
  have hlqc := hV.2.2.1.1
  have hblq := hV.2.2.1.2.1
  have hn30 := hV.2.2.1.2.2.1
  have hca := hV.2.2.2.2.2.1.1
  have hbca := hV.2.2.2.2.2.1.2
  have hoa := hV.2.2.2.2.2.2.1.1
  have hboa := hV.2.2.2.2.2.2.1.2
  have hco := hV.2.2.2.2.2.2.2.1
  have hFD0 : FD D ca oa w w := FD.rf
  obtain ⟨fssb, hcsb⟩ : ∃ z, w sb = some (.inr (1, z)) := by obtain ⟨b9, h9, -⟩ := hV.2.1.1; exact ⟨_, h9⟩
  obtain ⟨fsfb, hcfb⟩ : ∃ z, w fb = some (.inr (1, z)) := by obtain ⟨b9, h9, -⟩ := hV.2.1.2.1; exact ⟨_, h9⟩
  obtain ⟨fssh, hcsh⟩ : ∃ z, w sh = some (.inr (1, z)) := by obtain ⟨b9, h9, -⟩ := hV.2.1.2.2; exact ⟨_, h9⟩
  refine lv_iload_n (pc := 0) hx hb dX1_days_0 rfl (lv_at hl 1 rfl) ?_
  refine lv_iconst (pc := 1) (v := 1) hx hb dX1_days_1 (by decide) ?_
  refine lv_sipush (pc := 2) (v := 200) hx hb dX1_days_2 (by decide) ?_
  refine g_callS (pc := 5) S M G hl.1 [.int x, .int 1, .int 200] [] (metX1_isIn l D K w) 3 q473 q471 q472 q18 (by decide) rfl ⟨Nat.le_of_ble_eq_true rfl, Nat.le_of_ble_eq_true rfl⟩ rfl (Nat.le_of_ble_eq_true rfl) dX1_days_5 ⟨Nat.le_of_ble_eq_true rfl, Nat.le_of_ble_eq_true rfl⟩ (fun r w2 H locs hp G => ?_)
  obtain ⟨rfl, hw2⟩ := hp
  rw [hw2] at G
  refine W.eq (g2 := F0 m 8 ls [.int (bI x 1 200)]) rfl ?_
  refine gx_callS (pc := 8) S M G hl.1 [.int (bI x 1 200)] [] (metX1_check l D K w hst) 1 q476 q474 q475 q18 (by decide) rfl ⟨Nat.le_of_ble_eq_true rfl, Nat.le_of_ble_eq_true rfl⟩ rfl (Nat.le_of_ble_eq_true rfl) dX1_days_8 ⟨Nat.le_of_ble_eq_true rfl, Nat.le_of_ble_eq_true rfl⟩ (fun E9 ce9 q9 H1 locs1 hpx G1 hce hcv hcl => by rw [hQ]; exact gx_thr hexc hlocks G1 hce hcv hcl (Nat.le_of_ble_eq_true rfl) (Nat.le_of_ble_eq_true rfl) (by obtain ⟨c1, hE⟩ := hpx; have e9 : dS_days X x = (2, 0, X) := by unfold dS_days; rw [if_pos c1]; rw [e9]; exact ⟨by show (2 : Nat) ≠ 0; decide, hE⟩)) (fun r w2 H locs hp G => ?_)
  refine W.widen (k := 1) (n := 6) (Nat.le_of_ble_eq_true rfl) (Nat.le_of_ble_eq_true rfl) ?_
  obtain ⟨c1, rfl, hw2⟩ := hp
  rw [hw2] at G
  refine W.eq (g2 := F0 m 11 ls []) rfl ?_
  refine lv_aload_n (pc := 11) hx hb dX1_days_11 rfl (lv_at hl 0 rfl) ?_
  refine g_get (pc := 12) (v := .int (dC X 1)) S M G (C := RX1) (T := TX1) (N := 12) (ci := 0) in_X1 hdl rfl 8 (by decide) q179 (Or.inl rfl) rfl dX1_days_12 ?_
  refine lv_iload_n (pc := 15) hx hb dX1_days_15 rfl (lv_at hl 1 rfl) ?_
  refine lv_iadd (pc := 16) hx hb dX1_days_16 ?_
  refine lv_sipush (pc := 17) (v := 7300) hx hb dX1_days_17 (by decide) ?_
  refine lv_icmp_gt (pc := 20) (tgt := 27) hx hb dX1_days_20 (by decide) (fun c2 => ?_) (fun c2 => ?_)
  · refine lv_iconst (pc := 27) (v := 0) hx hb dX1_days_27 (by decide) ?_
    exact gx_callS (pc := 28) S M G hl.1 [.int 0] [] (metX1_possible l D K w hst) 1 q494 q492 q493 q18 (by decide) rfl ⟨Nat.le_of_ble_eq_true rfl, Nat.le_of_ble_eq_true rfl⟩ rfl (Nat.le_of_ble_eq_true rfl) dX1_days_28 ⟨Nat.le_of_ble_eq_true rfl, Nat.le_of_ble_eq_true rfl⟩ (fun E9 ce9 q9 H1 locs1 hpx G1 hce hcv hcl => by rw [hQ]; exact gx_thr hexc hlocks G1 hce hcv hcl (Nat.le_of_ble_eq_true rfl) (Nat.le_of_ble_eq_true rfl) (by obtain ⟨c3, hE⟩ := hpx; have e9 : dS_days X x = (3, 0, X) := by unfold dS_days; rw [if_neg c1, if_pos c2]; rw [e9]; exact ⟨by show (3 : Nat) ≠ 0; decide, hE⟩)) (fun r w2 H locs hp G => absurd rfl hp.1)
  · refine lv_iconst (pc := 23) (v := 1) hx hb dX1_days_23 (by decide) ?_
    refine lv_goto (pc := 24) (tgt := 28) hx hb dX1_days_24 (by decide) ?_
    refine gx_callS (pc := 28) S M G hl.1 [.int 1] [] (metX1_possible l D K w hst) 1 q494 q492 q493 q18 (by decide) rfl ⟨Nat.le_of_ble_eq_true rfl, Nat.le_of_ble_eq_true rfl⟩ rfl (Nat.le_of_ble_eq_true rfl) dX1_days_28 ⟨Nat.le_of_ble_eq_true rfl, Nat.le_of_ble_eq_true rfl⟩ (fun E9 ce9 q9 H1 locs1 hpx G1 hce hcv hcl => by rw [hQ]; exact gx_thr hexc hlocks G1 hce hcv hcl (Nat.le_of_ble_eq_true rfl) (Nat.le_of_ble_eq_true rfl) (absurd hpx.1 (by decide))) (fun r w2 H locs hp G => ?_)
    refine W.widen (k := 2) (n := 12) (Nat.le_of_ble_eq_true rfl) (Nat.le_of_ble_eq_true rfl) ?_
    obtain ⟨_, rfl, hw2⟩ := hp
    rw [hw2] at G
    refine W.eq (g2 := F0 m 31 ls []) rfl ?_
    refine lv_aload_n (pc := 31) hx hb dX1_days_31 rfl (lv_at hl 0 rfl) ?_
    refine lv_dup (pc := 32) hx hb dX1_days_32 rfl ?_
    refine g_get (pc := 33) (v := .int (dC X 1)) S M G (C := RX1) (T := TX1) (N := 12) (ci := 0) in_X1 hdl rfl 8 (by decide) q179 (Or.inl rfl) rfl dX1_days_33 ?_
    refine lv_iload_n (pc := 36) hx hb dX1_days_36 rfl (lv_at hl 1 rfl) ?_
    refine lv_iadd (pc := 37) hx hb dX1_days_37 ?_
    refine g_put (pc := 38) (v := .int ((dC X 1) + x)) S M G (C := RX1) (T := TX1) (N := 12) (ci := 0) in_X1 tyX1 tyX1_ok nmX1 hdl hbdl rfl 8 (by decide) q179 (Or.inl rfl) rfl rfl rfl (Nat.le_of_ble_eq_true rfl) dX1_days_38 (fun H locs G => ?_)
    obtain ⟨w1_, hw1_⟩ : ∃ z9, z9 = gu w dl (.inr (0, [.ref sb, .ref fb, .ref sh, .ref lq, .ref mp, .ref ca, .ref oa, .int (dC X 0), .int ((dC X 1) + x), .long (dM X 0), .long (dM X 1), .long (dM X 2)])) := ⟨_, rfl⟩
    replace G : gS D K w1_ s H locs := by rw [hw1_]; exact G
    have c1_lq : w1_ lq = some (.inr (6, [.int lmd, .ref ta, .int (nI (dN X))])) := by rw [hw1_, gu_n (gne_c hlqc hdl (by decide))]; exact hlqc
    have c1_ca : w1_ ca = some (.inl (D.1 100, 6, .inl (dA X 0))) := by rw [hw1_, gu_n (gne_ao hca hdl)]; exact hca
    have c1_oa : w1_ oa = some (.inl (D.1 100, 10, .inl (dA X 1))) := by rw [hw1_, gu_n (gne_ao hoa hdl)]; exact hoa
    have c1_sb : w1_ sb = some (.inr (1, fssb)) := by rw [hw1_, gu_n (gne_c hcsb hdl (by decide))]; exact hcsb
    have c1_fb : w1_ fb = some (.inr (1, fsfb)) := by rw [hw1_, gu_n (gne_c hcfb hdl (by decide))]; exact hcfb
    have c1_sh : w1_ sh = some (.inr (1, fssh)) := by rw [hw1_, gu_n (gne_c hcsh hdl (by decide))]; exact hcsh
    have c1_dl : w1_ dl = some (.inr (0, [.ref sb, .ref fb, .ref sh, .ref lq, .ref mp, .ref ca, .ref oa, .int (dC X 0), .int ((dC X 1) + x), .long (dM X 0), .long (dM X 1), .long (dM X 2)])) := by rw [hw1_]; exact gu_s
    have hVw1_ : DV D K w1_ dl ca oa (sC X 1 ((dC X 1) + x)) sb fb sh lq mp md lmd ks es hN ky vl bv ta cap := by rw [hw1_]; exact hV.putD (X' := (sC X 1 ((dC X 1) + x))) rfl ⟨rfl, rfl, rfl, rfl, rfl⟩
    have hFw1_ : FD D ca oa w w1_ := hFD0.tr (by rw [hw1_]; exact FD.up hdl (by decide))
    refine lv_aload_n (pc := 41) hx hb dX1_days_41 rfl (lv_at hl 0 rfl) ?_
    refine g_get (pc := 42) (v := .int ((dC X 1) + x)) S M G (C := RX1) (T := TX1) (N := 12) (ci := 0) in_X1 c1_dl rfl 8 (by decide) q179 (Or.inl rfl) rfl dX1_days_42 ?_
    rw [hQ]
    refine gx_iret S G hr hlocks (hdg := dX1_days_45) ?_ ?_ ?_
    · exact Nat.le_of_ble_eq_true rfl
    · exact Nat.le_of_ble_eq_true rfl
    · have e9 : dS_days X x = (0, ((dC X 1) + x), (sC X 1 ((dC X 1) + x))) := by
        unfold dS_days
        rw [if_neg c1, if_neg c2]
      rw [e9]
      exact ⟨rfl, rfl, hVw1_.W, hFw1_⟩
def dS_commission (X : DQ) (i : Int32) (x : Int32) : Nat × Int32 × DQ := (if (¬ i < 0 ∧ i < 6) then (if (bI x 0 50) = 0 then (2, 0, X) else (0, ((dA X 0) i.toNatClampNeg), (sA X 0 i.toNatClampNeg x))) else (1, 0, X))
abbrev rmX1_commission : Room := ({ frames := 7, cells := 2, slots := 12, locals := 121 } : Room)
set_option maxHeartbeats 4000000 in
theorem metX1_commission (l : Launch) (D : va_G) (K : Nat → Nat) (w : Gh) (hst : l.stackTraces = false) {dl ca oa : Nat} {X : DQ} (hD : DW D K w dl ca oa X) {i : Int32} {x : Int32} : gXet l yX1_commission (ws_ yX1_commission cX1_commission 4 (some .int)) rmX1_commission D K [.ref dl, .int i, .int x] w (fun r' w' => (dS_commission X i x).1 = 0 ∧ r' = some (.int (dS_commission X i x).2.1) ∧ DW D K w' dl ca oa (dS_commission X i x).2.2 ∧ FD D ca oa w w') (fun E9 => (dS_commission X i x).1 ≠ 0 ∧ E9 = eN (dS_commission X i x).1) := by
  refine gXet.of (by decide) (Nat.le_of_ble_eq_true rfl) ?_
  intro p e s m args below meth c H locs ls S M hr hlocks hexc G hl
  have hx := S.1
  have hb := S.2.1
  have hown := S.2.2.2.1
  have hts := S.2.2.2.2
  have hl : lv_has ls 4 [(0, .ref dl), (1, .int i), (2, .int x)] := hl
  obtain ⟨Q, hQ⟩ : ∃ Q, Q = gXE below D K w (fun r' w' => (dS_commission X i x).1 = 0 ∧ r' = some (.int (dS_commission X i x).2.1) ∧ DW D K w' dl ca oa (dS_commission X i x).2.2 ∧ FD D ca oa w w') (fun E9 => (dS_commission X i x).1 ≠ 0 ∧ E9 = eN (dS_commission X i x).1) args s rmX1_commission.cells rmX1_commission.slots := ⟨_, rfl⟩
  rw [← hQ]
  have hD0 := hD
  obtain ⟨sb, fb, sh, lq, mp, md, lmd, ks, es, hN, ky, vl, bv, ta, cap, hV⟩ := hD
  have hdl := hV.1.1
  have hbdl := hV.1.2
  have hDD := hV.2.2.2.2.2.2.2.2.2
  have hlqc := hV.2.2.1.1
  have hblq := hV.2.2.1.2.1
  have hn30 := hV.2.2.1.2.2.1
  have hca := hV.2.2.2.2.2.1.1
  have hbca := hV.2.2.2.2.2.1.2
  have hoa := hV.2.2.2.2.2.2.1.1
  have hboa := hV.2.2.2.2.2.2.1.2
  have hco := hV.2.2.2.2.2.2.2.1
  have hFD0 : FD D ca oa w w := FD.rf
  obtain ⟨fssb, hcsb⟩ : ∃ z, w sb = some (.inr (1, z)) := by obtain ⟨b9, h9, -⟩ := hV.2.1.1; exact ⟨_, h9⟩
  obtain ⟨fsfb, hcfb⟩ : ∃ z, w fb = some (.inr (1, z)) := by obtain ⟨b9, h9, -⟩ := hV.2.1.2.1; exact ⟨_, h9⟩
  obtain ⟨fssh, hcsh⟩ : ∃ z, w sh = some (.inr (1, z)) := by obtain ⟨b9, h9, -⟩ := hV.2.1.2.2; exact ⟨_, h9⟩
  refine lv_iload_n (pc := 0) hx hb dX1_commission_0 rfl (lv_at hl 1 rfl) ?_
  refine lv_bipush (pc := 1) (v := 6) hx hb dX1_commission_1 (by decide) ?_
  refine gx_callS (pc := 3) S M G hl.1 [.int i, .int 6] [] (metX1_inRow l D K w hst) 2 q454 q452 q453 q18 (by decide) rfl ⟨Nat.le_of_ble_eq_true rfl, Nat.le_of_ble_eq_true rfl⟩ rfl (Nat.le_of_ble_eq_true rfl) dX1_commission_3 ⟨Nat.le_of_ble_eq_true rfl, Nat.le_of_ble_eq_true rfl⟩ (fun E9 ce9 q9 H1 locs1 hpx G1 hce hcv hcl => by rw [hQ]; exact gx_thr hexc hlocks G1 hce hcv hcl (Nat.le_of_ble_eq_true rfl) (Nat.le_of_ble_eq_true rfl) (by obtain ⟨c1, hE⟩ := hpx; have e9 : dS_commission X i x = (1, 0, X) := by unfold dS_commission; rw [if_neg c1]; rw [e9]; exact ⟨by show (1 : Nat) ≠ 0; decide, hE⟩)) (fun r w2 H locs hp G => ?_)
  refine W.widen (k := 1) (n := 6) (Nat.le_of_ble_eq_true rfl) (Nat.le_of_ble_eq_true rfl) ?_
  obtain ⟨c1, rfl, hw2⟩ := hp
  rw [hw2] at G
  refine W.eq (g2 := F0 m 6 ls []) rfl ?_
  refine lv_iload_n (pc := 6) hx hb dX1_commission_6 rfl (lv_at hl 2 rfl) ?_
  refine lv_iconst (pc := 7) (v := 0) hx hb dX1_commission_7 (by decide) ?_
  refine lv_bipush (pc := 8) (v := 50) hx hb dX1_commission_8 (by decide) ?_
  refine g_callS (pc := 10) S M G hl.1 [.int x, .int 0, .int 50] [] (metX1_isIn l D K w) 3 q473 q471 q472 q18 (by decide) rfl ⟨Nat.le_of_ble_eq_true rfl, Nat.le_of_ble_eq_true rfl⟩ rfl (Nat.le_of_ble_eq_true rfl) dX1_commission_10 ⟨Nat.le_of_ble_eq_true rfl, Nat.le_of_ble_eq_true rfl⟩ (fun r w2 H locs hp G => ?_)
  obtain ⟨rfl, hw2⟩ := hp
  rw [hw2] at G
  refine W.eq (g2 := F0 m 13 ls [.int (bI x 0 50)]) rfl ?_
  refine gx_callS (pc := 13) S M G hl.1 [.int (bI x 0 50)] [] (metX1_check l D K w hst) 1 q476 q474 q475 q18 (by decide) rfl ⟨Nat.le_of_ble_eq_true rfl, Nat.le_of_ble_eq_true rfl⟩ rfl (Nat.le_of_ble_eq_true rfl) dX1_commission_13 ⟨Nat.le_of_ble_eq_true rfl, Nat.le_of_ble_eq_true rfl⟩ (fun E9 ce9 q9 H1 locs1 hpx G1 hce hcv hcl => by rw [hQ]; exact gx_thr hexc hlocks G1 hce hcv hcl (Nat.le_of_ble_eq_true rfl) (Nat.le_of_ble_eq_true rfl) (by obtain ⟨c2, hE⟩ := hpx; have e9 : dS_commission X i x = (2, 0, X) := by unfold dS_commission; rw [if_pos c1, if_pos c2]; rw [e9]; exact ⟨by show (2 : Nat) ≠ 0; decide, hE⟩)) (fun r w2 H locs hp G => ?_)
  refine W.widen (k := 2) (n := 12) (Nat.le_of_ble_eq_true rfl) (Nat.le_of_ble_eq_true rfl) ?_
  obtain ⟨c2, rfl, hw2⟩ := hp
  rw [hw2] at G
  refine W.eq (g2 := F0 m 16 ls []) rfl ?_
  refine lv_aload_n (pc := 16) hx hb dX1_commission_16 rfl (lv_at hl 0 rfl) ?_
  refine g_get (pc := 17) (v := .ref ca) S M G (C := RX1) (T := TX1) (N := 12) (ci := 0) in_X1 hdl rfl 5 (by decide) q174 (Or.inl rfl) rfl dX1_commission_17 ?_
  refine lv_iload_n (pc := 20) hx hb dX1_commission_20 rfl (lv_at hl 1 rfl) ?_
  refine g_iald (pc := 21) S M G hca (at_in (n := 6) c1 (by decide)) dX1_commission_21 ?_
  refine lv_istore_n (pc := 22) (lv' := [(3, .int ((dA X 0) i.toNatClampNeg)), (0, .ref dl), (1, .int i), (2, .int x)]) hx hb dX1_commission_22 rfl hl (by decide) rfl (fun ls hl => ?_)
  refine lv_aload_n (pc := 23) hx hb dX1_commission_23 rfl (lv_at hl 1 rfl) ?_
  refine g_get (pc := 24) (v := .ref ca) S M G (C := RX1) (T := TX1) (N := 12) (ci := 0) in_X1 hdl rfl 5 (by decide) q174 (Or.inl rfl) rfl dX1_commission_24 ?_
  refine lv_iload_n (pc := 27) hx hb dX1_commission_27 rfl (lv_at hl 2 rfl) ?_
  refine lv_iload_n (pc := 28) hx hb dX1_commission_28 rfl (lv_at hl 3 rfl) ?_
  refine g_iast (pc := 29) S M G hca hbca (at_in (n := 6) c1 (by decide)) dX1_commission_29 (fun H locs G => ?_)
  obtain ⟨w1_, hw1_⟩ : ∃ z9, z9 = gu w ca (.inl (D.1 100, 6, .inl (upd (dA X 0) i.toNatClampNeg x))) := ⟨_, rfl⟩
  replace G : gS D K w1_ s H locs := by rw [hw1_]; exact G
  have c1_dl : w1_ dl = some (.inr (0, [.ref sb, .ref fb, .ref sh, .ref lq, .ref mp, .ref ca, .ref oa, .int (dC X 0), .int (dC X 1), .long (dM X 0), .long (dM X 1), .long (dM X 2)])) := by rw [hw1_, gu_n (Ne.symm (gne_ao hca hdl))]; exact hdl
  have c1_lq : w1_ lq = some (.inr (6, [.int lmd, .ref ta, .int (nI (dN X))])) := by rw [hw1_, gu_n (Ne.symm (gne_ao hca hlqc))]; exact hlqc
  have c1_oa : w1_ oa = some (.inl (D.1 100, 10, .inl (dA X 1))) := by rw [hw1_, gu_n (Ne.symm hco)]; exact hoa
  have c1_sb : w1_ sb = some (.inr (1, fssb)) := by rw [hw1_, gu_n (Ne.symm (gne_ao hca hcsb))]; exact hcsb
  have c1_fb : w1_ fb = some (.inr (1, fsfb)) := by rw [hw1_, gu_n (Ne.symm (gne_ao hca hcfb))]; exact hcfb
  have c1_sh : w1_ sh = some (.inr (1, fssh)) := by rw [hw1_, gu_n (Ne.symm (gne_ao hca hcsh))]; exact hcsh
  have c1_ca : w1_ ca = some (.inl (D.1 100, 6, .inl (upd (dA X 0) i.toNatClampNeg x))) := by rw [hw1_]; exact gu_s
  have hVw1_ : DV D K w1_ dl ca oa (sA X 0 i.toNatClampNeg x) sb fb sh lq mp md lmd ks es hN ky vl bv ta cap := by rw [hw1_]; exact hV.putA0
  have hFw1_ : FD D ca oa w w1_ := hFD0.tr (by rw [hw1_]; exact FD.upc hca)
  refine lv_iload_n (pc := 30) hx hb dX1_commission_30 rfl (lv_at hl 0 rfl) ?_
  rw [hQ]
  refine gx_iret S G hr hlocks (hdg := dX1_commission_31) ?_ ?_ ?_
  · exact Nat.le_of_ble_eq_true rfl
  · exact Nat.le_of_ble_eq_true rfl
  · have e9 : dS_commission X i x = (0, ((dA X 0) i.toNatClampNeg), (sA X 0 i.toNatClampNeg x)) := by
      unfold dS_commission
      rw [if_pos c1, if_neg c2]
    rw [e9]
    exact ⟨rfl, rfl, hVw1_.W, hFw1_⟩
def dS_payGaps (X : DQ) (i : Int32) : Nat × Int32 × DQ := (if (¬ i < 0 ∧ i < 10) then (if ((dA X 1) i.toNatClampNeg) ≤ 0 then (3, 0, X) else (0, ((dA X 1) i.toNatClampNeg), (sM (sM (sA X 1 i.toNatClampNeg 0) 0 ((dM X 0) + (((dA X 1) i.toNatClampNeg) : Int32).toInt64)) 2 ((dM X 2) + (((dA X 1) i.toNatClampNeg) : Int32).toInt64)))) else (1, 0, X))
abbrev rmX1_payGaps : Room := ({ frames := 7, cells := 2, slots := 12, locals := 121 } : Room)
set_option maxHeartbeats 4000000 in
theorem metX1_payGaps (l : Launch) (D : va_G) (K : Nat → Nat) (w : Gh) (hst : l.stackTraces = false) {dl ca oa : Nat} {X : DQ} (hD : DW D K w dl ca oa X) {i : Int32} : gXet l yX1_payGaps (ws_ yX1_payGaps cX1_payGaps 3 (some .int)) rmX1_payGaps D K [.ref dl, .int i] w (fun r' w' => (dS_payGaps X i).1 = 0 ∧ r' = some (.int (dS_payGaps X i).2.1) ∧ DW D K w' dl ca oa (dS_payGaps X i).2.2 ∧ FD D ca oa w w') (fun E9 => (dS_payGaps X i).1 ≠ 0 ∧ E9 = eN (dS_payGaps X i).1) := by
  refine gXet.of (by decide) (Nat.le_of_ble_eq_true rfl) ?_
  intro p e s m args below meth c H locs ls S M hr hlocks hexc G hl
  have hx := S.1
  have hb := S.2.1
  have hown := S.2.2.2.1
  have hts := S.2.2.2.2
  have hl : lv_has ls 3 [(0, .ref dl), (1, .int i)] := hl
  obtain ⟨Q, hQ⟩ : ∃ Q, Q = gXE below D K w (fun r' w' => (dS_payGaps X i).1 = 0 ∧ r' = some (.int (dS_payGaps X i).2.1) ∧ DW D K w' dl ca oa (dS_payGaps X i).2.2 ∧ FD D ca oa w w') (fun E9 => (dS_payGaps X i).1 ≠ 0 ∧ E9 = eN (dS_payGaps X i).1) args s rmX1_payGaps.cells rmX1_payGaps.slots := ⟨_, rfl⟩
  rw [← hQ]
  have hD0 := hD
  obtain ⟨sb, fb, sh, lq, mp, md, lmd, ks, es, hN, ky, vl, bv, ta, cap, hV⟩ := hD
  have hdl := hV.1.1
  have hbdl := hV.1.2
  have hDD := hV.2.2.2.2.2.2.2.2.2
  have hlqc := hV.2.2.1.1
  have hblq := hV.2.2.1.2.1
  have hn30 := hV.2.2.1.2.2.1
  have hca := hV.2.2.2.2.2.1.1
  have hbca := hV.2.2.2.2.2.1.2
  have hoa := hV.2.2.2.2.2.2.1.1
  have hboa := hV.2.2.2.2.2.2.1.2
  have hco := hV.2.2.2.2.2.2.2.1
  have hFD0 : FD D ca oa w w := FD.rf
  obtain ⟨fssb, hcsb⟩ : ∃ z, w sb = some (.inr (1, z)) := by obtain ⟨b9, h9, -⟩ := hV.2.1.1; exact ⟨_, h9⟩
  obtain ⟨fsfb, hcfb⟩ : ∃ z, w fb = some (.inr (1, z)) := by obtain ⟨b9, h9, -⟩ := hV.2.1.2.1; exact ⟨_, h9⟩
  obtain ⟨fssh, hcsh⟩ : ∃ z, w sh = some (.inr (1, z)) := by obtain ⟨b9, h9, -⟩ := hV.2.1.2.2; exact ⟨_, h9⟩
  refine lv_iload_n (pc := 0) hx hb dX1_payGaps_0 rfl (lv_at hl 1 rfl) ?_
  refine lv_bipush (pc := 1) (v := 10) hx hb dX1_payGaps_1 (by decide) ?_
  refine gx_callS (pc := 3) S M G hl.1 [.int i, .int 10] [] (metX1_inRow l D K w hst) 2 q454 q452 q453 q18 (by decide) rfl ⟨Nat.le_of_ble_eq_true rfl, Nat.le_of_ble_eq_true rfl⟩ rfl (Nat.le_of_ble_eq_true rfl) dX1_payGaps_3 ⟨Nat.le_of_ble_eq_true rfl, Nat.le_of_ble_eq_true rfl⟩ (fun E9 ce9 q9 H1 locs1 hpx G1 hce hcv hcl => by rw [hQ]; exact gx_thr hexc hlocks G1 hce hcv hcl (Nat.le_of_ble_eq_true rfl) (Nat.le_of_ble_eq_true rfl) (by obtain ⟨c1, hE⟩ := hpx; have e9 : dS_payGaps X i = (1, 0, X) := by unfold dS_payGaps; rw [if_neg c1]; rw [e9]; exact ⟨by show (1 : Nat) ≠ 0; decide, hE⟩)) (fun r w2 H locs hp G => ?_)
  refine W.widen (k := 1) (n := 6) (Nat.le_of_ble_eq_true rfl) (Nat.le_of_ble_eq_true rfl) ?_
  obtain ⟨c1, rfl, hw2⟩ := hp
  rw [hw2] at G
  refine W.eq (g2 := F0 m 6 ls []) rfl ?_
  refine lv_aload_n (pc := 6) hx hb dX1_payGaps_6 rfl (lv_at hl 0 rfl) ?_
  refine g_get (pc := 7) (v := .ref oa) S M G (C := RX1) (T := TX1) (N := 12) (ci := 0) in_X1 hdl rfl 6 (by decide) q175 (Or.inl rfl) rfl dX1_payGaps_7 ?_
  refine lv_iload_n (pc := 10) hx hb dX1_payGaps_10 rfl (lv_at hl 1 rfl) ?_
  refine g_iald (pc := 11) S M G hoa (at_in (n := 10) c1 (by decide)) dX1_payGaps_11 ?_
  refine lv_if_le (pc := 12) (tgt := 19) hx hb dX1_payGaps_12 (by decide) (fun c2 => ?_) (fun c2 => ?_)
  · refine lv_iconst (pc := 19) (v := 0) hx hb dX1_payGaps_19 (by decide) ?_
    exact gx_callS (pc := 20) S M G hl.1 [.int 0] [] (metX1_possible l D K w hst) 1 q494 q492 q493 q18 (by decide) rfl ⟨Nat.le_of_ble_eq_true rfl, Nat.le_of_ble_eq_true rfl⟩ rfl (Nat.le_of_ble_eq_true rfl) dX1_payGaps_20 ⟨Nat.le_of_ble_eq_true rfl, Nat.le_of_ble_eq_true rfl⟩ (fun E9 ce9 q9 H1 locs1 hpx G1 hce hcv hcl => by rw [hQ]; exact gx_thr hexc hlocks G1 hce hcv hcl (Nat.le_of_ble_eq_true rfl) (Nat.le_of_ble_eq_true rfl) (by obtain ⟨c3, hE⟩ := hpx; have e9 : dS_payGaps X i = (3, 0, X) := by unfold dS_payGaps; rw [if_pos c1, if_pos c2]; rw [e9]; exact ⟨by show (3 : Nat) ≠ 0; decide, hE⟩)) (fun r w2 H locs hp G => absurd rfl hp.1)
  · refine lv_iconst (pc := 15) (v := 1) hx hb dX1_payGaps_15 (by decide) ?_
    refine lv_goto (pc := 16) (tgt := 20) hx hb dX1_payGaps_16 (by decide) ?_
    refine gx_callS (pc := 20) S M G hl.1 [.int 1] [] (metX1_possible l D K w hst) 1 q494 q492 q493 q18 (by decide) rfl ⟨Nat.le_of_ble_eq_true rfl, Nat.le_of_ble_eq_true rfl⟩ rfl (Nat.le_of_ble_eq_true rfl) dX1_payGaps_20 ⟨Nat.le_of_ble_eq_true rfl, Nat.le_of_ble_eq_true rfl⟩ (fun E9 ce9 q9 H1 locs1 hpx G1 hce hcv hcl => by rw [hQ]; exact gx_thr hexc hlocks G1 hce hcv hcl (Nat.le_of_ble_eq_true rfl) (Nat.le_of_ble_eq_true rfl) (absurd hpx.1 (by decide))) (fun r w2 H locs hp G => ?_)
    refine W.widen (k := 2) (n := 12) (Nat.le_of_ble_eq_true rfl) (Nat.le_of_ble_eq_true rfl) ?_
    obtain ⟨_, rfl, hw2⟩ := hp
    rw [hw2] at G
    refine W.eq (g2 := F0 m 23 ls []) rfl ?_
    refine lv_aload_n (pc := 23) hx hb dX1_payGaps_23 rfl (lv_at hl 0 rfl) ?_
    refine g_get (pc := 24) (v := .ref oa) S M G (C := RX1) (T := TX1) (N := 12) (ci := 0) in_X1 hdl rfl 6 (by decide) q175 (Or.inl rfl) rfl dX1_payGaps_24 ?_
    refine lv_iload_n (pc := 27) hx hb dX1_payGaps_27 rfl (lv_at hl 1 rfl) ?_
    refine g_iald (pc := 28) S M G hoa (at_in (n := 10) c1 (by decide)) dX1_payGaps_28 ?_
    refine lv_istore_n (pc := 29) (lv' := [(2, .int ((dA X 1) i.toNatClampNeg)), (0, .ref dl), (1, .int i)]) hx hb dX1_payGaps_29 rfl hl (by decide) rfl (fun ls hl => ?_)
    refine lv_aload_n (pc := 30) hx hb dX1_payGaps_30 rfl (lv_at hl 1 rfl) ?_
    refine g_get (pc := 31) (v := .ref oa) S M G (C := RX1) (T := TX1) (N := 12) (ci := 0) in_X1 hdl rfl 6 (by decide) q175 (Or.inl rfl) rfl dX1_payGaps_31 ?_
    refine lv_iload_n (pc := 34) hx hb dX1_payGaps_34 rfl (lv_at hl 2 rfl) ?_
    refine lv_iconst (pc := 35) (v := 0) hx hb dX1_payGaps_35 (by decide) ?_
    refine g_iast (pc := 36) S M G hoa hboa (at_in (n := 10) c1 (by decide)) dX1_payGaps_36 (fun H locs G => ?_)
    obtain ⟨w1_, hw1_⟩ : ∃ z9, z9 = gu w oa (.inl (D.1 100, 10, .inl (upd (dA X 1) i.toNatClampNeg 0))) := ⟨_, rfl⟩
    replace G : gS D K w1_ s H locs := by rw [hw1_]; exact G
    have c1_dl : w1_ dl = some (.inr (0, [.ref sb, .ref fb, .ref sh, .ref lq, .ref mp, .ref ca, .ref oa, .int (dC X 0), .int (dC X 1), .long (dM X 0), .long (dM X 1), .long (dM X 2)])) := by rw [hw1_, gu_n (Ne.symm (gne_ao hoa hdl))]; exact hdl
    have c1_lq : w1_ lq = some (.inr (6, [.int lmd, .ref ta, .int (nI (dN X))])) := by rw [hw1_, gu_n (Ne.symm (gne_ao hoa hlqc))]; exact hlqc
    have c1_ca : w1_ ca = some (.inl (D.1 100, 6, .inl (dA X 0))) := by rw [hw1_, gu_n hco]; exact hca
    have c1_sb : w1_ sb = some (.inr (1, fssb)) := by rw [hw1_, gu_n (Ne.symm (gne_ao hoa hcsb))]; exact hcsb
    have c1_fb : w1_ fb = some (.inr (1, fsfb)) := by rw [hw1_, gu_n (Ne.symm (gne_ao hoa hcfb))]; exact hcfb
    have c1_sh : w1_ sh = some (.inr (1, fssh)) := by rw [hw1_, gu_n (Ne.symm (gne_ao hoa hcsh))]; exact hcsh
    have c1_oa : w1_ oa = some (.inl (D.1 100, 10, .inl (upd (dA X 1) i.toNatClampNeg 0))) := by rw [hw1_]; exact gu_s
    have hVw1_ : DV D K w1_ dl ca oa (sA X 1 i.toNatClampNeg 0) sb fb sh lq mp md lmd ks es hN ky vl bv ta cap := by rw [hw1_]; exact hV.putA1
    have hFw1_ : FD D ca oa w w1_ := hFD0.tr (by rw [hw1_]; exact FD.upo hoa)
    refine lv_aload_n (pc := 37) hx hb dX1_payGaps_37 rfl (lv_at hl 1 rfl) ?_
    refine lv_dup (pc := 38) hx hb dX1_payGaps_38 rfl ?_
    refine g_get (pc := 39) (v := .long (dM X 0)) S M G (C := RX1) (T := TX1) (N := 12) (ci := 0) in_X1 c1_dl rfl 9 (by decide) q180 (Or.inl rfl) rfl dX1_payGaps_39 ?_
    refine lv_iload_n (pc := 42) hx hb dX1_payGaps_42 rfl (lv_at hl 0 rfl) ?_
    refine lv_i2l (pc := 43) hx hb dX1_payGaps_43 rfl ?_
    refine lv_ladd (pc := 44) hx hb dX1_payGaps_44 ?_
    refine g_put (pc := 45) (v := .long ((dM X 0) + (((dA X 1) i.toNatClampNeg) : Int32).toInt64)) S M G (C := RX1) (T := TX1) (N := 12) (ci := 0) in_X1 tyX1 tyX1_ok nmX1 c1_dl hbdl rfl 9 (by decide) q180 (Or.inl rfl) rfl rfl rfl (Nat.le_of_ble_eq_true rfl) dX1_payGaps_45 (fun H locs G => ?_)
    obtain ⟨w2_, hw2_⟩ : ∃ z9, z9 = gu w1_ dl (.inr (0, [.ref sb, .ref fb, .ref sh, .ref lq, .ref mp, .ref ca, .ref oa, .int (dC X 0), .int (dC X 1), .long ((dM X 0) + (((dA X 1) i.toNatClampNeg) : Int32).toInt64), .long (dM X 1), .long (dM X 2)])) := ⟨_, rfl⟩
    replace G : gS D K w2_ s H locs := by rw [hw2_]; exact G
    have c2_lq : w2_ lq = some (.inr (6, [.int lmd, .ref ta, .int (nI (dN X))])) := by rw [hw2_, gu_n (gne_c c1_lq c1_dl (by decide))]; exact c1_lq
    have c2_ca : w2_ ca = some (.inl (D.1 100, 6, .inl (dA X 0))) := by rw [hw2_, gu_n (gne_ao c1_ca c1_dl)]; exact c1_ca
    have c2_oa : w2_ oa = some (.inl (D.1 100, 10, .inl (upd (dA X 1) i.toNatClampNeg 0))) := by rw [hw2_, gu_n (gne_ao c1_oa c1_dl)]; exact c1_oa
    have c2_sb : w2_ sb = some (.inr (1, fssb)) := by rw [hw2_, gu_n (gne_c c1_sb c1_dl (by decide))]; exact c1_sb
    have c2_fb : w2_ fb = some (.inr (1, fsfb)) := by rw [hw2_, gu_n (gne_c c1_fb c1_dl (by decide))]; exact c1_fb
    have c2_sh : w2_ sh = some (.inr (1, fssh)) := by rw [hw2_, gu_n (gne_c c1_sh c1_dl (by decide))]; exact c1_sh
    have c2_dl : w2_ dl = some (.inr (0, [.ref sb, .ref fb, .ref sh, .ref lq, .ref mp, .ref ca, .ref oa, .int (dC X 0), .int (dC X 1), .long ((dM X 0) + (((dA X 1) i.toNatClampNeg) : Int32).toInt64), .long (dM X 1), .long (dM X 2)])) := by rw [hw2_]; exact gu_s
    have hVw2_ : DV D K w2_ dl ca oa (sM (sA X 1 i.toNatClampNeg 0) 0 ((dM X 0) + (((dA X 1) i.toNatClampNeg) : Int32).toInt64)) sb fb sh lq mp md lmd ks es hN ky vl bv ta cap := by rw [hw2_]; exact hVw1_.putD (X' := (sM (sA X 1 i.toNatClampNeg 0) 0 ((dM X 0) + (((dA X 1) i.toNatClampNeg) : Int32).toInt64))) rfl ⟨rfl, rfl, rfl, rfl, rfl⟩
    have hFw2_ : FD D ca oa w w2_ := hFw1_.tr (by rw [hw2_]; exact FD.up c1_dl (by decide))
    refine lv_aload_n (pc := 48) hx hb dX1_payGaps_48 rfl (lv_at hl 1 rfl) ?_
    refine lv_dup (pc := 49) hx hb dX1_payGaps_49 rfl ?_
    refine g_get (pc := 50) (v := .long (dM X 2)) S M G (C := RX1) (T := TX1) (N := 12) (ci := 0) in_X1 c2_dl rfl 11 (by decide) q182 (Or.inl rfl) rfl dX1_payGaps_50 ?_
    refine lv_iload_n (pc := 53) hx hb dX1_payGaps_53 rfl (lv_at hl 0 rfl) ?_
    refine lv_i2l (pc := 54) hx hb dX1_payGaps_54 rfl ?_
    refine lv_ladd (pc := 55) hx hb dX1_payGaps_55 ?_
    refine g_put (pc := 56) (v := .long ((dM X 2) + (((dA X 1) i.toNatClampNeg) : Int32).toInt64)) S M G (C := RX1) (T := TX1) (N := 12) (ci := 0) in_X1 tyX1 tyX1_ok nmX1 c2_dl hbdl rfl 11 (by decide) q182 (Or.inl rfl) rfl rfl rfl (Nat.le_of_ble_eq_true rfl) dX1_payGaps_56 (fun H locs G => ?_)
    obtain ⟨w3_, hw3_⟩ : ∃ z9, z9 = gu w2_ dl (.inr (0, [.ref sb, .ref fb, .ref sh, .ref lq, .ref mp, .ref ca, .ref oa, .int (dC X 0), .int (dC X 1), .long ((dM X 0) + (((dA X 1) i.toNatClampNeg) : Int32).toInt64), .long (dM X 1), .long ((dM X 2) + (((dA X 1) i.toNatClampNeg) : Int32).toInt64)])) := ⟨_, rfl⟩
    replace G : gS D K w3_ s H locs := by rw [hw3_]; exact G
    have c3_lq : w3_ lq = some (.inr (6, [.int lmd, .ref ta, .int (nI (dN X))])) := by rw [hw3_, gu_n (gne_c c2_lq c2_dl (by decide))]; exact c2_lq
    have c3_ca : w3_ ca = some (.inl (D.1 100, 6, .inl (dA X 0))) := by rw [hw3_, gu_n (gne_ao c2_ca c2_dl)]; exact c2_ca
    have c3_oa : w3_ oa = some (.inl (D.1 100, 10, .inl (upd (dA X 1) i.toNatClampNeg 0))) := by rw [hw3_, gu_n (gne_ao c2_oa c2_dl)]; exact c2_oa
    have c3_sb : w3_ sb = some (.inr (1, fssb)) := by rw [hw3_, gu_n (gne_c c2_sb c2_dl (by decide))]; exact c2_sb
    have c3_fb : w3_ fb = some (.inr (1, fsfb)) := by rw [hw3_, gu_n (gne_c c2_fb c2_dl (by decide))]; exact c2_fb
    have c3_sh : w3_ sh = some (.inr (1, fssh)) := by rw [hw3_, gu_n (gne_c c2_sh c2_dl (by decide))]; exact c2_sh
    have c3_dl : w3_ dl = some (.inr (0, [.ref sb, .ref fb, .ref sh, .ref lq, .ref mp, .ref ca, .ref oa, .int (dC X 0), .int (dC X 1), .long ((dM X 0) + (((dA X 1) i.toNatClampNeg) : Int32).toInt64), .long (dM X 1), .long ((dM X 2) + (((dA X 1) i.toNatClampNeg) : Int32).toInt64)])) := by rw [hw3_]; exact gu_s
    have hVw3_ : DV D K w3_ dl ca oa (sM (sM (sA X 1 i.toNatClampNeg 0) 0 ((dM X 0) + (((dA X 1) i.toNatClampNeg) : Int32).toInt64)) 2 ((dM X 2) + (((dA X 1) i.toNatClampNeg) : Int32).toInt64)) sb fb sh lq mp md lmd ks es hN ky vl bv ta cap := by rw [hw3_]; exact hVw2_.putD (X' := (sM (sM (sA X 1 i.toNatClampNeg 0) 0 ((dM X 0) + (((dA X 1) i.toNatClampNeg) : Int32).toInt64)) 2 ((dM X 2) + (((dA X 1) i.toNatClampNeg) : Int32).toInt64))) rfl ⟨rfl, rfl, rfl, rfl, rfl⟩
    have hFw3_ : FD D ca oa w w3_ := hFw2_.tr (by rw [hw3_]; exact FD.up c2_dl (by decide))
    refine lv_iload_n (pc := 59) hx hb dX1_payGaps_59 rfl (lv_at hl 0 rfl) ?_
    rw [hQ]
    refine gx_iret S G hr hlocks (hdg := dX1_payGaps_60) ?_ ?_ ?_
    · exact Nat.le_of_ble_eq_true rfl
    · exact Nat.le_of_ble_eq_true rfl
    · have e9 : dS_payGaps X i = (0, ((dA X 1) i.toNatClampNeg), (sM (sM (sA X 1 i.toNatClampNeg 0) 0 ((dM X 0) + (((dA X 1) i.toNatClampNeg) : Int32).toInt64)) 2 ((dM X 2) + (((dA X 1) i.toNatClampNeg) : Int32).toInt64))) := by
        unfold dS_payGaps
        rw [if_pos c1, if_neg c2]
      rw [e9]
      exact ⟨rfl, rfl, hVw3_.W, hFw3_⟩
def dS_hammer (X : DQ) (i : Int32) : Nat × Int32 × DQ := (if (¬ i < 0 ∧ i < (nI (dN X))) then (if (dF X i.toNatClampNeg 4) = 0 then (0, (dF (dHam X i.toNatClampNeg) i.toNatClampNeg 6), (dHam X i.toNatClampNeg)) else (3, 0, X)) else (1, 0, X))
abbrev rmX1_hammer : Room := ({ frames := 9, cells := 8, slots := 32, locals := 194 } : Room)
set_option maxHeartbeats 4000000 in
theorem metX1_hammer (l : Launch) (D : va_G) (K : Nat → Nat) (w : Gh) (hst : l.stackTraces = false) {dl ca oa : Nat} {X : DQ} (hD : DW D K w dl ca oa X) {i : Int32} : gXet l yX1_hammer (ws_ yX1_hammer cX1_hammer 3 (some .int)) rmX1_hammer D K [.ref dl, .int i] w (fun r' w' => (dS_hammer X i).1 = 0 ∧ r' = some (.int (dS_hammer X i).2.1) ∧ DW D K w' dl ca oa (dS_hammer X i).2.2 ∧ FD D ca oa w w') (fun E9 => (dS_hammer X i).1 ≠ 0 ∧ E9 = eN (dS_hammer X i).1) := by
  refine gXet.of (by decide) (Nat.le_of_ble_eq_true rfl) ?_
  intro p e s m args below meth c H locs ls S M hr hlocks hexc G hl
  have hx := S.1
  have hb := S.2.1
  have hown := S.2.2.2.1
  have hts := S.2.2.2.2
  have hl : lv_has ls 3 [(0, .ref dl), (1, .int i)] := hl
  obtain ⟨Q, hQ⟩ : ∃ Q, Q = gXE below D K w (fun r' w' => (dS_hammer X i).1 = 0 ∧ r' = some (.int (dS_hammer X i).2.1) ∧ DW D K w' dl ca oa (dS_hammer X i).2.2 ∧ FD D ca oa w w') (fun E9 => (dS_hammer X i).1 ≠ 0 ∧ E9 = eN (dS_hammer X i).1) args s rmX1_hammer.cells rmX1_hammer.slots := ⟨_, rfl⟩
  rw [← hQ]
  have hD0 := hD
  obtain ⟨sb, fb, sh, lq, mp, md, lmd, ks, es, hN, ky, vl, bv, ta, cap, hV⟩ := hD
  have hdl := hV.1.1
  have hbdl := hV.1.2
  have hDD := hV.2.2.2.2.2.2.2.2.2
  have hlqc := hV.2.2.1.1
  have hblq := hV.2.2.1.2.1
  have hn30 := hV.2.2.1.2.2.1
  have hca := hV.2.2.2.2.2.1.1
  have hbca := hV.2.2.2.2.2.1.2
  have hoa := hV.2.2.2.2.2.2.1.1
  have hboa := hV.2.2.2.2.2.2.1.2
  have hco := hV.2.2.2.2.2.2.2.1
  have hFD0 : FD D ca oa w w := FD.rf
  obtain ⟨fssb, hcsb⟩ : ∃ z, w sb = some (.inr (1, z)) := by obtain ⟨b9, h9, -⟩ := hV.2.1.1; exact ⟨_, h9⟩
  obtain ⟨fsfb, hcfb⟩ : ∃ z, w fb = some (.inr (1, z)) := by obtain ⟨b9, h9, -⟩ := hV.2.1.2.1; exact ⟨_, h9⟩
  obtain ⟨fssh, hcsh⟩ : ∃ z, w sh = some (.inr (1, z)) := by obtain ⟨b9, h9, -⟩ := hV.2.1.2.2; exact ⟨_, h9⟩
  refine lv_aload_n (pc := 0) hx hb dX1_hammer_0 rfl (lv_at hl 0 rfl) ?_
  refine lv_iload_n (pc := 1) hx hb dX1_hammer_1 rfl (lv_at hl 1 rfl) ?_
  refine gx_callV (pc := 2) S M G hl.1 [.int i] [] (metX1_at l D K w hst hD0) 1 (g_recv M G hdl (q := (RX1, TX1, 12)) rfl) q659 q656 q658 qs6 q18 (by decide) rfl ⟨Nat.le_of_ble_eq_true rfl, Nat.le_of_ble_eq_true rfl⟩ rfl (Nat.le_of_ble_eq_true rfl) dX1_hammer_2 ⟨Nat.le_of_ble_eq_true rfl, Nat.le_of_ble_eq_true rfl⟩ (fun E9 ce9 q9 H1 locs1 hpx G1 hce hcv hcl => by rw [hQ]; exact gx_thr hexc hlocks G1 hce hcv hcl (Nat.le_of_ble_eq_true rfl) (Nat.le_of_ble_eq_true rfl) (by obtain ⟨c1, hE⟩ := hpx; have e9 : dS_hammer X i = (1, 0, X) := by unfold dS_hammer; rw [if_neg c1]; rw [e9]; exact ⟨by show (1 : Nat) ≠ 0; decide, hE⟩)) (fun r w2 H locs hp G => ?_)
  refine W.widen (k := 1) (n := 6) (Nat.le_of_ble_eq_true rfl) (Nat.le_of_ble_eq_true rfl) ?_
  obtain ⟨c1, rfl, hw2⟩ := hp
  rw [hw2] at G
  obtain ⟨hi, hij⟩ := at_ix c1 (by omega)
  have hlo := (hV.2.2.2.1 _ hi).1
  have hblo := (hV.2.2.2.1 _ hi).2
  refine W.eq (g2 := F0 m 5 ls [.ref (dL X i.toNatClampNeg)]) rfl ?_
  refine lv_astore_n (pc := 5) (lv' := [(2, .ref (dL X i.toNatClampNeg)), (0, .ref dl), (1, .int i)]) hx hb dX1_hammer_5 rfl hl (by decide) rfl (fun ls hl => ?_)
  refine lv_aload_n (pc := 6) hx hb dX1_hammer_6 rfl (lv_at hl 0 rfl) ?_
  refine g_getN (pc := 7) (v := .int (dF X i.toNatClampNeg 4)) S M G (C := RX4) (T := TX4) (N := 14) (ci := 3) in_X4 hlo rfl 4 (by decide) q532 rfl rfl dX1_hammer_7 ?_
  refine lv_if_ne (pc := 10) (tgt := 17) hx hb dX1_hammer_10 (by decide) (fun c2 => ?_) (fun c2 => ?_)
  · refine lv_iconst (pc := 17) (v := 0) hx hb dX1_hammer_17 (by decide) ?_
    exact gx_callS (pc := 18) S M G hl.1 [.int 0] [] (metX1_possible l D K w hst) 1 q494 q492 q493 q18 (by decide) rfl ⟨Nat.le_of_ble_eq_true rfl, Nat.le_of_ble_eq_true rfl⟩ rfl (Nat.le_of_ble_eq_true rfl) dX1_hammer_18 ⟨Nat.le_of_ble_eq_true rfl, Nat.le_of_ble_eq_true rfl⟩ (fun E9 ce9 q9 H1 locs1 hpx G1 hce hcv hcl => by rw [hQ]; exact gx_thr hexc hlocks G1 hce hcv hcl (Nat.le_of_ble_eq_true rfl) (Nat.le_of_ble_eq_true rfl) (by obtain ⟨c3, hE⟩ := hpx; have e9 : dS_hammer X i = (3, 0, X) := by unfold dS_hammer; rw [if_pos c1, if_neg c2]; rw [e9]; exact ⟨by show (3 : Nat) ≠ 0; decide, hE⟩)) (fun r w2 H locs hp G => absurd rfl hp.1)
  · refine lv_iconst (pc := 13) (v := 1) hx hb dX1_hammer_13 (by decide) ?_
    refine lv_goto (pc := 14) (tgt := 18) hx hb dX1_hammer_14 (by decide) ?_
    refine gx_callS (pc := 18) S M G hl.1 [.int 1] [] (metX1_possible l D K w hst) 1 q494 q492 q493 q18 (by decide) rfl ⟨Nat.le_of_ble_eq_true rfl, Nat.le_of_ble_eq_true rfl⟩ rfl (Nat.le_of_ble_eq_true rfl) dX1_hammer_18 ⟨Nat.le_of_ble_eq_true rfl, Nat.le_of_ble_eq_true rfl⟩ (fun E9 ce9 q9 H1 locs1 hpx G1 hce hcv hcl => by rw [hQ]; exact gx_thr hexc hlocks G1 hce hcv hcl (Nat.le_of_ble_eq_true rfl) (Nat.le_of_ble_eq_true rfl) (absurd hpx.1 (by decide))) (fun r w2 H locs hp G => ?_)
    refine W.widen (k := 2) (n := 12) (Nat.le_of_ble_eq_true rfl) (Nat.le_of_ble_eq_true rfl) ?_
    obtain ⟨_, rfl, hw2⟩ := hp
    rw [hw2] at G
    refine W.eq (g2 := F0 m 21 ls []) rfl ?_
    refine lv_aload_n (pc := 21) hx hb dX1_hammer_21 rfl (lv_at hl 0 rfl) ?_
    refine g_callV (pc := 22) S M G hl.1 [] [] (metX4_hammer l D K w hD0 hi) 0 (g_recv M G hlo (q := (RX4, TX4, 14)) rfl) q1006 q1003 q1004 q1005 q35 (by decide) rfl ⟨Nat.le_of_ble_eq_true rfl, Nat.le_of_ble_eq_true rfl⟩ rfl (Nat.le_of_ble_eq_true rfl) dX1_hammer_22 ⟨Nat.le_of_ble_eq_true rfl, Nat.le_of_ble_eq_true rfl⟩ (fun r w8 H locs hp G => ?_)
    refine W.widen (k := 8) (n := 32) (Nat.le_of_ble_eq_true rfl) (Nat.le_of_ble_eq_true rfl) ?_
    obtain ⟨rfl, hD8, hF8⟩ := hp
    obtain ⟨sb8, fb8, sh8, lq8, mp8, md8, lmd8, ks8, es8, hN8, ky8, vl8, bv8, ta8, cap8, hV8⟩ := hD8
    have hFD8 := hFD0.tr hF8
    have hlo8 := (hV8.2.2.2.1 _ hi).1
    have hblo8 := (hV8.2.2.2.1 _ hi).2
    have hdl8 := hV8.1.1
    obtain ⟨fssb8, hcsb8⟩ : ∃ z, w8 sb8 = some (.inr (1, z)) := by obtain ⟨b9, h9, -⟩ := hV8.2.1.1; exact ⟨_, h9⟩
    obtain ⟨fsfb8, hcfb8⟩ : ∃ z, w8 fb8 = some (.inr (1, z)) := by obtain ⟨b9, h9, -⟩ := hV8.2.1.2.1; exact ⟨_, h9⟩
    obtain ⟨fssh8, hcsh8⟩ : ∃ z, w8 sh8 = some (.inr (1, z)) := by obtain ⟨b9, h9, -⟩ := hV8.2.1.2.2; exact ⟨_, h9⟩
    refine W.eq (g2 := F0 m 25 ls []) rfl ?_
    refine lv_aload_n (pc := 25) hx hb dX1_hammer_25 rfl (lv_at hl 0 rfl) ?_
    refine g_getN (pc := 26) (v := .int (dF (dHam X i.toNatClampNeg) i.toNatClampNeg 6)) S M G (C := RX4) (T := TX4) (N := 14) (ci := 3) in_X4 hlo8 rfl 6 (by decide) q536 rfl rfl dX1_hammer_26 ?_
    rw [hQ]
    refine gx_iret S G hr hlocks (hdg := dX1_hammer_29) ?_ ?_ ?_
    · exact Nat.le_of_ble_eq_true rfl
    · exact Nat.le_of_ble_eq_true rfl
    · have e9 : dS_hammer X i = (0, (dF (dHam X i.toNatClampNeg) i.toNatClampNeg 6), (dHam X i.toNatClampNeg)) := by
        unfold dS_hammer
        rw [if_pos c1, if_pos c2]
      rw [e9]
      exact ⟨rfl, rfl, hV8.W, hFD8⟩
def dS_again (X : DQ) (i : Int32) (x : Int32) : Nat × Int32 × DQ := (if (¬ i < 0 ∧ i < (nI (dN X))) then (if (bI x 0 1000000) = 0 then (2, 0, X) else (if (dF X i.toNatClampNeg 4) = 1 then (0, (nI (bN i.toNatClampNeg (dB X))), (dOpen X i.toNatClampNeg (dCall x))) else (3, 0, X))) else (1, 0, X))
abbrev rmX1_again : Room := ({ frames := 8, cells := 12, slots := 55, locals := 169 } : Room)
set_option maxHeartbeats 4000000 in
theorem metX1_again (l : Launch) (D : va_G) (K : Nat → Nat) (w : Gh) (hst : l.stackTraces = false) {dl ca oa : Nat} {X : DQ} (hD : DW D K w dl ca oa X) {i : Int32} {x : Int32} : gXet l yX1_again (ws_ yX1_again cX1_again 5 (some .int)) rmX1_again D K [.ref dl, .int i, .int x] w (fun r' w' => (dS_again X i x).1 = 0 ∧ r' = some (.int (dS_again X i x).2.1) ∧ DW D K w' dl ca oa (dS_again X i x).2.2 ∧ FD D ca oa w w') (fun E9 => (dS_again X i x).1 ≠ 0 ∧ E9 = eN (dS_again X i x).1) := by
  refine gXet.of (by decide) (Nat.le_of_ble_eq_true rfl) ?_
  intro p e s m args below meth c H locs ls S M hr hlocks hexc G hl
  have hx := S.1
  have hb := S.2.1
  have hown := S.2.2.2.1
  have hts := S.2.2.2.2
  have hl : lv_has ls 5 [(0, .ref dl), (1, .int i), (2, .int x)] := hl
  obtain ⟨Q, hQ⟩ : ∃ Q, Q = gXE below D K w (fun r' w' => (dS_again X i x).1 = 0 ∧ r' = some (.int (dS_again X i x).2.1) ∧ DW D K w' dl ca oa (dS_again X i x).2.2 ∧ FD D ca oa w w') (fun E9 => (dS_again X i x).1 ≠ 0 ∧ E9 = eN (dS_again X i x).1) args s rmX1_again.cells rmX1_again.slots := ⟨_, rfl⟩
  rw [← hQ]
  have hD0 := hD
  obtain ⟨sb, fb, sh, lq, mp, md, lmd, ks, es, hN, ky, vl, bv, ta, cap, hV⟩ := hD
  have hdl := hV.1.1
  have hbdl := hV.1.2
  have hDD := hV.2.2.2.2.2.2.2.2.2
  have hlqc := hV.2.2.1.1
  have hblq := hV.2.2.1.2.1
  have hn30 := hV.2.2.1.2.2.1
  have hca := hV.2.2.2.2.2.1.1
  have hbca := hV.2.2.2.2.2.1.2
  have hoa := hV.2.2.2.2.2.2.1.1
  have hboa := hV.2.2.2.2.2.2.1.2
  have hco := hV.2.2.2.2.2.2.2.1
  have hFD0 : FD D ca oa w w := FD.rf
  obtain ⟨fssb, hcsb⟩ : ∃ z, w sb = some (.inr (1, z)) := by obtain ⟨b9, h9, -⟩ := hV.2.1.1; exact ⟨_, h9⟩
  obtain ⟨fsfb, hcfb⟩ : ∃ z, w fb = some (.inr (1, z)) := by obtain ⟨b9, h9, -⟩ := hV.2.1.2.1; exact ⟨_, h9⟩
  obtain ⟨fssh, hcsh⟩ : ∃ z, w sh = some (.inr (1, z)) := by obtain ⟨b9, h9, -⟩ := hV.2.1.2.2; exact ⟨_, h9⟩
  refine lv_aload_n (pc := 0) hx hb dX1_again_0 rfl (lv_at hl 0 rfl) ?_
  refine lv_iload_n (pc := 1) hx hb dX1_again_1 rfl (lv_at hl 1 rfl) ?_
  refine gx_callV (pc := 2) S M G hl.1 [.int i] [] (metX1_at l D K w hst hD0) 1 (g_recv M G hdl (q := (RX1, TX1, 12)) rfl) q659 q656 q658 qs6 q18 (by decide) rfl ⟨Nat.le_of_ble_eq_true rfl, Nat.le_of_ble_eq_true rfl⟩ rfl (Nat.le_of_ble_eq_true rfl) dX1_again_2 ⟨Nat.le_of_ble_eq_true rfl, Nat.le_of_ble_eq_true rfl⟩ (fun E9 ce9 q9 H1 locs1 hpx G1 hce hcv hcl => by rw [hQ]; exact gx_thr hexc hlocks G1 hce hcv hcl (Nat.le_of_ble_eq_true rfl) (Nat.le_of_ble_eq_true rfl) (by obtain ⟨c1, hE⟩ := hpx; have e9 : dS_again X i x = (1, 0, X) := by unfold dS_again; rw [if_neg c1]; rw [e9]; exact ⟨by show (1 : Nat) ≠ 0; decide, hE⟩)) (fun r w2 H locs hp G => ?_)
  refine W.widen (k := 1) (n := 6) (Nat.le_of_ble_eq_true rfl) (Nat.le_of_ble_eq_true rfl) ?_
  obtain ⟨c1, rfl, hw2⟩ := hp
  rw [hw2] at G
  obtain ⟨hi, hij⟩ := at_ix c1 (by omega)
  have hlo := (hV.2.2.2.1 _ hi).1
  have hblo := (hV.2.2.2.1 _ hi).2
  refine W.eq (g2 := F0 m 5 ls [.ref (dL X i.toNatClampNeg)]) rfl ?_
  refine lv_astore_n (pc := 5) (lv' := [(3, .ref (dL X i.toNatClampNeg)), (0, .ref dl), (1, .int i), (2, .int x)]) hx hb dX1_again_5 rfl hl (by decide) rfl (fun ls hl => ?_)
  refine lv_iload_n (pc := 6) hx hb dX1_again_6 rfl (lv_at hl 3 rfl) ?_
  refine lv_iconst (pc := 7) (v := 0) hx hb dX1_again_7 (by decide) ?_
  refine lv_ldc (pc := 8) (v := 1000000) hx hb hown (hts _ q470) dX1_again_8 ?_
  refine g_callS (pc := 10) S M G hl.1 [.int x, .int 0, .int 1000000] [] (metX1_isIn l D K w) 3 q473 q471 q472 q18 (by decide) rfl ⟨Nat.le_of_ble_eq_true rfl, Nat.le_of_ble_eq_true rfl⟩ rfl (Nat.le_of_ble_eq_true rfl) dX1_again_10 ⟨Nat.le_of_ble_eq_true rfl, Nat.le_of_ble_eq_true rfl⟩ (fun r w2 H locs hp G => ?_)
  obtain ⟨rfl, hw2⟩ := hp
  rw [hw2] at G
  refine W.eq (g2 := F0 m 13 ls [.int (bI x 0 1000000)]) rfl ?_
  refine gx_callS (pc := 13) S M G hl.1 [.int (bI x 0 1000000)] [] (metX1_check l D K w hst) 1 q476 q474 q475 q18 (by decide) rfl ⟨Nat.le_of_ble_eq_true rfl, Nat.le_of_ble_eq_true rfl⟩ rfl (Nat.le_of_ble_eq_true rfl) dX1_again_13 ⟨Nat.le_of_ble_eq_true rfl, Nat.le_of_ble_eq_true rfl⟩ (fun E9 ce9 q9 H1 locs1 hpx G1 hce hcv hcl => by rw [hQ]; exact gx_thr hexc hlocks G1 hce hcv hcl (Nat.le_of_ble_eq_true rfl) (Nat.le_of_ble_eq_true rfl) (by obtain ⟨c2, hE⟩ := hpx; have e9 : dS_again X i x = (2, 0, X) := by unfold dS_again; rw [if_pos c1, if_pos c2]; rw [e9]; exact ⟨by show (2 : Nat) ≠ 0; decide, hE⟩)) (fun r w2 H locs hp G => ?_)
  refine W.widen (k := 2) (n := 12) (Nat.le_of_ble_eq_true rfl) (Nat.le_of_ble_eq_true rfl) ?_
  obtain ⟨c2, rfl, hw2⟩ := hp
  rw [hw2] at G
  refine W.eq (g2 := F0 m 16 ls []) rfl ?_
  refine lv_aload_n (pc := 16) hx hb dX1_again_16 rfl (lv_at hl 0 rfl) ?_
  refine g_getN (pc := 17) (v := .int (dF X i.toNatClampNeg 4)) S M G (C := RX4) (T := TX4) (N := 14) (ci := 3) in_X4 hlo rfl 4 (by decide) q532 rfl rfl dX1_again_17 ?_
  refine lv_iconst (pc := 20) (v := 1) hx hb dX1_again_20 (by decide) ?_
  refine lv_icmp_ne (pc := 21) (tgt := 28) hx hb dX1_again_21 (by decide) (fun c3 => ?_) (fun c3 => ?_)
  · refine lv_iconst (pc := 28) (v := 0) hx hb dX1_again_28 (by decide) ?_
    exact gx_callS (pc := 29) S M G hl.1 [.int 0] [] (metX1_possible l D K w hst) 1 q494 q492 q493 q18 (by decide) rfl ⟨Nat.le_of_ble_eq_true rfl, Nat.le_of_ble_eq_true rfl⟩ rfl (Nat.le_of_ble_eq_true rfl) dX1_again_29 ⟨Nat.le_of_ble_eq_true rfl, Nat.le_of_ble_eq_true rfl⟩ (fun E9 ce9 q9 H1 locs1 hpx G1 hce hcv hcl => by rw [hQ]; exact gx_thr hexc hlocks G1 hce hcv hcl (Nat.le_of_ble_eq_true rfl) (Nat.le_of_ble_eq_true rfl) (by obtain ⟨c4, hE⟩ := hpx; have e9 : dS_again X i x = (3, 0, X) := by unfold dS_again; rw [if_pos c1, if_neg c2, if_neg c3]; rw [e9]; exact ⟨by show (3 : Nat) ≠ 0; decide, hE⟩)) (fun r w2 H locs hp G => absurd rfl hp.1)
  · refine lv_iconst (pc := 24) (v := 1) hx hb dX1_again_24 (by decide) ?_
    refine lv_goto (pc := 25) (tgt := 29) hx hb dX1_again_25 (by decide) ?_
    refine gx_callS (pc := 29) S M G hl.1 [.int 1] [] (metX1_possible l D K w hst) 1 q494 q492 q493 q18 (by decide) rfl ⟨Nat.le_of_ble_eq_true rfl, Nat.le_of_ble_eq_true rfl⟩ rfl (Nat.le_of_ble_eq_true rfl) dX1_again_29 ⟨Nat.le_of_ble_eq_true rfl, Nat.le_of_ble_eq_true rfl⟩ (fun E9 ce9 q9 H1 locs1 hpx G1 hce hcv hcl => by rw [hQ]; exact gx_thr hexc hlocks G1 hce hcv hcl (Nat.le_of_ble_eq_true rfl) (Nat.le_of_ble_eq_true rfl) (absurd hpx.1 (by decide))) (fun r w2 H locs hp G => ?_)
    refine W.widen (k := 3) (n := 18) (Nat.le_of_ble_eq_true rfl) (Nat.le_of_ble_eq_true rfl) ?_
    obtain ⟨_, rfl, hw2⟩ := hp
    rw [hw2] at G
    refine W.eq (g2 := F0 m 32 ls []) rfl ?_
    refine lv_aload_n (pc := 32) hx hb dX1_again_32 rfl (lv_at hl 0 rfl) ?_
    refine g_callV (pc := 33) S M G hl.1 [] [] (metX4_many l D K w hD0 hi) 0 (g_recv M G hlo (q := (RX4, TX4, 14)) rfl) q1122 q1132 q1120 q1121 q35 (by decide) rfl ⟨Nat.le_of_ble_eq_true rfl, Nat.le_of_ble_eq_true rfl⟩ rfl (Nat.le_of_ble_eq_true rfl) dX1_again_33 ⟨Nat.le_of_ble_eq_true rfl, Nat.le_of_ble_eq_true rfl⟩ (fun r w7 H locs hp G => ?_)
    refine W.widen (k := 6) (n := 28) (Nat.le_of_ble_eq_true rfl) (Nat.le_of_ble_eq_true rfl) ?_
    obtain ⟨rfl, hD7, hF7⟩ := hp
    obtain ⟨sb7, fb7, sh7, lq7, mp7, md7, lmd7, ks7, es7, hN7, ky7, vl7, bv7, ta7, cap7, hV7⟩ := hD7
    have hFD7 := hFD0.tr hF7
    have hlo7 := (hV7.2.2.2.1 _ hi).1
    have hblo7 := (hV7.2.2.2.1 _ hi).2
    have hdl7 := hV7.1.1
    obtain ⟨fssb7, hcsb7⟩ : ∃ z, w7 sb7 = some (.inr (1, z)) := by obtain ⟨b9, h9, -⟩ := hV7.2.1.1; exact ⟨_, h9⟩
    obtain ⟨fsfb7, hcfb7⟩ : ∃ z, w7 fb7 = some (.inr (1, z)) := by obtain ⟨b9, h9, -⟩ := hV7.2.1.2.1; exact ⟨_, h9⟩
    obtain ⟨fssh7, hcsh7⟩ : ∃ z, w7 sh7 = some (.inr (1, z)) := by obtain ⟨b9, h9, -⟩ := hV7.2.1.2.2; exact ⟨_, h9⟩
    refine W.eq (g2 := F0 m 36 ls [.int (nI (bN i.toNatClampNeg (dB X)))]) rfl ?_
    refine lv_istore (pc := 36) (lv' := [(4, .int (nI (bN i.toNatClampNeg (dB X)))), (3, .ref (dL X i.toNatClampNeg)), (0, .ref dl), (1, .int i), (2, .int x)]) hx hb dX1_again_36 hl (by decide) rfl (fun ls hl => ?_)
    refine lv_aload_n (pc := 38) hx hb dX1_again_38 rfl (lv_at hl 1 rfl) ?_
    refine lv_aload_n (pc := 39) hx hb dX1_again_39 rfl (lv_at hl 2 rfl) ?_
    refine lv_iload_n (pc := 40) hx hb dX1_again_40 rfl (lv_at hl 4 rfl) ?_
    refine g_callV (pc := 41) S M G hl.1 [.int x] [.ref (dL X i.toNatClampNeg)] (metX1_called l D K w7 hV7.W) 1 (g_recv M G hdl7 (q := (RX1, TX1, 12)) rfl) q514 q511 q513 qs2 q18 (by decide) rfl ⟨Nat.le_of_ble_eq_true rfl, Nat.le_of_ble_eq_true rfl⟩ rfl (Nat.le_of_ble_eq_true rfl) dX1_again_41 ⟨Nat.le_of_ble_eq_true rfl, Nat.le_of_ble_eq_true rfl⟩ (fun r w2 H locs hp G => ?_)
    obtain ⟨rfl, hw2⟩ := hp
    rw [hw2] at G
    refine W.eq (g2 := F0 m 44 ls [.int (dCall x), .ref (dL X i.toNatClampNeg)]) rfl ?_
    refine g_callV (pc := 44) S M G hl.1 [.int (dCall x)] [] (metX4_open l D K w7 hV7.W hi) 1 (g_recv M G hlo7 (q := (RX4, TX4, 14)) rfl) q1136 q1133 q1134 q1135 q35 (by decide) rfl ⟨Nat.le_of_ble_eq_true rfl, Nat.le_of_ble_eq_true rfl⟩ rfl (Nat.le_of_ble_eq_true rfl) dX1_again_44 ⟨Nat.le_of_ble_eq_true rfl, Nat.le_of_ble_eq_true rfl⟩ (fun r w8 H locs hp G => ?_)
    refine W.widen (k := 12) (n := 55) (Nat.le_of_ble_eq_true rfl) (Nat.le_of_ble_eq_true rfl) ?_
    obtain ⟨rfl, hD8, hF8⟩ := hp
    obtain ⟨sb8, fb8, sh8, lq8, mp8, md8, lmd8, ks8, es8, hN8, ky8, vl8, bv8, ta8, cap8, hV8⟩ := hD8
    have hFD8 := hFD7.tr hF8
    have hlo8 := (hV8.2.2.2.1 _ hi).1
    have hblo8 := (hV8.2.2.2.1 _ hi).2
    have hdl8 := hV8.1.1
    obtain ⟨fssb8, hcsb8⟩ : ∃ z, w8 sb8 = some (.inr (1, z)) := by obtain ⟨b9, h9, -⟩ := hV8.2.1.1; exact ⟨_, h9⟩
    obtain ⟨fsfb8, hcfb8⟩ : ∃ z, w8 fb8 = some (.inr (1, z)) := by obtain ⟨b9, h9, -⟩ := hV8.2.1.2.1; exact ⟨_, h9⟩
    obtain ⟨fssh8, hcsh8⟩ : ∃ z, w8 sh8 = some (.inr (1, z)) := by obtain ⟨b9, h9, -⟩ := hV8.2.1.2.2; exact ⟨_, h9⟩
    refine W.eq (g2 := F0 m 47 ls []) rfl ?_
    refine lv_iload (pc := 47) hx hb dX1_again_47 (lv_at hl 0 rfl) ?_
    rw [hQ]
    refine gx_iret S G hr hlocks (hdg := dX1_again_49) ?_ ?_ ?_
    · exact Nat.le_of_ble_eq_true rfl
    · exact Nat.le_of_ble_eq_true rfl
    · have e9 : dS_again X i x = (0, (nI (bN i.toNatClampNeg (dB X))), (dOpen X i.toNatClampNeg (dCall x))) := by
        unfold dS_again
        rw [if_pos c1, if_neg c2, if_pos c3]
      rw [e9]
      exact ⟨rfl, rfl, hV8.W, hFD8⟩
def dS_defaults (X : DQ) (i : Int32) : Nat × Int32 × DQ := (if (¬ i < 0 ∧ i < (nI (dN X))) then (if (dF X i.toNatClampNeg 4) = 2 then (if (dF X i.toNatClampNeg 11) = (-1) then (0, (dF X i.toNatClampNeg 5), (dOpen (sF (sF X i.toNatClampNeg 11 (dF X i.toNatClampNeg 5)) i.toNatClampNeg 12 (dF X i.toNatClampNeg 6)) i.toNatClampNeg (dF X i.toNatClampNeg 3))) else (0, (dF X i.toNatClampNeg 5), (dOpen X i.toNatClampNeg (dF X i.toNatClampNeg 3)))) else (3, 0, X)) else (1, 0, X))
abbrev rmX1_defaults : Room := ({ frames := 8, cells := 8, slots := 39, locals := 169 } : Room)
set_option maxHeartbeats 4000000 in
theorem metX1_defaults (l : Launch) (D : va_G) (K : Nat → Nat) (w : Gh) (hst : l.stackTraces = false) {dl ca oa : Nat} {X : DQ} (hD : DW D K w dl ca oa X) {i : Int32} : gXet l yX1_defaults (ws_ yX1_defaults cX1_defaults 4 (some .int)) rmX1_defaults D K [.ref dl, .int i] w (fun r' w' => (dS_defaults X i).1 = 0 ∧ r' = some (.int (dS_defaults X i).2.1) ∧ DW D K w' dl ca oa (dS_defaults X i).2.2 ∧ FD D ca oa w w') (fun E9 => (dS_defaults X i).1 ≠ 0 ∧ E9 = eN (dS_defaults X i).1) := by
  refine gXet.of (by decide) (Nat.le_of_ble_eq_true rfl) ?_
  intro p e s m args below meth c H locs ls S M hr hlocks hexc G hl
  have hx := S.1
  have hb := S.2.1
  have hown := S.2.2.2.1
  have hts := S.2.2.2.2
  have hl : lv_has ls 4 [(0, .ref dl), (1, .int i)] := hl
  obtain ⟨Q, hQ⟩ : ∃ Q, Q = gXE below D K w (fun r' w' => (dS_defaults X i).1 = 0 ∧ r' = some (.int (dS_defaults X i).2.1) ∧ DW D K w' dl ca oa (dS_defaults X i).2.2 ∧ FD D ca oa w w') (fun E9 => (dS_defaults X i).1 ≠ 0 ∧ E9 = eN (dS_defaults X i).1) args s rmX1_defaults.cells rmX1_defaults.slots := ⟨_, rfl⟩
  rw [← hQ]
  have hD0 := hD
  obtain ⟨sb, fb, sh, lq, mp, md, lmd, ks, es, hN, ky, vl, bv, ta, cap, hV⟩ := hD
  have hdl := hV.1.1
  have hbdl := hV.1.2
  have hDD := hV.2.2.2.2.2.2.2.2.2
  have hlqc := hV.2.2.1.1
  have hblq := hV.2.2.1.2.1
  have hn30 := hV.2.2.1.2.2.1
  have hca := hV.2.2.2.2.2.1.1
  have hbca := hV.2.2.2.2.2.1.2
  have hoa := hV.2.2.2.2.2.2.1.1
  have hboa := hV.2.2.2.2.2.2.1.2
  have hco := hV.2.2.2.2.2.2.2.1
  have hFD0 : FD D ca oa w w := FD.rf
  obtain ⟨fssb, hcsb⟩ : ∃ z, w sb = some (.inr (1, z)) := by obtain ⟨b9, h9, -⟩ := hV.2.1.1; exact ⟨_, h9⟩
  obtain ⟨fsfb, hcfb⟩ : ∃ z, w fb = some (.inr (1, z)) := by obtain ⟨b9, h9, -⟩ := hV.2.1.2.1; exact ⟨_, h9⟩
  obtain ⟨fssh, hcsh⟩ : ∃ z, w sh = some (.inr (1, z)) := by obtain ⟨b9, h9, -⟩ := hV.2.1.2.2; exact ⟨_, h9⟩
  refine lv_aload_n (pc := 0) hx hb dX1_defaults_0 rfl (lv_at hl 0 rfl) ?_
  refine lv_iload_n (pc := 1) hx hb dX1_defaults_1 rfl (lv_at hl 1 rfl) ?_
  refine gx_callV (pc := 2) S M G hl.1 [.int i] [] (metX1_at l D K w hst hD0) 1 (g_recv M G hdl (q := (RX1, TX1, 12)) rfl) q659 q656 q658 qs6 q18 (by decide) rfl ⟨Nat.le_of_ble_eq_true rfl, Nat.le_of_ble_eq_true rfl⟩ rfl (Nat.le_of_ble_eq_true rfl) dX1_defaults_2 ⟨Nat.le_of_ble_eq_true rfl, Nat.le_of_ble_eq_true rfl⟩ (fun E9 ce9 q9 H1 locs1 hpx G1 hce hcv hcl => by rw [hQ]; exact gx_thr hexc hlocks G1 hce hcv hcl (Nat.le_of_ble_eq_true rfl) (Nat.le_of_ble_eq_true rfl) (by obtain ⟨c1, hE⟩ := hpx; have e9 : dS_defaults X i = (1, 0, X) := by unfold dS_defaults; rw [if_neg c1]; rw [e9]; exact ⟨by show (1 : Nat) ≠ 0; decide, hE⟩)) (fun r w2 H locs hp G => ?_)
  refine W.widen (k := 1) (n := 6) (Nat.le_of_ble_eq_true rfl) (Nat.le_of_ble_eq_true rfl) ?_
  obtain ⟨c1, rfl, hw2⟩ := hp
  rw [hw2] at G
  obtain ⟨hi, hij⟩ := at_ix c1 (by omega)
  have hlo := (hV.2.2.2.1 _ hi).1
  have hblo := (hV.2.2.2.1 _ hi).2
  refine W.eq (g2 := F0 m 5 ls [.ref (dL X i.toNatClampNeg)]) rfl ?_
  refine lv_astore_n (pc := 5) (lv' := [(2, .ref (dL X i.toNatClampNeg)), (0, .ref dl), (1, .int i)]) hx hb dX1_defaults_5 rfl hl (by decide) rfl (fun ls hl => ?_)
  refine lv_aload_n (pc := 6) hx hb dX1_defaults_6 rfl (lv_at hl 0 rfl) ?_
  refine g_getN (pc := 7) (v := .int (dF X i.toNatClampNeg 4)) S M G (C := RX4) (T := TX4) (N := 14) (ci := 3) in_X4 hlo rfl 4 (by decide) q532 rfl rfl dX1_defaults_7 ?_
  refine lv_iconst (pc := 10) (v := 2) hx hb dX1_defaults_10 (by decide) ?_
  refine lv_icmp_ne (pc := 11) (tgt := 18) hx hb dX1_defaults_11 (by decide) (fun c2 => ?_) (fun c2 => ?_)
  · refine lv_iconst (pc := 18) (v := 0) hx hb dX1_defaults_18 (by decide) ?_
    exact gx_callS (pc := 19) S M G hl.1 [.int 0] [] (metX1_possible l D K w hst) 1 q494 q492 q493 q18 (by decide) rfl ⟨Nat.le_of_ble_eq_true rfl, Nat.le_of_ble_eq_true rfl⟩ rfl (Nat.le_of_ble_eq_true rfl) dX1_defaults_19 ⟨Nat.le_of_ble_eq_true rfl, Nat.le_of_ble_eq_true rfl⟩ (fun E9 ce9 q9 H1 locs1 hpx G1 hce hcv hcl => by rw [hQ]; exact gx_thr hexc hlocks G1 hce hcv hcl (Nat.le_of_ble_eq_true rfl) (Nat.le_of_ble_eq_true rfl) (by obtain ⟨c3, hE⟩ := hpx; have e9 : dS_defaults X i = (3, 0, X) := by unfold dS_defaults; rw [if_pos c1, if_neg c2]; rw [e9]; exact ⟨by show (3 : Nat) ≠ 0; decide, hE⟩)) (fun r w2 H locs hp G => absurd rfl hp.1)
  · refine lv_iconst (pc := 14) (v := 1) hx hb dX1_defaults_14 (by decide) ?_
    refine lv_goto (pc := 15) (tgt := 19) hx hb dX1_defaults_15 (by decide) ?_
    refine gx_callS (pc := 19) S M G hl.1 [.int 1] [] (metX1_possible l D K w hst) 1 q494 q492 q493 q18 (by decide) rfl ⟨Nat.le_of_ble_eq_true rfl, Nat.le_of_ble_eq_true rfl⟩ rfl (Nat.le_of_ble_eq_true rfl) dX1_defaults_19 ⟨Nat.le_of_ble_eq_true rfl, Nat.le_of_ble_eq_true rfl⟩ (fun E9 ce9 q9 H1 locs1 hpx G1 hce hcv hcl => by rw [hQ]; exact gx_thr hexc hlocks G1 hce hcv hcl (Nat.le_of_ble_eq_true rfl) (Nat.le_of_ble_eq_true rfl) (absurd hpx.1 (by decide))) (fun r w2 H locs hp G => ?_)
    refine W.widen (k := 2) (n := 12) (Nat.le_of_ble_eq_true rfl) (Nat.le_of_ble_eq_true rfl) ?_
    obtain ⟨_, rfl, hw2⟩ := hp
    rw [hw2] at G
    refine W.eq (g2 := F0 m 22 ls []) rfl ?_
    refine lv_aload_n (pc := 22) hx hb dX1_defaults_22 rfl (lv_at hl 0 rfl) ?_
    refine g_getN (pc := 23) (v := .int (dF X i.toNatClampNeg 5)) S M G (C := RX4) (T := TX4) (N := 14) (ci := 3) in_X4 hlo rfl 5 (by decide) q534 rfl rfl dX1_defaults_23 ?_
    refine lv_istore_n (pc := 26) (lv' := [(3, .int (dF X i.toNatClampNeg 5)), (2, .ref (dL X i.toNatClampNeg)), (0, .ref dl), (1, .int i)]) hx hb dX1_defaults_26 rfl hl (by decide) rfl (fun ls hl => ?_)
    refine lv_aload_n (pc := 27) hx hb dX1_defaults_27 rfl (lv_at hl 1 rfl) ?_
    refine g_getN (pc := 28) (v := .int (dF X i.toNatClampNeg 11)) S M G (C := RX4) (T := TX4) (N := 14) (ci := 3) in_X4 hlo rfl 11 (by decide) q545 rfl rfl dX1_defaults_28 ?_
    refine lv_iconst (pc := 31) (v := (-1)) hx hb dX1_defaults_31 (by decide) ?_
    refine lv_icmp_ne (pc := 32) (tgt := 48) hx hb dX1_defaults_32 (by decide) (fun c5 => ?_) (fun c5 => ?_)
    · refine lv_aload_n (pc := 48) hx hb dX1_defaults_48 rfl (lv_at hl 1 rfl) ?_
      refine lv_aload_n (pc := 49) hx hb dX1_defaults_49 rfl (lv_at hl 1 rfl) ?_
      refine g_getN (pc := 50) (v := .int (dF X i.toNatClampNeg 3)) S M G (C := RX4) (T := TX4) (N := 14) (ci := 3) in_X4 hlo rfl 3 (by decide) q530 rfl rfl dX1_defaults_50 ?_
      refine g_callV (pc := 53) S M G hl.1 [.int (dF X i.toNatClampNeg 3)] [] (metX4_open l D K w hD0 hi) 1 (g_recv M G hlo (q := (RX4, TX4, 14)) rfl) q1136 q1133 q1134 q1135 q35 (by decide) rfl ⟨Nat.le_of_ble_eq_true rfl, Nat.le_of_ble_eq_true rfl⟩ rfl (Nat.le_of_ble_eq_true rfl) dX1_defaults_53 ⟨Nat.le_of_ble_eq_true rfl, Nat.le_of_ble_eq_true rfl⟩ (fun r w8 H locs hp G => ?_)
      refine W.widen (k := 8) (n := 39) (Nat.le_of_ble_eq_true rfl) (Nat.le_of_ble_eq_true rfl) ?_
      obtain ⟨rfl, hD8, hF8⟩ := hp
      obtain ⟨sb8, fb8, sh8, lq8, mp8, md8, lmd8, ks8, es8, hN8, ky8, vl8, bv8, ta8, cap8, hV8⟩ := hD8
      have hFD8 := hFD0.tr hF8
      have hlo8 := (hV8.2.2.2.1 _ hi).1
      have hblo8 := (hV8.2.2.2.1 _ hi).2
      have hdl8 := hV8.1.1
      obtain ⟨fssb8, hcsb8⟩ : ∃ z, w8 sb8 = some (.inr (1, z)) := by obtain ⟨b9, h9, -⟩ := hV8.2.1.1; exact ⟨_, h9⟩
      obtain ⟨fsfb8, hcfb8⟩ : ∃ z, w8 fb8 = some (.inr (1, z)) := by obtain ⟨b9, h9, -⟩ := hV8.2.1.2.1; exact ⟨_, h9⟩
      obtain ⟨fssh8, hcsh8⟩ : ∃ z, w8 sh8 = some (.inr (1, z)) := by obtain ⟨b9, h9, -⟩ := hV8.2.1.2.2; exact ⟨_, h9⟩
      refine W.eq (g2 := F0 m 56 ls []) rfl ?_
      refine lv_iload_n (pc := 56) hx hb dX1_defaults_56 rfl (lv_at hl 0 rfl) ?_
      rw [hQ]
      refine gx_iret S G hr hlocks (hdg := dX1_defaults_57) ?_ ?_ ?_
      · exact Nat.le_of_ble_eq_true rfl
      · exact Nat.le_of_ble_eq_true rfl
      · have e9 : dS_defaults X i = (0, (dF X i.toNatClampNeg 5), (dOpen X i.toNatClampNeg (dF X i.toNatClampNeg 3))) := by
          unfold dS_defaults
          rw [if_pos c1, if_pos c2, if_neg c5]
        rw [e9]
        exact ⟨rfl, rfl, hV8.W, hFD8⟩
    · refine lv_aload_n (pc := 35) hx hb dX1_defaults_35 rfl (lv_at hl 1 rfl) ?_
      refine lv_iload_n (pc := 36) hx hb dX1_defaults_36 rfl (lv_at hl 0 rfl) ?_
      refine g_putN (pc := 37) (v := .int (dF X i.toNatClampNeg 5)) S M G (C := RX4) (T := TX4) (N := 14) (ci := 3) in_X4 tyX4 tyX4_ok nmX4 hlo hblo rfl 11 (by decide) q545 rfl rfl rfl rfl (Nat.le_of_ble_eq_true rfl) dX1_defaults_37 (fun H locs G => ?_)
      obtain ⟨w1_, hw1_⟩ : ∃ z9, z9 = gu w (dL X i.toNatClampNeg) (.inr (3, [.int (nI i.toNatClampNeg), .int (dF X i.toNatClampNeg 1), .int (dF X i.toNatClampNeg 2), .int (dF X i.toNatClampNeg 3), .int (dF X i.toNatClampNeg 4), .int (dF X i.toNatClampNeg 5), .int (dF X i.toNatClampNeg 6), .int (dF X i.toNatClampNeg 7), .int (dF X i.toNatClampNeg 8), .int (dF X i.toNatClampNeg 9), .int (dF X i.toNatClampNeg 10), .int (dF X i.toNatClampNeg 5), .int (dF X i.toNatClampNeg 12), .ref dl])) := ⟨_, rfl⟩
      replace G : gS D K w1_ s H locs := by rw [hw1_]; exact G
      have c1_dl : w1_ dl = some (.inr (0, [.ref sb, .ref fb, .ref sh, .ref lq, .ref mp, .ref ca, .ref oa, .int (dC X 0), .int (dC X 1), .long (dM X 0), .long (dM X 1), .long (dM X 2)])) := by rw [hw1_, gu_n (gne_c hdl hlo (by decide))]; exact hdl
      have c1_lq : w1_ lq = some (.inr (6, [.int lmd, .ref ta, .int (nI (dN X))])) := by rw [hw1_, gu_n (gne_c hlqc hlo (by decide))]; exact hlqc
      have c1_ca : w1_ ca = some (.inl (D.1 100, 6, .inl (dA X 0))) := by rw [hw1_, gu_n (gne_ao hca hlo)]; exact hca
      have c1_oa : w1_ oa = some (.inl (D.1 100, 10, .inl (dA X 1))) := by rw [hw1_, gu_n (gne_ao hoa hlo)]; exact hoa
      have c1_sb : w1_ sb = some (.inr (1, fssb)) := by rw [hw1_, gu_n (gne_c hcsb hlo (by decide))]; exact hcsb
      have c1_fb : w1_ fb = some (.inr (1, fsfb)) := by rw [hw1_, gu_n (gne_c hcfb hlo (by decide))]; exact hcfb
      have c1_sh : w1_ sh = some (.inr (1, fssh)) := by rw [hw1_, gu_n (gne_c hcsh hlo (by decide))]; exact hcsh
      have c1__dL_X_i_toNatClampNeg_ : w1_ (dL X i.toNatClampNeg) = some (.inr (3, [.int (nI i.toNatClampNeg), .int (dF X i.toNatClampNeg 1), .int (dF X i.toNatClampNeg 2), .int (dF X i.toNatClampNeg 3), .int (dF X i.toNatClampNeg 4), .int (dF X i.toNatClampNeg 5), .int (dF X i.toNatClampNeg 6), .int (dF X i.toNatClampNeg 7), .int (dF X i.toNatClampNeg 8), .int (dF X i.toNatClampNeg 9), .int (dF X i.toNatClampNeg 10), .int (dF X i.toNatClampNeg 5), .int (dF X i.toNatClampNeg 12), .ref dl])) := by rw [hw1_]; exact gu_s
      have hVw1_ : DV D K w1_ dl ca oa (sF X i.toNatClampNeg 11 (dF X i.toNatClampNeg 5)) sb fb sh lq mp md lmd ks es hN ky vl bv ta cap := by rw [hw1_]; exact hV.putL (k := 11) (x := (dF X i.toNatClampNeg 5)) hi (by first | rfl | (simp only [dF_s, dF_sA, dF_sC, dF_sM, dF_sB]; rfl))
      have hFw1_ : FD D ca oa w w1_ := hFD0.tr (by rw [hw1_]; exact FD.up hlo (by decide))
      refine lv_aload_n (pc := 40) hx hb dX1_defaults_40 rfl (lv_at hl 1 rfl) ?_
      refine lv_aload_n (pc := 41) hx hb dX1_defaults_41 rfl (lv_at hl 1 rfl) ?_
      refine g_getN (pc := 42) (v := .int (dF X i.toNatClampNeg 6)) S M G (C := RX4) (T := TX4) (N := 14) (ci := 3) in_X4 c1__dL_X_i_toNatClampNeg_ rfl 6 (by decide) q536 rfl rfl dX1_defaults_42 ?_
      refine g_putN (pc := 45) (v := .int (dF X i.toNatClampNeg 6)) S M G (C := RX4) (T := TX4) (N := 14) (ci := 3) in_X4 tyX4 tyX4_ok nmX4 c1__dL_X_i_toNatClampNeg_ hblo rfl 12 (by decide) q546 rfl rfl rfl rfl (Nat.le_of_ble_eq_true rfl) dX1_defaults_45 (fun H locs G => ?_)
      obtain ⟨w2_, hw2_⟩ : ∃ z9, z9 = gu w1_ (dL X i.toNatClampNeg) (.inr (3, [.int (nI i.toNatClampNeg), .int (dF X i.toNatClampNeg 1), .int (dF X i.toNatClampNeg 2), .int (dF X i.toNatClampNeg 3), .int (dF X i.toNatClampNeg 4), .int (dF X i.toNatClampNeg 5), .int (dF X i.toNatClampNeg 6), .int (dF X i.toNatClampNeg 7), .int (dF X i.toNatClampNeg 8), .int (dF X i.toNatClampNeg 9), .int (dF X i.toNatClampNeg 10), .int (dF X i.toNatClampNeg 5), .int (dF X i.toNatClampNeg 6), .ref dl])) := ⟨_, rfl⟩
      replace G : gS D K w2_ s H locs := by rw [hw2_]; exact G
      have c2_dl : w2_ dl = some (.inr (0, [.ref sb, .ref fb, .ref sh, .ref lq, .ref mp, .ref ca, .ref oa, .int (dC X 0), .int (dC X 1), .long (dM X 0), .long (dM X 1), .long (dM X 2)])) := by rw [hw2_, gu_n (gne_c c1_dl c1__dL_X_i_toNatClampNeg_ (by decide))]; exact c1_dl
      have c2_lq : w2_ lq = some (.inr (6, [.int lmd, .ref ta, .int (nI (dN X))])) := by rw [hw2_, gu_n (gne_c c1_lq c1__dL_X_i_toNatClampNeg_ (by decide))]; exact c1_lq
      have c2_ca : w2_ ca = some (.inl (D.1 100, 6, .inl (dA X 0))) := by rw [hw2_, gu_n (gne_ao c1_ca c1__dL_X_i_toNatClampNeg_)]; exact c1_ca
      have c2_oa : w2_ oa = some (.inl (D.1 100, 10, .inl (dA X 1))) := by rw [hw2_, gu_n (gne_ao c1_oa c1__dL_X_i_toNatClampNeg_)]; exact c1_oa
      have c2_sb : w2_ sb = some (.inr (1, fssb)) := by rw [hw2_, gu_n (gne_c c1_sb c1__dL_X_i_toNatClampNeg_ (by decide))]; exact c1_sb
      have c2_fb : w2_ fb = some (.inr (1, fsfb)) := by rw [hw2_, gu_n (gne_c c1_fb c1__dL_X_i_toNatClampNeg_ (by decide))]; exact c1_fb
      have c2_sh : w2_ sh = some (.inr (1, fssh)) := by rw [hw2_, gu_n (gne_c c1_sh c1__dL_X_i_toNatClampNeg_ (by decide))]; exact c1_sh
      have c2__dL_X_i_toNatClampNeg_ : w2_ (dL X i.toNatClampNeg) = some (.inr (3, [.int (nI i.toNatClampNeg), .int (dF X i.toNatClampNeg 1), .int (dF X i.toNatClampNeg 2), .int (dF X i.toNatClampNeg 3), .int (dF X i.toNatClampNeg 4), .int (dF X i.toNatClampNeg 5), .int (dF X i.toNatClampNeg 6), .int (dF X i.toNatClampNeg 7), .int (dF X i.toNatClampNeg 8), .int (dF X i.toNatClampNeg 9), .int (dF X i.toNatClampNeg 10), .int (dF X i.toNatClampNeg 5), .int (dF X i.toNatClampNeg 6), .ref dl])) := by rw [hw2_]; exact gu_s
      have hVw2_ : DV D K w2_ dl ca oa (sF (sF X i.toNatClampNeg 11 (dF X i.toNatClampNeg 5)) i.toNatClampNeg 12 (dF X i.toNatClampNeg 6)) sb fb sh lq mp md lmd ks es hN ky vl bv ta cap := by rw [hw2_]; exact hVw1_.putL (k := 12) (x := (dF X i.toNatClampNeg 6)) hi (by first | rfl | (simp only [dF_s, dF_sA, dF_sC, dF_sM, dF_sB]; rfl))
      have hFw2_ : FD D ca oa w w2_ := hFw1_.tr (by rw [hw2_]; exact FD.up c1__dL_X_i_toNatClampNeg_ (by decide))
      refine lv_aload_n (pc := 48) hx hb dX1_defaults_48 rfl (lv_at hl 1 rfl) ?_
      refine lv_aload_n (pc := 49) hx hb dX1_defaults_49 rfl (lv_at hl 1 rfl) ?_
      refine g_getN (pc := 50) (v := .int (dF X i.toNatClampNeg 3)) S M G (C := RX4) (T := TX4) (N := 14) (ci := 3) in_X4 c2__dL_X_i_toNatClampNeg_ rfl 3 (by decide) q530 rfl rfl dX1_defaults_50 ?_
      refine g_callV (pc := 53) S M G hl.1 [.int (dF X i.toNatClampNeg 3)] [] (metX4_open l D K w2_ hVw2_.W hi) 1 (g_recv M G c2__dL_X_i_toNatClampNeg_ (q := (RX4, TX4, 14)) rfl) q1136 q1133 q1134 q1135 q35 (by decide) rfl ⟨Nat.le_of_ble_eq_true rfl, Nat.le_of_ble_eq_true rfl⟩ rfl (Nat.le_of_ble_eq_true rfl) dX1_defaults_53 ⟨Nat.le_of_ble_eq_true rfl, Nat.le_of_ble_eq_true rfl⟩ (fun r w8 H locs hp G => ?_)
      refine W.widen (k := 8) (n := 39) (Nat.le_of_ble_eq_true rfl) (Nat.le_of_ble_eq_true rfl) ?_
      obtain ⟨rfl, hD8, hF8⟩ := hp
      obtain ⟨sb8, fb8, sh8, lq8, mp8, md8, lmd8, ks8, es8, hN8, ky8, vl8, bv8, ta8, cap8, hV8⟩ := hD8
      have hFD8 := hFw2_.tr hF8
      have hlo8 := (hV8.2.2.2.1 _ hi).1
      have hblo8 := (hV8.2.2.2.1 _ hi).2
      have hdl8 := hV8.1.1
      obtain ⟨fssb8, hcsb8⟩ : ∃ z, w8 sb8 = some (.inr (1, z)) := by obtain ⟨b9, h9, -⟩ := hV8.2.1.1; exact ⟨_, h9⟩
      obtain ⟨fsfb8, hcfb8⟩ : ∃ z, w8 fb8 = some (.inr (1, z)) := by obtain ⟨b9, h9, -⟩ := hV8.2.1.2.1; exact ⟨_, h9⟩
      obtain ⟨fssh8, hcsh8⟩ : ∃ z, w8 sh8 = some (.inr (1, z)) := by obtain ⟨b9, h9, -⟩ := hV8.2.1.2.2; exact ⟨_, h9⟩
      refine W.eq (g2 := F0 m 56 ls []) rfl ?_
      refine lv_iload_n (pc := 56) hx hb dX1_defaults_56 rfl (lv_at hl 0 rfl) ?_
      rw [hQ]
      refine gx_iret S G hr hlocks (hdg := dX1_defaults_57) ?_ ?_ ?_
      · exact Nat.le_of_ble_eq_true rfl
      · exact Nat.le_of_ble_eq_true rfl
      · have e9 : dS_defaults X i = (0, (dF X i.toNatClampNeg 5), (dOpen (sF (sF X i.toNatClampNeg 11 (dF X i.toNatClampNeg 5)) i.toNatClampNeg 12 (dF X i.toNatClampNeg 6)) i.toNatClampNeg (dF X i.toNatClampNeg 3))) := by
          unfold dS_defaults
          rw [if_pos c1, if_pos c2, if_pos c5]
        rw [e9]
        exact ⟨rfl, rfl, hV8.W, hFD8⟩
def dS_advance (X : DQ) (i : Int32) (x : Int32) : Nat × Int32 × DQ := (if (¬ i < 0 ∧ i < (nI (dN X))) then (if (bI x 1 1000000) = 0 then (2, 0, X) else (if ((dF X i.toNatClampNeg 3) / 2) < x then (2, 0, X) else (if (dF X i.toNatClampNeg 4) = 3 then (3, 0, X) else (if (dF X i.toNatClampNeg 4) = 4 then (3, 0, X) else (if (dF X i.toNatClampNeg 8) = 0 then (0, ((dF X i.toNatClampNeg 3) / 2), (sM (sF (sF X i.toNatClampNeg 8 x) i.toNatClampNeg 9 (dC X 1)) 1 ((dM X 1) + (x : Int32).toInt64))) else (3, 0, X)))))) else (1, 0, X))
abbrev rmX1_advance : Room := ({ frames := 8, cells := 3, slots := 18, locals := 142 } : Room)
set_option maxHeartbeats 4000000 in
theorem metX1_advance (l : Launch) (D : va_G) (K : Nat → Nat) (w : Gh) (hst : l.stackTraces = false) {dl ca oa : Nat} {X : DQ} (hD : DW D K w dl ca oa X) {i : Int32} {x : Int32} : gXet l yX1_advance (ws_ yX1_advance cX1_advance 5 (some .int)) rmX1_advance D K [.ref dl, .int i, .int x] w (fun r' w' => (dS_advance X i x).1 = 0 ∧ r' = some (.int (dS_advance X i x).2.1) ∧ DW D K w' dl ca oa (dS_advance X i x).2.2 ∧ FD D ca oa w w') (fun E9 => (dS_advance X i x).1 ≠ 0 ∧ E9 = eN (dS_advance X i x).1) := by
  refine gXet.of (by decide) (Nat.le_of_ble_eq_true rfl) ?_
  intro p e s m args below meth c H locs ls S M hr hlocks hexc G hl
  have hx := S.1
  have hb := S.2.1
  have hown := S.2.2.2.1
  have hts := S.2.2.2.2
  have hl : lv_has ls 5 [(0, .ref dl), (1, .int i), (2, .int x)] := hl
  obtain ⟨Q, hQ⟩ : ∃ Q, Q = gXE below D K w (fun r' w' => (dS_advance X i x).1 = 0 ∧ r' = some (.int (dS_advance X i x).2.1) ∧ DW D K w' dl ca oa (dS_advance X i x).2.2 ∧ FD D ca oa w w') (fun E9 => (dS_advance X i x).1 ≠ 0 ∧ E9 = eN (dS_advance X i x).1) args s rmX1_advance.cells rmX1_advance.slots := ⟨_, rfl⟩
  rw [← hQ]
  have hD0 := hD
  obtain ⟨sb, fb, sh, lq, mp, md, lmd, ks, es, hN, ky, vl, bv, ta, cap, hV⟩ := hD
  have hdl := hV.1.1
  have hbdl := hV.1.2
  have hDD := hV.2.2.2.2.2.2.2.2.2
  have hlqc := hV.2.2.1.1
  have hblq := hV.2.2.1.2.1
  have hn30 := hV.2.2.1.2.2.1
  have hca := hV.2.2.2.2.2.1.1
  have hbca := hV.2.2.2.2.2.1.2
  have hoa := hV.2.2.2.2.2.2.1.1
  have hboa := hV.2.2.2.2.2.2.1.2
  have hco := hV.2.2.2.2.2.2.2.1
  have hFD0 : FD D ca oa w w := FD.rf
  obtain ⟨fssb, hcsb⟩ : ∃ z, w sb = some (.inr (1, z)) := by obtain ⟨b9, h9, -⟩ := hV.2.1.1; exact ⟨_, h9⟩
  obtain ⟨fsfb, hcfb⟩ : ∃ z, w fb = some (.inr (1, z)) := by obtain ⟨b9, h9, -⟩ := hV.2.1.2.1; exact ⟨_, h9⟩
  obtain ⟨fssh, hcsh⟩ : ∃ z, w sh = some (.inr (1, z)) := by obtain ⟨b9, h9, -⟩ := hV.2.1.2.2; exact ⟨_, h9⟩
  refine lv_aload_n (pc := 0) hx hb dX1_advance_0 rfl (lv_at hl 0 rfl) ?_
  refine lv_iload_n (pc := 1) hx hb dX1_advance_1 rfl (lv_at hl 1 rfl) ?_
  refine gx_callV (pc := 2) S M G hl.1 [.int i] [] (metX1_at l D K w hst hD0) 1 (g_recv M G hdl (q := (RX1, TX1, 12)) rfl) q659 q656 q658 qs6 q18 (by decide) rfl ⟨Nat.le_of_ble_eq_true rfl, Nat.le_of_ble_eq_true rfl⟩ rfl (Nat.le_of_ble_eq_true rfl) dX1_advance_2 ⟨Nat.le_of_ble_eq_true rfl, Nat.le_of_ble_eq_true rfl⟩ (fun E9 ce9 q9 H1 locs1 hpx G1 hce hcv hcl => by rw [hQ]; exact gx_thr hexc hlocks G1 hce hcv hcl (Nat.le_of_ble_eq_true rfl) (Nat.le_of_ble_eq_true rfl) (by obtain ⟨c1, hE⟩ := hpx; have e9 : dS_advance X i x = (1, 0, X) := by unfold dS_advance; rw [if_neg c1]; rw [e9]; exact ⟨by show (1 : Nat) ≠ 0; decide, hE⟩)) (fun r w2 H locs hp G => ?_)
  refine W.widen (k := 1) (n := 6) (Nat.le_of_ble_eq_true rfl) (Nat.le_of_ble_eq_true rfl) ?_
  obtain ⟨c1, rfl, hw2⟩ := hp
  rw [hw2] at G
  obtain ⟨hi, hij⟩ := at_ix c1 (by omega)
  have hlo := (hV.2.2.2.1 _ hi).1
  have hblo := (hV.2.2.2.1 _ hi).2
  refine W.eq (g2 := F0 m 5 ls [.ref (dL X i.toNatClampNeg)]) rfl ?_
  refine lv_astore_n (pc := 5) (lv' := [(3, .ref (dL X i.toNatClampNeg)), (0, .ref dl), (1, .int i), (2, .int x)]) hx hb dX1_advance_5 rfl hl (by decide) rfl (fun ls hl => ?_)
  refine lv_aload_n (pc := 6) hx hb dX1_advance_6 rfl (lv_at hl 0 rfl) ?_
  refine g_getN (pc := 7) (v := .int (dF X i.toNatClampNeg 3)) S M G (C := RX4) (T := TX4) (N := 14) (ci := 3) in_X4 hlo rfl 3 (by decide) q530 rfl rfl dX1_advance_7 ?_
  refine lv_iconst (pc := 10) (v := 2) hx hb dX1_advance_10 (by decide) ?_
  refine lv_idiv (pc := 11) hx hb dX1_advance_11 (by decide) ?_
  refine lv_istore (pc := 12) (lv' := [(4, .int ((dF X i.toNatClampNeg 3) / 2)), (3, .ref (dL X i.toNatClampNeg)), (0, .ref dl), (1, .int i), (2, .int x)]) hx hb dX1_advance_12 hl (by decide) rfl (fun ls hl => ?_)
  refine lv_iload_n (pc := 14) hx hb dX1_advance_14 rfl (lv_at hl 4 rfl) ?_
  refine lv_iconst (pc := 15) (v := 1) hx hb dX1_advance_15 (by decide) ?_
  refine lv_ldc (pc := 16) (v := 1000000) hx hb hown (hts _ q470) dX1_advance_16 ?_
  refine g_callS (pc := 18) S M G hl.1 [.int x, .int 1, .int 1000000] [] (metX1_isIn l D K w) 3 q473 q471 q472 q18 (by decide) rfl ⟨Nat.le_of_ble_eq_true rfl, Nat.le_of_ble_eq_true rfl⟩ rfl (Nat.le_of_ble_eq_true rfl) dX1_advance_18 ⟨Nat.le_of_ble_eq_true rfl, Nat.le_of_ble_eq_true rfl⟩ (fun r w2 H locs hp G => ?_)
  obtain ⟨rfl, hw2⟩ := hp
  rw [hw2] at G
  refine W.eq (g2 := F0 m 21 ls [.int (bI x 1 1000000)]) rfl ?_
  refine lv_if_eq (pc := 21) (tgt := 34) hx hb dX1_advance_21 (by decide) (fun c2 => ?_) (fun c2 => ?_)
  · refine lv_iconst (pc := 34) (v := 0) hx hb dX1_advance_34 (by decide) ?_
    exact gx_callS (pc := 35) S M G hl.1 [.int 0] [] (metX1_check l D K w hst) 1 q476 q474 q475 q18 (by decide) rfl ⟨Nat.le_of_ble_eq_true rfl, Nat.le_of_ble_eq_true rfl⟩ rfl (Nat.le_of_ble_eq_true rfl) dX1_advance_35 ⟨Nat.le_of_ble_eq_true rfl, Nat.le_of_ble_eq_true rfl⟩ (fun E9 ce9 q9 H1 locs1 hpx G1 hce hcv hcl => by rw [hQ]; exact gx_thr hexc hlocks G1 hce hcv hcl (Nat.le_of_ble_eq_true rfl) (Nat.le_of_ble_eq_true rfl) (by obtain ⟨c3, hE⟩ := hpx; have e9 : dS_advance X i x = (2, 0, X) := by unfold dS_advance; rw [if_pos c1, if_pos c2]; rw [e9]; exact ⟨by show (2 : Nat) ≠ 0; decide, hE⟩)) (fun r w2 H locs hp G => absurd rfl hp.1)
  · refine lv_iload_n (pc := 24) hx hb dX1_advance_24 rfl (lv_at hl 4 rfl) ?_
    refine lv_iload (pc := 25) hx hb dX1_advance_25 (lv_at hl 0 rfl) ?_
    refine lv_icmp_gt (pc := 27) (tgt := 34) hx hb dX1_advance_27 (by decide) (fun c4 => ?_) (fun c4 => ?_)
    · refine lv_iconst (pc := 34) (v := 0) hx hb dX1_advance_34 (by decide) ?_
      exact gx_callS (pc := 35) S M G hl.1 [.int 0] [] (metX1_check l D K w hst) 1 q476 q474 q475 q18 (by decide) rfl ⟨Nat.le_of_ble_eq_true rfl, Nat.le_of_ble_eq_true rfl⟩ rfl (Nat.le_of_ble_eq_true rfl) dX1_advance_35 ⟨Nat.le_of_ble_eq_true rfl, Nat.le_of_ble_eq_true rfl⟩ (fun E9 ce9 q9 H1 locs1 hpx G1 hce hcv hcl => by rw [hQ]; exact gx_thr hexc hlocks G1 hce hcv hcl (Nat.le_of_ble_eq_true rfl) (Nat.le_of_ble_eq_true rfl) (by obtain ⟨c5, hE⟩ := hpx; have e9 : dS_advance X i x = (2, 0, X) := by unfold dS_advance; rw [if_pos c1, if_neg c2, if_pos c4]; rw [e9]; exact ⟨by show (2 : Nat) ≠ 0; decide, hE⟩)) (fun r w2 H locs hp G => absurd rfl hp.1)
    · refine lv_iconst (pc := 30) (v := 1) hx hb dX1_advance_30 (by decide) ?_
      refine lv_goto (pc := 31) (tgt := 35) hx hb dX1_advance_31 (by decide) ?_
      refine gx_callS (pc := 35) S M G hl.1 [.int 1] [] (metX1_check l D K w hst) 1 q476 q474 q475 q18 (by decide) rfl ⟨Nat.le_of_ble_eq_true rfl, Nat.le_of_ble_eq_true rfl⟩ rfl (Nat.le_of_ble_eq_true rfl) dX1_advance_35 ⟨Nat.le_of_ble_eq_true rfl, Nat.le_of_ble_eq_true rfl⟩ (fun E9 ce9 q9 H1 locs1 hpx G1 hce hcv hcl => by rw [hQ]; exact gx_thr hexc hlocks G1 hce hcv hcl (Nat.le_of_ble_eq_true rfl) (Nat.le_of_ble_eq_true rfl) (absurd hpx.1 (by decide))) (fun r w2 H locs hp G => ?_)
      refine W.widen (k := 2) (n := 12) (Nat.le_of_ble_eq_true rfl) (Nat.le_of_ble_eq_true rfl) ?_
      obtain ⟨_, rfl, hw2⟩ := hp
      rw [hw2] at G
      refine W.eq (g2 := F0 m 38 ls []) rfl ?_
      refine lv_aload_n (pc := 38) hx hb dX1_advance_38 rfl (lv_at hl 1 rfl) ?_
      refine g_getN (pc := 39) (v := .int (dF X i.toNatClampNeg 4)) S M G (C := RX4) (T := TX4) (N := 14) (ci := 3) in_X4 hlo rfl 4 (by decide) q532 rfl rfl dX1_advance_39 ?_
      refine lv_iconst (pc := 42) (v := 3) hx hb dX1_advance_42 (by decide) ?_
      refine lv_icmp_eq (pc := 43) (tgt := 65) hx hb dX1_advance_43 (by decide) (fun c7 => ?_) (fun c7 => ?_)
      · refine lv_iconst (pc := 65) (v := 0) hx hb dX1_advance_65 (by decide) ?_
        exact gx_callS (pc := 66) S M G hl.1 [.int 0] [] (metX1_possible l D K w hst) 1 q494 q492 q493 q18 (by decide) rfl ⟨Nat.le_of_ble_eq_true rfl, Nat.le_of_ble_eq_true rfl⟩ rfl (Nat.le_of_ble_eq_true rfl) dX1_advance_66 ⟨Nat.le_of_ble_eq_true rfl, Nat.le_of_ble_eq_true rfl⟩ (fun E9 ce9 q9 H1 locs1 hpx G1 hce hcv hcl => by rw [hQ]; exact gx_thr hexc hlocks G1 hce hcv hcl (Nat.le_of_ble_eq_true rfl) (Nat.le_of_ble_eq_true rfl) (by obtain ⟨c8, hE⟩ := hpx; have e9 : dS_advance X i x = (3, 0, X) := by unfold dS_advance; rw [if_pos c1, if_neg c2, if_neg c4, if_pos c7]; rw [e9]; exact ⟨by show (3 : Nat) ≠ 0; decide, hE⟩)) (fun r w2 H locs hp G => absurd rfl hp.1)
      · refine lv_aload_n (pc := 46) hx hb dX1_advance_46 rfl (lv_at hl 1 rfl) ?_
        refine g_getN (pc := 47) (v := .int (dF X i.toNatClampNeg 4)) S M G (C := RX4) (T := TX4) (N := 14) (ci := 3) in_X4 hlo rfl 4 (by decide) q532 rfl rfl dX1_advance_47 ?_
        refine lv_iconst (pc := 50) (v := 4) hx hb dX1_advance_50 (by decide) ?_
        refine lv_icmp_eq (pc := 51) (tgt := 65) hx hb dX1_advance_51 (by decide) (fun c9 => ?_) (fun c9 => ?_)
        · refine lv_iconst (pc := 65) (v := 0) hx hb dX1_advance_65 (by decide) ?_
          exact gx_callS (pc := 66) S M G hl.1 [.int 0] [] (metX1_possible l D K w hst) 1 q494 q492 q493 q18 (by decide) rfl ⟨Nat.le_of_ble_eq_true rfl, Nat.le_of_ble_eq_true rfl⟩ rfl (Nat.le_of_ble_eq_true rfl) dX1_advance_66 ⟨Nat.le_of_ble_eq_true rfl, Nat.le_of_ble_eq_true rfl⟩ (fun E9 ce9 q9 H1 locs1 hpx G1 hce hcv hcl => by rw [hQ]; exact gx_thr hexc hlocks G1 hce hcv hcl (Nat.le_of_ble_eq_true rfl) (Nat.le_of_ble_eq_true rfl) (by obtain ⟨c10, hE⟩ := hpx; have e9 : dS_advance X i x = (3, 0, X) := by unfold dS_advance; rw [if_pos c1, if_neg c2, if_neg c4, if_neg c7, if_pos c9]; rw [e9]; exact ⟨by show (3 : Nat) ≠ 0; decide, hE⟩)) (fun r w2 H locs hp G => absurd rfl hp.1)
        · refine lv_aload_n (pc := 54) hx hb dX1_advance_54 rfl (lv_at hl 1 rfl) ?_
          refine g_getN (pc := 55) (v := .int (dF X i.toNatClampNeg 8)) S M G (C := RX4) (T := TX4) (N := 14) (ci := 3) in_X4 hlo rfl 8 (by decide) q539 rfl rfl dX1_advance_55 ?_
          refine lv_if_ne (pc := 58) (tgt := 65) hx hb dX1_advance_58 (by decide) (fun c11 => ?_) (fun c11 => ?_)
          · refine lv_iconst (pc := 65) (v := 0) hx hb dX1_advance_65 (by decide) ?_
            exact gx_callS (pc := 66) S M G hl.1 [.int 0] [] (metX1_possible l D K w hst) 1 q494 q492 q493 q18 (by decide) rfl ⟨Nat.le_of_ble_eq_true rfl, Nat.le_of_ble_eq_true rfl⟩ rfl (Nat.le_of_ble_eq_true rfl) dX1_advance_66 ⟨Nat.le_of_ble_eq_true rfl, Nat.le_of_ble_eq_true rfl⟩ (fun E9 ce9 q9 H1 locs1 hpx G1 hce hcv hcl => by rw [hQ]; exact gx_thr hexc hlocks G1 hce hcv hcl (Nat.le_of_ble_eq_true rfl) (Nat.le_of_ble_eq_true rfl) (by obtain ⟨c12, hE⟩ := hpx; have e9 : dS_advance X i x = (3, 0, X) := by unfold dS_advance; rw [if_pos c1, if_neg c2, if_neg c4, if_neg c7, if_neg c9, if_neg c11]; rw [e9]; exact ⟨by show (3 : Nat) ≠ 0; decide, hE⟩)) (fun r w2 H locs hp G => absurd rfl hp.1)
          · refine lv_iconst (pc := 61) (v := 1) hx hb dX1_advance_61 (by decide) ?_
            refine lv_goto (pc := 62) (tgt := 66) hx hb dX1_advance_62 (by decide) ?_
            refine gx_callS (pc := 66) S M G hl.1 [.int 1] [] (metX1_possible l D K w hst) 1 q494 q492 q493 q18 (by decide) rfl ⟨Nat.le_of_ble_eq_true rfl, Nat.le_of_ble_eq_true rfl⟩ rfl (Nat.le_of_ble_eq_true rfl) dX1_advance_66 ⟨Nat.le_of_ble_eq_true rfl, Nat.le_of_ble_eq_true rfl⟩ (fun E9 ce9 q9 H1 locs1 hpx G1 hce hcv hcl => by rw [hQ]; exact gx_thr hexc hlocks G1 hce hcv hcl (Nat.le_of_ble_eq_true rfl) (Nat.le_of_ble_eq_true rfl) (absurd hpx.1 (by decide))) (fun r w2 H locs hp G => ?_)
            refine W.widen (k := 3) (n := 18) (Nat.le_of_ble_eq_true rfl) (Nat.le_of_ble_eq_true rfl) ?_
            obtain ⟨_, rfl, hw2⟩ := hp
            rw [hw2] at G
            refine W.eq (g2 := F0 m 69 ls []) rfl ?_
            refine lv_aload_n (pc := 69) hx hb dX1_advance_69 rfl (lv_at hl 1 rfl) ?_
            refine lv_iload_n (pc := 70) hx hb dX1_advance_70 rfl (lv_at hl 4 rfl) ?_
            refine g_putN (pc := 71) (v := .int x) S M G (C := RX4) (T := TX4) (N := 14) (ci := 3) in_X4 tyX4 tyX4_ok nmX4 hlo hblo rfl 8 (by decide) q539 rfl rfl rfl rfl (Nat.le_of_ble_eq_true rfl) dX1_advance_71 (fun H locs G => ?_)
            obtain ⟨w1_, hw1_⟩ : ∃ z9, z9 = gu w (dL X i.toNatClampNeg) (.inr (3, [.int (nI i.toNatClampNeg), .int (dF X i.toNatClampNeg 1), .int (dF X i.toNatClampNeg 2), .int (dF X i.toNatClampNeg 3), .int (dF X i.toNatClampNeg 4), .int (dF X i.toNatClampNeg 5), .int (dF X i.toNatClampNeg 6), .int (dF X i.toNatClampNeg 7), .int x, .int (dF X i.toNatClampNeg 9), .int (dF X i.toNatClampNeg 10), .int (dF X i.toNatClampNeg 11), .int (dF X i.toNatClampNeg 12), .ref dl])) := ⟨_, rfl⟩
            replace G : gS D K w1_ s H locs := by rw [hw1_]; exact G
            have c1_dl : w1_ dl = some (.inr (0, [.ref sb, .ref fb, .ref sh, .ref lq, .ref mp, .ref ca, .ref oa, .int (dC X 0), .int (dC X 1), .long (dM X 0), .long (dM X 1), .long (dM X 2)])) := by rw [hw1_, gu_n (gne_c hdl hlo (by decide))]; exact hdl
            have c1_lq : w1_ lq = some (.inr (6, [.int lmd, .ref ta, .int (nI (dN X))])) := by rw [hw1_, gu_n (gne_c hlqc hlo (by decide))]; exact hlqc
            have c1_ca : w1_ ca = some (.inl (D.1 100, 6, .inl (dA X 0))) := by rw [hw1_, gu_n (gne_ao hca hlo)]; exact hca
            have c1_oa : w1_ oa = some (.inl (D.1 100, 10, .inl (dA X 1))) := by rw [hw1_, gu_n (gne_ao hoa hlo)]; exact hoa
            have c1_sb : w1_ sb = some (.inr (1, fssb)) := by rw [hw1_, gu_n (gne_c hcsb hlo (by decide))]; exact hcsb
            have c1_fb : w1_ fb = some (.inr (1, fsfb)) := by rw [hw1_, gu_n (gne_c hcfb hlo (by decide))]; exact hcfb
            have c1_sh : w1_ sh = some (.inr (1, fssh)) := by rw [hw1_, gu_n (gne_c hcsh hlo (by decide))]; exact hcsh
            have c1__dL_X_i_toNatClampNeg_ : w1_ (dL X i.toNatClampNeg) = some (.inr (3, [.int (nI i.toNatClampNeg), .int (dF X i.toNatClampNeg 1), .int (dF X i.toNatClampNeg 2), .int (dF X i.toNatClampNeg 3), .int (dF X i.toNatClampNeg 4), .int (dF X i.toNatClampNeg 5), .int (dF X i.toNatClampNeg 6), .int (dF X i.toNatClampNeg 7), .int x, .int (dF X i.toNatClampNeg 9), .int (dF X i.toNatClampNeg 10), .int (dF X i.toNatClampNeg 11), .int (dF X i.toNatClampNeg 12), .ref dl])) := by rw [hw1_]; exact gu_s
            have hVw1_ : DV D K w1_ dl ca oa (sF X i.toNatClampNeg 8 x) sb fb sh lq mp md lmd ks es hN ky vl bv ta cap := by rw [hw1_]; exact hV.putL (k := 8) (x := x) hi (by first | rfl | (simp only [dF_s, dF_sA, dF_sC, dF_sM, dF_sB]; rfl))
            have hFw1_ : FD D ca oa w w1_ := hFD0.tr (by rw [hw1_]; exact FD.up hlo (by decide))
            refine lv_aload_n (pc := 74) hx hb dX1_advance_74 rfl (lv_at hl 1 rfl) ?_
            refine lv_aload_n (pc := 75) hx hb dX1_advance_75 rfl (lv_at hl 2 rfl) ?_
            refine g_get (pc := 76) (v := .int (dC X 1)) S M G (C := RX1) (T := TX1) (N := 12) (ci := 0) in_X1 c1_dl rfl 8 (by decide) q179 (Or.inl rfl) rfl dX1_advance_76 ?_
            refine g_putN (pc := 79) (v := .int (dC X 1)) S M G (C := RX4) (T := TX4) (N := 14) (ci := 3) in_X4 tyX4 tyX4_ok nmX4 c1__dL_X_i_toNatClampNeg_ hblo rfl 9 (by decide) q541 rfl rfl rfl rfl (Nat.le_of_ble_eq_true rfl) dX1_advance_79 (fun H locs G => ?_)
            obtain ⟨w2_, hw2_⟩ : ∃ z9, z9 = gu w1_ (dL X i.toNatClampNeg) (.inr (3, [.int (nI i.toNatClampNeg), .int (dF X i.toNatClampNeg 1), .int (dF X i.toNatClampNeg 2), .int (dF X i.toNatClampNeg 3), .int (dF X i.toNatClampNeg 4), .int (dF X i.toNatClampNeg 5), .int (dF X i.toNatClampNeg 6), .int (dF X i.toNatClampNeg 7), .int x, .int (dC X 1), .int (dF X i.toNatClampNeg 10), .int (dF X i.toNatClampNeg 11), .int (dF X i.toNatClampNeg 12), .ref dl])) := ⟨_, rfl⟩
            replace G : gS D K w2_ s H locs := by rw [hw2_]; exact G
            have c2_dl : w2_ dl = some (.inr (0, [.ref sb, .ref fb, .ref sh, .ref lq, .ref mp, .ref ca, .ref oa, .int (dC X 0), .int (dC X 1), .long (dM X 0), .long (dM X 1), .long (dM X 2)])) := by rw [hw2_, gu_n (gne_c c1_dl c1__dL_X_i_toNatClampNeg_ (by decide))]; exact c1_dl
            have c2_lq : w2_ lq = some (.inr (6, [.int lmd, .ref ta, .int (nI (dN X))])) := by rw [hw2_, gu_n (gne_c c1_lq c1__dL_X_i_toNatClampNeg_ (by decide))]; exact c1_lq
            have c2_ca : w2_ ca = some (.inl (D.1 100, 6, .inl (dA X 0))) := by rw [hw2_, gu_n (gne_ao c1_ca c1__dL_X_i_toNatClampNeg_)]; exact c1_ca
            have c2_oa : w2_ oa = some (.inl (D.1 100, 10, .inl (dA X 1))) := by rw [hw2_, gu_n (gne_ao c1_oa c1__dL_X_i_toNatClampNeg_)]; exact c1_oa
            have c2_sb : w2_ sb = some (.inr (1, fssb)) := by rw [hw2_, gu_n (gne_c c1_sb c1__dL_X_i_toNatClampNeg_ (by decide))]; exact c1_sb
            have c2_fb : w2_ fb = some (.inr (1, fsfb)) := by rw [hw2_, gu_n (gne_c c1_fb c1__dL_X_i_toNatClampNeg_ (by decide))]; exact c1_fb
            have c2_sh : w2_ sh = some (.inr (1, fssh)) := by rw [hw2_, gu_n (gne_c c1_sh c1__dL_X_i_toNatClampNeg_ (by decide))]; exact c1_sh
            have c2__dL_X_i_toNatClampNeg_ : w2_ (dL X i.toNatClampNeg) = some (.inr (3, [.int (nI i.toNatClampNeg), .int (dF X i.toNatClampNeg 1), .int (dF X i.toNatClampNeg 2), .int (dF X i.toNatClampNeg 3), .int (dF X i.toNatClampNeg 4), .int (dF X i.toNatClampNeg 5), .int (dF X i.toNatClampNeg 6), .int (dF X i.toNatClampNeg 7), .int x, .int (dC X 1), .int (dF X i.toNatClampNeg 10), .int (dF X i.toNatClampNeg 11), .int (dF X i.toNatClampNeg 12), .ref dl])) := by rw [hw2_]; exact gu_s
            have hVw2_ : DV D K w2_ dl ca oa (sF (sF X i.toNatClampNeg 8 x) i.toNatClampNeg 9 (dC X 1)) sb fb sh lq mp md lmd ks es hN ky vl bv ta cap := by rw [hw2_]; exact hVw1_.putL (k := 9) (x := (dC X 1)) hi (by first | rfl | (simp only [dF_s, dF_sA, dF_sC, dF_sM, dF_sB]; rfl))
            have hFw2_ : FD D ca oa w w2_ := hFw1_.tr (by rw [hw2_]; exact FD.up c1__dL_X_i_toNatClampNeg_ (by decide))
            refine lv_aload_n (pc := 82) hx hb dX1_advance_82 rfl (lv_at hl 2 rfl) ?_
            refine lv_dup (pc := 83) hx hb dX1_advance_83 rfl ?_
            refine g_get (pc := 84) (v := .long (dM X 1)) S M G (C := RX1) (T := TX1) (N := 12) (ci := 0) in_X1 c2_dl rfl 10 (by decide) q181 (Or.inl rfl) rfl dX1_advance_84 ?_
            refine lv_iload_n (pc := 87) hx hb dX1_advance_87 rfl (lv_at hl 4 rfl) ?_
            refine lv_i2l (pc := 88) hx hb dX1_advance_88 rfl ?_
            refine lv_ladd (pc := 89) hx hb dX1_advance_89 ?_
            refine g_put (pc := 90) (v := .long ((dM X 1) + (x : Int32).toInt64)) S M G (C := RX1) (T := TX1) (N := 12) (ci := 0) in_X1 tyX1 tyX1_ok nmX1 c2_dl hbdl rfl 10 (by decide) q181 (Or.inl rfl) rfl rfl rfl (Nat.le_of_ble_eq_true rfl) dX1_advance_90 (fun H locs G => ?_)
            obtain ⟨w3_, hw3_⟩ : ∃ z9, z9 = gu w2_ dl (.inr (0, [.ref sb, .ref fb, .ref sh, .ref lq, .ref mp, .ref ca, .ref oa, .int (dC X 0), .int (dC X 1), .long (dM X 0), .long ((dM X 1) + (x : Int32).toInt64), .long (dM X 2)])) := ⟨_, rfl⟩
            replace G : gS D K w3_ s H locs := by rw [hw3_]; exact G
            have c3_lq : w3_ lq = some (.inr (6, [.int lmd, .ref ta, .int (nI (dN X))])) := by rw [hw3_, gu_n (gne_c c2_lq c2_dl (by decide))]; exact c2_lq
            have c3_ca : w3_ ca = some (.inl (D.1 100, 6, .inl (dA X 0))) := by rw [hw3_, gu_n (gne_ao c2_ca c2_dl)]; exact c2_ca
            have c3_oa : w3_ oa = some (.inl (D.1 100, 10, .inl (dA X 1))) := by rw [hw3_, gu_n (gne_ao c2_oa c2_dl)]; exact c2_oa
            have c3_sb : w3_ sb = some (.inr (1, fssb)) := by rw [hw3_, gu_n (gne_c c2_sb c2_dl (by decide))]; exact c2_sb
            have c3_fb : w3_ fb = some (.inr (1, fsfb)) := by rw [hw3_, gu_n (gne_c c2_fb c2_dl (by decide))]; exact c2_fb
            have c3_sh : w3_ sh = some (.inr (1, fssh)) := by rw [hw3_, gu_n (gne_c c2_sh c2_dl (by decide))]; exact c2_sh
            have c3__dL_X_i_toNatClampNeg_ : w3_ (dL X i.toNatClampNeg) = some (.inr (3, [.int (nI i.toNatClampNeg), .int (dF X i.toNatClampNeg 1), .int (dF X i.toNatClampNeg 2), .int (dF X i.toNatClampNeg 3), .int (dF X i.toNatClampNeg 4), .int (dF X i.toNatClampNeg 5), .int (dF X i.toNatClampNeg 6), .int (dF X i.toNatClampNeg 7), .int x, .int (dC X 1), .int (dF X i.toNatClampNeg 10), .int (dF X i.toNatClampNeg 11), .int (dF X i.toNatClampNeg 12), .ref dl])) := by rw [hw3_, gu_n (gne_c c2__dL_X_i_toNatClampNeg_ c2_dl (by decide))]; exact c2__dL_X_i_toNatClampNeg_
            have c3_dl : w3_ dl = some (.inr (0, [.ref sb, .ref fb, .ref sh, .ref lq, .ref mp, .ref ca, .ref oa, .int (dC X 0), .int (dC X 1), .long (dM X 0), .long ((dM X 1) + (x : Int32).toInt64), .long (dM X 2)])) := by rw [hw3_]; exact gu_s
            have hVw3_ : DV D K w3_ dl ca oa (sM (sF (sF X i.toNatClampNeg 8 x) i.toNatClampNeg 9 (dC X 1)) 1 ((dM X 1) + (x : Int32).toInt64)) sb fb sh lq mp md lmd ks es hN ky vl bv ta cap := by rw [hw3_]; exact hVw2_.putD (X' := (sM (sF (sF X i.toNatClampNeg 8 x) i.toNatClampNeg 9 (dC X 1)) 1 ((dM X 1) + (x : Int32).toInt64))) rfl ⟨rfl, rfl, rfl, rfl, rfl⟩
            have hFw3_ : FD D ca oa w w3_ := hFw2_.tr (by rw [hw3_]; exact FD.up c2_dl (by decide))
            refine lv_iload (pc := 93) hx hb dX1_advance_93 (lv_at hl 0 rfl) ?_
            rw [hQ]
            refine gx_iret S G hr hlocks (hdg := dX1_advance_95) ?_ ?_ ?_
            · exact Nat.le_of_ble_eq_true rfl
            · exact Nat.le_of_ble_eq_true rfl
            · have e9 : dS_advance X i x = (0, ((dF X i.toNatClampNeg 3) / 2), (sM (sF (sF X i.toNatClampNeg 8 x) i.toNatClampNeg 9 (dC X 1)) 1 ((dM X 1) + (x : Int32).toInt64))) := by
                unfold dS_advance
                rw [if_pos c1, if_neg c2, if_neg c4, if_neg c7, if_neg c9, if_pos c11]
              rw [e9]
              exact ⟨rfl, rfl, hVw3_.W, hFw3_⟩
def dS_pay (X : DQ) (i : Int32) : Nat × Int32 × DQ := (if (¬ i < 0 ∧ i < (nI (dN X))) then (if (dF X i.toNatClampNeg 4) = 2 then (if (dF X i.toNatClampNeg 11) = (-1) then (0, ((dF X i.toNatClampNeg 6) + (dFee X i.toNatClampNeg)), (sM (sM (sF X i.toNatClampNeg 4 3) 0 ((dM X 0) + (((dF X i.toNatClampNeg 6) + (dFee X i.toNatClampNeg)) : Int32).toInt64)) 2 ((dM X 2) + ((dFee X i.toNatClampNeg) : Int32).toInt64))) else (0, ((dF X i.toNatClampNeg 6) + (dFee X i.toNatClampNeg)), (sM (sM (sF (sA (sF X i.toNatClampNeg 4 3) 1 (dF X i.toNatClampNeg 11).toNatClampNeg (((dA X 1) (dF X i.toNatClampNeg 11).toNatClampNeg) + (if 0 < ((dF X i.toNatClampNeg 12) - (dF X i.toNatClampNeg 6)) then ((dF X i.toNatClampNeg 12) - (dF X i.toNatClampNeg 6)) else 0))) i.toNatClampNeg 11 (-1)) 0 ((dM X 0) + (((dF X i.toNatClampNeg 6) + (dFee X i.toNatClampNeg)) : Int32).toInt64)) 2 ((dM X 2) + ((dFee X i.toNatClampNeg) : Int32).toInt64)))) else (3, 0, X)) else (1, 0, X))
abbrev rmX1_pay : Room := ({ frames := 8, cells := 2, slots := 12, locals := 142 } : Room)
set_option maxHeartbeats 4000000 in
theorem metX1_pay (l : Launch) (D : va_G) (K : Nat → Nat) (w : Gh) (hst : l.stackTraces = false) {dl ca oa : Nat} {X : DQ} (hD : DW D K w dl ca oa X) {i : Int32} (hR : dR X) : gXet l yX1_pay (ws_ yX1_pay cX1_pay 3 (some .int)) rmX1_pay D K [.ref dl, .int i] w (fun r' w' => (dS_pay X i).1 = 0 ∧ r' = some (.int (dS_pay X i).2.1) ∧ DW D K w' dl ca oa (dS_pay X i).2.2 ∧ FD D ca oa w w') (fun E9 => (dS_pay X i).1 ≠ 0 ∧ E9 = eN (dS_pay X i).1) := by
  refine gXet.of (by decide) (Nat.le_of_ble_eq_true rfl) ?_
  intro p e s m args below meth c H locs ls S M hr hlocks hexc G hl
  have hx := S.1
  have hb := S.2.1
  have hown := S.2.2.2.1
  have hts := S.2.2.2.2
  have hl : lv_has ls 3 [(0, .ref dl), (1, .int i)] := hl
  obtain ⟨Q, hQ⟩ : ∃ Q, Q = gXE below D K w (fun r' w' => (dS_pay X i).1 = 0 ∧ r' = some (.int (dS_pay X i).2.1) ∧ DW D K w' dl ca oa (dS_pay X i).2.2 ∧ FD D ca oa w w') (fun E9 => (dS_pay X i).1 ≠ 0 ∧ E9 = eN (dS_pay X i).1) args s rmX1_pay.cells rmX1_pay.slots := ⟨_, rfl⟩
  rw [← hQ]
  have hD0 := hD
  obtain ⟨sb, fb, sh, lq, mp, md, lmd, ks, es, hN, ky, vl, bv, ta, cap, hV⟩ := hD
  have hdl := hV.1.1
  have hbdl := hV.1.2
  have hDD := hV.2.2.2.2.2.2.2.2.2
  have hlqc := hV.2.2.1.1
  have hblq := hV.2.2.1.2.1
  have hn30 := hV.2.2.1.2.2.1
  have hca := hV.2.2.2.2.2.1.1
  have hbca := hV.2.2.2.2.2.1.2
  have hoa := hV.2.2.2.2.2.2.1.1
  have hboa := hV.2.2.2.2.2.2.1.2
  have hco := hV.2.2.2.2.2.2.2.1
  have hFD0 : FD D ca oa w w := FD.rf
  obtain ⟨fssb, hcsb⟩ : ∃ z, w sb = some (.inr (1, z)) := by obtain ⟨b9, h9, -⟩ := hV.2.1.1; exact ⟨_, h9⟩
  obtain ⟨fsfb, hcfb⟩ : ∃ z, w fb = some (.inr (1, z)) := by obtain ⟨b9, h9, -⟩ := hV.2.1.2.1; exact ⟨_, h9⟩
  obtain ⟨fssh, hcsh⟩ : ∃ z, w sh = some (.inr (1, z)) := by obtain ⟨b9, h9, -⟩ := hV.2.1.2.2; exact ⟨_, h9⟩
  refine lv_aload_n (pc := 0) hx hb dX1_pay_0 rfl (lv_at hl 0 rfl) ?_
  refine lv_iload_n (pc := 1) hx hb dX1_pay_1 rfl (lv_at hl 1 rfl) ?_
  refine gx_callV (pc := 2) S M G hl.1 [.int i] [] (metX1_at l D K w hst hD0) 1 (g_recv M G hdl (q := (RX1, TX1, 12)) rfl) q659 q656 q658 qs6 q18 (by decide) rfl ⟨Nat.le_of_ble_eq_true rfl, Nat.le_of_ble_eq_true rfl⟩ rfl (Nat.le_of_ble_eq_true rfl) dX1_pay_2 ⟨Nat.le_of_ble_eq_true rfl, Nat.le_of_ble_eq_true rfl⟩ (fun E9 ce9 q9 H1 locs1 hpx G1 hce hcv hcl => by rw [hQ]; exact gx_thr hexc hlocks G1 hce hcv hcl (Nat.le_of_ble_eq_true rfl) (Nat.le_of_ble_eq_true rfl) (by obtain ⟨c1, hE⟩ := hpx; have e9 : dS_pay X i = (1, 0, X) := by unfold dS_pay; rw [if_neg c1]; rw [e9]; exact ⟨by show (1 : Nat) ≠ 0; decide, hE⟩)) (fun r w2 H locs hp G => ?_)
  refine W.widen (k := 1) (n := 6) (Nat.le_of_ble_eq_true rfl) (Nat.le_of_ble_eq_true rfl) ?_
  obtain ⟨c1, rfl, hw2⟩ := hp
  rw [hw2] at G
  obtain ⟨hi, hij⟩ := at_ix c1 (by omega)
  have hlo := (hV.2.2.2.1 _ hi).1
  have hblo := (hV.2.2.2.1 _ hi).2
  refine W.eq (g2 := F0 m 5 ls [.ref (dL X i.toNatClampNeg)]) rfl ?_
  refine lv_astore_n (pc := 5) (lv' := [(2, .ref (dL X i.toNatClampNeg)), (0, .ref dl), (1, .int i)]) hx hb dX1_pay_5 rfl hl (by decide) rfl (fun ls hl => ?_)
  refine lv_aload_n (pc := 6) hx hb dX1_pay_6 rfl (lv_at hl 0 rfl) ?_
  refine g_getN (pc := 7) (v := .int (dF X i.toNatClampNeg 4)) S M G (C := RX4) (T := TX4) (N := 14) (ci := 3) in_X4 hlo rfl 4 (by decide) q532 rfl rfl dX1_pay_7 ?_
  refine lv_iconst (pc := 10) (v := 2) hx hb dX1_pay_10 (by decide) ?_
  refine lv_icmp_ne (pc := 11) (tgt := 18) hx hb dX1_pay_11 (by decide) (fun c2 => ?_) (fun c2 => ?_)
  · refine lv_iconst (pc := 18) (v := 0) hx hb dX1_pay_18 (by decide) ?_
    exact gx_callS (pc := 19) S M G hl.1 [.int 0] [] (metX1_possible l D K w hst) 1 q494 q492 q493 q18 (by decide) rfl ⟨Nat.le_of_ble_eq_true rfl, Nat.le_of_ble_eq_true rfl⟩ rfl (Nat.le_of_ble_eq_true rfl) dX1_pay_19 ⟨Nat.le_of_ble_eq_true rfl, Nat.le_of_ble_eq_true rfl⟩ (fun E9 ce9 q9 H1 locs1 hpx G1 hce hcv hcl => by rw [hQ]; exact gx_thr hexc hlocks G1 hce hcv hcl (Nat.le_of_ble_eq_true rfl) (Nat.le_of_ble_eq_true rfl) (by obtain ⟨c3, hE⟩ := hpx; have e9 : dS_pay X i = (3, 0, X) := by unfold dS_pay; rw [if_pos c1, if_neg c2]; rw [e9]; exact ⟨by show (3 : Nat) ≠ 0; decide, hE⟩)) (fun r w2 H locs hp G => absurd rfl hp.1)
  · refine lv_iconst (pc := 14) (v := 1) hx hb dX1_pay_14 (by decide) ?_
    refine lv_goto (pc := 15) (tgt := 19) hx hb dX1_pay_15 (by decide) ?_
    refine gx_callS (pc := 19) S M G hl.1 [.int 1] [] (metX1_possible l D K w hst) 1 q494 q492 q493 q18 (by decide) rfl ⟨Nat.le_of_ble_eq_true rfl, Nat.le_of_ble_eq_true rfl⟩ rfl (Nat.le_of_ble_eq_true rfl) dX1_pay_19 ⟨Nat.le_of_ble_eq_true rfl, Nat.le_of_ble_eq_true rfl⟩ (fun E9 ce9 q9 H1 locs1 hpx G1 hce hcv hcl => by rw [hQ]; exact gx_thr hexc hlocks G1 hce hcv hcl (Nat.le_of_ble_eq_true rfl) (Nat.le_of_ble_eq_true rfl) (absurd hpx.1 (by decide))) (fun r w2 H locs hp G => ?_)
    refine W.widen (k := 2) (n := 12) (Nat.le_of_ble_eq_true rfl) (Nat.le_of_ble_eq_true rfl) ?_
    obtain ⟨_, rfl, hw2⟩ := hp
    rw [hw2] at G
    refine W.eq (g2 := F0 m 22 ls []) rfl ?_
    refine lv_aload_n (pc := 22) hx hb dX1_pay_22 rfl (lv_at hl 0 rfl) ?_
    refine lv_iconst (pc := 23) (v := 3) hx hb dX1_pay_23 (by decide) ?_
    refine g_putN (pc := 24) (v := .int 3) S M G (C := RX4) (T := TX4) (N := 14) (ci := 3) in_X4 tyX4 tyX4_ok nmX4 hlo hblo rfl 4 (by decide) q532 rfl rfl rfl rfl (Nat.le_of_ble_eq_true rfl) dX1_pay_24 (fun H locs G => ?_)
    obtain ⟨w1_, hw1_⟩ : ∃ z9, z9 = gu w (dL X i.toNatClampNeg) (.inr (3, [.int (nI i.toNatClampNeg), .int (dF X i.toNatClampNeg 1), .int (dF X i.toNatClampNeg 2), .int (dF X i.toNatClampNeg 3), .int 3, .int (dF X i.toNatClampNeg 5), .int (dF X i.toNatClampNeg 6), .int (dF X i.toNatClampNeg 7), .int (dF X i.toNatClampNeg 8), .int (dF X i.toNatClampNeg 9), .int (dF X i.toNatClampNeg 10), .int (dF X i.toNatClampNeg 11), .int (dF X i.toNatClampNeg 12), .ref dl])) := ⟨_, rfl⟩
    replace G : gS D K w1_ s H locs := by rw [hw1_]; exact G
    have c1_dl : w1_ dl = some (.inr (0, [.ref sb, .ref fb, .ref sh, .ref lq, .ref mp, .ref ca, .ref oa, .int (dC X 0), .int (dC X 1), .long (dM X 0), .long (dM X 1), .long (dM X 2)])) := by rw [hw1_, gu_n (gne_c hdl hlo (by decide))]; exact hdl
    have c1_lq : w1_ lq = some (.inr (6, [.int lmd, .ref ta, .int (nI (dN X))])) := by rw [hw1_, gu_n (gne_c hlqc hlo (by decide))]; exact hlqc
    have c1_ca : w1_ ca = some (.inl (D.1 100, 6, .inl (dA X 0))) := by rw [hw1_, gu_n (gne_ao hca hlo)]; exact hca
    have c1_oa : w1_ oa = some (.inl (D.1 100, 10, .inl (dA X 1))) := by rw [hw1_, gu_n (gne_ao hoa hlo)]; exact hoa
    have c1_sb : w1_ sb = some (.inr (1, fssb)) := by rw [hw1_, gu_n (gne_c hcsb hlo (by decide))]; exact hcsb
    have c1_fb : w1_ fb = some (.inr (1, fsfb)) := by rw [hw1_, gu_n (gne_c hcfb hlo (by decide))]; exact hcfb
    have c1_sh : w1_ sh = some (.inr (1, fssh)) := by rw [hw1_, gu_n (gne_c hcsh hlo (by decide))]; exact hcsh
    have c1__dL_X_i_toNatClampNeg_ : w1_ (dL X i.toNatClampNeg) = some (.inr (3, [.int (nI i.toNatClampNeg), .int (dF X i.toNatClampNeg 1), .int (dF X i.toNatClampNeg 2), .int (dF X i.toNatClampNeg 3), .int 3, .int (dF X i.toNatClampNeg 5), .int (dF X i.toNatClampNeg 6), .int (dF X i.toNatClampNeg 7), .int (dF X i.toNatClampNeg 8), .int (dF X i.toNatClampNeg 9), .int (dF X i.toNatClampNeg 10), .int (dF X i.toNatClampNeg 11), .int (dF X i.toNatClampNeg 12), .ref dl])) := by rw [hw1_]; exact gu_s
    have hVw1_ : DV D K w1_ dl ca oa (sF X i.toNatClampNeg 4 3) sb fb sh lq mp md lmd ks es hN ky vl bv ta cap := by rw [hw1_]; exact hV.putL (k := 4) (x := 3) hi (by first | rfl | (simp only [dF_s, dF_sA, dF_sC, dF_sM, dF_sB]; rfl))
    have hFw1_ : FD D ca oa w w1_ := hFD0.tr (by rw [hw1_]; exact FD.up hlo (by decide))
    refine lv_aload_n (pc := 27) hx hb dX1_pay_27 rfl (lv_at hl 0 rfl) ?_
    refine g_getN (pc := 28) (v := .int (dF X i.toNatClampNeg 11)) S M G (C := RX4) (T := TX4) (N := 14) (ci := 3) in_X4 c1__dL_X_i_toNatClampNeg_ rfl 11 (by decide) q545 rfl rfl dX1_pay_28 ?_
    refine lv_iconst (pc := 31) (v := (-1)) hx hb dX1_pay_31 (by decide) ?_
    refine lv_icmp_eq (pc := 32) (tgt := 65) hx hb dX1_pay_32 (by decide) (fun c5 => ?_) (fun c5 => ?_)
    · refine lv_aload_n (pc := 65) hx hb dX1_pay_65 rfl (lv_at hl 1 rfl) ?_
      refine lv_dup (pc := 66) hx hb dX1_pay_66 rfl ?_
      refine g_get (pc := 67) (v := .long (dM X 0)) S M G (C := RX1) (T := TX1) (N := 12) (ci := 0) in_X1 c1_dl rfl 9 (by decide) q180 (Or.inl rfl) rfl dX1_pay_67 ?_
      refine lv_aload_n (pc := 70) hx hb dX1_pay_70 rfl (lv_at hl 0 rfl) ?_
      refine g_getN (pc := 71) (v := .int (dF X i.toNatClampNeg 6)) S M G (C := RX4) (T := TX4) (N := 14) (ci := 3) in_X4 c1__dL_X_i_toNatClampNeg_ rfl 6 (by decide) q536 rfl rfl dX1_pay_71 ?_
      refine lv_aload_n (pc := 74) hx hb dX1_pay_74 rfl (lv_at hl 0 rfl) ?_
      refine g_callV (pc := 75) S M G hl.1 [] [.int (dF X i.toNatClampNeg 6), .long (dM X 0), .ref dl] (metX4_fee l D K w1_ hVw1_.W hi) 0 (g_recv M G c1__dL_X_i_toNatClampNeg_ (q := (RX4, TX4, 14)) rfl) q1189 q1186 q1187 q1188 q35 (by decide) rfl ⟨Nat.le_of_ble_eq_true rfl, Nat.le_of_ble_eq_true rfl⟩ rfl (Nat.le_of_ble_eq_true rfl) dX1_pay_75 ⟨Nat.le_of_ble_eq_true rfl, Nat.le_of_ble_eq_true rfl⟩ (fun r w2 H locs hp G => ?_)
      obtain ⟨rfl, hw2⟩ := hp
      rw [hw2] at G
      rw [show dFee (sF X i.toNatClampNeg 4 3) i.toNatClampNeg = dFee X i.toNatClampNeg from by unfold dFee; simp only [dF_s, dF_sA, dF_sC, dF_sM, dF_sB]; rfl]
      refine W.eq (g2 := F0 m 78 ls [.int (dFee X i.toNatClampNeg), .int (dF X i.toNatClampNeg 6), .long (dM X 0), .ref dl]) rfl ?_
      refine lv_iadd (pc := 78) hx hb dX1_pay_78 ?_
      refine lv_i2l (pc := 79) hx hb dX1_pay_79 rfl ?_
      refine lv_ladd (pc := 80) hx hb dX1_pay_80 ?_
      refine g_put (pc := 81) (v := .long ((dM X 0) + (((dF X i.toNatClampNeg 6) + (dFee X i.toNatClampNeg)) : Int32).toInt64)) S M G (C := RX1) (T := TX1) (N := 12) (ci := 0) in_X1 tyX1 tyX1_ok nmX1 c1_dl hbdl rfl 9 (by decide) q180 (Or.inl rfl) rfl rfl rfl (Nat.le_of_ble_eq_true rfl) dX1_pay_81 (fun H locs G => ?_)
      obtain ⟨w2_, hw2_⟩ : ∃ z9, z9 = gu w1_ dl (.inr (0, [.ref sb, .ref fb, .ref sh, .ref lq, .ref mp, .ref ca, .ref oa, .int (dC X 0), .int (dC X 1), .long ((dM X 0) + (((dF X i.toNatClampNeg 6) + (dFee X i.toNatClampNeg)) : Int32).toInt64), .long (dM X 1), .long (dM X 2)])) := ⟨_, rfl⟩
      replace G : gS D K w2_ s H locs := by rw [hw2_]; exact G
      have c2_lq : w2_ lq = some (.inr (6, [.int lmd, .ref ta, .int (nI (dN X))])) := by rw [hw2_, gu_n (gne_c c1_lq c1_dl (by decide))]; exact c1_lq
      have c2_ca : w2_ ca = some (.inl (D.1 100, 6, .inl (dA X 0))) := by rw [hw2_, gu_n (gne_ao c1_ca c1_dl)]; exact c1_ca
      have c2_oa : w2_ oa = some (.inl (D.1 100, 10, .inl (dA X 1))) := by rw [hw2_, gu_n (gne_ao c1_oa c1_dl)]; exact c1_oa
      have c2_sb : w2_ sb = some (.inr (1, fssb)) := by rw [hw2_, gu_n (gne_c c1_sb c1_dl (by decide))]; exact c1_sb
      have c2_fb : w2_ fb = some (.inr (1, fsfb)) := by rw [hw2_, gu_n (gne_c c1_fb c1_dl (by decide))]; exact c1_fb
      have c2_sh : w2_ sh = some (.inr (1, fssh)) := by rw [hw2_, gu_n (gne_c c1_sh c1_dl (by decide))]; exact c1_sh
      have c2__dL_X_i_toNatClampNeg_ : w2_ (dL X i.toNatClampNeg) = some (.inr (3, [.int (nI i.toNatClampNeg), .int (dF X i.toNatClampNeg 1), .int (dF X i.toNatClampNeg 2), .int (dF X i.toNatClampNeg 3), .int 3, .int (dF X i.toNatClampNeg 5), .int (dF X i.toNatClampNeg 6), .int (dF X i.toNatClampNeg 7), .int (dF X i.toNatClampNeg 8), .int (dF X i.toNatClampNeg 9), .int (dF X i.toNatClampNeg 10), .int (dF X i.toNatClampNeg 11), .int (dF X i.toNatClampNeg 12), .ref dl])) := by rw [hw2_, gu_n (gne_c c1__dL_X_i_toNatClampNeg_ c1_dl (by decide))]; exact c1__dL_X_i_toNatClampNeg_
      have c2_dl : w2_ dl = some (.inr (0, [.ref sb, .ref fb, .ref sh, .ref lq, .ref mp, .ref ca, .ref oa, .int (dC X 0), .int (dC X 1), .long ((dM X 0) + (((dF X i.toNatClampNeg 6) + (dFee X i.toNatClampNeg)) : Int32).toInt64), .long (dM X 1), .long (dM X 2)])) := by rw [hw2_]; exact gu_s
      have hVw2_ : DV D K w2_ dl ca oa (sM (sF X i.toNatClampNeg 4 3) 0 ((dM X 0) + (((dF X i.toNatClampNeg 6) + (dFee X i.toNatClampNeg)) : Int32).toInt64)) sb fb sh lq mp md lmd ks es hN ky vl bv ta cap := by rw [hw2_]; exact hVw1_.putD (X' := (sM (sF X i.toNatClampNeg 4 3) 0 ((dM X 0) + (((dF X i.toNatClampNeg 6) + (dFee X i.toNatClampNeg)) : Int32).toInt64))) rfl ⟨rfl, rfl, rfl, rfl, rfl⟩
      have hFw2_ : FD D ca oa w w2_ := hFw1_.tr (by rw [hw2_]; exact FD.up c1_dl (by decide))
      refine lv_aload_n (pc := 84) hx hb dX1_pay_84 rfl (lv_at hl 1 rfl) ?_
      refine lv_dup (pc := 85) hx hb dX1_pay_85 rfl ?_
      refine g_get (pc := 86) (v := .long (dM X 2)) S M G (C := RX1) (T := TX1) (N := 12) (ci := 0) in_X1 c2_dl rfl 11 (by decide) q182 (Or.inl rfl) rfl dX1_pay_86 ?_
      refine lv_aload_n (pc := 89) hx hb dX1_pay_89 rfl (lv_at hl 0 rfl) ?_
      refine g_callV (pc := 90) S M G hl.1 [] [.long (dM X 2), .ref dl] (metX4_fee l D K w2_ hVw2_.W hi) 0 (g_recv M G c2__dL_X_i_toNatClampNeg_ (q := (RX4, TX4, 14)) rfl) q1189 q1186 q1187 q1188 q35 (by decide) rfl ⟨Nat.le_of_ble_eq_true rfl, Nat.le_of_ble_eq_true rfl⟩ rfl (Nat.le_of_ble_eq_true rfl) dX1_pay_90 ⟨Nat.le_of_ble_eq_true rfl, Nat.le_of_ble_eq_true rfl⟩ (fun r w2 H locs hp G => ?_)
      obtain ⟨rfl, hw2⟩ := hp
      rw [hw2] at G
      rw [show dFee (sM (sF X i.toNatClampNeg 4 3) 0 ((dM X 0) + (((dF X i.toNatClampNeg 6) + (dFee X i.toNatClampNeg)) : Int32).toInt64)) i.toNatClampNeg = dFee X i.toNatClampNeg from by unfold dFee; simp only [dF_s, dF_sA, dF_sC, dF_sM, dF_sB]; rfl]
      refine W.eq (g2 := F0 m 93 ls [.int (dFee X i.toNatClampNeg), .long (dM X 2), .ref dl]) rfl ?_
      refine lv_i2l (pc := 93) hx hb dX1_pay_93 rfl ?_
      refine lv_ladd (pc := 94) hx hb dX1_pay_94 ?_
      refine g_put (pc := 95) (v := .long ((dM X 2) + ((dFee X i.toNatClampNeg) : Int32).toInt64)) S M G (C := RX1) (T := TX1) (N := 12) (ci := 0) in_X1 tyX1 tyX1_ok nmX1 c2_dl hbdl rfl 11 (by decide) q182 (Or.inl rfl) rfl rfl rfl (Nat.le_of_ble_eq_true rfl) dX1_pay_95 (fun H locs G => ?_)
      obtain ⟨w3_, hw3_⟩ : ∃ z9, z9 = gu w2_ dl (.inr (0, [.ref sb, .ref fb, .ref sh, .ref lq, .ref mp, .ref ca, .ref oa, .int (dC X 0), .int (dC X 1), .long ((dM X 0) + (((dF X i.toNatClampNeg 6) + (dFee X i.toNatClampNeg)) : Int32).toInt64), .long (dM X 1), .long ((dM X 2) + ((dFee X i.toNatClampNeg) : Int32).toInt64)])) := ⟨_, rfl⟩
      replace G : gS D K w3_ s H locs := by rw [hw3_]; exact G
      have c3_lq : w3_ lq = some (.inr (6, [.int lmd, .ref ta, .int (nI (dN X))])) := by rw [hw3_, gu_n (gne_c c2_lq c2_dl (by decide))]; exact c2_lq
      have c3_ca : w3_ ca = some (.inl (D.1 100, 6, .inl (dA X 0))) := by rw [hw3_, gu_n (gne_ao c2_ca c2_dl)]; exact c2_ca
      have c3_oa : w3_ oa = some (.inl (D.1 100, 10, .inl (dA X 1))) := by rw [hw3_, gu_n (gne_ao c2_oa c2_dl)]; exact c2_oa
      have c3_sb : w3_ sb = some (.inr (1, fssb)) := by rw [hw3_, gu_n (gne_c c2_sb c2_dl (by decide))]; exact c2_sb
      have c3_fb : w3_ fb = some (.inr (1, fsfb)) := by rw [hw3_, gu_n (gne_c c2_fb c2_dl (by decide))]; exact c2_fb
      have c3_sh : w3_ sh = some (.inr (1, fssh)) := by rw [hw3_, gu_n (gne_c c2_sh c2_dl (by decide))]; exact c2_sh
      have c3__dL_X_i_toNatClampNeg_ : w3_ (dL X i.toNatClampNeg) = some (.inr (3, [.int (nI i.toNatClampNeg), .int (dF X i.toNatClampNeg 1), .int (dF X i.toNatClampNeg 2), .int (dF X i.toNatClampNeg 3), .int 3, .int (dF X i.toNatClampNeg 5), .int (dF X i.toNatClampNeg 6), .int (dF X i.toNatClampNeg 7), .int (dF X i.toNatClampNeg 8), .int (dF X i.toNatClampNeg 9), .int (dF X i.toNatClampNeg 10), .int (dF X i.toNatClampNeg 11), .int (dF X i.toNatClampNeg 12), .ref dl])) := by rw [hw3_, gu_n (gne_c c2__dL_X_i_toNatClampNeg_ c2_dl (by decide))]; exact c2__dL_X_i_toNatClampNeg_
      have c3_dl : w3_ dl = some (.inr (0, [.ref sb, .ref fb, .ref sh, .ref lq, .ref mp, .ref ca, .ref oa, .int (dC X 0), .int (dC X 1), .long ((dM X 0) + (((dF X i.toNatClampNeg 6) + (dFee X i.toNatClampNeg)) : Int32).toInt64), .long (dM X 1), .long ((dM X 2) + ((dFee X i.toNatClampNeg) : Int32).toInt64)])) := by rw [hw3_]; exact gu_s
      have hVw3_ : DV D K w3_ dl ca oa (sM (sM (sF X i.toNatClampNeg 4 3) 0 ((dM X 0) + (((dF X i.toNatClampNeg 6) + (dFee X i.toNatClampNeg)) : Int32).toInt64)) 2 ((dM X 2) + ((dFee X i.toNatClampNeg) : Int32).toInt64)) sb fb sh lq mp md lmd ks es hN ky vl bv ta cap := by rw [hw3_]; exact hVw2_.putD (X' := (sM (sM (sF X i.toNatClampNeg 4 3) 0 ((dM X 0) + (((dF X i.toNatClampNeg 6) + (dFee X i.toNatClampNeg)) : Int32).toInt64)) 2 ((dM X 2) + ((dFee X i.toNatClampNeg) : Int32).toInt64))) rfl ⟨rfl, rfl, rfl, rfl, rfl⟩
      have hFw3_ : FD D ca oa w w3_ := hFw2_.tr (by rw [hw3_]; exact FD.up c2_dl (by decide))
      refine lv_aload_n (pc := 98) hx hb dX1_pay_98 rfl (lv_at hl 0 rfl) ?_
      refine g_getN (pc := 99) (v := .int (dF X i.toNatClampNeg 6)) S M G (C := RX4) (T := TX4) (N := 14) (ci := 3) in_X4 c3__dL_X_i_toNatClampNeg_ rfl 6 (by decide) q536 rfl rfl dX1_pay_99 ?_
      refine lv_aload_n (pc := 102) hx hb dX1_pay_102 rfl (lv_at hl 0 rfl) ?_
      refine g_callV (pc := 103) S M G hl.1 [] [.int (dF X i.toNatClampNeg 6)] (metX4_fee l D K w3_ hVw3_.W hi) 0 (g_recv M G c3__dL_X_i_toNatClampNeg_ (q := (RX4, TX4, 14)) rfl) q1189 q1186 q1187 q1188 q35 (by decide) rfl ⟨Nat.le_of_ble_eq_true rfl, Nat.le_of_ble_eq_true rfl⟩ rfl (Nat.le_of_ble_eq_true rfl) dX1_pay_103 ⟨Nat.le_of_ble_eq_true rfl, Nat.le_of_ble_eq_true rfl⟩ (fun r w2 H locs hp G => ?_)
      obtain ⟨rfl, hw2⟩ := hp
      rw [hw2] at G
      rw [show dFee (sM (sM (sF X i.toNatClampNeg 4 3) 0 ((dM X 0) + (((dF X i.toNatClampNeg 6) + (dFee X i.toNatClampNeg)) : Int32).toInt64)) 2 ((dM X 2) + ((dFee X i.toNatClampNeg) : Int32).toInt64)) i.toNatClampNeg = dFee X i.toNatClampNeg from by unfold dFee; simp only [dF_s, dF_sA, dF_sC, dF_sM, dF_sB]; rfl]
      refine W.eq (g2 := F0 m 106 ls [.int (dFee X i.toNatClampNeg), .int (dF X i.toNatClampNeg 6)]) rfl ?_
      refine lv_iadd (pc := 106) hx hb dX1_pay_106 ?_
      rw [hQ]
      refine gx_iret S G hr hlocks (hdg := dX1_pay_107) ?_ ?_ ?_
      · exact Nat.le_of_ble_eq_true rfl
      · exact Nat.le_of_ble_eq_true rfl
      · have e9 : dS_pay X i = (0, ((dF X i.toNatClampNeg 6) + (dFee X i.toNatClampNeg)), (sM (sM (sF X i.toNatClampNeg 4 3) 0 ((dM X 0) + (((dF X i.toNatClampNeg 6) + (dFee X i.toNatClampNeg)) : Int32).toInt64)) 2 ((dM X 2) + ((dFee X i.toNatClampNeg) : Int32).toInt64))) := by
          unfold dS_pay
          rw [if_pos c1, if_pos c2, if_pos c5]
        rw [e9]
        exact ⟨rfl, rfl, hVw3_.W, hFw3_⟩
    · refine lv_aload_n (pc := 35) hx hb dX1_pay_35 rfl (lv_at hl 1 rfl) ?_
      refine g_get (pc := 36) (v := .ref oa) S M G (C := RX1) (T := TX1) (N := 12) (ci := 0) in_X1 c1_dl rfl 6 (by decide) q175 (Or.inl rfl) rfl dX1_pay_36 ?_
      refine lv_aload_n (pc := 39) hx hb dX1_pay_39 rfl (lv_at hl 0 rfl) ?_
      refine g_getN (pc := 40) (v := .int (dF X i.toNatClampNeg 11)) S M G (C := RX4) (T := TX4) (N := 14) (ci := 3) in_X4 c1__dL_X_i_toNatClampNeg_ rfl 11 (by decide) q545 rfl rfl dX1_pay_40 ?_
      refine lv_dup2_11 (pc := 43) hx hb dX1_pay_43 rfl rfl ?_
      refine g_iald (pc := 44) S M G c1_oa ((hR _ hi).1 c5) dX1_pay_44 ?_
      refine lv_iconst (pc := 45) (v := 0) hx hb dX1_pay_45 (by decide) ?_
      refine lv_aload_n (pc := 46) hx hb dX1_pay_46 rfl (lv_at hl 0 rfl) ?_
      refine g_getN (pc := 47) (v := .int (dF X i.toNatClampNeg 12)) S M G (C := RX4) (T := TX4) (N := 14) (ci := 3) in_X4 c1__dL_X_i_toNatClampNeg_ rfl 12 (by decide) q546 rfl rfl dX1_pay_47 ?_
      refine lv_aload_n (pc := 50) hx hb dX1_pay_50 rfl (lv_at hl 0 rfl) ?_
      refine g_getN (pc := 51) (v := .int (dF X i.toNatClampNeg 6)) S M G (C := RX4) (T := TX4) (N := 14) (ci := 3) in_X4 c1__dL_X_i_toNatClampNeg_ rfl 6 (by decide) q536 rfl rfl dX1_pay_51 ?_
      refine lv_isub (pc := 54) hx hb dX1_pay_54 ?_
      refine g_max (pc := 55) (x := 0) (y := ((dF X i.toNatClampNeg 12) - (dF X i.toNatClampNeg 6))) S hl.1 q1185 (Nat.le_of_ble_eq_true rfl) (Nat.le_of_ble_eq_true rfl) (Nat.le_of_ble_eq_true rfl) (Nat.le_of_ble_eq_true rfl) dX1_pay_55 ?_
      refine lv_iadd (pc := 58) hx hb dX1_pay_58 ?_
      refine g_iast (pc := 59) S M G c1_oa hboa ((hR _ hi).1 c5) dX1_pay_59 (fun H locs G => ?_)
      obtain ⟨w4_, hw4_⟩ : ∃ z9, z9 = gu w1_ oa (.inl (D.1 100, 10, .inl (upd (dA X 1) (dF X i.toNatClampNeg 11).toNatClampNeg (((dA X 1) (dF X i.toNatClampNeg 11).toNatClampNeg) + (if 0 < ((dF X i.toNatClampNeg 12) - (dF X i.toNatClampNeg 6)) then ((dF X i.toNatClampNeg 12) - (dF X i.toNatClampNeg 6)) else 0))))) := ⟨_, rfl⟩
      replace G : gS D K w4_ s H locs := by rw [hw4_]; exact G
      have c4_dl : w4_ dl = some (.inr (0, [.ref sb, .ref fb, .ref sh, .ref lq, .ref mp, .ref ca, .ref oa, .int (dC X 0), .int (dC X 1), .long (dM X 0), .long (dM X 1), .long (dM X 2)])) := by rw [hw4_, gu_n (Ne.symm (gne_ao c1_oa c1_dl))]; exact c1_dl
      have c4_lq : w4_ lq = some (.inr (6, [.int lmd, .ref ta, .int (nI (dN X))])) := by rw [hw4_, gu_n (Ne.symm (gne_ao c1_oa c1_lq))]; exact c1_lq
      have c4_ca : w4_ ca = some (.inl (D.1 100, 6, .inl (dA X 0))) := by rw [hw4_, gu_n hco]; exact c1_ca
      have c4_sb : w4_ sb = some (.inr (1, fssb)) := by rw [hw4_, gu_n (Ne.symm (gne_ao c1_oa c1_sb))]; exact c1_sb
      have c4_fb : w4_ fb = some (.inr (1, fsfb)) := by rw [hw4_, gu_n (Ne.symm (gne_ao c1_oa c1_fb))]; exact c1_fb
      have c4_sh : w4_ sh = some (.inr (1, fssh)) := by rw [hw4_, gu_n (Ne.symm (gne_ao c1_oa c1_sh))]; exact c1_sh
      have c4__dL_X_i_toNatClampNeg_ : w4_ (dL X i.toNatClampNeg) = some (.inr (3, [.int (nI i.toNatClampNeg), .int (dF X i.toNatClampNeg 1), .int (dF X i.toNatClampNeg 2), .int (dF X i.toNatClampNeg 3), .int 3, .int (dF X i.toNatClampNeg 5), .int (dF X i.toNatClampNeg 6), .int (dF X i.toNatClampNeg 7), .int (dF X i.toNatClampNeg 8), .int (dF X i.toNatClampNeg 9), .int (dF X i.toNatClampNeg 10), .int (dF X i.toNatClampNeg 11), .int (dF X i.toNatClampNeg 12), .ref dl])) := by rw [hw4_, gu_n (Ne.symm (gne_ao c1_oa c1__dL_X_i_toNatClampNeg_))]; exact c1__dL_X_i_toNatClampNeg_
      have c4_oa : w4_ oa = some (.inl (D.1 100, 10, .inl (upd (dA X 1) (dF X i.toNatClampNeg 11).toNatClampNeg (((dA X 1) (dF X i.toNatClampNeg 11).toNatClampNeg) + (if 0 < ((dF X i.toNatClampNeg 12) - (dF X i.toNatClampNeg 6)) then ((dF X i.toNatClampNeg 12) - (dF X i.toNatClampNeg 6)) else 0))))) := by rw [hw4_]; exact gu_s
      have hVw4_ : DV D K w4_ dl ca oa (sA (sF X i.toNatClampNeg 4 3) 1 (dF X i.toNatClampNeg 11).toNatClampNeg (((dA X 1) (dF X i.toNatClampNeg 11).toNatClampNeg) + (if 0 < ((dF X i.toNatClampNeg 12) - (dF X i.toNatClampNeg 6)) then ((dF X i.toNatClampNeg 12) - (dF X i.toNatClampNeg 6)) else 0))) sb fb sh lq mp md lmd ks es hN ky vl bv ta cap := by rw [hw4_]; exact hVw1_.putA1
      have hFw4_ : FD D ca oa w w4_ := hFw1_.tr (by rw [hw4_]; exact FD.upo c1_oa)
      refine lv_aload_n (pc := 60) hx hb dX1_pay_60 rfl (lv_at hl 0 rfl) ?_
      refine lv_iconst (pc := 61) (v := (-1)) hx hb dX1_pay_61 (by decide) ?_
      refine g_putN (pc := 62) (v := .int (-1)) S M G (C := RX4) (T := TX4) (N := 14) (ci := 3) in_X4 tyX4 tyX4_ok nmX4 c4__dL_X_i_toNatClampNeg_ hblo rfl 11 (by decide) q545 rfl rfl rfl rfl (Nat.le_of_ble_eq_true rfl) dX1_pay_62 (fun H locs G => ?_)
      obtain ⟨w5_, hw5_⟩ : ∃ z9, z9 = gu w4_ (dL X i.toNatClampNeg) (.inr (3, [.int (nI i.toNatClampNeg), .int (dF X i.toNatClampNeg 1), .int (dF X i.toNatClampNeg 2), .int (dF X i.toNatClampNeg 3), .int 3, .int (dF X i.toNatClampNeg 5), .int (dF X i.toNatClampNeg 6), .int (dF X i.toNatClampNeg 7), .int (dF X i.toNatClampNeg 8), .int (dF X i.toNatClampNeg 9), .int (dF X i.toNatClampNeg 10), .int (-1), .int (dF X i.toNatClampNeg 12), .ref dl])) := ⟨_, rfl⟩
      replace G : gS D K w5_ s H locs := by rw [hw5_]; exact G
      have c5_dl : w5_ dl = some (.inr (0, [.ref sb, .ref fb, .ref sh, .ref lq, .ref mp, .ref ca, .ref oa, .int (dC X 0), .int (dC X 1), .long (dM X 0), .long (dM X 1), .long (dM X 2)])) := by rw [hw5_, gu_n (gne_c c4_dl c4__dL_X_i_toNatClampNeg_ (by decide))]; exact c4_dl
      have c5_lq : w5_ lq = some (.inr (6, [.int lmd, .ref ta, .int (nI (dN X))])) := by rw [hw5_, gu_n (gne_c c4_lq c4__dL_X_i_toNatClampNeg_ (by decide))]; exact c4_lq
      have c5_ca : w5_ ca = some (.inl (D.1 100, 6, .inl (dA X 0))) := by rw [hw5_, gu_n (gne_ao c4_ca c4__dL_X_i_toNatClampNeg_)]; exact c4_ca
      have c5_oa : w5_ oa = some (.inl (D.1 100, 10, .inl (upd (dA X 1) (dF X i.toNatClampNeg 11).toNatClampNeg (((dA X 1) (dF X i.toNatClampNeg 11).toNatClampNeg) + (if 0 < ((dF X i.toNatClampNeg 12) - (dF X i.toNatClampNeg 6)) then ((dF X i.toNatClampNeg 12) - (dF X i.toNatClampNeg 6)) else 0))))) := by rw [hw5_, gu_n (gne_ao c4_oa c4__dL_X_i_toNatClampNeg_)]; exact c4_oa
      have c5_sb : w5_ sb = some (.inr (1, fssb)) := by rw [hw5_, gu_n (gne_c c4_sb c4__dL_X_i_toNatClampNeg_ (by decide))]; exact c4_sb
      have c5_fb : w5_ fb = some (.inr (1, fsfb)) := by rw [hw5_, gu_n (gne_c c4_fb c4__dL_X_i_toNatClampNeg_ (by decide))]; exact c4_fb
      have c5_sh : w5_ sh = some (.inr (1, fssh)) := by rw [hw5_, gu_n (gne_c c4_sh c4__dL_X_i_toNatClampNeg_ (by decide))]; exact c4_sh
      have c5__dL_X_i_toNatClampNeg_ : w5_ (dL X i.toNatClampNeg) = some (.inr (3, [.int (nI i.toNatClampNeg), .int (dF X i.toNatClampNeg 1), .int (dF X i.toNatClampNeg 2), .int (dF X i.toNatClampNeg 3), .int 3, .int (dF X i.toNatClampNeg 5), .int (dF X i.toNatClampNeg 6), .int (dF X i.toNatClampNeg 7), .int (dF X i.toNatClampNeg 8), .int (dF X i.toNatClampNeg 9), .int (dF X i.toNatClampNeg 10), .int (-1), .int (dF X i.toNatClampNeg 12), .ref dl])) := by rw [hw5_]; exact gu_s
      have hVw5_ : DV D K w5_ dl ca oa (sF (sA (sF X i.toNatClampNeg 4 3) 1 (dF X i.toNatClampNeg 11).toNatClampNeg (((dA X 1) (dF X i.toNatClampNeg 11).toNatClampNeg) + (if 0 < ((dF X i.toNatClampNeg 12) - (dF X i.toNatClampNeg 6)) then ((dF X i.toNatClampNeg 12) - (dF X i.toNatClampNeg 6)) else 0))) i.toNatClampNeg 11 (-1)) sb fb sh lq mp md lmd ks es hN ky vl bv ta cap := by rw [hw5_]; exact hVw4_.putL (k := 11) (x := (-1)) hi (by first | rfl | (simp only [dF_s, dF_sA, dF_sC, dF_sM, dF_sB]; rfl))
      have hFw5_ : FD D ca oa w w5_ := hFw4_.tr (by rw [hw5_]; exact FD.up c4__dL_X_i_toNatClampNeg_ (by decide))
      refine lv_aload_n (pc := 65) hx hb dX1_pay_65 rfl (lv_at hl 1 rfl) ?_
      refine lv_dup (pc := 66) hx hb dX1_pay_66 rfl ?_
      refine g_get (pc := 67) (v := .long (dM X 0)) S M G (C := RX1) (T := TX1) (N := 12) (ci := 0) in_X1 c5_dl rfl 9 (by decide) q180 (Or.inl rfl) rfl dX1_pay_67 ?_
      refine lv_aload_n (pc := 70) hx hb dX1_pay_70 rfl (lv_at hl 0 rfl) ?_
      refine g_getN (pc := 71) (v := .int (dF X i.toNatClampNeg 6)) S M G (C := RX4) (T := TX4) (N := 14) (ci := 3) in_X4 c5__dL_X_i_toNatClampNeg_ rfl 6 (by decide) q536 rfl rfl dX1_pay_71 ?_
      refine lv_aload_n (pc := 74) hx hb dX1_pay_74 rfl (lv_at hl 0 rfl) ?_
      refine g_callV (pc := 75) S M G hl.1 [] [.int (dF X i.toNatClampNeg 6), .long (dM X 0), .ref dl] (metX4_fee l D K w5_ hVw5_.W hi) 0 (g_recv M G c5__dL_X_i_toNatClampNeg_ (q := (RX4, TX4, 14)) rfl) q1189 q1186 q1187 q1188 q35 (by decide) rfl ⟨Nat.le_of_ble_eq_true rfl, Nat.le_of_ble_eq_true rfl⟩ rfl (Nat.le_of_ble_eq_true rfl) dX1_pay_75 ⟨Nat.le_of_ble_eq_true rfl, Nat.le_of_ble_eq_true rfl⟩ (fun r w2 H locs hp G => ?_)
      obtain ⟨rfl, hw2⟩ := hp
      rw [hw2] at G
      rw [show dFee (sF (sA (sF X i.toNatClampNeg 4 3) 1 (dF X i.toNatClampNeg 11).toNatClampNeg (((dA X 1) (dF X i.toNatClampNeg 11).toNatClampNeg) + (if 0 < ((dF X i.toNatClampNeg 12) - (dF X i.toNatClampNeg 6)) then ((dF X i.toNatClampNeg 12) - (dF X i.toNatClampNeg 6)) else 0))) i.toNatClampNeg 11 (-1)) i.toNatClampNeg = dFee X i.toNatClampNeg from by unfold dFee; simp only [dF_s, dF_sA, dF_sC, dF_sM, dF_sB]; rfl]
      refine W.eq (g2 := F0 m 78 ls [.int (dFee X i.toNatClampNeg), .int (dF X i.toNatClampNeg 6), .long (dM X 0), .ref dl]) rfl ?_
      refine lv_iadd (pc := 78) hx hb dX1_pay_78 ?_
      refine lv_i2l (pc := 79) hx hb dX1_pay_79 rfl ?_
      refine lv_ladd (pc := 80) hx hb dX1_pay_80 ?_
      refine g_put (pc := 81) (v := .long ((dM X 0) + (((dF X i.toNatClampNeg 6) + (dFee X i.toNatClampNeg)) : Int32).toInt64)) S M G (C := RX1) (T := TX1) (N := 12) (ci := 0) in_X1 tyX1 tyX1_ok nmX1 c5_dl hbdl rfl 9 (by decide) q180 (Or.inl rfl) rfl rfl rfl (Nat.le_of_ble_eq_true rfl) dX1_pay_81 (fun H locs G => ?_)
      obtain ⟨w6_, hw6_⟩ : ∃ z9, z9 = gu w5_ dl (.inr (0, [.ref sb, .ref fb, .ref sh, .ref lq, .ref mp, .ref ca, .ref oa, .int (dC X 0), .int (dC X 1), .long ((dM X 0) + (((dF X i.toNatClampNeg 6) + (dFee X i.toNatClampNeg)) : Int32).toInt64), .long (dM X 1), .long (dM X 2)])) := ⟨_, rfl⟩
      replace G : gS D K w6_ s H locs := by rw [hw6_]; exact G
      have c6_lq : w6_ lq = some (.inr (6, [.int lmd, .ref ta, .int (nI (dN X))])) := by rw [hw6_, gu_n (gne_c c5_lq c5_dl (by decide))]; exact c5_lq
      have c6_ca : w6_ ca = some (.inl (D.1 100, 6, .inl (dA X 0))) := by rw [hw6_, gu_n (gne_ao c5_ca c5_dl)]; exact c5_ca
      have c6_oa : w6_ oa = some (.inl (D.1 100, 10, .inl (upd (dA X 1) (dF X i.toNatClampNeg 11).toNatClampNeg (((dA X 1) (dF X i.toNatClampNeg 11).toNatClampNeg) + (if 0 < ((dF X i.toNatClampNeg 12) - (dF X i.toNatClampNeg 6)) then ((dF X i.toNatClampNeg 12) - (dF X i.toNatClampNeg 6)) else 0))))) := by rw [hw6_, gu_n (gne_ao c5_oa c5_dl)]; exact c5_oa
      have c6_sb : w6_ sb = some (.inr (1, fssb)) := by rw [hw6_, gu_n (gne_c c5_sb c5_dl (by decide))]; exact c5_sb
      have c6_fb : w6_ fb = some (.inr (1, fsfb)) := by rw [hw6_, gu_n (gne_c c5_fb c5_dl (by decide))]; exact c5_fb
      have c6_sh : w6_ sh = some (.inr (1, fssh)) := by rw [hw6_, gu_n (gne_c c5_sh c5_dl (by decide))]; exact c5_sh
      have c6__dL_X_i_toNatClampNeg_ : w6_ (dL X i.toNatClampNeg) = some (.inr (3, [.int (nI i.toNatClampNeg), .int (dF X i.toNatClampNeg 1), .int (dF X i.toNatClampNeg 2), .int (dF X i.toNatClampNeg 3), .int 3, .int (dF X i.toNatClampNeg 5), .int (dF X i.toNatClampNeg 6), .int (dF X i.toNatClampNeg 7), .int (dF X i.toNatClampNeg 8), .int (dF X i.toNatClampNeg 9), .int (dF X i.toNatClampNeg 10), .int (-1), .int (dF X i.toNatClampNeg 12), .ref dl])) := by rw [hw6_, gu_n (gne_c c5__dL_X_i_toNatClampNeg_ c5_dl (by decide))]; exact c5__dL_X_i_toNatClampNeg_
      have c6_dl : w6_ dl = some (.inr (0, [.ref sb, .ref fb, .ref sh, .ref lq, .ref mp, .ref ca, .ref oa, .int (dC X 0), .int (dC X 1), .long ((dM X 0) + (((dF X i.toNatClampNeg 6) + (dFee X i.toNatClampNeg)) : Int32).toInt64), .long (dM X 1), .long (dM X 2)])) := by rw [hw6_]; exact gu_s
      have hVw6_ : DV D K w6_ dl ca oa (sM (sF (sA (sF X i.toNatClampNeg 4 3) 1 (dF X i.toNatClampNeg 11).toNatClampNeg (((dA X 1) (dF X i.toNatClampNeg 11).toNatClampNeg) + (if 0 < ((dF X i.toNatClampNeg 12) - (dF X i.toNatClampNeg 6)) then ((dF X i.toNatClampNeg 12) - (dF X i.toNatClampNeg 6)) else 0))) i.toNatClampNeg 11 (-1)) 0 ((dM X 0) + (((dF X i.toNatClampNeg 6) + (dFee X i.toNatClampNeg)) : Int32).toInt64)) sb fb sh lq mp md lmd ks es hN ky vl bv ta cap := by rw [hw6_]; exact hVw5_.putD (X' := (sM (sF (sA (sF X i.toNatClampNeg 4 3) 1 (dF X i.toNatClampNeg 11).toNatClampNeg (((dA X 1) (dF X i.toNatClampNeg 11).toNatClampNeg) + (if 0 < ((dF X i.toNatClampNeg 12) - (dF X i.toNatClampNeg 6)) then ((dF X i.toNatClampNeg 12) - (dF X i.toNatClampNeg 6)) else 0))) i.toNatClampNeg 11 (-1)) 0 ((dM X 0) + (((dF X i.toNatClampNeg 6) + (dFee X i.toNatClampNeg)) : Int32).toInt64))) rfl ⟨rfl, rfl, rfl, rfl, rfl⟩
      have hFw6_ : FD D ca oa w w6_ := hFw5_.tr (by rw [hw6_]; exact FD.up c5_dl (by decide))
      refine lv_aload_n (pc := 84) hx hb dX1_pay_84 rfl (lv_at hl 1 rfl) ?_
      refine lv_dup (pc := 85) hx hb dX1_pay_85 rfl ?_
      refine g_get (pc := 86) (v := .long (dM X 2)) S M G (C := RX1) (T := TX1) (N := 12) (ci := 0) in_X1 c6_dl rfl 11 (by decide) q182 (Or.inl rfl) rfl dX1_pay_86 ?_
      refine lv_aload_n (pc := 89) hx hb dX1_pay_89 rfl (lv_at hl 0 rfl) ?_
      refine g_callV (pc := 90) S M G hl.1 [] [.long (dM X 2), .ref dl] (metX4_fee l D K w6_ hVw6_.W hi) 0 (g_recv M G c6__dL_X_i_toNatClampNeg_ (q := (RX4, TX4, 14)) rfl) q1189 q1186 q1187 q1188 q35 (by decide) rfl ⟨Nat.le_of_ble_eq_true rfl, Nat.le_of_ble_eq_true rfl⟩ rfl (Nat.le_of_ble_eq_true rfl) dX1_pay_90 ⟨Nat.le_of_ble_eq_true rfl, Nat.le_of_ble_eq_true rfl⟩ (fun r w2 H locs hp G => ?_)
      obtain ⟨rfl, hw2⟩ := hp
      rw [hw2] at G
      rw [show dFee (sM (sF (sA (sF X i.toNatClampNeg 4 3) 1 (dF X i.toNatClampNeg 11).toNatClampNeg (((dA X 1) (dF X i.toNatClampNeg 11).toNatClampNeg) + (if 0 < ((dF X i.toNatClampNeg 12) - (dF X i.toNatClampNeg 6)) then ((dF X i.toNatClampNeg 12) - (dF X i.toNatClampNeg 6)) else 0))) i.toNatClampNeg 11 (-1)) 0 ((dM X 0) + (((dF X i.toNatClampNeg 6) + (dFee X i.toNatClampNeg)) : Int32).toInt64)) i.toNatClampNeg = dFee X i.toNatClampNeg from by unfold dFee; simp only [dF_s, dF_sA, dF_sC, dF_sM, dF_sB]; rfl]
      refine W.eq (g2 := F0 m 93 ls [.int (dFee X i.toNatClampNeg), .long (dM X 2), .ref dl]) rfl ?_
      refine lv_i2l (pc := 93) hx hb dX1_pay_93 rfl ?_
      refine lv_ladd (pc := 94) hx hb dX1_pay_94 ?_
      refine g_put (pc := 95) (v := .long ((dM X 2) + ((dFee X i.toNatClampNeg) : Int32).toInt64)) S M G (C := RX1) (T := TX1) (N := 12) (ci := 0) in_X1 tyX1 tyX1_ok nmX1 c6_dl hbdl rfl 11 (by decide) q182 (Or.inl rfl) rfl rfl rfl (Nat.le_of_ble_eq_true rfl) dX1_pay_95 (fun H locs G => ?_)
      obtain ⟨w7_, hw7_⟩ : ∃ z9, z9 = gu w6_ dl (.inr (0, [.ref sb, .ref fb, .ref sh, .ref lq, .ref mp, .ref ca, .ref oa, .int (dC X 0), .int (dC X 1), .long ((dM X 0) + (((dF X i.toNatClampNeg 6) + (dFee X i.toNatClampNeg)) : Int32).toInt64), .long (dM X 1), .long ((dM X 2) + ((dFee X i.toNatClampNeg) : Int32).toInt64)])) := ⟨_, rfl⟩
      replace G : gS D K w7_ s H locs := by rw [hw7_]; exact G
      have c7_lq : w7_ lq = some (.inr (6, [.int lmd, .ref ta, .int (nI (dN X))])) := by rw [hw7_, gu_n (gne_c c6_lq c6_dl (by decide))]; exact c6_lq
      have c7_ca : w7_ ca = some (.inl (D.1 100, 6, .inl (dA X 0))) := by rw [hw7_, gu_n (gne_ao c6_ca c6_dl)]; exact c6_ca
      have c7_oa : w7_ oa = some (.inl (D.1 100, 10, .inl (upd (dA X 1) (dF X i.toNatClampNeg 11).toNatClampNeg (((dA X 1) (dF X i.toNatClampNeg 11).toNatClampNeg) + (if 0 < ((dF X i.toNatClampNeg 12) - (dF X i.toNatClampNeg 6)) then ((dF X i.toNatClampNeg 12) - (dF X i.toNatClampNeg 6)) else 0))))) := by rw [hw7_, gu_n (gne_ao c6_oa c6_dl)]; exact c6_oa
      have c7_sb : w7_ sb = some (.inr (1, fssb)) := by rw [hw7_, gu_n (gne_c c6_sb c6_dl (by decide))]; exact c6_sb
      have c7_fb : w7_ fb = some (.inr (1, fsfb)) := by rw [hw7_, gu_n (gne_c c6_fb c6_dl (by decide))]; exact c6_fb
      have c7_sh : w7_ sh = some (.inr (1, fssh)) := by rw [hw7_, gu_n (gne_c c6_sh c6_dl (by decide))]; exact c6_sh
      have c7__dL_X_i_toNatClampNeg_ : w7_ (dL X i.toNatClampNeg) = some (.inr (3, [.int (nI i.toNatClampNeg), .int (dF X i.toNatClampNeg 1), .int (dF X i.toNatClampNeg 2), .int (dF X i.toNatClampNeg 3), .int 3, .int (dF X i.toNatClampNeg 5), .int (dF X i.toNatClampNeg 6), .int (dF X i.toNatClampNeg 7), .int (dF X i.toNatClampNeg 8), .int (dF X i.toNatClampNeg 9), .int (dF X i.toNatClampNeg 10), .int (-1), .int (dF X i.toNatClampNeg 12), .ref dl])) := by rw [hw7_, gu_n (gne_c c6__dL_X_i_toNatClampNeg_ c6_dl (by decide))]; exact c6__dL_X_i_toNatClampNeg_
      have c7_dl : w7_ dl = some (.inr (0, [.ref sb, .ref fb, .ref sh, .ref lq, .ref mp, .ref ca, .ref oa, .int (dC X 0), .int (dC X 1), .long ((dM X 0) + (((dF X i.toNatClampNeg 6) + (dFee X i.toNatClampNeg)) : Int32).toInt64), .long (dM X 1), .long ((dM X 2) + ((dFee X i.toNatClampNeg) : Int32).toInt64)])) := by rw [hw7_]; exact gu_s
      have hVw7_ : DV D K w7_ dl ca oa (sM (sM (sF (sA (sF X i.toNatClampNeg 4 3) 1 (dF X i.toNatClampNeg 11).toNatClampNeg (((dA X 1) (dF X i.toNatClampNeg 11).toNatClampNeg) + (if 0 < ((dF X i.toNatClampNeg 12) - (dF X i.toNatClampNeg 6)) then ((dF X i.toNatClampNeg 12) - (dF X i.toNatClampNeg 6)) else 0))) i.toNatClampNeg 11 (-1)) 0 ((dM X 0) + (((dF X i.toNatClampNeg 6) + (dFee X i.toNatClampNeg)) : Int32).toInt64)) 2 ((dM X 2) + ((dFee X i.toNatClampNeg) : Int32).toInt64)) sb fb sh lq mp md lmd ks es hN ky vl bv ta cap := by rw [hw7_]; exact hVw6_.putD (X' := (sM (sM (sF (sA (sF X i.toNatClampNeg 4 3) 1 (dF X i.toNatClampNeg 11).toNatClampNeg (((dA X 1) (dF X i.toNatClampNeg 11).toNatClampNeg) + (if 0 < ((dF X i.toNatClampNeg 12) - (dF X i.toNatClampNeg 6)) then ((dF X i.toNatClampNeg 12) - (dF X i.toNatClampNeg 6)) else 0))) i.toNatClampNeg 11 (-1)) 0 ((dM X 0) + (((dF X i.toNatClampNeg 6) + (dFee X i.toNatClampNeg)) : Int32).toInt64)) 2 ((dM X 2) + ((dFee X i.toNatClampNeg) : Int32).toInt64))) rfl ⟨rfl, rfl, rfl, rfl, rfl⟩
      have hFw7_ : FD D ca oa w w7_ := hFw6_.tr (by rw [hw7_]; exact FD.up c6_dl (by decide))
      refine lv_aload_n (pc := 98) hx hb dX1_pay_98 rfl (lv_at hl 0 rfl) ?_
      refine g_getN (pc := 99) (v := .int (dF X i.toNatClampNeg 6)) S M G (C := RX4) (T := TX4) (N := 14) (ci := 3) in_X4 c7__dL_X_i_toNatClampNeg_ rfl 6 (by decide) q536 rfl rfl dX1_pay_99 ?_
      refine lv_aload_n (pc := 102) hx hb dX1_pay_102 rfl (lv_at hl 0 rfl) ?_
      refine g_callV (pc := 103) S M G hl.1 [] [.int (dF X i.toNatClampNeg 6)] (metX4_fee l D K w7_ hVw7_.W hi) 0 (g_recv M G c7__dL_X_i_toNatClampNeg_ (q := (RX4, TX4, 14)) rfl) q1189 q1186 q1187 q1188 q35 (by decide) rfl ⟨Nat.le_of_ble_eq_true rfl, Nat.le_of_ble_eq_true rfl⟩ rfl (Nat.le_of_ble_eq_true rfl) dX1_pay_103 ⟨Nat.le_of_ble_eq_true rfl, Nat.le_of_ble_eq_true rfl⟩ (fun r w2 H locs hp G => ?_)
      obtain ⟨rfl, hw2⟩ := hp
      rw [hw2] at G
      rw [show dFee (sM (sM (sF (sA (sF X i.toNatClampNeg 4 3) 1 (dF X i.toNatClampNeg 11).toNatClampNeg (((dA X 1) (dF X i.toNatClampNeg 11).toNatClampNeg) + (if 0 < ((dF X i.toNatClampNeg 12) - (dF X i.toNatClampNeg 6)) then ((dF X i.toNatClampNeg 12) - (dF X i.toNatClampNeg 6)) else 0))) i.toNatClampNeg 11 (-1)) 0 ((dM X 0) + (((dF X i.toNatClampNeg 6) + (dFee X i.toNatClampNeg)) : Int32).toInt64)) 2 ((dM X 2) + ((dFee X i.toNatClampNeg) : Int32).toInt64)) i.toNatClampNeg = dFee X i.toNatClampNeg from by unfold dFee; simp only [dF_s, dF_sA, dF_sC, dF_sM, dF_sB]; rfl]
      refine W.eq (g2 := F0 m 106 ls [.int (dFee X i.toNatClampNeg), .int (dF X i.toNatClampNeg 6)]) rfl ?_
      refine lv_iadd (pc := 106) hx hb dX1_pay_106 ?_
      rw [hQ]
      refine gx_iret S G hr hlocks (hdg := dX1_pay_107) ?_ ?_ ?_
      · exact Nat.le_of_ble_eq_true rfl
      · exact Nat.le_of_ble_eq_true rfl
      · have e9 : dS_pay X i = (0, ((dF X i.toNatClampNeg 6) + (dFee X i.toNatClampNeg)), (sM (sM (sF (sA (sF X i.toNatClampNeg 4 3) 1 (dF X i.toNatClampNeg 11).toNatClampNeg (((dA X 1) (dF X i.toNatClampNeg 11).toNatClampNeg) + (if 0 < ((dF X i.toNatClampNeg 12) - (dF X i.toNatClampNeg 6)) then ((dF X i.toNatClampNeg 12) - (dF X i.toNatClampNeg 6)) else 0))) i.toNatClampNeg 11 (-1)) 0 ((dM X 0) + (((dF X i.toNatClampNeg 6) + (dFee X i.toNatClampNeg)) : Int32).toInt64)) 2 ((dM X 2) + ((dFee X i.toNatClampNeg) : Int32).toInt64))) := by
          unfold dS_pay
          rw [if_pos c1, if_pos c2, if_neg c5]
        rw [e9]
        exact ⟨rfl, rfl, hVw7_.W, hFw7_⟩
def dS_settle (X : DQ) (i : Int32) : Nat × Int32 × DQ := (if (¬ i < 0 ∧ i < (nI (dN X))) then (if (dF X i.toNatClampNeg 4) = 3 then (0, (((((dF X i.toNatClampNeg 6) - (((((dF X i.toNatClampNeg 6) : Int32).toInt64 * (((dA X 0) (dF X i.toNatClampNeg 1).toNatClampNeg) : Int32).toInt64) / 100) : Int64).toInt32) - (dShare X i.toNatClampNeg)) - (dF X i.toNatClampNeg 8)) - (dInt X i.toNatClampNeg)), (sM (sM (sF (sF X i.toNatClampNeg 10 (dInt X i.toNatClampNeg)) i.toNatClampNeg 4 4) 1 ((dM X 1) + (((((((dF X i.toNatClampNeg 6) - (((((dF X i.toNatClampNeg 6) : Int32).toInt64 * (((dA X 0) (dF X i.toNatClampNeg 1).toNatClampNeg) : Int32).toInt64) / 100) : Int64).toInt32) - (dShare X i.toNatClampNeg)) - (dF X i.toNatClampNeg 8)) - (dInt X i.toNatClampNeg)) + (dShare (sF (sF X i.toNatClampNeg 10 (dInt X i.toNatClampNeg)) i.toNatClampNeg 4 4) i.toNatClampNeg)) : Int32).toInt64)) 2 ((dM X 2) + (((((((dF X i.toNatClampNeg 6) : Int32).toInt64 * (((dA X 0) (dF X i.toNatClampNeg 1).toNatClampNeg) : Int32).toInt64) / 100) : Int64).toInt32 + (dInt X i.toNatClampNeg)) : Int32).toInt64))) else (3, 0, X)) else (1, 0, X))
abbrev rmX1_settle : Room := ({ frames := 8, cells := 2, slots := 12, locals := 142 } : Room)
set_option maxHeartbeats 4000000 in
theorem metX1_settle (l : Launch) (D : va_G) (K : Nat → Nat) (w : Gh) (hst : l.stackTraces = false) {dl ca oa : Nat} {X : DQ} (hD : DW D K w dl ca oa X) {i : Int32} (hR : dR X) : gXet l yX1_settle (ws_ yX1_settle cX1_settle 6 (some .int)) rmX1_settle D K [.ref dl, .int i] w (fun r' w' => (dS_settle X i).1 = 0 ∧ r' = some (.int (dS_settle X i).2.1) ∧ DW D K w' dl ca oa (dS_settle X i).2.2 ∧ FD D ca oa w w') (fun E9 => (dS_settle X i).1 ≠ 0 ∧ E9 = eN (dS_settle X i).1) := by
  refine gXet.of (by decide) (Nat.le_of_ble_eq_true rfl) ?_
  intro p e s m args below meth c H locs ls S M hr hlocks hexc G hl
  have hx := S.1
  have hb := S.2.1
  have hown := S.2.2.2.1
  have hts := S.2.2.2.2
  have hl : lv_has ls 6 [(0, .ref dl), (1, .int i)] := hl
  obtain ⟨Q, hQ⟩ : ∃ Q, Q = gXE below D K w (fun r' w' => (dS_settle X i).1 = 0 ∧ r' = some (.int (dS_settle X i).2.1) ∧ DW D K w' dl ca oa (dS_settle X i).2.2 ∧ FD D ca oa w w') (fun E9 => (dS_settle X i).1 ≠ 0 ∧ E9 = eN (dS_settle X i).1) args s rmX1_settle.cells rmX1_settle.slots := ⟨_, rfl⟩
  rw [← hQ]
  have hD0 := hD
  obtain ⟨sb, fb, sh, lq, mp, md, lmd, ks, es, hN, ky, vl, bv, ta, cap, hV⟩ := hD
  have hdl := hV.1.1
  have hbdl := hV.1.2
  have hDD := hV.2.2.2.2.2.2.2.2.2
  have hlqc := hV.2.2.1.1
  have hblq := hV.2.2.1.2.1
  have hn30 := hV.2.2.1.2.2.1
  have hca := hV.2.2.2.2.2.1.1
  have hbca := hV.2.2.2.2.2.1.2
  have hoa := hV.2.2.2.2.2.2.1.1
  have hboa := hV.2.2.2.2.2.2.1.2
  have hco := hV.2.2.2.2.2.2.2.1
  have hFD0 : FD D ca oa w w := FD.rf
  obtain ⟨fssb, hcsb⟩ : ∃ z, w sb = some (.inr (1, z)) := by obtain ⟨b9, h9, -⟩ := hV.2.1.1; exact ⟨_, h9⟩
  obtain ⟨fsfb, hcfb⟩ : ∃ z, w fb = some (.inr (1, z)) := by obtain ⟨b9, h9, -⟩ := hV.2.1.2.1; exact ⟨_, h9⟩
  obtain ⟨fssh, hcsh⟩ : ∃ z, w sh = some (.inr (1, z)) := by obtain ⟨b9, h9, -⟩ := hV.2.1.2.2; exact ⟨_, h9⟩
  refine lv_aload_n (pc := 0) hx hb dX1_settle_0 rfl (lv_at hl 0 rfl) ?_
  refine lv_iload_n (pc := 1) hx hb dX1_settle_1 rfl (lv_at hl 1 rfl) ?_
  refine gx_callV (pc := 2) S M G hl.1 [.int i] [] (metX1_at l D K w hst hD0) 1 (g_recv M G hdl (q := (RX1, TX1, 12)) rfl) q659 q656 q658 qs6 q18 (by decide) rfl ⟨Nat.le_of_ble_eq_true rfl, Nat.le_of_ble_eq_true rfl⟩ rfl (Nat.le_of_ble_eq_true rfl) dX1_settle_2 ⟨Nat.le_of_ble_eq_true rfl, Nat.le_of_ble_eq_true rfl⟩ (fun E9 ce9 q9 H1 locs1 hpx G1 hce hcv hcl => by rw [hQ]; exact gx_thr hexc hlocks G1 hce hcv hcl (Nat.le_of_ble_eq_true rfl) (Nat.le_of_ble_eq_true rfl) (by obtain ⟨c1, hE⟩ := hpx; have e9 : dS_settle X i = (1, 0, X) := by unfold dS_settle; rw [if_neg c1]; rw [e9]; exact ⟨by show (1 : Nat) ≠ 0; decide, hE⟩)) (fun r w2 H locs hp G => ?_)
  refine W.widen (k := 1) (n := 6) (Nat.le_of_ble_eq_true rfl) (Nat.le_of_ble_eq_true rfl) ?_
  obtain ⟨c1, rfl, hw2⟩ := hp
  rw [hw2] at G
  obtain ⟨hi, hij⟩ := at_ix c1 (by omega)
  have hlo := (hV.2.2.2.1 _ hi).1
  have hblo := (hV.2.2.2.1 _ hi).2
  refine W.eq (g2 := F0 m 5 ls [.ref (dL X i.toNatClampNeg)]) rfl ?_
  refine lv_astore_n (pc := 5) (lv' := [(2, .ref (dL X i.toNatClampNeg)), (0, .ref dl), (1, .int i)]) hx hb dX1_settle_5 rfl hl (by decide) rfl (fun ls hl => ?_)
  refine lv_aload_n (pc := 6) hx hb dX1_settle_6 rfl (lv_at hl 0 rfl) ?_
  refine g_getN (pc := 7) (v := .int (dF X i.toNatClampNeg 4)) S M G (C := RX4) (T := TX4) (N := 14) (ci := 3) in_X4 hlo rfl 4 (by decide) q532 rfl rfl dX1_settle_7 ?_
  refine lv_iconst (pc := 10) (v := 3) hx hb dX1_settle_10 (by decide) ?_
  refine lv_icmp_ne (pc := 11) (tgt := 18) hx hb dX1_settle_11 (by decide) (fun c2 => ?_) (fun c2 => ?_)
  · refine lv_iconst (pc := 18) (v := 0) hx hb dX1_settle_18 (by decide) ?_
    exact gx_callS (pc := 19) S M G hl.1 [.int 0] [] (metX1_possible l D K w hst) 1 q494 q492 q493 q18 (by decide) rfl ⟨Nat.le_of_ble_eq_true rfl, Nat.le_of_ble_eq_true rfl⟩ rfl (Nat.le_of_ble_eq_true rfl) dX1_settle_19 ⟨Nat.le_of_ble_eq_true rfl, Nat.le_of_ble_eq_true rfl⟩ (fun E9 ce9 q9 H1 locs1 hpx G1 hce hcv hcl => by rw [hQ]; exact gx_thr hexc hlocks G1 hce hcv hcl (Nat.le_of_ble_eq_true rfl) (Nat.le_of_ble_eq_true rfl) (by obtain ⟨c3, hE⟩ := hpx; have e9 : dS_settle X i = (3, 0, X) := by unfold dS_settle; rw [if_pos c1, if_neg c2]; rw [e9]; exact ⟨by show (3 : Nat) ≠ 0; decide, hE⟩)) (fun r w2 H locs hp G => absurd rfl hp.1)
  · refine lv_iconst (pc := 14) (v := 1) hx hb dX1_settle_14 (by decide) ?_
    refine lv_goto (pc := 15) (tgt := 19) hx hb dX1_settle_15 (by decide) ?_
    refine gx_callS (pc := 19) S M G hl.1 [.int 1] [] (metX1_possible l D K w hst) 1 q494 q492 q493 q18 (by decide) rfl ⟨Nat.le_of_ble_eq_true rfl, Nat.le_of_ble_eq_true rfl⟩ rfl (Nat.le_of_ble_eq_true rfl) dX1_settle_19 ⟨Nat.le_of_ble_eq_true rfl, Nat.le_of_ble_eq_true rfl⟩ (fun E9 ce9 q9 H1 locs1 hpx G1 hce hcv hcl => by rw [hQ]; exact gx_thr hexc hlocks G1 hce hcv hcl (Nat.le_of_ble_eq_true rfl) (Nat.le_of_ble_eq_true rfl) (absurd hpx.1 (by decide))) (fun r w2 H locs hp G => ?_)
    refine W.widen (k := 2) (n := 12) (Nat.le_of_ble_eq_true rfl) (Nat.le_of_ble_eq_true rfl) ?_
    obtain ⟨_, rfl, hw2⟩ := hp
    rw [hw2] at G
    refine W.eq (g2 := F0 m 22 ls []) rfl ?_
    refine lv_aload_n (pc := 22) hx hb dX1_settle_22 rfl (lv_at hl 0 rfl) ?_
    refine g_getN (pc := 23) (v := .int (dF X i.toNatClampNeg 6)) S M G (C := RX4) (T := TX4) (N := 14) (ci := 3) in_X4 hlo rfl 6 (by decide) q536 rfl rfl dX1_settle_23 ?_
    refine lv_i2l (pc := 26) hx hb dX1_settle_26 rfl ?_
    refine lv_aload_n (pc := 27) hx hb dX1_settle_27 rfl (lv_at hl 1 rfl) ?_
    refine g_get (pc := 28) (v := .ref ca) S M G (C := RX1) (T := TX1) (N := 12) (ci := 0) in_X1 hdl rfl 5 (by decide) q174 (Or.inl rfl) rfl dX1_settle_28 ?_
    refine lv_aload_n (pc := 31) hx hb dX1_settle_31 rfl (lv_at hl 0 rfl) ?_
    refine g_getN (pc := 32) (v := .int (dF X i.toNatClampNeg 1)) S M G (C := RX4) (T := TX4) (N := 14) (ci := 3) in_X4 hlo rfl 1 (by decide) q527 rfl rfl dX1_settle_32 ?_
    refine g_iald (pc := 35) S M G hca (hR _ hi).2 dX1_settle_35 ?_
    refine lv_i2l (pc := 36) hx hb dX1_settle_36 rfl ?_
    refine lv_lmul (pc := 37) hx hb dX1_settle_37 ?_
    refine lv_ldc2 (pc := 38) (v := 100) hx hb hown (hts _ q1225) dX1_settle_38 ?_
    refine lv_ldiv (pc := 41) hx hb dX1_settle_41 (by decide) ?_
    refine lv_l2i (pc := 42) hx hb dX1_settle_42 rfl ?_
    refine lv_istore_n (pc := 43) (lv' := [(3, .int ((((((dF X i.toNatClampNeg 6) : Int32).toInt64 * (((dA X 0) (dF X i.toNatClampNeg 1).toNatClampNeg) : Int32).toInt64) / 100) : Int64).toInt32)), (2, .ref (dL X i.toNatClampNeg)), (0, .ref dl), (1, .int i)]) hx hb dX1_settle_43 rfl hl (by decide) rfl (fun ls hl => ?_)
    refine lv_aload_n (pc := 44) hx hb dX1_settle_44 rfl (lv_at hl 1 rfl) ?_
    refine g_callV (pc := 45) S M G hl.1 [] [] (metX4_interestNow l D K w hD0 hi) 0 (g_recv M G hlo (q := (RX4, TX4, 14)) rfl) q1229 q1226 q1227 q1228 q35 (by decide) rfl ⟨Nat.le_of_ble_eq_true rfl, Nat.le_of_ble_eq_true rfl⟩ rfl (Nat.le_of_ble_eq_true rfl) dX1_settle_45 ⟨Nat.le_of_ble_eq_true rfl, Nat.le_of_ble_eq_true rfl⟩ (fun r w2 H locs hp G => ?_)
    obtain ⟨rfl, hw2⟩ := hp
    rw [hw2] at G
    refine W.eq (g2 := F0 m 48 ls [.int (dInt X i.toNatClampNeg)]) rfl ?_
    refine lv_istore (pc := 48) (lv' := [(4, .int (dInt X i.toNatClampNeg)), (3, .int ((((((dF X i.toNatClampNeg 6) : Int32).toInt64 * (((dA X 0) (dF X i.toNatClampNeg 1).toNatClampNeg) : Int32).toInt64) / 100) : Int64).toInt32)), (2, .ref (dL X i.toNatClampNeg)), (0, .ref dl), (1, .int i)]) hx hb dX1_settle_48 hl (by decide) rfl (fun ls hl => ?_)
    refine lv_aload_n (pc := 50) hx hb dX1_settle_50 rfl (lv_at hl 2 rfl) ?_
    refine g_getN (pc := 51) (v := .int (dF X i.toNatClampNeg 6)) S M G (C := RX4) (T := TX4) (N := 14) (ci := 3) in_X4 hlo rfl 6 (by decide) q536 rfl rfl dX1_settle_51 ?_
    refine lv_iload_n (pc := 54) hx hb dX1_settle_54 rfl (lv_at hl 1 rfl) ?_
    refine lv_isub (pc := 55) hx hb dX1_settle_55 ?_
    refine lv_aload_n (pc := 56) hx hb dX1_settle_56 rfl (lv_at hl 2 rfl) ?_
    refine g_callV (pc := 57) S M G hl.1 [] [.int ((dF X i.toNatClampNeg 6) - (((((dF X i.toNatClampNeg 6) : Int32).toInt64 * (((dA X 0) (dF X i.toNatClampNeg 1).toNatClampNeg) : Int32).toInt64) / 100) : Int64).toInt32)] (metX4_share l D K w hD0 hi) 0 (g_recv M G hlo (q := (RX4, TX4, 14)) rfl) q1234 q1231 q1232 q1233 q35 (by decide) rfl ⟨Nat.le_of_ble_eq_true rfl, Nat.le_of_ble_eq_true rfl⟩ rfl (Nat.le_of_ble_eq_true rfl) dX1_settle_57 ⟨Nat.le_of_ble_eq_true rfl, Nat.le_of_ble_eq_true rfl⟩ (fun r w2 H locs hp G => ?_)
    obtain ⟨rfl, hw2⟩ := hp
    rw [hw2] at G
    refine W.eq (g2 := F0 m 60 ls [.int (dShare X i.toNatClampNeg), .int ((dF X i.toNatClampNeg 6) - (((((dF X i.toNatClampNeg 6) : Int32).toInt64 * (((dA X 0) (dF X i.toNatClampNeg 1).toNatClampNeg) : Int32).toInt64) / 100) : Int64).toInt32)]) rfl ?_
    refine lv_isub (pc := 60) hx hb dX1_settle_60 ?_
    refine lv_aload_n (pc := 61) hx hb dX1_settle_61 rfl (lv_at hl 2 rfl) ?_
    refine g_getN (pc := 62) (v := .int (dF X i.toNatClampNeg 8)) S M G (C := RX4) (T := TX4) (N := 14) (ci := 3) in_X4 hlo rfl 8 (by decide) q539 rfl rfl dX1_settle_62 ?_
    refine lv_isub (pc := 65) hx hb dX1_settle_65 ?_
    refine lv_iload (pc := 66) hx hb dX1_settle_66 (lv_at hl 0 rfl) ?_
    refine lv_isub (pc := 68) hx hb dX1_settle_68 ?_
    refine lv_istore (pc := 69) (lv' := [(5, .int (((((dF X i.toNatClampNeg 6) - (((((dF X i.toNatClampNeg 6) : Int32).toInt64 * (((dA X 0) (dF X i.toNatClampNeg 1).toNatClampNeg) : Int32).toInt64) / 100) : Int64).toInt32) - (dShare X i.toNatClampNeg)) - (dF X i.toNatClampNeg 8)) - (dInt X i.toNatClampNeg))), (4, .int (dInt X i.toNatClampNeg)), (3, .int ((((((dF X i.toNatClampNeg 6) : Int32).toInt64 * (((dA X 0) (dF X i.toNatClampNeg 1).toNatClampNeg) : Int32).toInt64) / 100) : Int64).toInt32)), (2, .ref (dL X i.toNatClampNeg)), (0, .ref dl), (1, .int i)]) hx hb dX1_settle_69 hl (by decide) rfl (fun ls hl => ?_)
    refine lv_aload_n (pc := 71) hx hb dX1_settle_71 rfl (lv_at hl 3 rfl) ?_
    refine lv_iload (pc := 72) hx hb dX1_settle_72 (lv_at hl 1 rfl) ?_
    refine g_putN (pc := 74) (v := .int (dInt X i.toNatClampNeg)) S M G (C := RX4) (T := TX4) (N := 14) (ci := 3) in_X4 tyX4 tyX4_ok nmX4 hlo hblo rfl 10 (by decide) q543 rfl rfl rfl rfl (Nat.le_of_ble_eq_true rfl) dX1_settle_74 (fun H locs G => ?_)
    obtain ⟨w1_, hw1_⟩ : ∃ z9, z9 = gu w (dL X i.toNatClampNeg) (.inr (3, [.int (nI i.toNatClampNeg), .int (dF X i.toNatClampNeg 1), .int (dF X i.toNatClampNeg 2), .int (dF X i.toNatClampNeg 3), .int (dF X i.toNatClampNeg 4), .int (dF X i.toNatClampNeg 5), .int (dF X i.toNatClampNeg 6), .int (dF X i.toNatClampNeg 7), .int (dF X i.toNatClampNeg 8), .int (dF X i.toNatClampNeg 9), .int (dInt X i.toNatClampNeg), .int (dF X i.toNatClampNeg 11), .int (dF X i.toNatClampNeg 12), .ref dl])) := ⟨_, rfl⟩
    replace G : gS D K w1_ s H locs := by rw [hw1_]; exact G
    have c1_dl : w1_ dl = some (.inr (0, [.ref sb, .ref fb, .ref sh, .ref lq, .ref mp, .ref ca, .ref oa, .int (dC X 0), .int (dC X 1), .long (dM X 0), .long (dM X 1), .long (dM X 2)])) := by rw [hw1_, gu_n (gne_c hdl hlo (by decide))]; exact hdl
    have c1_lq : w1_ lq = some (.inr (6, [.int lmd, .ref ta, .int (nI (dN X))])) := by rw [hw1_, gu_n (gne_c hlqc hlo (by decide))]; exact hlqc
    have c1_ca : w1_ ca = some (.inl (D.1 100, 6, .inl (dA X 0))) := by rw [hw1_, gu_n (gne_ao hca hlo)]; exact hca
    have c1_oa : w1_ oa = some (.inl (D.1 100, 10, .inl (dA X 1))) := by rw [hw1_, gu_n (gne_ao hoa hlo)]; exact hoa
    have c1_sb : w1_ sb = some (.inr (1, fssb)) := by rw [hw1_, gu_n (gne_c hcsb hlo (by decide))]; exact hcsb
    have c1_fb : w1_ fb = some (.inr (1, fsfb)) := by rw [hw1_, gu_n (gne_c hcfb hlo (by decide))]; exact hcfb
    have c1_sh : w1_ sh = some (.inr (1, fssh)) := by rw [hw1_, gu_n (gne_c hcsh hlo (by decide))]; exact hcsh
    have c1__dL_X_i_toNatClampNeg_ : w1_ (dL X i.toNatClampNeg) = some (.inr (3, [.int (nI i.toNatClampNeg), .int (dF X i.toNatClampNeg 1), .int (dF X i.toNatClampNeg 2), .int (dF X i.toNatClampNeg 3), .int (dF X i.toNatClampNeg 4), .int (dF X i.toNatClampNeg 5), .int (dF X i.toNatClampNeg 6), .int (dF X i.toNatClampNeg 7), .int (dF X i.toNatClampNeg 8), .int (dF X i.toNatClampNeg 9), .int (dInt X i.toNatClampNeg), .int (dF X i.toNatClampNeg 11), .int (dF X i.toNatClampNeg 12), .ref dl])) := by rw [hw1_]; exact gu_s
    have hVw1_ : DV D K w1_ dl ca oa (sF X i.toNatClampNeg 10 (dInt X i.toNatClampNeg)) sb fb sh lq mp md lmd ks es hN ky vl bv ta cap := by rw [hw1_]; exact hV.putL (k := 10) (x := (dInt X i.toNatClampNeg)) hi (by first | rfl | (simp only [dF_s, dF_sA, dF_sC, dF_sM, dF_sB]; rfl))
    have hFw1_ : FD D ca oa w w1_ := hFD0.tr (by rw [hw1_]; exact FD.up hlo (by decide))
    refine lv_aload_n (pc := 77) hx hb dX1_settle_77 rfl (lv_at hl 3 rfl) ?_
    refine lv_iconst (pc := 78) (v := 4) hx hb dX1_settle_78 (by decide) ?_
    refine g_putN (pc := 79) (v := .int 4) S M G (C := RX4) (T := TX4) (N := 14) (ci := 3) in_X4 tyX4 tyX4_ok nmX4 c1__dL_X_i_toNatClampNeg_ hblo rfl 4 (by decide) q532 rfl rfl rfl rfl (Nat.le_of_ble_eq_true rfl) dX1_settle_79 (fun H locs G => ?_)
    obtain ⟨w2_, hw2_⟩ : ∃ z9, z9 = gu w1_ (dL X i.toNatClampNeg) (.inr (3, [.int (nI i.toNatClampNeg), .int (dF X i.toNatClampNeg 1), .int (dF X i.toNatClampNeg 2), .int (dF X i.toNatClampNeg 3), .int 4, .int (dF X i.toNatClampNeg 5), .int (dF X i.toNatClampNeg 6), .int (dF X i.toNatClampNeg 7), .int (dF X i.toNatClampNeg 8), .int (dF X i.toNatClampNeg 9), .int (dInt X i.toNatClampNeg), .int (dF X i.toNatClampNeg 11), .int (dF X i.toNatClampNeg 12), .ref dl])) := ⟨_, rfl⟩
    replace G : gS D K w2_ s H locs := by rw [hw2_]; exact G
    have c2_dl : w2_ dl = some (.inr (0, [.ref sb, .ref fb, .ref sh, .ref lq, .ref mp, .ref ca, .ref oa, .int (dC X 0), .int (dC X 1), .long (dM X 0), .long (dM X 1), .long (dM X 2)])) := by rw [hw2_, gu_n (gne_c c1_dl c1__dL_X_i_toNatClampNeg_ (by decide))]; exact c1_dl
    have c2_lq : w2_ lq = some (.inr (6, [.int lmd, .ref ta, .int (nI (dN X))])) := by rw [hw2_, gu_n (gne_c c1_lq c1__dL_X_i_toNatClampNeg_ (by decide))]; exact c1_lq
    have c2_ca : w2_ ca = some (.inl (D.1 100, 6, .inl (dA X 0))) := by rw [hw2_, gu_n (gne_ao c1_ca c1__dL_X_i_toNatClampNeg_)]; exact c1_ca
    have c2_oa : w2_ oa = some (.inl (D.1 100, 10, .inl (dA X 1))) := by rw [hw2_, gu_n (gne_ao c1_oa c1__dL_X_i_toNatClampNeg_)]; exact c1_oa
    have c2_sb : w2_ sb = some (.inr (1, fssb)) := by rw [hw2_, gu_n (gne_c c1_sb c1__dL_X_i_toNatClampNeg_ (by decide))]; exact c1_sb
    have c2_fb : w2_ fb = some (.inr (1, fsfb)) := by rw [hw2_, gu_n (gne_c c1_fb c1__dL_X_i_toNatClampNeg_ (by decide))]; exact c1_fb
    have c2_sh : w2_ sh = some (.inr (1, fssh)) := by rw [hw2_, gu_n (gne_c c1_sh c1__dL_X_i_toNatClampNeg_ (by decide))]; exact c1_sh
    have c2__dL_X_i_toNatClampNeg_ : w2_ (dL X i.toNatClampNeg) = some (.inr (3, [.int (nI i.toNatClampNeg), .int (dF X i.toNatClampNeg 1), .int (dF X i.toNatClampNeg 2), .int (dF X i.toNatClampNeg 3), .int 4, .int (dF X i.toNatClampNeg 5), .int (dF X i.toNatClampNeg 6), .int (dF X i.toNatClampNeg 7), .int (dF X i.toNatClampNeg 8), .int (dF X i.toNatClampNeg 9), .int (dInt X i.toNatClampNeg), .int (dF X i.toNatClampNeg 11), .int (dF X i.toNatClampNeg 12), .ref dl])) := by rw [hw2_]; exact gu_s
    have hVw2_ : DV D K w2_ dl ca oa (sF (sF X i.toNatClampNeg 10 (dInt X i.toNatClampNeg)) i.toNatClampNeg 4 4) sb fb sh lq mp md lmd ks es hN ky vl bv ta cap := by rw [hw2_]; exact hVw1_.putL (k := 4) (x := 4) hi (by first | rfl | (simp only [dF_s, dF_sA, dF_sC, dF_sM, dF_sB]; rfl))
    have hFw2_ : FD D ca oa w w2_ := hFw1_.tr (by rw [hw2_]; exact FD.up c1__dL_X_i_toNatClampNeg_ (by decide))
    refine lv_aload_n (pc := 82) hx hb dX1_settle_82 rfl (lv_at hl 4 rfl) ?_
    refine lv_dup (pc := 83) hx hb dX1_settle_83 rfl ?_
    refine g_get (pc := 84) (v := .long (dM X 1)) S M G (C := RX1) (T := TX1) (N := 12) (ci := 0) in_X1 c2_dl rfl 10 (by decide) q181 (Or.inl rfl) rfl dX1_settle_84 ?_
    refine lv_iload (pc := 87) hx hb dX1_settle_87 (lv_at hl 0 rfl) ?_
    refine lv_aload_n (pc := 89) hx hb dX1_settle_89 rfl (lv_at hl 3 rfl) ?_
    refine g_callV (pc := 90) S M G hl.1 [] [.int (((((dF X i.toNatClampNeg 6) - (((((dF X i.toNatClampNeg 6) : Int32).toInt64 * (((dA X 0) (dF X i.toNatClampNeg 1).toNatClampNeg) : Int32).toInt64) / 100) : Int64).toInt32) - (dShare X i.toNatClampNeg)) - (dF X i.toNatClampNeg 8)) - (dInt X i.toNatClampNeg)), .long (dM X 1), .ref dl] (metX4_share l D K w2_ hVw2_.W hi) 0 (g_recv M G c2__dL_X_i_toNatClampNeg_ (q := (RX4, TX4, 14)) rfl) q1234 q1231 q1232 q1233 q35 (by decide) rfl ⟨Nat.le_of_ble_eq_true rfl, Nat.le_of_ble_eq_true rfl⟩ rfl (Nat.le_of_ble_eq_true rfl) dX1_settle_90 ⟨Nat.le_of_ble_eq_true rfl, Nat.le_of_ble_eq_true rfl⟩ (fun r w2 H locs hp G => ?_)
    obtain ⟨rfl, hw2⟩ := hp
    rw [hw2] at G
    refine W.eq (g2 := F0 m 93 ls [.int (dShare (sF (sF X i.toNatClampNeg 10 (dInt X i.toNatClampNeg)) i.toNatClampNeg 4 4) i.toNatClampNeg), .int (((((dF X i.toNatClampNeg 6) - (((((dF X i.toNatClampNeg 6) : Int32).toInt64 * (((dA X 0) (dF X i.toNatClampNeg 1).toNatClampNeg) : Int32).toInt64) / 100) : Int64).toInt32) - (dShare X i.toNatClampNeg)) - (dF X i.toNatClampNeg 8)) - (dInt X i.toNatClampNeg)), .long (dM X 1), .ref dl]) rfl ?_
    refine lv_iadd (pc := 93) hx hb dX1_settle_93 ?_
    refine lv_i2l (pc := 94) hx hb dX1_settle_94 rfl ?_
    refine lv_ladd (pc := 95) hx hb dX1_settle_95 ?_
    refine g_put (pc := 96) (v := .long ((dM X 1) + (((((((dF X i.toNatClampNeg 6) - (((((dF X i.toNatClampNeg 6) : Int32).toInt64 * (((dA X 0) (dF X i.toNatClampNeg 1).toNatClampNeg) : Int32).toInt64) / 100) : Int64).toInt32) - (dShare X i.toNatClampNeg)) - (dF X i.toNatClampNeg 8)) - (dInt X i.toNatClampNeg)) + (dShare (sF (sF X i.toNatClampNeg 10 (dInt X i.toNatClampNeg)) i.toNatClampNeg 4 4) i.toNatClampNeg)) : Int32).toInt64)) S M G (C := RX1) (T := TX1) (N := 12) (ci := 0) in_X1 tyX1 tyX1_ok nmX1 c2_dl hbdl rfl 10 (by decide) q181 (Or.inl rfl) rfl rfl rfl (Nat.le_of_ble_eq_true rfl) dX1_settle_96 (fun H locs G => ?_)
    obtain ⟨w3_, hw3_⟩ : ∃ z9, z9 = gu w2_ dl (.inr (0, [.ref sb, .ref fb, .ref sh, .ref lq, .ref mp, .ref ca, .ref oa, .int (dC X 0), .int (dC X 1), .long (dM X 0), .long ((dM X 1) + (((((((dF X i.toNatClampNeg 6) - (((((dF X i.toNatClampNeg 6) : Int32).toInt64 * (((dA X 0) (dF X i.toNatClampNeg 1).toNatClampNeg) : Int32).toInt64) / 100) : Int64).toInt32) - (dShare X i.toNatClampNeg)) - (dF X i.toNatClampNeg 8)) - (dInt X i.toNatClampNeg)) + (dShare (sF (sF X i.toNatClampNeg 10 (dInt X i.toNatClampNeg)) i.toNatClampNeg 4 4) i.toNatClampNeg)) : Int32).toInt64), .long (dM X 2)])) := ⟨_, rfl⟩
    replace G : gS D K w3_ s H locs := by rw [hw3_]; exact G
    have c3_lq : w3_ lq = some (.inr (6, [.int lmd, .ref ta, .int (nI (dN X))])) := by rw [hw3_, gu_n (gne_c c2_lq c2_dl (by decide))]; exact c2_lq
    have c3_ca : w3_ ca = some (.inl (D.1 100, 6, .inl (dA X 0))) := by rw [hw3_, gu_n (gne_ao c2_ca c2_dl)]; exact c2_ca
    have c3_oa : w3_ oa = some (.inl (D.1 100, 10, .inl (dA X 1))) := by rw [hw3_, gu_n (gne_ao c2_oa c2_dl)]; exact c2_oa
    have c3_sb : w3_ sb = some (.inr (1, fssb)) := by rw [hw3_, gu_n (gne_c c2_sb c2_dl (by decide))]; exact c2_sb
    have c3_fb : w3_ fb = some (.inr (1, fsfb)) := by rw [hw3_, gu_n (gne_c c2_fb c2_dl (by decide))]; exact c2_fb
    have c3_sh : w3_ sh = some (.inr (1, fssh)) := by rw [hw3_, gu_n (gne_c c2_sh c2_dl (by decide))]; exact c2_sh
    have c3__dL_X_i_toNatClampNeg_ : w3_ (dL X i.toNatClampNeg) = some (.inr (3, [.int (nI i.toNatClampNeg), .int (dF X i.toNatClampNeg 1), .int (dF X i.toNatClampNeg 2), .int (dF X i.toNatClampNeg 3), .int 4, .int (dF X i.toNatClampNeg 5), .int (dF X i.toNatClampNeg 6), .int (dF X i.toNatClampNeg 7), .int (dF X i.toNatClampNeg 8), .int (dF X i.toNatClampNeg 9), .int (dInt X i.toNatClampNeg), .int (dF X i.toNatClampNeg 11), .int (dF X i.toNatClampNeg 12), .ref dl])) := by rw [hw3_, gu_n (gne_c c2__dL_X_i_toNatClampNeg_ c2_dl (by decide))]; exact c2__dL_X_i_toNatClampNeg_
    have c3_dl : w3_ dl = some (.inr (0, [.ref sb, .ref fb, .ref sh, .ref lq, .ref mp, .ref ca, .ref oa, .int (dC X 0), .int (dC X 1), .long (dM X 0), .long ((dM X 1) + (((((((dF X i.toNatClampNeg 6) - (((((dF X i.toNatClampNeg 6) : Int32).toInt64 * (((dA X 0) (dF X i.toNatClampNeg 1).toNatClampNeg) : Int32).toInt64) / 100) : Int64).toInt32) - (dShare X i.toNatClampNeg)) - (dF X i.toNatClampNeg 8)) - (dInt X i.toNatClampNeg)) + (dShare (sF (sF X i.toNatClampNeg 10 (dInt X i.toNatClampNeg)) i.toNatClampNeg 4 4) i.toNatClampNeg)) : Int32).toInt64), .long (dM X 2)])) := by rw [hw3_]; exact gu_s
    have hVw3_ : DV D K w3_ dl ca oa (sM (sF (sF X i.toNatClampNeg 10 (dInt X i.toNatClampNeg)) i.toNatClampNeg 4 4) 1 ((dM X 1) + (((((((dF X i.toNatClampNeg 6) - (((((dF X i.toNatClampNeg 6) : Int32).toInt64 * (((dA X 0) (dF X i.toNatClampNeg 1).toNatClampNeg) : Int32).toInt64) / 100) : Int64).toInt32) - (dShare X i.toNatClampNeg)) - (dF X i.toNatClampNeg 8)) - (dInt X i.toNatClampNeg)) + (dShare (sF (sF X i.toNatClampNeg 10 (dInt X i.toNatClampNeg)) i.toNatClampNeg 4 4) i.toNatClampNeg)) : Int32).toInt64)) sb fb sh lq mp md lmd ks es hN ky vl bv ta cap := by rw [hw3_]; exact hVw2_.putD (X' := (sM (sF (sF X i.toNatClampNeg 10 (dInt X i.toNatClampNeg)) i.toNatClampNeg 4 4) 1 ((dM X 1) + (((((((dF X i.toNatClampNeg 6) - (((((dF X i.toNatClampNeg 6) : Int32).toInt64 * (((dA X 0) (dF X i.toNatClampNeg 1).toNatClampNeg) : Int32).toInt64) / 100) : Int64).toInt32) - (dShare X i.toNatClampNeg)) - (dF X i.toNatClampNeg 8)) - (dInt X i.toNatClampNeg)) + (dShare (sF (sF X i.toNatClampNeg 10 (dInt X i.toNatClampNeg)) i.toNatClampNeg 4 4) i.toNatClampNeg)) : Int32).toInt64))) rfl ⟨rfl, rfl, rfl, rfl, rfl⟩
    have hFw3_ : FD D ca oa w w3_ := hFw2_.tr (by rw [hw3_]; exact FD.up c2_dl (by decide))
    refine lv_aload_n (pc := 99) hx hb dX1_settle_99 rfl (lv_at hl 4 rfl) ?_
    refine lv_dup (pc := 100) hx hb dX1_settle_100 rfl ?_
    refine g_get (pc := 101) (v := .long (dM X 2)) S M G (C := RX1) (T := TX1) (N := 12) (ci := 0) in_X1 c3_dl rfl 11 (by decide) q182 (Or.inl rfl) rfl dX1_settle_101 ?_
    refine lv_iload_n (pc := 104) hx hb dX1_settle_104 rfl (lv_at hl 2 rfl) ?_
    refine lv_iload (pc := 105) hx hb dX1_settle_105 (lv_at hl 1 rfl) ?_
    refine lv_iadd (pc := 107) hx hb dX1_settle_107 ?_
    refine lv_i2l (pc := 108) hx hb dX1_settle_108 rfl ?_
    refine lv_ladd (pc := 109) hx hb dX1_settle_109 ?_
    refine g_put (pc := 110) (v := .long ((dM X 2) + (((((((dF X i.toNatClampNeg 6) : Int32).toInt64 * (((dA X 0) (dF X i.toNatClampNeg 1).toNatClampNeg) : Int32).toInt64) / 100) : Int64).toInt32 + (dInt X i.toNatClampNeg)) : Int32).toInt64)) S M G (C := RX1) (T := TX1) (N := 12) (ci := 0) in_X1 tyX1 tyX1_ok nmX1 c3_dl hbdl rfl 11 (by decide) q182 (Or.inl rfl) rfl rfl rfl (Nat.le_of_ble_eq_true rfl) dX1_settle_110 (fun H locs G => ?_)
    obtain ⟨w4_, hw4_⟩ : ∃ z9, z9 = gu w3_ dl (.inr (0, [.ref sb, .ref fb, .ref sh, .ref lq, .ref mp, .ref ca, .ref oa, .int (dC X 0), .int (dC X 1), .long (dM X 0), .long ((dM X 1) + (((((((dF X i.toNatClampNeg 6) - (((((dF X i.toNatClampNeg 6) : Int32).toInt64 * (((dA X 0) (dF X i.toNatClampNeg 1).toNatClampNeg) : Int32).toInt64) / 100) : Int64).toInt32) - (dShare X i.toNatClampNeg)) - (dF X i.toNatClampNeg 8)) - (dInt X i.toNatClampNeg)) + (dShare (sF (sF X i.toNatClampNeg 10 (dInt X i.toNatClampNeg)) i.toNatClampNeg 4 4) i.toNatClampNeg)) : Int32).toInt64), .long ((dM X 2) + (((((((dF X i.toNatClampNeg 6) : Int32).toInt64 * (((dA X 0) (dF X i.toNatClampNeg 1).toNatClampNeg) : Int32).toInt64) / 100) : Int64).toInt32 + (dInt X i.toNatClampNeg)) : Int32).toInt64)])) := ⟨_, rfl⟩
    replace G : gS D K w4_ s H locs := by rw [hw4_]; exact G
    have c4_lq : w4_ lq = some (.inr (6, [.int lmd, .ref ta, .int (nI (dN X))])) := by rw [hw4_, gu_n (gne_c c3_lq c3_dl (by decide))]; exact c3_lq
    have c4_ca : w4_ ca = some (.inl (D.1 100, 6, .inl (dA X 0))) := by rw [hw4_, gu_n (gne_ao c3_ca c3_dl)]; exact c3_ca
    have c4_oa : w4_ oa = some (.inl (D.1 100, 10, .inl (dA X 1))) := by rw [hw4_, gu_n (gne_ao c3_oa c3_dl)]; exact c3_oa
    have c4_sb : w4_ sb = some (.inr (1, fssb)) := by rw [hw4_, gu_n (gne_c c3_sb c3_dl (by decide))]; exact c3_sb
    have c4_fb : w4_ fb = some (.inr (1, fsfb)) := by rw [hw4_, gu_n (gne_c c3_fb c3_dl (by decide))]; exact c3_fb
    have c4_sh : w4_ sh = some (.inr (1, fssh)) := by rw [hw4_, gu_n (gne_c c3_sh c3_dl (by decide))]; exact c3_sh
    have c4__dL_X_i_toNatClampNeg_ : w4_ (dL X i.toNatClampNeg) = some (.inr (3, [.int (nI i.toNatClampNeg), .int (dF X i.toNatClampNeg 1), .int (dF X i.toNatClampNeg 2), .int (dF X i.toNatClampNeg 3), .int 4, .int (dF X i.toNatClampNeg 5), .int (dF X i.toNatClampNeg 6), .int (dF X i.toNatClampNeg 7), .int (dF X i.toNatClampNeg 8), .int (dF X i.toNatClampNeg 9), .int (dInt X i.toNatClampNeg), .int (dF X i.toNatClampNeg 11), .int (dF X i.toNatClampNeg 12), .ref dl])) := by rw [hw4_, gu_n (gne_c c3__dL_X_i_toNatClampNeg_ c3_dl (by decide))]; exact c3__dL_X_i_toNatClampNeg_
    have c4_dl : w4_ dl = some (.inr (0, [.ref sb, .ref fb, .ref sh, .ref lq, .ref mp, .ref ca, .ref oa, .int (dC X 0), .int (dC X 1), .long (dM X 0), .long ((dM X 1) + (((((((dF X i.toNatClampNeg 6) - (((((dF X i.toNatClampNeg 6) : Int32).toInt64 * (((dA X 0) (dF X i.toNatClampNeg 1).toNatClampNeg) : Int32).toInt64) / 100) : Int64).toInt32) - (dShare X i.toNatClampNeg)) - (dF X i.toNatClampNeg 8)) - (dInt X i.toNatClampNeg)) + (dShare (sF (sF X i.toNatClampNeg 10 (dInt X i.toNatClampNeg)) i.toNatClampNeg 4 4) i.toNatClampNeg)) : Int32).toInt64), .long ((dM X 2) + (((((((dF X i.toNatClampNeg 6) : Int32).toInt64 * (((dA X 0) (dF X i.toNatClampNeg 1).toNatClampNeg) : Int32).toInt64) / 100) : Int64).toInt32 + (dInt X i.toNatClampNeg)) : Int32).toInt64)])) := by rw [hw4_]; exact gu_s
    have hVw4_ : DV D K w4_ dl ca oa (sM (sM (sF (sF X i.toNatClampNeg 10 (dInt X i.toNatClampNeg)) i.toNatClampNeg 4 4) 1 ((dM X 1) + (((((((dF X i.toNatClampNeg 6) - (((((dF X i.toNatClampNeg 6) : Int32).toInt64 * (((dA X 0) (dF X i.toNatClampNeg 1).toNatClampNeg) : Int32).toInt64) / 100) : Int64).toInt32) - (dShare X i.toNatClampNeg)) - (dF X i.toNatClampNeg 8)) - (dInt X i.toNatClampNeg)) + (dShare (sF (sF X i.toNatClampNeg 10 (dInt X i.toNatClampNeg)) i.toNatClampNeg 4 4) i.toNatClampNeg)) : Int32).toInt64)) 2 ((dM X 2) + (((((((dF X i.toNatClampNeg 6) : Int32).toInt64 * (((dA X 0) (dF X i.toNatClampNeg 1).toNatClampNeg) : Int32).toInt64) / 100) : Int64).toInt32 + (dInt X i.toNatClampNeg)) : Int32).toInt64)) sb fb sh lq mp md lmd ks es hN ky vl bv ta cap := by rw [hw4_]; exact hVw3_.putD (X' := (sM (sM (sF (sF X i.toNatClampNeg 10 (dInt X i.toNatClampNeg)) i.toNatClampNeg 4 4) 1 ((dM X 1) + (((((((dF X i.toNatClampNeg 6) - (((((dF X i.toNatClampNeg 6) : Int32).toInt64 * (((dA X 0) (dF X i.toNatClampNeg 1).toNatClampNeg) : Int32).toInt64) / 100) : Int64).toInt32) - (dShare X i.toNatClampNeg)) - (dF X i.toNatClampNeg 8)) - (dInt X i.toNatClampNeg)) + (dShare (sF (sF X i.toNatClampNeg 10 (dInt X i.toNatClampNeg)) i.toNatClampNeg 4 4) i.toNatClampNeg)) : Int32).toInt64)) 2 ((dM X 2) + (((((((dF X i.toNatClampNeg 6) : Int32).toInt64 * (((dA X 0) (dF X i.toNatClampNeg 1).toNatClampNeg) : Int32).toInt64) / 100) : Int64).toInt32 + (dInt X i.toNatClampNeg)) : Int32).toInt64))) rfl ⟨rfl, rfl, rfl, rfl, rfl⟩
    have hFw4_ : FD D ca oa w w4_ := hFw3_.tr (by rw [hw4_]; exact FD.up c3_dl (by decide))
    refine lv_iload (pc := 113) hx hb dX1_settle_113 (lv_at hl 0 rfl) ?_
    rw [hQ]
    refine gx_iret S G hr hlocks (hdg := dX1_settle_115) ?_ ?_ ?_
    · exact Nat.le_of_ble_eq_true rfl
    · exact Nat.le_of_ble_eq_true rfl
    · have e9 : dS_settle X i = (0, (((((dF X i.toNatClampNeg 6) - (((((dF X i.toNatClampNeg 6) : Int32).toInt64 * (((dA X 0) (dF X i.toNatClampNeg 1).toNatClampNeg) : Int32).toInt64) / 100) : Int64).toInt32) - (dShare X i.toNatClampNeg)) - (dF X i.toNatClampNeg 8)) - (dInt X i.toNatClampNeg)), (sM (sM (sF (sF X i.toNatClampNeg 10 (dInt X i.toNatClampNeg)) i.toNatClampNeg 4 4) 1 ((dM X 1) + (((((((dF X i.toNatClampNeg 6) - (((((dF X i.toNatClampNeg 6) : Int32).toInt64 * (((dA X 0) (dF X i.toNatClampNeg 1).toNatClampNeg) : Int32).toInt64) / 100) : Int64).toInt32) - (dShare X i.toNatClampNeg)) - (dF X i.toNatClampNeg 8)) - (dInt X i.toNatClampNeg)) + (dShare (sF (sF X i.toNatClampNeg 10 (dInt X i.toNatClampNeg)) i.toNatClampNeg 4 4) i.toNatClampNeg)) : Int32).toInt64)) 2 ((dM X 2) + (((((((dF X i.toNatClampNeg 6) : Int32).toInt64 * (((dA X 0) (dF X i.toNatClampNeg 1).toNatClampNeg) : Int32).toInt64) / 100) : Int64).toInt32 + (dInt X i.toNatClampNeg)) : Int32).toInt64))) := by
        unfold dS_settle
        rw [if_pos c1, if_pos c2]
      rw [e9]
      exact ⟨rfl, rfl, hVw4_.W, hFw4_⟩
