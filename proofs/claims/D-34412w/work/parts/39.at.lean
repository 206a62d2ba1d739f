/-! DroitLine: rows of exceptions, at, called -/
def eN : Nat → String
  | 1 => "java/lang/IndexOutOfBoundsException"
  | 2 => "java/lang/IllegalArgumentException"
  | _ => "java/lang/IllegalStateException"
section GXT
variable {p : Program} {l : Launch} {e : Env} {R : Room} {s : State} {m : MethodId} {args : Array Value} {below : List Frame} {meth : Method} {c : Code} {H : Heap} {locs : List Loc} {cells slots : Nat} {pc : Nat} {ls : Array Slot} {rest : List Value} {D : va_G} {K : Nat → Nat} {w : Gh} {post : Option Value → Gh → Prop} {px : String → Prop} {mc ms : Nat}
theorem gx_thr {E : String} {ce : Cell} {q : Addr} (hexc : ∀ x ∈ c.exceptionTable.toList, False) (hlocks : meth.locks = false) (G : gS D K w s H locs) (hce : H[q]? = some ce) (hcv : ce.vm = .none) (hcl : s.vm.findClass E = some ce.cls) (hc : cells ≤ mc) (hs : slots ≤ ms) (hp : px E) : vx_W p l e R s m args below meth c H locs cells slots (gXE below D K w post px args s mc ms) (F0 m pc ls rest) q :=
  vx_out (fun x hx => (hexc x hx).elim) hlocks hce hcv hcl (fun t ht _ => ⟨hp, by rw [ht]; exact G.1, G.2.1.F ht⟩) G.2.1.2.2 hc hs
end GXT
theorem at_ix {i : Int32} {n : Nat} (h : ¬ i < 0 ∧ i < nI n) (hn : n < 2 ^ 31) : i.toNatClampNeg < n ∧ nI i.toNatClampNeg = i := by
  obtain ⟨j, hj, rfl⟩ := nI_of h.1
  rw [nI_clamp hj]
  exact ⟨(nI_ltI hj hn).mp h.2, rfl⟩
theorem at_in {i : Int32} {n : Nat} (h : ¬ i < 0 ∧ i < nI n) (hn : n < 2 ^ 31) : vp_in i n := by
  obtain ⟨h1, h2⟩ := at_ix h hn
  exact fun z => z.elim h.1 (fun z => absurd h1 (Nat.not_lt.mpr z))
def bI (x a b : Int32) : Int32 := if a ≤ x ∧ x ≤ b then 1 else 0
theorem bAt_nz {x : Int32} : ¬ bAt BDs x = 0 := by
  unfold bAt bAt bAt bAt
  split
  · decide
  · split
    · decide
    · split <;> decide
def dCall (x : Int32) : Int32 := (x - (x - x / (bAt BDs x) * (bAt BDs x)))
abbrev rmX1_called : Room := ({ frames := 4, cells := 0, slots := 0, locals := 84 } : Room)
set_option maxHeartbeats 4000000 in
theorem metX1_called (l : Launch) (D : va_G) (K : Nat → Nat) (w : Gh) {dl ca oa : Nat} {X : DQ} (hD : DW D K w dl ca oa X) {x : Int32} : gMet l yX1_called (ws_ yX1_called cX1_called 2 (some .int)) rmX1_called D K [.ref dl, .int x] w (fun r' w' => r' = some (.int (dCall x)) ∧ w' = w) := by
  refine gMet.of (by decide) (Nat.le_of_ble_eq_true rfl) ?_
  intro p e s m args below meth c H locs ls S M hr hlocks hname G hl
  have hx := S.1
  have hb := S.2.1
  have hown := S.2.2.2.1
  have hts := S.2.2.2.2
  have hl : lv_has ls 2 [(0, .ref dl), (1, .int x)] := hl
  obtain ⟨Q, hQ⟩ : ∃ Q, Q = gE below D K (fun r' w' => r' = some (.int (dCall x)) ∧ w' = w) args s rmX1_called.cells rmX1_called.slots := ⟨_, rfl⟩
  rw [← hQ]
  have hD0 := hD
  obtain ⟨sb, fb, sh, lq, mp, md, lmd, ks, es, hN, ky, vl, bv, ta, cap, hV⟩ := hD
  have hdl := hV.1.1
  have hbdl := hV.1.2
  have hDD := hV.2.2.2.2.2.2.2.2.2
  have hlqc := hV.2.2.1.1
  have hblq := hV.2.2.1.2.1
  have hn30 := hV.2.2.1.2.2.1
  have hca := hV.2.2.2.2.2.1.1
  have hbca := hV.2.2.2.2.2.1.2
  have hoa := hV.2.2.2.2.2.2.1.1
  have hboa := hV.2.2.2.2.2.2.1.2
  have hco := hV.2.2.2.2.2.2.2.1
  have hFD0 : FD D ca oa w w := FD.rf
  obtain ⟨fssb, hcsb⟩ : ∃ z, w sb = some (.inr (1, z)) := by obtain ⟨b9, h9, -⟩ := hV.2.1.1; exact ⟨_, h9⟩
  obtain ⟨fsfb, hcfb⟩ : ∃ z, w fb = some (.inr (1, z)) := by obtain ⟨b9, h9, -⟩ := hV.2.1.2.1; exact ⟨_, h9⟩
  obtain ⟨fssh, hcsh⟩ : ∃ z, w sh = some (.inr (1, z)) := by obtain ⟨b9, h9, -⟩ := hV.2.1.2.2; exact ⟨_, h9⟩
  refine lv_iload_n (pc := 0) hx hb dX1_called_0 rfl (lv_at hl 1 rfl) ?_
  refine lv_iload_n (pc := 1) hx hb dX1_called_1 rfl (lv_at hl 1 rfl) ?_
  refine lv_aload_n (pc := 2) hx hb dX1_called_2 rfl (lv_at hl 0 rfl) ?_
  refine g_get (pc := 3) (v := .ref sb) S M G (C := RX1) (T := TX1) (N := 12) (ci := 0) in_X1 hdl rfl 0 (by decide) q165 (Or.inl rfl) rfl dX1_called_3 ?_
  refine lv_iload_n (pc := 6) hx hb dX1_called_6 rfl (lv_at hl 1 rfl) ?_
  refine g_callV (pc := 7) S M G hl.1 [.int x] [.int x, .int x] (metX2_at4 l D K w hV.2.1.1) 1 (g_recv M G hcsb (q := (RX2, TX2, 3)) rfl) q518 q515 q516 q517 q19 (by decide) rfl ⟨Nat.le_of_ble_eq_true rfl, Nat.le_of_ble_eq_true rfl⟩ rfl (Nat.le_of_ble_eq_true rfl) dX1_called_7 ⟨Nat.le_of_ble_eq_true rfl, Nat.le_of_ble_eq_true rfl⟩ (fun r w2 H locs hp G => ?_)
  obtain ⟨rfl, hw2⟩ := hp
  rw [hw2] at G
  refine W.eq (g2 := F0 m 10 ls [.int (bAt BDs x), .int x, .int x]) rfl ?_
  refine lv_irem (pc := 10) hx hb dX1_called_10 bAt_nz ?_
  refine lv_isub (pc := 11) hx hb dX1_called_11 ?_
  rw [hQ]
  refine g_iret S G hr hlocks (hdg := dX1_called_12) ?_ ?_ ?_
  · exact Nat.le_of_ble_eq_true rfl
  · exact Nat.le_of_ble_eq_true rfl
  · refine ⟨congrArg (fun z => some (Value.int z)) ?_, rfl⟩
    unfold dCall
    rfl
def dAt (X : DQ) (i : Int32) : Nat × Int32 × DQ := if (¬ i < 0 ∧ i < (nI (dN X))) then (0, 0, X) else (1, 0, X)
abbrev rmX1_at : Room := ({ frames := 7, cells := 1, slots := 6, locals := 121 } : Room)
set_option maxHeartbeats 4000000 in
theorem metX1_at (l : Launch) (D : va_G) (K : Nat → Nat) (w : Gh) (hst : l.stackTraces = false) {dl ca oa : Nat} {X : DQ} (hD : DW D K w dl ca oa X) {i : Int32} : gXet l yX1_at (ws_ yX1_at cX1_at 2 (some (.object "DroitLine$Lot"))) rmX1_at D K [.ref dl, .int i] w (fun r' w' => (¬ i < 0 ∧ i < nI (dN X)) ∧ r' = some (.ref (dL X i.toNatClampNeg)) ∧ w' = w) (fun E9 => ¬ (¬ i < 0 ∧ i < nI (dN X)) ∧ E9 = "java/lang/IndexOutOfBoundsException") := by
  refine gXet.of (by decide) (Nat.le_of_ble_eq_true rfl) ?_
  intro p e s m args below meth c H locs ls S M hr hlocks hexc G hl
  have hx := S.1
  have hb := S.2.1
  have hown := S.2.2.2.1
  have hts := S.2.2.2.2
  have hl : lv_has ls 2 [(0, .ref dl), (1, .int i)] := hl
  obtain ⟨Q, hQ⟩ : ∃ Q, Q = gXE below D K w (fun r' w' => (¬ i < 0 ∧ i < nI (dN X)) ∧ r' = some (.ref (dL X i.toNatClampNeg)) ∧ w' = w) (fun E9 => ¬ (¬ i < 0 ∧ i < nI (dN X)) ∧ E9 = "java/lang/IndexOutOfBoundsException") args s rmX1_at.cells rmX1_at.slots := ⟨_, rfl⟩
  rw [← hQ]
  have hD0 := hD
  obtain ⟨sb, fb, sh, lq, mp, md, lmd, ks, es, hN, ky, vl, bv, ta, cap, hV⟩ := hD
  have hdl := hV.1.1
  have hbdl := hV.1.2
  have hDD := hV.2.2.2.2.2.2.2.2.2
  have hlqc := hV.2.2.1.1
  have hblq := hV.2.2.1.2.1
  have hn30 := hV.2.2.1.2.2.1
  have hca := hV.2.2.2.2.2.1.1
  have hbca := hV.2.2.2.2.2.1.2
  have hoa := hV.2.2.2.2.2.2.1.1
  have hboa := hV.2.2.2.2.2.2.1.2
  have hco := hV.2.2.2.2.2.2.2.1
  have hFD0 : FD D ca oa w w := FD.rf
  obtain ⟨fssb, hcsb⟩ : ∃ z, w sb = some (.inr (1, z)) := by obtain ⟨b9, h9, -⟩ := hV.2.1.1; exact ⟨_, h9⟩
  obtain ⟨fsfb, hcfb⟩ : ∃ z, w fb = some (.inr (1, z)) := by obtain ⟨b9, h9, -⟩ := hV.2.1.2.1; exact ⟨_, h9⟩
  obtain ⟨fssh, hcsh⟩ : ∃ z, w sh = some (.inr (1, z)) := by obtain ⟨b9, h9, -⟩ := hV.2.1.2.2; exact ⟨_, h9⟩
  refine lv_iload_n (pc := 0) hx hb dX1_at_0 rfl (lv_at hl 1 rfl) ?_
  refine lv_aload_n (pc := 1) hx hb dX1_at_1 rfl (lv_at hl 0 rfl) ?_
  refine g_get (pc := 2) (v := .ref lq) S M G (C := RX1) (T := TX1) (N := 12) (ci := 0) in_X1 hdl rfl 3 (by decide) q171 (Or.inl rfl) rfl dX1_at_2 ?_
  refine g_callF (pc := 5) S M G hl.1 [] [.int i] (metJ2_size l D K w hlqc) 0 (g_recv M G hlqc (q := (RJ2, TJ2, 3)) rfl) (g_cls M (ci := 6) rfl) q222 q214 ⟨by decide, q216, q215, q221, q219, q217⟩ q220 q218 q22 rfl rfl ⟨Nat.le_of_ble_eq_true rfl, Nat.le_of_ble_eq_true rfl⟩ rfl (Nat.le_of_ble_eq_true rfl) dX1_at_5 ⟨Nat.le_of_ble_eq_true rfl, Nat.le_of_ble_eq_true rfl⟩ (fun r w2 H locs hp G => ?_)
  obtain ⟨rfl, hw2⟩ := hp
  rw [hw2] at G
  refine W.eq (g2 := F0 m 10 ls [.int (nI (dN X)), .int i]) rfl ?_
  refine gx_callS (pc := 10) S M G hl.1 [.int i, .int (nI (dN X))] [] (metX1_inRow l D K w hst) 2 q454 q452 q453 q18 (by decide) rfl ⟨Nat.le_of_ble_eq_true rfl, Nat.le_of_ble_eq_true rfl⟩ rfl (Nat.le_of_ble_eq_true rfl) dX1_at_10 ⟨Nat.le_of_ble_eq_true rfl, Nat.le_of_ble_eq_true rfl⟩ (fun E9 ce9 q9 H1 locs1 hpx G1 hce hcv hcl => by rw [hQ]; exact gx_thr hexc hlocks G1 hce hcv hcl (Nat.le_of_ble_eq_true rfl) (Nat.le_of_ble_eq_true rfl) hpx) (fun r w2 H locs hp G => ?_)
  refine W.widen (k := 1) (n := 6) (Nat.le_of_ble_eq_true rfl) (Nat.le_of_ble_eq_true rfl) ?_
  obtain ⟨c1, rfl, hw2⟩ := hp
  rw [hw2] at G
  refine W.eq (g2 := F0 m 13 ls []) rfl ?_
  refine lv_aload_n (pc := 13) hx hb dX1_at_13 rfl (lv_at hl 0 rfl) ?_
  refine g_get (pc := 14) (v := .ref lq) S M G (C := RX1) (T := TX1) (N := 12) (ci := 0) in_X1 hdl rfl 3 (by decide) q171 (Or.inl rfl) rfl dX1_at_14 ?_
  refine lv_iload_n (pc := 17) hx hb dX1_at_17 rfl (lv_at hl 1 rfl) ?_
  obtain ⟨hj, hij⟩ := at_ix c1 (by omega)
  obtain ⟨hcap, hta⟩ : (i.toNatClampNeg < dN X → (dN X ≤ cap ∧ cap ≤ 33 ∧ w ta = some (.inl (D.1 102, cap, gra (lga (dN X) (dL X)))))) ∧ True := ⟨fun z => by rcases hV.2.2.1.2.2.2 with ⟨h8, -⟩ | ⟨h7, -, h8, -, h9⟩; exact absurd z (by omega); exact ⟨h8, by rcases h7 with rfl | rfl | rfl | rfl <;> decide, h9⟩, trivial⟩
  obtain ⟨hcap1, hcap2, hta⟩ := hcap hj
  have hgt := metJ2_get l D K w hlqc hta hcap2 hj hcap1 (x := dL X i.toNatClampNeg) (if_pos hj)
  rw [hij] at hgt
  refine g_callF (pc := 18) S M G hl.1 [.int i] [] (hgt) 1 (g_recv M G hlqc (q := (RJ2, TJ2, 3)) rfl) (g_cls M (ci := 6) rfl) q668 q661 ⟨by decide, q663, q662, q667, q665, q217⟩ q666 q664 q22 rfl rfl ⟨Nat.le_of_ble_eq_true rfl, Nat.le_of_ble_eq_true rfl⟩ rfl (Nat.le_of_ble_eq_true rfl) dX1_at_18 ⟨Nat.le_of_ble_eq_true rfl, Nat.le_of_ble_eq_true rfl⟩ (fun r w2 H locs hp G => ?_)
  obtain ⟨rfl, hw2⟩ := hp
  rw [hw2] at G
  have hlo := (hV.2.2.2.1 _ hj).1
  refine W.eq (g2 := F0 m 23 ls [.ref (dL X i.toNatClampNeg)]) rfl ?_
  refine va_castS (pc := 23) hx hb hown (hts _ q409) (g_cls M (ci := 3) rfl) (g_recv M G hlo (q := (RX4, TX4, 14)) rfl) dX1_at_23 ?_
  rw [hQ]
  refine gx_aret S G (rt := (.object "DroitLine$Lot")) (r := some (dL X i.toNatClampNeg)) hr (Or.inl ⟨_, rfl⟩) hlocks (hdg := dX1_at_26) ?_ ?_ ?_
  · exact Nat.le_of_ble_eq_true rfl
  · exact Nat.le_of_ble_eq_true rfl
  · exact ⟨c1, rfl, rfl⟩
