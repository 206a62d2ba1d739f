/-! Lot.open -/
def bOff (i : Nat) (b : List (Nat × Int32)) : List (Nat × Int32) := b.filter (fun q => q.1 / 10 != i)
theorem DV.own {D : va_G} {K : Nat → Nat} {w : Gh} {dl ca oa : Nat} {X : DQ} {sb fb hb lq mp : Nat} {md lmd : Int32} {ks : Option Nat} {es : List Nat} {hN ky vl : Nat → Nat} {bv : Nat → Int32} {t cap : Nat} {q : Nat} {fs : List Value} {x : va_E} (h : DV D K w dl ca oa X sb fb hb lq mp md lmd ks es hN ky vl bv t cap) (hq : w q = some (.inr (6, fs))) (hne : q ≠ lq) : DV D K (gu w q x) dl ca oa X sb fb hb lq mp md lmd ks es hN ky vl bv t cap := h.kp fun a y q1 q2 => by
  rw [gu_n ?_]
  · exact q1
  · rintro rfl
    rw [hq] at q1
    cases q1
    exact hne (q2.2.2.2.2 rfl)
theorem DV.own2 {D : va_G} {K : Nat → Nat} {w w' : Gh} {dl ca oa : Nat} {X : DQ} {sb fb hb lq mp : Nat} {md lmd : Int32} {ks : Option Nat} {es : List Nat} {hN ky vl : Nat → Nat} {bv : Nat → Int32} {t cap : Nat} {q z : Nat} {fs : List Value} {y : vp_A} (h : DV D K w dl ca oa X sb fb hb lq mp md lmd ks es hN ky vl bv t cap) (hq : w q = some (.inr (6, fs))) (hne : q ≠ lq) (hz : w z = some (.inl (D.1 102, y))) (hzt : z ≠ t) (hk : ∀ b x, w b = some x → b ≠ q → b ≠ z → w' b = some x) : DV D K w' dl ca oa X sb fb hb lq mp md lmd ks es hN ky vl bv t cap := h.kp fun a x q1 q2 => by
  refine hk a x q1 ?_ ?_
  · rintro rfl
    rw [hq] at q1
    cases q1
    exact hne (q2.2.2.2.2 rfl)
  · rintro rfl
    have hDD : DD D := h.2.2.2.2.2.2.2.2.2
    rw [hz] at q1
    cases q1
    rcases q2 with ⟨-, e⟩ | e | e | e
    · exact hzt e
    · exact hDD.2.2.2.2 e
    · have h8 := h.2.2.2.2.2.1.1
      rw [← e, hz] at h8
      injection h8 with h8; injection h8 with h8; injection h8 with h8
      exact hDD.1 h8.symm
    · have h8 := h.2.2.2.2.2.2.1.1
      rw [← e, hz] at h8
      injection h8 with h8; injection h8 with h8; injection h8 with h8
      exact hDD.1 h8.symm
theorem DV.o11 {D : va_G} {K : Nat → Nat} {w : Gh} {dl ca oa : Nat} {X : DQ} {sb fb hb lq mp : Nat} {md lmd : Int32} {ks : Option Nat} {es : List Nat} {hN ky vl : Nat → Nat} {bv : Nat → Int32} {t cap : Nat} {q : Nat} {fs : List Value} {x : va_E} (h : DV D K w dl ca oa X sb fb hb lq mp md lmd ks es hN ky vl bv t cap) (hq : w q = some (.inr (11, fs))) : DV D K (gu w q x) dl ca oa X sb fb hb lq mp md lmd ks es hN ky vl bv t cap := h.kp fun a y q1 q2 => by
  rw [gu_n ?_]
  · exact q1
  · rintro rfl
    rw [hq] at q1
    cases q1
    exact q2.2.2.2.1 rfl
theorem FD.own2 {D : va_G} {ca oa : Nat} {w w' : Gh} {q z : Nat} {fs : List Value} {y : vp_A} (hDD : DD D) (hq : w q = some (.inr (6, fs))) (hz : w z = some (.inl (D.1 102, y))) (hk : ∀ b x, w b = some x → b ≠ q → b ≠ z → w' b = some x) : FD D ca oa w w' := fun a x q1 q2 => by
  refine hk a x q1 ?_ ?_
  · rintro rfl
    rw [hq] at q1
    cases q1
    exact absurd (show (6 : Nat) = 2 from q2) (by decide)
  · rintro rfl
    rw [hz] at q1
    cases q1
    rcases q2.1 with e | e
    · exact hDD.1 e.symm
    · exact hDD.2.2.1 e.symm
theorem FD.own {D : va_G} {ca oa : Nat} {w w' : Gh} {q : Nat} {fs : List Value} (hq : w q = some (.inr (6, fs))) (hk : ∀ b x, w b = some x → b ≠ q → w' b = some x) : FD D ca oa w w' := fun a x q1 q2 => by
  refine hk a x q1 ?_
  rintro rfl
  rw [hq] at q1
  cases q1
  exact absurd (show (6 : Nat) = 2 from q2) (by decide)
theorem LI.kp {K : Nat → Nat} {w w' : Gh} {q lo mp i : Nat} {md : Int32} {es : List Nat} {hN ky : Nat → Nat} {ms : List Nat} (h : LI K w q lo mp i md es hN ky ms) (hk : ∀ a c fs, w a = some (.inr (c, fs)) → c = 5 ∨ c = 10 → w' a = some (.inr (c, fs))) : LI K w' q lo mp i md es hN ky ms := by
  obtain ⟨it, d, r, c, h1, h2, h3, h4, h5, h6⟩ := h
  exact ⟨it, d, r, c, h1, hk _ _ _ h2 (Or.inl rfl), h3, hk _ _ _ h4 (Or.inr rfl), h5, h6⟩
theorem onl_len {i : Nat} {hN : Nat → Nat} {es : List Nat} (hnd : es.Nodup) (hinj : ∀ a ∈ es, ∀ b ∈ es, hN a = hN b → a = b) : (onl hN i es).length ≤ 10 := by
  have h1 : ((onl hN i es).map (fun a => hN a % 10)).Nodup := by
    refine List.pairwise_map.mpr ?_
    have h2 : (onl hN i es).Nodup := hnd.filter _
    refine List.Pairwise.imp_of_mem ?_ h2
    intro a b ha hb hab h
    have ha := onl_mem ha
    have hb := onl_mem hb
    exact hab (hinj a ha.1 b hb.1 (by omega))
  have h3 := nd_len 10 _ h1 (fun x hx => by obtain ⟨a, -, rfl⟩ := List.mem_map.mp hx; exact Nat.mod_lt _ (by decide))
  rwa [List.length_map] at h3
theorem flt_del {es done l1 l2 : List Nat} {x : Nat} (hnd : es.Nodup) (h : es.filter (fun a => decide (a ∉ done)) = l1 ++ x :: l2) : es.filter (fun a => decide (a ∉ done ++ [x])) = l1 ++ l2 := by
  have h1 : es.filter (fun a => decide (a ∉ done ++ [x])) = (es.filter (fun a => decide (a ∉ done))).filter (fun a => decide (a ≠ x)) := by
    rw [List.filter_filter]
    refine List.filter_congr fun a _ => ?_
    by_cases q : a ∈ done <;> by_cases q2 : a = x <;> simp [q, q2]
  have h2 : (l1 ++ x :: l2).Nodup := by rw [← h]; exact hnd.filter _
  rw [h1, h]
  have h3 := List.nodup_append.mp h2
  have h4 := List.nodup_cons.mp h3.2.1
  have e1 : l1.filter (fun a => decide (a ≠ x)) = l1 := List.filter_eq_self.mpr fun a ha => by simpa using h3.2.2 a ha x (by simp)
  have e2 : l2.filter (fun a => decide (a ≠ x)) = l2 := List.filter_eq_self.mpr fun a ha => by simpa using (fun e : a = x => h4.1 (by rw [← e]; exact ha))
  rw [List.filter_append, e1, List.filter_cons, e2]
  simp
theorem bOff_onl {i : Nat} {hN : Nat → Nat} {bv : Nat → Int32} (es : List Nat) : (es.filter (fun a => decide (a ∉ onl hN i es))).map (fun a => (hN a, bv a)) = bOff i (es.map (fun a => (hN a, bv a))) := by
  have h1 : es.filter (fun a => decide (a ∉ onl hN i es)) = es.filter (fun a => hN a / 10 != i) := by
    refine List.filter_congr fun a ha => ?_
    by_cases q : hN a / 10 = i
    · have : a ∈ onl hN i es := List.mem_filter.mpr ⟨ha, by simpa using q⟩
      simp [this, q]
    · have : a ∉ onl hN i es := fun z => q (onl_mem z).2
      simp [this, q]
  rw [h1]
  unfold bOff
  rw [List.filter_map]
  rfl
def dOpen (X : DQ) (i : Nat) (z : Int32) : DQ := sF (sF (sF (sF (sB X (bOff i (dB X))) i 3 z) i 4 0) i 5 (-1)) i 6 (-1)
theorem gne_oa {w : Gh} {a b : Nat} {y : ClassId × vp_A} {x : Nat × List Value} (hb : w b = some (.inl y)) (ha : w a = some (.inr x)) : a ≠ b := fun e => by rw [e, hb] at ha; cases ha
abbrev rmX4_open : Room := ({ frames := 7, cells := 6, slots := 27, locals := 145 } : Room)
set_option maxHeartbeats 4000000 in
theorem metX4_open (l : Launch) (D : va_G) (K : Nat → Nat) (w : Gh) {dl ca oa i : Nat} {X : DQ} (hD : DW D K w dl ca oa X) (hi : i < dN X) {z : Int32} : gMet l yX4_open (ws_ yX4_open cX4_open 5 none) rmX4_open D K [.ref (dL X i), .int z] w (fun r' w' => r' = none ∧ DW D K w' dl ca oa (dOpen X i z) ∧ FD D ca oa w w') := by
  refine gMet.of (by decide) (Nat.le_of_ble_eq_true rfl) ?_
  intro p e s m args below meth c H locs ls S M hr hlocks hname G hl
  have hx := S.1
  have hb := S.2.1
  have hown := S.2.2.2.1
  have hts := S.2.2.2.2
  have hl : lv_has ls 5 [(0, .ref (dL X i)), (1, .int z)] := hl
  obtain ⟨Q, hQ⟩ : ∃ Q, Q = gE below D K (fun r' w' => r' = none ∧ DW D K w' dl ca oa (dOpen X i z) ∧ FD D ca oa w w') args s rmX4_open.cells rmX4_open.slots := ⟨_, rfl⟩
  rw [← hQ]
  have hD0 := hD
  obtain ⟨sb, fb, sh, lq, mp, md, lmd, ks, es, hN, ky, vl, bv, ta, cap, hV⟩ := hD
  have hdl := hV.1.1
  have hbdl := hV.1.2
  have hDD := hV.2.2.2.2.2.2.2.2.2
  have hlo := (hV.2.2.2.1 i hi).1
  have hblo := (hV.2.2.2.1 i hi).2
  have hM := hV.2.2.2.2.1.1
  have hks := hV.2.2.2.2.1.2.1
  have hi30 : i < 30 := Nat.lt_of_lt_of_le hi hV.2.2.1.2.2.1
  have hFD0 : FD D ca oa w w := FD.rf
  refine g_new (pc := 0) S M G (C := RJ2) (T := TJ2) (N := 3) (ci := 6) (fs := [.int 0, .null, .int 0]) in_J2 tyJ2 tyJ2_ok q1137 q83 q22 rfl df_J2 (Nat.le_of_ble_eq_true rfl) (Nat.le_of_ble_eq_true rfl) dX4_open_0 (fun q1_ H hnq1_ hbq1_ heq1_ hsq1_ G => ?_)
  refine W.widen (k := 1) (n := 3) (Nat.le_of_ble_eq_true rfl) (Nat.le_of_ble_eq_true rfl) ?_
  obtain ⟨w2_, hw2_⟩ : ∃ z9, z9 = gu w q1_ (.inr (6, [.int 0, .null, .int 0])) := ⟨_, rfl⟩
  replace G : gS D K w2_ s H locs := by rw [hw2_]; exact G
  have c2_dl : w2_ dl = some (.inr (0, [.ref sb, .ref fb, .ref sh, .ref lq, .ref mp, .ref ca, .ref oa, .int (dC X 0), .int (dC X 1), .long (dM X 0), .long (dM X 1), .long (dM X 2)])) := by rw [hw2_, gu_n (gne_f hdl hnq1_)]; exact hdl
  have c2__dL_X_i_ : w2_ (dL X i) = some (.inr (3, [.int (nI i), .int (dF X i 1), .int (dF X i 2), .int (dF X i 3), .int (dF X i 4), .int (dF X i 5), .int (dF X i 6), .int (dF X i 7), .int (dF X i 8), .int (dF X i 9), .int (dF X i 10), .int (dF X i 11), .int (dF X i 12), .ref dl])) := by rw [hw2_, gu_n (gne_f hlo hnq1_)]; exact hlo
  have c2_q1_ : w2_ q1_ = some (.inr (6, [.int 0, .null, .int 0])) := by rw [hw2_]; exact gu_s
  have hVw2_ : DV D K w2_ dl ca oa X sb fb sh lq mp md lmd ks es hN ky vl bv ta cap := by rw [hw2_]; exact hV.kp (fun a x q1 _ => by rw [gu_n (gne_f q1 hnq1_)]; exact q1)
  have hFw2_ : FD D ca oa w w2_ := hFD0.tr (by rw [hw2_]; exact FD.new hnq1_)
  refine lv_dup (pc := 3) hx hb dX4_open_3 rfl ?_
  have hql : q1_ ≠ lq := fun z => by have h8 := hV.2.2.1.1; rw [← z, hnq1_] at h8; cases h8
  refine g_callI (pc := 4) S M G hl.1 [] [.ref q1_] (metJ2_init l D K w2_ c2_q1_ hbq1_) 0 q86 q1138 q85 q22 rfl (by decide) rfl ⟨Nat.le_of_ble_eq_true rfl, Nat.le_of_ble_eq_true rfl⟩ rfl (Nat.le_of_ble_eq_true rfl) dX4_open_4 ⟨Nat.le_of_ble_eq_true rfl, Nat.le_of_ble_eq_true rfl⟩ (fun r w2 H locs hp G => ?_)
  obtain ⟨rfl, hw2⟩ := hp
  rw [hw2] at G
  obtain ⟨w3_, hw3_⟩ : ∃ z9, z9 = gu w2_ q1_ (.inr (6, [.int 0, .ref (K 1), .int 0])) := ⟨_, rfl⟩
  replace G : gS D K w3_ s H locs := by rw [hw3_]; exact G
  have c3_dl : w3_ dl = some (.inr (0, [.ref sb, .ref fb, .ref sh, .ref lq, .ref mp, .ref ca, .ref oa, .int (dC X 0), .int (dC X 1), .long (dM X 0), .long (dM X 1), .long (dM X 2)])) := by rw [hw3_, gu_n (gne_f hdl hnq1_)]; exact c2_dl
  have c3__dL_X_i_ : w3_ (dL X i) = some (.inr (3, [.int (nI i), .int (dF X i 1), .int (dF X i 2), .int (dF X i 3), .int (dF X i 4), .int (dF X i 5), .int (dF X i 6), .int (dF X i 7), .int (dF X i 8), .int (dF X i 9), .int (dF X i 10), .int (dF X i 11), .int (dF X i 12), .ref dl])) := by rw [hw3_, gu_n (gne_f hlo hnq1_)]; exact c2__dL_X_i_
  have c3_q1_ : w3_ q1_ = some (.inr (6, [.int 0, .ref (K 1), .int 0])) := by rw [hw3_]; exact gu_s
  have hVw3_ : DV D K w3_ dl ca oa X sb fb sh lq mp md lmd ks es hN ky vl bv ta cap := by rw [hw3_]; exact hVw2_.own c2_q1_ hql
  have hFw3_ : FD D ca oa w w3_ := hFw2_.tr (by rw [hw3_]; exact FD.up c2_q1_ (by decide))
  refine W.eq (g2 := F0 m 7 ls [.ref q1_]) rfl ?_
  refine lv_astore_n (pc := 7) (lv' := [(2, .ref q1_), (0, .ref (dL X i)), (1, .int z)]) hx hb dX4_open_7 rfl hl (by decide) rfl (fun ls hl => ?_)
  refine lv_aload_n (pc := 8) hx hb dX4_open_8 rfl (lv_at hl 1 rfl) ?_
  refine g_callV (pc := 9) S M G hl.1 [] [] (metX4_iterator l D K w3_ c3__dL_X_i_ c3_dl hVw3_.2.2.2.2.1.1 hVw3_.2.2.2.2.1.2.1 hi30) 0 (g_recv M G c3__dL_X_i_ (q := (RX4, TX4, 14)) rfl) q1010 q1007 q1008 q1009 q35 (by decide) rfl ⟨Nat.le_of_ble_eq_true rfl, Nat.le_of_ble_eq_true rfl⟩ rfl (Nat.le_of_ble_eq_true rfl) dX4_open_9 ⟨Nat.le_of_ble_eq_true rfl, Nat.le_of_ble_eq_true rfl⟩ (fun r w2 H locs hp G => ?_)
  refine W.widen (k := 4) (n := 13) (Nat.le_of_ble_eq_true rfl) (Nat.le_of_ble_eq_true rfl) ?_
  obtain ⟨q, k, rfl, hLI, hM2, hk2, hF2⟩ := hp
  have hlo2 := hF2 (dL X i) _ c3__dL_X_i_ ⟨fun e => absurd (show (3 : Nat) = 7 from e) (by decide), fun e => absurd (show (3 : Nat) = 8 from e) (by decide)⟩
  have hdl2 := hF2 dl _ c3_dl ⟨fun e => absurd (show (0 : Nat) = 7 from e) (by decide), fun e => absurd (show (0 : Nat) = 8 from e) (by decide)⟩
  have hV2 : DV D K w2 dl ca oa X sb fb sh lq mp md lmd (some k) es hN ky vl bv ta cap := hVw3_.map hF2 hM2 (fun k' e => by cases e; exact hk2) (fun a ha => hF2 _ _ (hVw3_.2.2.2.2.1.2.2.1 a ha) ⟨fun e => absurd (show (12 : Nat) = 7 from e) (by decide), fun e => absurd (show (12 : Nat) = 8 from e) (by decide)⟩) hVw3_.2.2.2.2.1.2.2.2
  have hFD2 : FD D ca oa w w2 := hFw3_.tr (FD.m hDD hF2)
  have hls2 := hF2 q1_ _ c3_q1_ ⟨fun e => absurd (show (6 : Nat) = 7 from e) (by decide), fun e => absurd (show (6 : Nat) = 8 from e) (by decide)⟩
  refine W.eq (g2 := F0 m 12 ls [.ref q]) rfl ?_
  refine lv_astore_n (pc := 12) (lv' := [(3, .ref q), (2, .ref q1_), (0, .ref (dL X i)), (1, .int z)]) hx hb dX4_open_12 rfl hl (by decide) rfl (fun ls hl => ?_)
  have hon10 := onl_len (i := i) hM2.cg.2.2.1 hM2.cg.2.2.2
  have hnd := hM2.cg.2.2.1
  have hdB : dB X = es.map (fun a => (hN a, bv a)) := hV.2.2.2.2.1.2.2.2
  have J45 : ∀ (cn : Nat) (m1 : Int32) (t : Nat) (f : Nat → Option Nat) (w1 : Gh) (H : Heap) (locs : List Loc) (ls : Array Slot), cn = (onl hN i es).length → (∀ j, j < cn → f j = (onl hN i es)[j]?.map ky) → DV D K w1 dl ca oa X sb fb sh lq mp md lmd (some k) es hN ky vl bv ta cap → FD D ca oa w w1 → w1 q1_ = some (.inr (6, [.int m1, .ref t, .int (nI cn)])) → (0 < cn → w1 t = some (.inl (D.1 102, 10, gra f))) → gS D K w1 s H locs → lv_has ls 5 [(2, .ref q1_), (1, .int z), (0, .ref (dL X i))] → W p l e rmX4_open s m args below meth c H locs 5 23 Q (F0 m 45 ls []) := by
    intro cn m1 t f w1 H locs ls hcn9 hf9 hV1 hFD1 hls1 hT1 G hl
    refine lv_aload_n (pc := 45) hx hb dX4_open_45 rfl (lv_at hl 0 rfl) ?_
    refine g_callF (pc := 46) S M G hl.1 [] [] (metJ2_iterator l D K w1 hls1) 0 (g_recv M G hls1 (q := (RJ2, TJ2, 3)) rfl) (g_cls M (ci := 6) rfl) q251 q1142 ⟨by decide, q246, q245, q250, q248, q217⟩ q249 q247 q22 rfl rfl ⟨Nat.le_of_ble_eq_true rfl, Nat.le_of_ble_eq_true rfl⟩ rfl (Nat.le_of_ble_eq_true rfl) dX4_open_46 ⟨Nat.le_of_ble_eq_true rfl, Nat.le_of_ble_eq_true rfl⟩ (fun r w3 H locs hp G => ?_)
    refine W.widen (k := 6) (n := 27) (Nat.le_of_ble_eq_true rfl) (Nat.le_of_ble_eq_true rfl) ?_
    obtain ⟨it, rfl, hwit, hbit, hit3, hF3⟩ := hp
    have hls3 := hF3 _ _ hls1
    have hV3 : DV D K w3 dl ca oa X sb fb sh lq mp md lmd (some k) es hN ky vl bv ta cap := hV1.kp (fun a y q1 _ => hF3 a y q1)
    have hFD3 := hFD1.tr (FD.all hF3)
    refine W.eq (g2 := F0 m 51 ls [.ref it]) rfl ?_
    refine lv_astore_n (pc := 51) (lv' := [(3, .ref it), (2, .ref q1_), (1, .int z), (0, .ref (dL X i))]) hx hb dX4_open_51 rfl hl (by decide) rfl (fun ls hl => ?_)
    have L2 : ∀ (todo : List Nat) (done : List Nat) (la md5 : Int32) (es5 : List Nat) (w5 : Gh) (H : Heap) (locs : List Loc) (ls : Array Slot), onl hN i es = done ++ todo → es5 = es.filter (fun a => decide (a ∉ done)) → DV D K w5 dl ca oa (sB X (es5.map (fun a => (hN a, bv a)))) sb fb sh lq mp md5 lmd (some k) es5 hN ky vl bv ta cap → FD D ca oa w w5 → w5 it = some (.inr (11, [.int (nI done.length), .int la, .int m1, .ref q1_])) → w5 q1_ = some (.inr (6, [.int m1, .ref t, .int (nI cn)])) → (0 < cn → w5 t = some (.inl (D.1 102, 10, gra f))) → gS D K w5 s H locs → lv_has ls 5 [(3, .ref it), (2, .ref q1_), (1, .int z), (0, .ref (dL X i))] → W p l e rmX4_open s m args below meth c H locs 6 27 Q (F0 m 52 ls []) := by
      intro todo
      induction todo with
      | nil =>
        intro done la md5 es5 w5 H locs ls hdt hes5 hV5 hFD5 hit5 hls5 hT5 G hl
        have hend : nI done.length = nI cn := by rw [hcn9, hdt, List.append_nil]
        have hV5 : DV D K w5 dl ca oa (sB X (bOff i (dB X))) sb fb sh lq mp md5 lmd (some k) es5 hN ky vl bv ta cap := by have h8 := hV5; rw [hes5, ← (show onl hN i es = done from by rw [hdt, List.append_nil]), bOff_onl, ← hdB, (show onl hN i es = done from by rw [hdt, List.append_nil]), ← hes5] at h8; exact h8
        have hlo5 : w5 (dL X i) = some (.inr (3, lfs i (dF X i) dl)) := (hV5.2.2.2.1 i hi).1
        have hdl5 : w5 dl = some (.inr (0, dfs sb fb sh lq mp ca oa (dC X 0) (dC X 1) (dM X 0) (dM X 1) (dM X 2))) := hV5.1.1
        refine lv_aload_n (pc := 52) hx hb dX4_open_52 rfl (lv_at hl 0 rfl) ?_
        refine g_callF (pc := 53) S M G hl.1 [] [] (metJ29_hasNext l D K w5 hit5 hls5) 0 (g_recv M G hit5 (q := (RJ29, TJ29, 4)) rfl) (g_cls M (ci := 11) rfl) q286 q1092 ⟨by decide, q274, q273, q285, q283, q281⟩ q284 q282 q55 rfl rfl ⟨Nat.le_of_ble_eq_true rfl, Nat.le_of_ble_eq_true rfl⟩ rfl (Nat.le_of_ble_eq_true rfl) dX4_open_53 ⟨Nat.le_of_ble_eq_true rfl, Nat.le_of_ble_eq_true rfl⟩ (fun r wz H locs hp G => ?_)
        obtain ⟨rfl, hw2⟩ := hp
        rw [hw2] at G
        rw [if_pos hend]
        refine W.eq (g2 := F0 m 58 ls [.int 0]) rfl ?_
        refine lv_if_eq (pc := 58) (tgt := 90) hx hb dX4_open_58 (by decide) (fun _ => ?_) (fun c => absurd c (by decide))
        refine lv_aload_n (pc := 90) hx hb dX4_open_90 rfl (lv_at hl 3 rfl) ?_
        refine lv_iload_n (pc := 91) hx hb dX4_open_91 rfl (lv_at hl 2 rfl) ?_
        refine g_put (pc := 92) (v := .int z) S M G (C := RX4) (T := TX4) (N := 14) (ci := 3) in_X4 tyX4 tyX4_ok nmX4 hlo5 hblo rfl 3 (by decide) q529 (Or.inl rfl) rfl rfl rfl (Nat.le_of_ble_eq_true rfl) dX4_open_92 (fun H locs G => ?_)
        obtain ⟨w4_, hw4_⟩ : ∃ z9, z9 = gu w5 (dL X i) (.inr (3, [.int (nI i), .int (dF X i 1), .int (dF X i 2), .int z, .int (dF X i 4), .int (dF X i 5), .int (dF X i 6), .int (dF X i 7), .int (dF X i 8), .int (dF X i 9), .int (dF X i 10), .int (dF X i 11), .int (dF X i 12), .ref dl])) := ⟨_, rfl⟩
        replace G : gS D K w4_ s H locs := by rw [hw4_]; exact G
        have c4_dl : w4_ dl = some (.inr (0, [.ref sb, .ref fb, .ref sh, .ref lq, .ref mp, .ref ca, .ref oa, .int (dC X 0), .int (dC X 1), .long (dM X 0), .long (dM X 1), .long (dM X 2)])) := by rw [hw4_, gu_n (gne_c hdl5 hlo5 (by decide))]; exact hdl5
        have c4_q1_ : w4_ q1_ = some (.inr (6, [.int m1, .ref t, .int (nI cn)])) := by rw [hw4_, gu_n (gne_c hls5 hlo5 (by decide))]; exact hls5
        have c4_it : w4_ it = some (.inr (11, [.int (nI done.length), .int la, .int m1, .ref q1_])) := by rw [hw4_, gu_n (gne_c hit5 hlo5 (by decide))]; exact hit5
        have c4__dL_X_i_ : w4_ (dL X i) = some (.inr (3, [.int (nI i), .int (dF X i 1), .int (dF X i 2), .int z, .int (dF X i 4), .int (dF X i 5), .int (dF X i 6), .int (dF X i 7), .int (dF X i 8), .int (dF X i 9), .int (dF X i 10), .int (dF X i 11), .int (dF X i 12), .ref dl])) := by rw [hw4_]; exact gu_s
        have hVw4_ : DV D K w4_ dl ca oa (sF (sB X (bOff i (dB X))) i 3 z) sb fb sh lq mp md5 lmd (some k) es5 hN ky vl bv ta cap := by rw [hw4_]; exact hV5.putL (k := 3) (x := z) hi (by first | rfl | (simp only [dF_s, dF_sA, dF_sC, dF_sM, dF_sB]; rfl))
        have hFw4_ : FD D ca oa w w4_ := hFD5.tr (by rw [hw4_]; exact FD.up hlo5 (by decide))
        refine lv_aload_n (pc := 95) hx hb dX4_open_95 rfl (lv_at hl 3 rfl) ?_
        refine lv_iconst (pc := 96) (v := 0) hx hb dX4_open_96 (by decide) ?_
        refine g_put (pc := 97) (v := .int 0) S M G (C := RX4) (T := TX4) (N := 14) (ci := 3) in_X4 tyX4 tyX4_ok nmX4 c4__dL_X_i_ hblo rfl 4 (by decide) q531 (Or.inl rfl) rfl rfl rfl (Nat.le_of_ble_eq_true rfl) dX4_open_97 (fun H locs G => ?_)
        obtain ⟨w5_, hw5_⟩ : ∃ z9, z9 = gu w4_ (dL X i) (.inr (3, [.int (nI i), .int (dF X i 1), .int (dF X i 2), .int z, .int 0, .int (dF X i 5), .int (dF X i 6), .int (dF X i 7), .int (dF X i 8), .int (dF X i 9), .int (dF X i 10), .int (dF X i 11), .int (dF X i 12), .ref dl])) := ⟨_, rfl⟩
        replace G : gS D K w5_ s H locs := by rw [hw5_]; exact G
        have c5_dl : w5_ dl = some (.inr (0, [.ref sb, .ref fb, .ref sh, .ref lq, .ref mp, .ref ca, .ref oa, .int (dC X 0), .int (dC X 1), .long (dM X 0), .long (dM X 1), .long (dM X 2)])) := by rw [hw5_, gu_n (gne_c c4_dl c4__dL_X_i_ (by decide))]; exact c4_dl
        have c5_q1_ : w5_ q1_ = some (.inr (6, [.int m1, .ref t, .int (nI cn)])) := by rw [hw5_, gu_n (gne_c c4_q1_ c4__dL_X_i_ (by decide))]; exact c4_q1_
        have c5_it : w5_ it = some (.inr (11, [.int (nI done.length), .int la, .int m1, .ref q1_])) := by rw [hw5_, gu_n (gne_c c4_it c4__dL_X_i_ (by decide))]; exact c4_it
        have c5__dL_X_i_ : w5_ (dL X i) = some (.inr (3, [.int (nI i), .int (dF X i 1), .int (dF X i 2), .int z, .int 0, .int (dF X i 5), .int (dF X i 6), .int (dF X i 7), .int (dF X i 8), .int (dF X i 9), .int (dF X i 10), .int (dF X i 11), .int (dF X i 12), .ref dl])) := by rw [hw5_]; exact gu_s
        have hVw5_ : DV D K w5_ dl ca oa (sF (sF (sB X (bOff i (dB X))) i 3 z) i 4 0) sb fb sh lq mp md5 lmd (some k) es5 hN ky vl bv ta cap := by rw [hw5_]; exact hVw4_.putL (k := 4) (x := 0) hi (by first | rfl | (simp only [dF_s, dF_sA, dF_sC, dF_sM, dF_sB]; rfl))
        have hFw5_ : FD D ca oa w w5_ := hFw4_.tr (by rw [hw5_]; exact FD.up c4__dL_X_i_ (by decide))
        refine lv_aload_n (pc := 100) hx hb dX4_open_100 rfl (lv_at hl 3 rfl) ?_
        refine lv_iconst (pc := 101) (v := (-1)) hx hb dX4_open_101 (by decide) ?_
        refine g_put (pc := 102) (v := .int (-1)) S M G (C := RX4) (T := TX4) (N := 14) (ci := 3) in_X4 tyX4 tyX4_ok nmX4 c5__dL_X_i_ hblo rfl 5 (by decide) q533 (Or.inl rfl) rfl rfl rfl (Nat.le_of_ble_eq_true rfl) dX4_open_102 (fun H locs G => ?_)
        obtain ⟨w6_, hw6_⟩ : ∃ z9, z9 = gu w5_ (dL X i) (.inr (3, [.int (nI i), .int (dF X i 1), .int (dF X i 2), .int z, .int 0, .int (-1), .int (dF X i 6), .int (dF X i 7), .int (dF X i 8), .int (dF X i 9), .int (dF X i 10), .int (dF X i 11), .int (dF X i 12), .ref dl])) := ⟨_, rfl⟩
        replace G : gS D K w6_ s H locs := by rw [hw6_]; exact G
        have c6_dl : w6_ dl = some (.inr (0, [.ref sb, .ref fb, .ref sh, .ref lq, .ref mp, .ref ca, .ref oa, .int (dC X 0), .int (dC X 1), .long (dM X 0), .long (dM X 1), .long (dM X 2)])) := by rw [hw6_, gu_n (gne_c c5_dl c5__dL_X_i_ (by decide))]; exact c5_dl
        have c6_q1_ : w6_ q1_ = some (.inr (6, [.int m1, .ref t, .int (nI cn)])) := by rw [hw6_, gu_n (gne_c c5_q1_ c5__dL_X_i_ (by decide))]; exact c5_q1_
        have c6_it : w6_ it = some (.inr (11, [.int (nI done.length), .int la, .int m1, .ref q1_])) := by rw [hw6_, gu_n (gne_c c5_it c5__dL_X_i_ (by decide))]; exact c5_it
        have c6__dL_X_i_ : w6_ (dL X i) = some (.inr (3, [.int (nI i), .int (dF X i 1), .int (dF X i 2), .int z, .int 0, .int (-1), .int (dF X i 6), .int (dF X i 7), .int (dF X i 8), .int (dF X i 9), .int (dF X i 10), .int (dF X i 11), .int (dF X i 12), .ref dl])) := by rw [hw6_]; exact gu_s
        have hVw6_ : DV D K w6_ dl ca oa (sF (sF (sF (sB X (bOff i (dB X))) i 3 z) i 4 0) i 5 (-1)) sb fb sh lq mp md5 lmd (some k) es5 hN ky vl bv ta cap := by rw [hw6_]; exact hVw5_.putL (k := 5) (x := (-1)) hi (by first | rfl | (simp only [dF_s, dF_sA, dF_sC, dF_sM, dF_sB]; rfl))
        have hFw6_ : FD D ca oa w w6_ := hFw5_.tr (by rw [hw6_]; exact FD.up c5__dL_X_i_ (by decide))
        refine lv_aload_n (pc := 105) hx hb dX4_open_105 rfl (lv_at hl 3 rfl) ?_
        refine lv_iconst (pc := 106) (v := (-1)) hx hb dX4_open_106 (by decide) ?_
        refine g_put (pc := 107) (v := .int (-1)) S M G (C := RX4) (T := TX4) (N := 14) (ci := 3) in_X4 tyX4 tyX4_ok nmX4 c6__dL_X_i_ hblo rfl 6 (by decide) q535 (Or.inl rfl) rfl rfl rfl (Nat.le_of_ble_eq_true rfl) dX4_open_107 (fun H locs G => ?_)
        obtain ⟨w7_, hw7_⟩ : ∃ z9, z9 = gu w6_ (dL X i) (.inr (3, [.int (nI i), .int (dF X i 1), .int (dF X i 2), .int z, .int 0, .int (-1), .int (-1), .int (dF X i 7), .int (dF X i 8), .int (dF X i 9), .int (dF X i 10), .int (dF X i 11), .int (dF X i 12), .ref dl])) := ⟨_, rfl⟩
        replace G : gS D K w7_ s H locs := by rw [hw7_]; exact G
        have c7_dl : w7_ dl = some (.inr (0, [.ref sb, .ref fb, .ref sh, .ref lq, .ref mp, .ref ca, .ref oa, .int (dC X 0), .int (dC X 1), .long (dM X 0), .long (dM X 1), .long (dM X 2)])) := by rw [hw7_, gu_n (gne_c c6_dl c6__dL_X_i_ (by decide))]; exact c6_dl
        have c7_q1_ : w7_ q1_ = some (.inr (6, [.int m1, .ref t, .int (nI cn)])) := by rw [hw7_, gu_n (gne_c c6_q1_ c6__dL_X_i_ (by decide))]; exact c6_q1_
        have c7_it : w7_ it = some (.inr (11, [.int (nI done.length), .int la, .int m1, .ref q1_])) := by rw [hw7_, gu_n (gne_c c6_it c6__dL_X_i_ (by decide))]; exact c6_it
        have c7__dL_X_i_ : w7_ (dL X i) = some (.inr (3, [.int (nI i), .int (dF X i 1), .int (dF X i 2), .int z, .int 0, .int (-1), .int (-1), .int (dF X i 7), .int (dF X i 8), .int (dF X i 9), .int (dF X i 10), .int (dF X i 11), .int (dF X i 12), .ref dl])) := by rw [hw7_]; exact gu_s
        have hVw7_ : DV D K w7_ dl ca oa (sF (sF (sF (sF (sB X (bOff i (dB X))) i 3 z) i 4 0) i 5 (-1)) i 6 (-1)) sb fb sh lq mp md5 lmd (some k) es5 hN ky vl bv ta cap := by rw [hw7_]; exact hVw6_.putL (k := 6) (x := (-1)) hi (by first | rfl | (simp only [dF_s, dF_sA, dF_sC, dF_sM, dF_sB]; rfl))
        have hFw7_ : FD D ca oa w w7_ := hFw6_.tr (by rw [hw7_]; exact FD.up c6__dL_X_i_ (by decide))
        rw [hQ]
        refine g_vret S G hr hlocks (hdg := dX4_open_110) ?_ ?_ ?_
        · exact Nat.le_of_ble_eq_true rfl
        · exact Nat.le_of_ble_eq_true rfl
        · exact ⟨rfl, hVw7_.W, hFw7_⟩
      | cons x todo ih =>
        intro done la md5 es5 w5 H locs ls hdt hes5 hV5 hFD5 hit5 hls5 hT5 G hl
        have hlen : cn = done.length + (todo.length + 1) := by rw [hcn9, hdt, List.length_append, List.length_cons]
        have hjlt : done.length < cn := by omega
        have hpos : 0 < cn := by omega
        have hend : ¬ nI done.length = nI cn := fun z => absurd ((nI_eq (by omega) (by omega)).mp z) (by omega)
        have hfj : f done.length = some (ky x) := by rw [hf9 _ hjlt, hdt]; simp
        have hxon : x ∈ onl hN i es := by rw [hdt]; simp
        have hx5 : x ∈ es5 := by
          rw [hes5]
          refine List.mem_filter.mpr ⟨(onl_mem hxon).1, ?_⟩
          have h8 : (done ++ x :: todo).Nodup := by rw [← hdt]; exact hnd.filter _
          simpa using fun z => (List.nodup_append.mp h8).2.2 x z x (by simp) rfl
        have hlo5 : w5 (dL X i) = some (.inr (3, lfs i (dF X i) dl)) := (hV5.2.2.2.1 i hi).1
        have hdl5 : w5 dl = some (.inr (0, dfs sb fb sh lq mp ca oa (dC X 0) (dC X 1) (dM X 0) (dM X 1) (dM X 2))) := hV5.1.1
        refine lv_aload_n (pc := 52) hx hb dX4_open_52 rfl (lv_at hl 0 rfl) ?_
        refine g_callF (pc := 53) S M G hl.1 [] [] (metJ29_hasNext l D K w5 hit5 hls5) 0 (g_recv M G hit5 (q := (RJ29, TJ29, 4)) rfl) (g_cls M (ci := 11) rfl) q286 q1092 ⟨by decide, q274, q273, q285, q283, q281⟩ q284 q282 q55 rfl rfl ⟨Nat.le_of_ble_eq_true rfl, Nat.le_of_ble_eq_true rfl⟩ rfl (Nat.le_of_ble_eq_true rfl) dX4_open_53 ⟨Nat.le_of_ble_eq_true rfl, Nat.le_of_ble_eq_true rfl⟩ (fun r wz H locs hp G => ?_)
        obtain ⟨rfl, hw2⟩ := hp
        rw [hw2] at G
        rw [if_neg hend]
        refine W.eq (g2 := F0 m 58 ls [.int 1]) rfl ?_
        refine lv_if_eq (pc := 58) (tgt := 90) hx hb dX4_open_58 (by decide) (fun c => absurd c (by decide)) (fun _ => ?_)
        refine lv_aload_n (pc := 61) hx hb dX4_open_61 rfl (lv_at hl 0 rfl) ?_
        refine g_callF (pc := 62) S M G hl.1 [] [] (metJ29_next l D K w5 hit5 hbit hls5 (hT5 hpos) (by omega) hjlt (by omega) hfj) 0 (g_recv M G hit5 (q := (RJ29, TJ29, 4)) rfl) (g_cls M (ci := 11) rfl) q385 q1094 ⟨by decide, q296, q295, q384, q382, q281⟩ q383 q381 q55 rfl rfl ⟨Nat.le_of_ble_eq_true rfl, Nat.le_of_ble_eq_true rfl⟩ rfl (Nat.le_of_ble_eq_true rfl) dX4_open_62 ⟨Nat.le_of_ble_eq_true rfl, Nat.le_of_ble_eq_true rfl⟩ (fun r w2 H locs hp G => ?_)
        obtain ⟨rfl, hw2⟩ := hp
        rw [hw2] at G
        have hkx5 : w5 (ky x) = some (.inr (4, [.int (nI (hN x / 10)), .int (nI (hN x % 10))])) := hV5.2.2.2.2.1.1.cg.1 x hx5
        obtain ⟨w8_, hw8_⟩ : ∃ z9, z9 = gu w5 it (.inr (11, [.int (nI (done.length + 1)), .int (nI done.length), .int m1, .ref q1_])) := ⟨_, rfl⟩
        replace G : gS D K w8_ s H locs := by rw [hw8_]; exact G
        have c8__dL_X_i_ : w8_ (dL X i) = some (.inr (3, [.int (nI i), .int (dF X i 1), .int (dF X i 2), .int (dF X i 3), .int (dF X i 4), .int (dF X i 5), .int (dF X i 6), .int (dF X i 7), .int (dF X i 8), .int (dF X i 9), .int (dF X i 10), .int (dF X i 11), .int (dF X i 12), .ref dl])) := by rw [hw8_, gu_n (gne_c hlo5 hit5 (by decide))]; exact hlo5
        have c8_dl : w8_ dl = some (.inr (0, [.ref sb, .ref fb, .ref sh, .ref lq, .ref mp, .ref ca, .ref oa, .int (dC X 0), .int (dC X 1), .long (dM X 0), .long (dM X 1), .long (dM X 2)])) := by rw [hw8_, gu_n (gne_c hdl5 hit5 (by decide))]; exact hdl5
        have c8_q1_ : w8_ q1_ = some (.inr (6, [.int m1, .ref t, .int (nI cn)])) := by rw [hw8_, gu_n (gne_c hls5 hit5 (by decide))]; exact hls5
        have c8__ky_x_ : w8_ (ky x) = some (.inr (4, [.int (nI (hN x / 10)), .int (nI (hN x % 10))])) := by rw [hw8_, gu_n (gne_c hkx5 hit5 (by decide))]; exact hkx5
        have c8_it : w8_ it = some (.inr (11, [.int (nI (done.length + 1)), .int (nI done.length), .int m1, .ref q1_])) := by rw [hw8_]; exact gu_s
        have hVw8_ : DV D K w8_ dl ca oa (sB X (es5.map (fun a => (hN a, bv a)))) sb fb sh lq mp md5 lmd (some k) es5 hN ky vl bv ta cap := by rw [hw8_]; exact hV5.o11 hit5
        have hFw8_ : FD D ca oa w w8_ := hFD5.tr (by rw [hw8_]; exact FD.up hit5 (by decide))
        refine W.eq (g2 := F0 m 67 ls [.ref (ky x)]) rfl ?_
        refine va_castS (pc := 67) hx hb hown (hts _ q1095) (g_cls M (ci := 4) rfl) (g_recv M G c8__ky_x_ (q := (RX5, TX5, 2)) rfl) dX4_open_67 ?_
        refine lv_astore (pc := 70) (lv' := [(4, .ref (ky x)), (3, .ref it), (2, .ref q1_), (1, .int z), (0, .ref (dL X i))]) hx hb dX4_open_70 hl (by decide) rfl (fun ls hl => ?_)
        refine lv_aload_n (pc := 72) hx hb dX4_open_72 rfl (lv_at hl 4 rfl) ?_
        refine g_get (pc := 73) (v := .ref dl) S M G (C := RX4) (T := TX4) (N := 14) (ci := 3) in_X4 c8__dL_X_i_ rfl 13 (by decide) q547 (Or.inl rfl) rfl dX4_open_73 ?_
        refine g_getN (pc := 76) (v := .ref mp) S M G (C := RX1) (T := TX1) (N := 12) (ci := 0) in_X1 c8_dl rfl 4 (by decide) q173 rfl rfl dX4_open_76 ?_
        refine lv_aload (pc := 79) hx hb dX4_open_79 (lv_at hl 0 rfl) ?_
        have hM7 := hVw8_.2.2.2.2.1.1
        obtain ⟨fm7, hmp7⟩ : ∃ z, w8_ mp = some (.inr (7, z)) := by obtain ⟨_, _, _, _, _, _, ho, -⟩ := hM7.base; exact ⟨_, ho⟩
        refine g_callF (pc := 81) S M G hl.1 [.ref (ky x)] [] (metJ4_remove l D K w8_ (hM7.cg.1 x hx5) (hM7.cg.2.1 x hx5) hM7 hx5 rfl) 1 (g_recv M G hmp7 (q := (RJ5, TJ5, 12)) rfl) (g_cls M (ci := 7) rfl) q1151 q1144 ⟨by decide, q1146, q1145, q1150, q1148, q719⟩ q1149 q1147 q24 rfl rfl ⟨Nat.le_of_ble_eq_true rfl, Nat.le_of_ble_eq_true rfl⟩ rfl (Nat.le_of_ble_eq_true rfl) dX4_open_81 ⟨Nat.le_of_ble_eq_true rfl, Nat.le_of_ble_eq_true rfl⟩ (fun r w8 H locs hp G => ?_)
        obtain ⟨rfl, l1, l2, hl12, hM8, hF8⟩ := hp
        have he8 := flt_del hnd (hes5.symm.trans hl12)
        have hV8 : DV D K w8 dl ca oa (sB X ((l1 ++ l2).map (fun a => (hN a, bv a)))) sb fb sh lq mp (md5 + 1) lmd (some k) (l1 ++ l2) hN ky vl bv ta cap := hVw8_.map hF8 (Or.inl hM8) (fun k' e => hF8 _ _ (hVw8_.2.2.2.2.1.2.1 k' e) ⟨fun e => absurd (show (9 : Nat) = 7 from e) (by decide), fun e => absurd (show (9 : Nat) = 8 from e) (by decide)⟩) (fun a ha => hF8 _ _ (hVw8_.2.2.2.2.1.2.2.1 a (by rw [hl12]; exact mem_d ha)) ⟨fun e => absurd (show (12 : Nat) = 7 from e) (by decide), fun e => absurd (show (12 : Nat) = 8 from e) (by decide)⟩) rfl
        have hFD8 := hFw8_.tr (FD.m hDD hF8)
        have hls8 := hF8 _ _ c8_q1_ ⟨fun e => absurd (show (6 : Nat) = 7 from e) (by decide), fun e => absurd (show (6 : Nat) = 8 from e) (by decide)⟩
        have hit8 := hF8 _ _ c8_it ⟨fun e => absurd (show (11 : Nat) = 7 from e) (by decide), fun e => absurd (show (11 : Nat) = 8 from e) (by decide)⟩
        have hT8 : 0 < cn → w8 t = some (.inl (D.1 102, 10, gra f)) := fun z => hF8 _ _ (by rw [hw8_, gu_n (gne_ao (hT5 z) hit5)]; exact hT5 z) hDD.2.2.2.2
        refine W.eq (g2 := F0 m 86 ls [.ref (vl x)]) rfl ?_
        refine lv_pop (pc := 86) hx hb dX4_open_86 rfl ?_
        refine lv_goto (pc := 87) (tgt := 52) hx hb dX4_open_87 (by decide) ?_
        exact ih (done ++ [x]) (nI done.length) _ (l1 ++ l2) w8 H locs ls (by rw [hdt]; simp) (by rw [he8]) hV8 hFD8 (by rw [List.length_append]; exact hit8) hls8 hT8 G (lv_sub hl [1, 2, 3, 4] rfl)
    exact L2 (onl hN i es) [] (-1) md es w3 H locs ls rfl (List.filter_eq_self.mpr (fun a _ => by simp)).symm (by have h8 := hV3; rw [show X = sB X (es.map (fun a => (hN a, bv a))) from by rw [← hdB]; rfl] at h8; exact h8) hFD3 hit3 hls3 (fun z => hF3 _ _ (hT1 z)) G (lv_sub hl [0, 1, 2, 3] rfl)
  obtain ⟨it0, hq1⟩ := hLI.it
  rcases hon : onl hN i es with _ | ⟨x, ms⟩
  · rw [hon] at hLI hq1
    have hL := hLI
    refine lv_aload_n (pc := 13) hx hb dX4_open_13 rfl (lv_at hl 0 rfl) ?_
    refine g_callF (pc := 14) S M G hl.1 [] [] (metX6_hasNextL l D K w2 hL) 0 (g_recv M G hq1 (q := (RX6, TX6, 3)) rfl) (g_cls M (ci := 5) rfl) q280 q1092 ⟨by decide, q274, q273, q279, q277, q275⟩ q278 q276 q53 rfl rfl ⟨Nat.le_of_ble_eq_true rfl, Nat.le_of_ble_eq_true rfl⟩ rfl (Nat.le_of_ble_eq_true rfl) dX4_open_14 ⟨Nat.le_of_ble_eq_true rfl, Nat.le_of_ble_eq_true rfl⟩ (fun r wz H locs hp G => ?_)
    obtain ⟨rfl, hw2⟩ := hp
    rw [hw2] at G
    rw [show hasN ([] : List Nat).head? = 0 from rfl]
    refine W.eq (g2 := F0 m 19 ls [.int 0]) rfl ?_
    refine lv_if_eq (pc := 19) (tgt := 45) hx hb dX4_open_19 (by decide) (fun _ => ?_) (fun c => absurd c (by decide))
    refine W.widen (k := 5) (n := 23) (Nat.le_of_ble_eq_true rfl) (Nat.le_of_ble_eq_true rfl) ?_
    exact J45 0 0 (K 1) (fun _ => none) w2 H locs ls (by rw [hon]; rfl) (fun j hj => absurd hj (Nat.not_lt_zero j)) hV2 hFD2 hls2 (fun z => absurd z (Nat.lt_irrefl 0)) G (lv_sub hl [1, 3, 2] rfl)
  · rw [hon] at hLI hq1
    have hL := hLI
    have hxe : x ∈ es := (onl_mem (show x ∈ onl hN i es by rw [hon]; simp)).1
    refine lv_aload_n (pc := 13) hx hb dX4_open_13 rfl (lv_at hl 0 rfl) ?_
    refine g_callF (pc := 14) S M G hl.1 [] [] (metX6_hasNextL l D K w2 hL) 0 (g_recv M G hq1 (q := (RX6, TX6, 3)) rfl) (g_cls M (ci := 5) rfl) q280 q1092 ⟨by decide, q274, q273, q279, q277, q275⟩ q278 q276 q53 rfl rfl ⟨Nat.le_of_ble_eq_true rfl, Nat.le_of_ble_eq_true rfl⟩ rfl (Nat.le_of_ble_eq_true rfl) dX4_open_14 ⟨Nat.le_of_ble_eq_true rfl, Nat.le_of_ble_eq_true rfl⟩ (fun r wz H locs hp G => ?_)
    obtain ⟨rfl, hw2⟩ := hp
    rw [hw2] at G
    rw [show hasN ((x :: ms) : List Nat).head? = 1 from rfl]
    refine W.eq (g2 := F0 m 19 ls [.int 1]) rfl ?_
    refine lv_if_eq (pc := 19) (tgt := 45) hx hb dX4_open_19 (by decide) (fun c => absurd c (by decide)) (fun _ => ?_)
    refine lv_aload_n (pc := 22) hx hb dX4_open_22 rfl (lv_at hl 0 rfl) ?_
    refine g_callF (pc := 23) S M G hl.1 [] [] (metX6_nextL l D K w2 hV2.2.2.2.2.1.1 hlo2 hi30 hL) 0 (g_recv M G hq1 (q := (RX6, TX6, 3)) rfl) (g_cls M (ci := 5) rfl) q301 q1094 ⟨by decide, q296, q295, q300, q298, q275⟩ q299 q297 q53 rfl rfl ⟨Nat.le_of_ble_eq_true rfl, Nat.le_of_ble_eq_true rfl⟩ rfl (Nat.le_of_ble_eq_true rfl) dX4_open_23 ⟨Nat.le_of_ble_eq_true rfl, Nat.le_of_ble_eq_true rfl⟩ (fun r w4 H locs hp G => ?_)
    obtain ⟨rfl, hL4, hFi⟩ := hp
    have hV4 : DV D K w4 dl ca oa X sb fb sh lq mp md lmd (some k) es hN ky vl bv ta cap := hV2.kp (fun a x q1 q2 => hFi a x q1 (dk_i q2))
    have hFD4 := hFD2.tr (FD.i hFi)
    have hlo4 := (hV4.2.2.2.1 i hi).1
    have hdl4 := hV4.1.1
    have hls4 := hFi.k4 hls2 (by decide) (by decide)
    have hkx4 : w4 (ky x) = some (.inr (4, [.int (nI (hN x / 10)), .int (nI (hN x % 10))])) := hV4.2.2.2.2.1.1.cg.1 x hxe
    refine W.eq (g2 := F0 m 28 ls [.ref (ky x)]) rfl ?_
    refine va_castS (pc := 28) hx hb hown (hts _ q1095) (g_cls M (ci := 4) rfl) (g_recv M G hkx4 (q := (RX5, TX5, 2)) rfl) dX4_open_28 ?_
    refine lv_astore (pc := 31) (lv' := [(4, .ref (ky x)), (3, .ref q), (2, .ref q1_), (0, .ref (dL X i)), (1, .int z)]) hx hb dX4_open_31 hl (by decide) rfl (fun ls hl => ?_)
    refine lv_aload_n (pc := 33) hx hb dX4_open_33 rfl (lv_at hl 2 rfl) ?_
    refine lv_aload (pc := 34) hx hb dX4_open_34 (lv_at hl 0 rfl) ?_
    refine g_callF (pc := 36) S M G hl.1 [.ref (ky x)] [] (metJ2_addEB l D K w4 hls4 hbq1_ hkx4) 1 (g_recv M G hls4 (q := (RJ2, TJ2, 3)) rfl) (g_cls M (ci := 6) rfl) q585 q1140 ⟨by decide, q580, q579, q584, q582, q217⟩ q583 q581 q22 rfl rfl ⟨Nat.le_of_ble_eq_true rfl, Nat.le_of_ble_eq_true rfl⟩ rfl (Nat.le_of_ble_eq_true rfl) dX4_open_36 ⟨Nat.le_of_ble_eq_true rfl, Nat.le_of_ble_eq_true rfl⟩ (fun r w6 H locs hp G => ?_)
    refine W.widen (k := 5) (n := 23) (Nat.le_of_ble_eq_true rfl) (Nat.le_of_ble_eq_true rfl) ?_
    obtain ⟨rfl, t, hwt, hbt, hls6, ht6, hfr⟩ := hp
    have hV6 : DV D K w6 dl ca oa X sb fb sh lq mp md lmd (some k) es hN ky vl bv ta cap := hV4.kp (fun a y q1 q2 => hfr a y q1 (fun z => by rw [z, hls4] at q1; cases q1; exact hql (z.symm.trans (q2.2.2.2.2 rfl))))
    have hFD6 := hFD4.tr (FD.own hls4 hfr)
    have hta : t ≠ ta := fun z => by rcases hV4.2.2.1.2.2.2 with ⟨h8, -⟩ | ⟨-, -, -, -, h8⟩; exact absurd hi (by omega); rw [← z, hwt] at h8; cases h8
    have hL6 := hL4.kp (w' := w6) (fun a c fs q1 q2 => hfr a _ q1 (fun z => by rw [z, hls4] at q1; cases q1; omega))
    refine W.eq (g2 := F0 m 41 ls [.int 1]) rfl ?_
    refine lv_pop (pc := 41) hx hb dX4_open_41 rfl ?_
    refine lv_goto (pc := 42) (tgt := 13) hx hb dX4_open_42 (by decide) ?_
    have L13 : ∀ (ms : List Nat) (done : List Nat) (m1 : Int32) (f : Nat → Option Nat) (w1 : Gh) (H : Heap) (locs : List Loc) (ls : Array Slot), onl hN i es = done ++ ms → LI K w1 q (dL X i) mp i md es hN ky ms → DV D K w1 dl ca oa X sb fb sh lq mp md lmd (some k) es hN ky vl bv ta cap → FD D ca oa w w1 → w1 q1_ = some (.inr (6, [.int m1, .ref t, .int (nI done.length)])) → w1 t = some (.inl (D.1 102, 10, gra f)) → (∀ j, j < done.length → f j = (onl hN i es)[j]?.map ky) → gS D K w1 s H locs → lv_has ls 5 [(3, .ref q), (2, .ref q1_), (1, .int z), (0, .ref (dL X i))] → W p l e rmX4_open s m args below meth c H locs 5 23 Q (F0 m 13 ls []) := by
      clear hxe
      intro ms
      induction ms with
      | nil =>
        intro done m1 f w1 H locs ls hdm hL hV1 hFD1 hls1 ht1 hf1 G hl
        obtain ⟨it0, hq1⟩ := hL.it
        have hlo1 := (hV1.2.2.2.1 i hi).1
        have hdl1 := hV1.1.1
        refine lv_aload_n (pc := 13) hx hb dX4_open_13 rfl (lv_at hl 0 rfl) ?_
        refine g_callF (pc := 14) S M G hl.1 [] [] (metX6_hasNextL l D K w1 hL) 0 (g_recv M G hq1 (q := (RX6, TX6, 3)) rfl) (g_cls M (ci := 5) rfl) q280 q1092 ⟨by decide, q274, q273, q279, q277, q275⟩ q278 q276 q53 rfl rfl ⟨Nat.le_of_ble_eq_true rfl, Nat.le_of_ble_eq_true rfl⟩ rfl (Nat.le_of_ble_eq_true rfl) dX4_open_14 ⟨Nat.le_of_ble_eq_true rfl, Nat.le_of_ble_eq_true rfl⟩ (fun r wz H locs hp G => ?_)
        obtain ⟨rfl, hw2⟩ := hp
        rw [hw2] at G
        rw [show hasN ([] : List Nat).head? = 0 from rfl]
        refine W.eq (g2 := F0 m 19 ls [.int 0]) rfl ?_
        refine lv_if_eq (pc := 19) (tgt := 45) hx hb dX4_open_19 (by decide) (fun _ => ?_) (fun c => absurd c (by decide))
        exact J45 done.length m1 t f w1 H locs ls (by rw [hdm, List.append_nil]) hf1 hV1 hFD1 hls1 (fun _ => ht1) G (lv_sub hl [1, 2, 3] rfl)
      | cons x ms ih =>
        intro done m1 f w1 H locs ls hdm hL hV1 hFD1 hls1 ht1 hf1 G hl
        obtain ⟨it0, hq1⟩ := hL.it
        have hlo1 := (hV1.2.2.2.1 i hi).1
        have hdl1 := hV1.1.1
        have hxe : x ∈ es := (onl_mem (show x ∈ onl hN i es by rw [hdm]; simp)).1
        have hcn : done.length < 10 := by have h8 := hon10; rw [hdm, List.length_append, List.length_cons] at h8; omega
        refine lv_aload_n (pc := 13) hx hb dX4_open_13 rfl (lv_at hl 0 rfl) ?_
        refine g_callF (pc := 14) S M G hl.1 [] [] (metX6_hasNextL l D K w1 hL) 0 (g_recv M G hq1 (q := (RX6, TX6, 3)) rfl) (g_cls M (ci := 5) rfl) q280 q1092 ⟨by decide, q274, q273, q279, q277, q275⟩ q278 q276 q53 rfl rfl ⟨Nat.le_of_ble_eq_true rfl, Nat.le_of_ble_eq_true rfl⟩ rfl (Nat.le_of_ble_eq_true rfl) dX4_open_14 ⟨Nat.le_of_ble_eq_true rfl, Nat.le_of_ble_eq_true rfl⟩ (fun r wz H locs hp G => ?_)
        obtain ⟨rfl, hw2⟩ := hp
        rw [hw2] at G
        rw [show hasN ((x :: ms) : List Nat).head? = 1 from rfl]
        refine W.eq (g2 := F0 m 19 ls [.int 1]) rfl ?_
        refine lv_if_eq (pc := 19) (tgt := 45) hx hb dX4_open_19 (by decide) (fun c => absurd c (by decide)) (fun _ => ?_)
        refine lv_aload_n (pc := 22) hx hb dX4_open_22 rfl (lv_at hl 0 rfl) ?_
        refine g_callF (pc := 23) S M G hl.1 [] [] (metX6_nextL l D K w1 hV1.2.2.2.2.1.1 hlo1 hi30 hL) 0 (g_recv M G hq1 (q := (RX6, TX6, 3)) rfl) (g_cls M (ci := 5) rfl) q301 q1094 ⟨by decide, q296, q295, q300, q298, q275⟩ q299 q297 q53 rfl rfl ⟨Nat.le_of_ble_eq_true rfl, Nat.le_of_ble_eq_true rfl⟩ rfl (Nat.le_of_ble_eq_true rfl) dX4_open_23 ⟨Nat.le_of_ble_eq_true rfl, Nat.le_of_ble_eq_true rfl⟩ (fun r w4 H locs hp G => ?_)
        obtain ⟨rfl, hL4, hFi⟩ := hp
        have hV4 : DV D K w4 dl ca oa X sb fb sh lq mp md lmd (some k) es hN ky vl bv ta cap := hV1.kp (fun a x q1 q2 => hFi a x q1 (dk_i q2))
        have hFD4 := hFD1.tr (FD.i hFi)
        have hlo4 := (hV4.2.2.2.1 i hi).1
        have hdl4 := hV4.1.1
        have hls4 := hFi.k4 hls1 (by decide) (by decide)
        have ht4 := hFi t _ ht1 (fun fs => ⟨fun e => (nomatch e), fun e => (nomatch e)⟩)
        have hkx4 : w4 (ky x) = some (.inr (4, [.int (nI (hN x / 10)), .int (nI (hN x % 10))])) := hV4.2.2.2.2.1.1.cg.1 x hxe
        refine W.eq (g2 := F0 m 28 ls [.ref (ky x)]) rfl ?_
        refine va_castS (pc := 28) hx hb hown (hts _ q1095) (g_cls M (ci := 4) rfl) (g_recv M G hkx4 (q := (RX5, TX5, 2)) rfl) dX4_open_28 ?_
        refine lv_astore (pc := 31) (lv' := [(4, .ref (ky x)), (3, .ref q), (2, .ref q1_), (1, .int z), (0, .ref (dL X i))]) hx hb dX4_open_31 hl (by decide) rfl (fun ls hl => ?_)
        refine lv_aload_n (pc := 33) hx hb dX4_open_33 rfl (lv_at hl 2 rfl) ?_
        refine lv_aload (pc := 34) hx hb dX4_open_34 (lv_at hl 0 rfl) ?_
        refine g_callF (pc := 36) S M G hl.1 [.ref (ky x)] [] (metJ2_addNB l D K w4 hls4 hbq1_ ht4 hbt (by decide) hcn hkx4) 1 (g_recv M G hls4 (q := (RJ2, TJ2, 3)) rfl) (g_cls M (ci := 6) rfl) q585 q1140 ⟨by decide, q580, q579, q584, q582, q217⟩ q583 q581 q22 rfl rfl ⟨Nat.le_of_ble_eq_true rfl, Nat.le_of_ble_eq_true rfl⟩ rfl (Nat.le_of_ble_eq_true rfl) dX4_open_36 ⟨Nat.le_of_ble_eq_true rfl, Nat.le_of_ble_eq_true rfl⟩ (fun r w6 H locs hp G => ?_)
        obtain ⟨rfl, hls6, ht6, hfr⟩ := hp
        have hV6 : DV D K w6 dl ca oa X sb fb sh lq mp md lmd (some k) es hN ky vl bv ta cap := hV4.own2 hls4 hql ht4 hta hfr
        have hFD6 := hFD4.tr (FD.own2 hDD hls4 ht4 hfr)
        have hL6 := hL4.kp (w' := w6) (fun a c fs q1 q2 => hfr a _ q1 (fun z => by rw [z, hls4] at q1; cases q1; omega) (gne_oa ht4 q1))
        refine W.eq (g2 := F0 m 41 ls [.int 1]) rfl ?_
        refine lv_pop (pc := 41) hx hb dX4_open_41 rfl ?_
        refine lv_goto (pc := 42) (tgt := 13) hx hb dX4_open_42 (by decide) ?_
        have hf8 : ∀ j, j < (done ++ [x]).length → va_up f done.length (some (ky x)) j = (onl hN i es)[j]?.map ky := fun j hj => by
          rw [List.length_append, List.length_singleton] at hj
          by_cases z8 : j = done.length
          · rw [z8, va_up_self, hdm]; simp
          · rw [va_up_ne _ _ z8]; exact hf1 j (by omega)
        exact ih (done ++ [x]) _ _ w6 H locs ls (by rw [hdm]; simp) hL6 hV6 hFD6 (by rw [List.length_append]; exact hls6) ht6 hf8 G (lv_sub hl [1, 2, 3, 4] rfl)
    have hf8 : ∀ j, j < [x].length → va_up (fun _ => none) 0 (some (ky x)) j = (onl hN i es)[j]?.map ky := fun j hj => by
      have e8 : j = 0 := by simpa using hj
      rw [e8, va_up_self, hon]
      rfl
    exact L13 ms [x] _ _ w6 H locs ls hon hL6 hV6 hFD6 hls6 ht6 hf8 G (lv_sub hl [1, 2, 4, 3] rfl)
