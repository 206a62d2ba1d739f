/-! Lot.hammer -/
def hmF : List (Nat × Int32) → Int32 → Int32 → Int32 → Int32 × Int32 × Int32
  | [], b, s, w => (b, s, w)
  | q :: r, b, s, w => if w = -1 ∨ ¬ q.2 ≤ b then hmF r q.2 (if s < b then b else s) (nI (q.1 % 10)) else hmF r b (if s < q.2 then q.2 else s) w
theorem hmF_t {q : Nat × Int32} {r : List (Nat × Int32)} {b s w : Int32} (h : w = -1 ∨ ¬ q.2 ≤ b) : hmF (q :: r) b s w = hmF r q.2 (if s < b then b else s) (nI (q.1 % 10)) := if_pos h
theorem hmF_f {q : Nat × Int32} {r : List (Nat × Int32)} {b s w : Int32} (h : ¬ (w = -1 ∨ ¬ q.2 ≤ b)) : hmF (q :: r) b s w = hmF r b (if s < q.2 then q.2 else s) w := if_neg h
def hmR (X : DQ) (i : Nat) : Int32 × Int32 × Int32 := hmF (bOn i (dB X)) 0 0 (-1)
def dHamX (X : DQ) (i : Nat) (bb ss ww : Int32) : DQ := (if ww = (-1) then (sF X i 4 1) else (if (dF X i 3) ≤ bb then (if (nI (bN i (dB X))) = 1 then (if (dF X i 3) ≤ 0 then (sF (sF (sF (sF X i 4 2) i 5 ww) i 7 (dC X 1)) i 6 (if (if (dF X i 3) < (ss + (bAt BDs ss)) then (ss + (bAt BDs ss)) else (dF X i 3)) < bb then (if (dF X i 3) < (ss + (bAt BDs ss)) then (ss + (bAt BDs ss)) else (dF X i 3)) else bb)) else (sF (sF (sF (sF X i 4 2) i 5 ww) i 7 (dC X 1)) i 6 (if (dF X i 3) < bb then (dF X i 3) else bb))) else (sF (sF (sF (sF X i 4 2) i 5 ww) i 7 (dC X 1)) i 6 (if (if (dF X i 3) < (ss + (bAt BDs ss)) then (ss + (bAt BDs ss)) else (dF X i 3)) < bb then (if (dF X i 3) < (ss + (bAt BDs ss)) then (ss + (bAt BDs ss)) else (dF X i 3)) else bb))) else (sF X i 4 1)))
def dHam (X : DQ) (i : Nat) : DQ := dHamX X i (hmR X i).1 (hmR X i).2.1 (hmR X i).2.2
abbrev rmX4_hammer : Room := ({ frames := 8, cells := 6, slots := 20, locals := 168 } : Room)
set_option maxHeartbeats 4000000 in
theorem metX4_hammer (l : Launch) (D : va_G) (K : Nat → Nat) (w : Gh) {dl ca oa i : Nat} {X : DQ} (hD : DW D K w dl ca oa X) (hi : i < dN X) : gMet l yX4_hammer (ws_ yX4_hammer cX4_hammer 7 none) rmX4_hammer D K [.ref (dL X i)] w (fun r' w' => r' = none ∧ DW D K w' dl ca oa (dHam X i) ∧ FD D ca oa w w') := by
  refine gMet.of (by decide) (Nat.le_of_ble_eq_true rfl) ?_
  intro p e s m args below meth c H locs ls S M hr hlocks hname G hl
  have hx := S.1
  have hb := S.2.1
  have hown := S.2.2.2.1
  have hts := S.2.2.2.2
  have hl : lv_has ls 7 [(0, .ref (dL X i))] := hl
  obtain ⟨Q, hQ⟩ : ∃ Q, Q = gE below D K (fun r' w' => r' = none ∧ DW D K w' dl ca oa (dHam X i) ∧ FD D ca oa w w') args s rmX4_hammer.cells rmX4_hammer.slots := ⟨_, rfl⟩
  rw [← hQ]
  have hD0 := hD
  obtain ⟨sb, fb, sh, lq, mp, md, lmd, ks, es, hN, ky, vl, bv, ta, cap, hV⟩ := hD
  have hdl := hV.1.1
  have hbdl := hV.1.2
  have hDD := hV.2.2.2.2.2.2.2.2.2
  have hlo := (hV.2.2.2.1 i hi).1
  have hblo := (hV.2.2.2.1 i hi).2
  have hM := hV.2.2.2.2.1.1
  have hks := hV.2.2.2.2.1.2.1
  have hi30 : i < 30 := Nat.lt_of_lt_of_le hi hV.2.2.1.2.2.1
  have hFD0 : FD D ca oa w w := FD.rf
  refine lv_iconst (pc := 0) (v := 0) hx hb dX4_hammer_0 (by decide) ?_
  refine lv_istore_n (pc := 1) (lv' := [(1, .int 0), (0, .ref (dL X i))]) hx hb dX4_hammer_1 rfl hl (by decide) rfl (fun ls hl => ?_)
  refine lv_iconst (pc := 2) (v := 0) hx hb dX4_hammer_2 (by decide) ?_
  refine lv_istore_n (pc := 3) (lv' := [(2, .int 0), (1, .int 0), (0, .ref (dL X i))]) hx hb dX4_hammer_3 rfl hl (by decide) rfl (fun ls hl => ?_)
  refine lv_iconst (pc := 4) (v := (-1)) hx hb dX4_hammer_4 (by decide) ?_
  refine lv_istore_n (pc := 5) (lv' := [(3, .int (-1)), (2, .int 0), (1, .int 0), (0, .ref (dL X i))]) hx hb dX4_hammer_5 rfl hl (by decide) rfl (fun ls hl => ?_)
  refine lv_aload_n (pc := 6) hx hb dX4_hammer_6 rfl (lv_at hl 3 rfl) ?_
  refine g_callV (pc := 7) S M G hl.1 [] [] (metX4_iterator l D K w hlo hdl hM hks hi30) 0 (g_recv M G hlo (q := (RX4, TX4, 14)) rfl) q1010 q1007 q1008 q1009 q35 (by decide) rfl ⟨Nat.le_of_ble_eq_true rfl, Nat.le_of_ble_eq_true rfl⟩ rfl (Nat.le_of_ble_eq_true rfl) dX4_hammer_7 ⟨Nat.le_of_ble_eq_true rfl, Nat.le_of_ble_eq_true rfl⟩ (fun r w2 H locs hp G => ?_)
  refine W.widen (k := 3) (n := 10) (Nat.le_of_ble_eq_true rfl) (Nat.le_of_ble_eq_true rfl) ?_
  obtain ⟨q, k, rfl, hLI, hM2, hk2, hF2⟩ := hp
  have hlo2 := hF2 (dL X i) _ hlo ⟨fun e => absurd (show (3 : Nat) = 7 from e) (by decide), fun e => absurd (show (3 : Nat) = 8 from e) (by decide)⟩
  have hdl2 := hF2 dl _ hdl ⟨fun e => absurd (show (0 : Nat) = 7 from e) (by decide), fun e => absurd (show (0 : Nat) = 8 from e) (by decide)⟩
  have hV2 : DV D K w2 dl ca oa X sb fb sh lq mp md lmd (some k) es hN ky vl bv ta cap := hV.map hF2 hM2 (fun k' e => by cases e; exact hk2) (fun a ha => hF2 _ _ (hV.2.2.2.2.1.2.2.1 a ha) ⟨fun e => absurd (show (12 : Nat) = 7 from e) (by decide), fun e => absurd (show (12 : Nat) = 8 from e) (by decide)⟩) hV.2.2.2.2.1.2.2.2
  have hFD2 : FD D ca oa w w2 := hFD0.tr (FD.m hDD hF2)
  refine W.eq (g2 := F0 m 10 ls [.ref q]) rfl ?_
  refine lv_astore (pc := 10) (lv' := [(4, .ref q), (3, .int (-1)), (2, .int 0), (1, .int 0), (0, .ref (dL X i))]) hx hb dX4_hammer_10 hl (by decide) rfl (fun ls hl => ?_)
  have Lh : ∀ (ms : List Nat) (bb : Int32) (ss : Int32) (ww : Int32) (w1 : Gh) (H : Heap) (locs : List Loc) (ls : Array Slot), LI K w1 q (dL X i) mp i md es hN ky ms → FRI w2 w1 → (∀ a ∈ ms, a ∈ onl hN i es) → hmF (ms.map (fun a => (hN a, bv a))) bb ss ww = hmR X i → gS D K w1 s H locs → lv_has ls 7 [(4, .ref q), (3, .int ww), (2, .int ss), (1, .int bb), (0, .ref (dL X i))] → W p l e rmX4_hammer s m args below meth c H locs 3 10 Q (F0 m 12 ls []) := by
    intro ms
    induction ms with
    | nil =>
      intro bb ss ww w1 H locs ls hL hF1 hin hacc G hl
      obtain ⟨it0, hq1⟩ := hL.it
      have hlo1 := hF1.k4 hlo2 (by decide) (by decide)
      have hdl1 := hF1.k4 hdl2 (by decide) (by decide)
      have hV1 : DV D K w1 dl ca oa X sb fb sh lq mp md lmd (some k) es hN ky vl bv ta cap := hV2.kp (fun a x q1 q2 => hF1 a x q1 (dk_i q2))
      have hFD1 := hFD2.tr (FD.i hF1)
      refine lv_aload (pc := 12) hx hb dX4_hammer_12 (lv_at hl 0 rfl) ?_
      refine g_callF (pc := 14) S M G hl.1 [] [] (metX6_hasNextL l D K w1 hL) 0 (g_recv M G hq1 (q := (RX6, TX6, 3)) rfl) (g_cls M (ci := 5) rfl) q280 q1092 ⟨by decide, q274, q273, q279, q277, q275⟩ q278 q276 q53 rfl rfl ⟨Nat.le_of_ble_eq_true rfl, Nat.le_of_ble_eq_true rfl⟩ rfl (Nat.le_of_ble_eq_true rfl) dX4_hammer_14 ⟨Nat.le_of_ble_eq_true rfl, Nat.le_of_ble_eq_true rfl⟩ (fun r wz H locs hp G => ?_)
      obtain ⟨rfl, hw2⟩ := hp
      rw [hw2] at G
      rw [show hasN ([] : List Nat).head? = 0 from rfl]
      refine W.eq (g2 := F0 m 19 ls [.int 0]) rfl ?_
      refine lv_if_eq (pc := 19) (tgt := 95) hx hb dX4_hammer_19 (by decide) (fun _ => ?_) (fun c => absurd c (by decide))
      refine lv_iload_n (pc := 95) hx hb dX4_hammer_95 rfl (lv_at hl 1 rfl) ?_
      refine lv_iconst (pc := 96) (v := (-1)) hx hb dX4_hammer_96 (by decide) ?_
      refine lv_icmp_eq (pc := 97) (tgt := 108) hx hb dX4_hammer_97 (by decide) (fun c1 => ?_) (fun c1 => ?_)
      · refine lv_aload_n (pc := 108) hx hb dX4_hammer_108 rfl (lv_at hl 4 rfl) ?_
        refine lv_iconst (pc := 109) (v := 1) hx hb dX4_hammer_109 (by decide) ?_
        refine g_put (pc := 110) (v := .int 1) S M G (C := RX4) (T := TX4) (N := 14) (ci := 3) in_X4 tyX4 tyX4_ok nmX4 hlo1 hblo rfl 4 (by decide) q531 (Or.inl rfl) rfl rfl rfl (Nat.le_of_ble_eq_true rfl) dX4_hammer_110 (fun H locs G => ?_)
        obtain ⟨w1_, hw1_⟩ : ∃ z9, z9 = gu w1 (dL X i) (.inr (3, [.int (nI i), .int (dF X i 1), .int (dF X i 2), .int (dF X i 3), .int 1, .int (dF X i 5), .int (dF X i 6), .int (dF X i 7), .int (dF X i 8), .int (dF X i 9), .int (dF X i 10), .int (dF X i 11), .int (dF X i 12), .ref dl])) := ⟨_, rfl⟩
        replace G : gS D K w1_ s H locs := by rw [hw1_]; exact G
        have c1_dl : w1_ dl = some (.inr (0, [.ref sb, .ref fb, .ref sh, .ref lq, .ref mp, .ref ca, .ref oa, .int (dC X 0), .int (dC X 1), .long (dM X 0), .long (dM X 1), .long (dM X 2)])) := by rw [hw1_, gu_n (gne_c hdl1 hlo1 (by decide))]; exact hdl1
        have c1_q : w1_ q = some (.inr (5, [va_rf (([] : List Nat).head?.map ky), .ref it0, .ref (dL X i)])) := by rw [hw1_, gu_n (gne_c hq1 hlo1 (by decide))]; exact hq1
        have c1__dL_X_i_ : w1_ (dL X i) = some (.inr (3, [.int (nI i), .int (dF X i 1), .int (dF X i 2), .int (dF X i 3), .int 1, .int (dF X i 5), .int (dF X i 6), .int (dF X i 7), .int (dF X i 8), .int (dF X i 9), .int (dF X i 10), .int (dF X i 11), .int (dF X i 12), .ref dl])) := by rw [hw1_]; exact gu_s
        have hVw1_ : DV D K w1_ dl ca oa (sF X i 4 1) sb fb sh lq mp md lmd (some k) es hN ky vl bv ta cap := by rw [hw1_]; exact hV1.putL (k := 4) (x := 1) hi (by first | rfl | (simp only [dF_s, dF_sA, dF_sC, dF_sM, dF_sB]; rfl))
        have hFw1_ : FD D ca oa w w1_ := hFD1.tr (by rw [hw1_]; exact FD.up hlo1 (by decide))
        rw [hQ]
        refine g_vret S G hr hlocks (hdg := dX4_hammer_113) ?_ ?_ ?_
        · exact Nat.le_of_ble_eq_true rfl
        · exact Nat.le_of_ble_eq_true rfl
        · have e9 : dHam X i = (sF X i 4 1) := by
            unfold dHam
            rw [← hacc]
            show dHamX X i bb ss ww = _
            unfold dHamX
            rw [if_pos c1]
          rw [e9]
          exact ⟨rfl, hVw1_.W, hFw1_⟩
      · refine lv_iload_n (pc := 100) hx hb dX4_hammer_100 rfl (lv_at hl 3 rfl) ?_
        refine lv_aload_n (pc := 101) hx hb dX4_hammer_101 rfl (lv_at hl 4 rfl) ?_
        refine g_get (pc := 102) (v := .int (dF X i 3)) S M G (C := RX4) (T := TX4) (N := 14) (ci := 3) in_X4 hlo1 rfl 3 (by decide) q529 (Or.inl rfl) rfl dX4_hammer_102 ?_
        refine lv_icmp_ge (pc := 105) (tgt := 114) hx hb dX4_hammer_105 (by decide) (fun c2 => ?_) (fun c2 => ?_)
        · refine lv_aload_n (pc := 114) hx hb dX4_hammer_114 rfl (lv_at hl 4 rfl) ?_
          refine lv_iconst (pc := 115) (v := 2) hx hb dX4_hammer_115 (by decide) ?_
          refine g_put (pc := 116) (v := .int 2) S M G (C := RX4) (T := TX4) (N := 14) (ci := 3) in_X4 tyX4 tyX4_ok nmX4 hlo1 hblo rfl 4 (by decide) q531 (Or.inl rfl) rfl rfl rfl (Nat.le_of_ble_eq_true rfl) dX4_hammer_116 (fun H locs G => ?_)
          obtain ⟨w2_, hw2_⟩ : ∃ z9, z9 = gu w1 (dL X i) (.inr (3, [.int (nI i), .int (dF X i 1), .int (dF X i 2), .int (dF X i 3), .int 2, .int (dF X i 5), .int (dF X i 6), .int (dF X i 7), .int (dF X i 8), .int (dF X i 9), .int (dF X i 10), .int (dF X i 11), .int (dF X i 12), .ref dl])) := ⟨_, rfl⟩
          replace G : gS D K w2_ s H locs := by rw [hw2_]; exact G
          have c2_dl : w2_ dl = some (.inr (0, [.ref sb, .ref fb, .ref sh, .ref lq, .ref mp, .ref ca, .ref oa, .int (dC X 0), .int (dC X 1), .long (dM X 0), .long (dM X 1), .long (dM X 2)])) := by rw [hw2_, gu_n (gne_c hdl1 hlo1 (by decide))]; exact hdl1
          have c2_q : w2_ q = some (.inr (5, [va_rf (([] : List Nat).head?.map ky), .ref it0, .ref (dL X i)])) := by rw [hw2_, gu_n (gne_c hq1 hlo1 (by decide))]; exact hq1
          have c2__dL_X_i_ : w2_ (dL X i) = some (.inr (3, [.int (nI i), .int (dF X i 1), .int (dF X i 2), .int (dF X i 3), .int 2, .int (dF X i 5), .int (dF X i 6), .int (dF X i 7), .int (dF X i 8), .int (dF X i 9), .int (dF X i 10), .int (dF X i 11), .int (dF X i 12), .ref dl])) := by rw [hw2_]; exact gu_s
          have hVw2_ : DV D K w2_ dl ca oa (sF X i 4 2) sb fb sh lq mp md lmd (some k) es hN ky vl bv ta cap := by rw [hw2_]; exact hV1.putL (k := 4) (x := 2) hi (by first | rfl | (simp only [dF_s, dF_sA, dF_sC, dF_sM, dF_sB]; rfl))
          have hFw2_ : FD D ca oa w w2_ := hFD1.tr (by rw [hw2_]; exact FD.up hlo1 (by decide))
          refine lv_aload_n (pc := 119) hx hb dX4_hammer_119 rfl (lv_at hl 4 rfl) ?_
          refine lv_iload_n (pc := 120) hx hb dX4_hammer_120 rfl (lv_at hl 1 rfl) ?_
          refine g_put (pc := 121) (v := .int ww) S M G (C := RX4) (T := TX4) (N := 14) (ci := 3) in_X4 tyX4 tyX4_ok nmX4 c2__dL_X_i_ hblo rfl 5 (by decide) q533 (Or.inl rfl) rfl rfl rfl (Nat.le_of_ble_eq_true rfl) dX4_hammer_121 (fun H locs G => ?_)
          obtain ⟨w3_, hw3_⟩ : ∃ z9, z9 = gu w2_ (dL X i) (.inr (3, [.int (nI i), .int (dF X i 1), .int (dF X i 2), .int (dF X i 3), .int 2, .int ww, .int (dF X i 6), .int (dF X i 7), .int (dF X i 8), .int (dF X i 9), .int (dF X i 10), .int (dF X i 11), .int (dF X i 12), .ref dl])) := ⟨_, rfl⟩
          replace G : gS D K w3_ s H locs := by rw [hw3_]; exact G
          have c3_dl : w3_ dl = some (.inr (0, [.ref sb, .ref fb, .ref sh, .ref lq, .ref mp, .ref ca, .ref oa, .int (dC X 0), .int (dC X 1), .long (dM X 0), .long (dM X 1), .long (dM X 2)])) := by rw [hw3_, gu_n (gne_c c2_dl c2__dL_X_i_ (by decide))]; exact c2_dl
          have c3_q : w3_ q = some (.inr (5, [va_rf (([] : List Nat).head?.map ky), .ref it0, .ref (dL X i)])) := by rw [hw3_, gu_n (gne_c c2_q c2__dL_X_i_ (by decide))]; exact c2_q
          have c3__dL_X_i_ : w3_ (dL X i) = some (.inr (3, [.int (nI i), .int (dF X i 1), .int (dF X i 2), .int (dF X i 3), .int 2, .int ww, .int (dF X i 6), .int (dF X i 7), .int (dF X i 8), .int (dF X i 9), .int (dF X i 10), .int (dF X i 11), .int (dF X i 12), .ref dl])) := by rw [hw3_]; exact gu_s
          have hVw3_ : DV D K w3_ dl ca oa (sF (sF X i 4 2) i 5 ww) sb fb sh lq mp md lmd (some k) es hN ky vl bv ta cap := by rw [hw3_]; exact hVw2_.putL (k := 5) (x := ww) hi (by first | rfl | (simp only [dF_s, dF_sA, dF_sC, dF_sM, dF_sB]; rfl))
          have hFw3_ : FD D ca oa w w3_ := hFw2_.tr (by rw [hw3_]; exact FD.up c2__dL_X_i_ (by decide))
          refine lv_aload_n (pc := 124) hx hb dX4_hammer_124 rfl (lv_at hl 4 rfl) ?_
          refine lv_aload_n (pc := 125) hx hb dX4_hammer_125 rfl (lv_at hl 4 rfl) ?_
          refine g_get (pc := 126) (v := .ref dl) S M G (C := RX4) (T := TX4) (N := 14) (ci := 3) in_X4 c3__dL_X_i_ rfl 13 (by decide) q547 (Or.inl rfl) rfl dX4_hammer_126 ?_
          refine g_getN (pc := 129) (v := .int (dC X 1)) S M G (C := RX1) (T := TX1) (N := 12) (ci := 0) in_X1 c3_dl rfl 8 (by decide) q178 rfl rfl dX4_hammer_129 ?_
          refine g_put (pc := 132) (v := .int (dC X 1)) S M G (C := RX4) (T := TX4) (N := 14) (ci := 3) in_X4 tyX4 tyX4_ok nmX4 c3__dL_X_i_ hblo rfl 7 (by decide) q537 (Or.inl rfl) rfl rfl rfl (Nat.le_of_ble_eq_true rfl) dX4_hammer_132 (fun H locs G => ?_)
          obtain ⟨w4_, hw4_⟩ : ∃ z9, z9 = gu w3_ (dL X i) (.inr (3, [.int (nI i), .int (dF X i 1), .int (dF X i 2), .int (dF X i 3), .int 2, .int ww, .int (dF X i 6), .int (dC X 1), .int (dF X i 8), .int (dF X i 9), .int (dF X i 10), .int (dF X i 11), .int (dF X i 12), .ref dl])) := ⟨_, rfl⟩
          replace G : gS D K w4_ s H locs := by rw [hw4_]; exact G
          have c4_dl : w4_ dl = some (.inr (0, [.ref sb, .ref fb, .ref sh, .ref lq, .ref mp, .ref ca, .ref oa, .int (dC X 0), .int (dC X 1), .long (dM X 0), .long (dM X 1), .long (dM X 2)])) := by rw [hw4_, gu_n (gne_c c3_dl c3__dL_X_i_ (by decide))]; exact c3_dl
          have c4_q : w4_ q = some (.inr (5, [va_rf (([] : List Nat).head?.map ky), .ref it0, .ref (dL X i)])) := by rw [hw4_, gu_n (gne_c c3_q c3__dL_X_i_ (by decide))]; exact c3_q
          have c4__dL_X_i_ : w4_ (dL X i) = some (.inr (3, [.int (nI i), .int (dF X i 1), .int (dF X i 2), .int (dF X i 3), .int 2, .int ww, .int (dF X i 6), .int (dC X 1), .int (dF X i 8), .int (dF X i 9), .int (dF X i 10), .int (dF X i 11), .int (dF X i 12), .ref dl])) := by rw [hw4_]; exact gu_s
          have hVw4_ : DV D K w4_ dl ca oa (sF (sF (sF X i 4 2) i 5 ww) i 7 (dC X 1)) sb fb sh lq mp md lmd (some k) es hN ky vl bv ta cap := by rw [hw4_]; exact hVw3_.putL (k := 7) (x := (dC X 1)) hi (by first | rfl | (simp only [dF_s, dF_sA, dF_sC, dF_sM, dF_sB]; rfl))
          have hFw4_ : FD D ca oa w w4_ := hFw3_.tr (by rw [hw4_]; exact FD.up c3__dL_X_i_ (by decide))
          refine lv_aload_n (pc := 135) hx hb dX4_hammer_135 rfl (lv_at hl 4 rfl) ?_
          refine g_callV (pc := 136) S M G hl.1 [] [] (metX4_many l D K w4_ hVw4_.W hi) 0 (g_recv M G c4__dL_X_i_ (q := (RX4, TX4, 14)) rfl) q1122 q1119 q1120 q1121 q35 (by decide) rfl ⟨Nat.le_of_ble_eq_true rfl, Nat.le_of_ble_eq_true rfl⟩ rfl (Nat.le_of_ble_eq_true rfl) dX4_hammer_136 ⟨Nat.le_of_ble_eq_true rfl, Nat.le_of_ble_eq_true rfl⟩ (fun r w9 H locs hp G => ?_)
          refine W.widen (k := 6) (n := 20) (Nat.le_of_ble_eq_true rfl) (Nat.le_of_ble_eq_true rfl) ?_
          obtain ⟨rfl, hD9, hF9⟩ := hp
          obtain ⟨sb9, fb9, sh9, lq9, mp9, md9, lmd9, ks9, es9, hN9, ky9, vl9, bv9, ta9, cap9, hV9⟩ := hD9
          have hFD9 := hFw4_.tr hF9
          have hlo9 : w9 (dL X i) = some (.inr (3, [.int (nI i), .int (dF X i 1), .int (dF X i 2), .int (dF X i 3), .int 2, .int ww, .int (dF X i 6), .int (dC X 1), .int (dF X i 8), .int (dF X i 9), .int (dF X i 10), .int (dF X i 11), .int (dF X i 12), .ref dl])) := by have h9 := (hV9.2.2.2.1 i hi).1; simp only [dF_s, dF_sA, dF_sC, dF_sM, dF_sB] at h9; exact h9
          have hdl9 : w9 dl = some (.inr (0, [.ref sb9, .ref fb9, .ref sh9, .ref lq9, .ref mp9, .ref ca, .ref oa, .int (dC X 0), .int (dC X 1), .long (dM X 0), .long (dM X 1), .long (dM X 2)])) := hV9.1.1
          obtain ⟨fssb9, hcsb9⟩ : ∃ z, w9 sb9 = some (.inr (1, z)) := by obtain ⟨b9, h9, -⟩ := hV9.2.1.1; exact ⟨_, h9⟩
          refine W.eq (g2 := F0 m 139 ls [.int (nI (bN i (dB X)))]) rfl ?_
          refine lv_iconst (pc := 139) (v := 1) hx hb dX4_hammer_139 (by decide) ?_
          refine lv_icmp_ne (pc := 140) (tgt := 147) hx hb dX4_hammer_140 (by decide) (fun c3 => ?_) (fun c3 => ?_)
          · refine lv_iconst (pc := 147) (v := 0) hx hb dX4_hammer_147 (by decide) ?_
            refine lv_istore (pc := 148) (lv' := [(4, .int 0), (3, .int ww), (2, .int ss), (1, .int bb), (0, .ref (dL X i))]) hx hb dX4_hammer_148 hl (by decide) rfl (fun ls hl => ?_)
            refine lv_iload (pc := 150) hx hb dX4_hammer_150 (lv_at hl 0 rfl) ?_
            refine lv_if_eq (pc := 152) (tgt := 169) hx hb dX4_hammer_152 (by decide) (fun _ => ?_) (fun c => absurd c (by decide))
            refine lv_aload_n (pc := 169) hx hb dX4_hammer_169 rfl (lv_at hl 4 rfl) ?_
            refine g_get (pc := 170) (v := .int (dF X i 3)) S M G (C := RX4) (T := TX4) (N := 14) (ci := 3) in_X4 hlo9 rfl 3 (by decide) q529 (Or.inl rfl) rfl dX4_hammer_170 ?_
            refine lv_iload_n (pc := 173) hx hb dX4_hammer_173 rfl (lv_at hl 2 rfl) ?_
            refine lv_aload_n (pc := 174) hx hb dX4_hammer_174 rfl (lv_at hl 4 rfl) ?_
            refine g_get (pc := 175) (v := .ref dl) S M G (C := RX4) (T := TX4) (N := 14) (ci := 3) in_X4 hlo9 rfl 13 (by decide) q547 (Or.inl rfl) rfl dX4_hammer_175 ?_
            refine g_getN (pc := 178) (v := .ref sb9) S M G (C := RX1) (T := TX1) (N := 12) (ci := 0) in_X1 hdl9 rfl 0 (by decide) q166 rfl rfl dX4_hammer_178 ?_
            refine lv_iload_n (pc := 181) hx hb dX4_hammer_181 rfl (lv_at hl 2 rfl) ?_
            refine g_callV (pc := 182) S M G hl.1 [.int ss] [.int ss, .int (dF X i 3)] (metX2_at4 l D K w9 hV9.2.1.1) 1 (g_recv M G hcsb9 (q := (RX2, TX2, 3)) rfl) q518 q1123 q516 q517 q19 (by decide) rfl ⟨Nat.le_of_ble_eq_true rfl, Nat.le_of_ble_eq_true rfl⟩ rfl (Nat.le_of_ble_eq_true rfl) dX4_hammer_182 ⟨Nat.le_of_ble_eq_true rfl, Nat.le_of_ble_eq_true rfl⟩ (fun r w2 H locs hp G => ?_)
            obtain ⟨rfl, hw2⟩ := hp
            rw [hw2] at G
            refine W.eq (g2 := F0 m 185 ls [.int (bAt BDs ss), .int ss, .int (dF X i 3)]) rfl ?_
            refine lv_iadd (pc := 185) hx hb dX4_hammer_185 ?_
            refine g_max (pc := 186) (x := (dF X i 3)) (y := (ss + (bAt BDs ss))) S hl.1 q1118 (Nat.le_of_ble_eq_true rfl) (Nat.le_of_ble_eq_true rfl) (Nat.le_of_ble_eq_true rfl) (Nat.le_of_ble_eq_true rfl) dX4_hammer_186 ?_
            refine lv_istore (pc := 189) (lv' := [(5, .int (if (dF X i 3) < (ss + (bAt BDs ss)) then (ss + (bAt BDs ss)) else (dF X i 3))), (4, .int 0), (3, .int ww), (2, .int ss), (1, .int bb), (0, .ref (dL X i))]) hx hb dX4_hammer_189 hl (by decide) rfl (fun ls hl => ?_)
            refine lv_aload_n (pc := 191) hx hb dX4_hammer_191 rfl (lv_at hl 5 rfl) ?_
            refine lv_iload_n (pc := 192) hx hb dX4_hammer_192 rfl (lv_at hl 4 rfl) ?_
            refine lv_iload (pc := 193) hx hb dX4_hammer_193 (lv_at hl 0 rfl) ?_
            refine g_min (pc := 195) (x := bb) (y := (if (dF X i 3) < (ss + (bAt BDs ss)) then (ss + (bAt BDs ss)) else (dF X i 3))) S hl.1 q1124 (Nat.le_of_ble_eq_true rfl) (Nat.le_of_ble_eq_true rfl) (Nat.le_of_ble_eq_true rfl) (Nat.le_of_ble_eq_true rfl) dX4_hammer_195 ?_
            refine g_put (pc := 198) (v := .int (if (if (dF X i 3) < (ss + (bAt BDs ss)) then (ss + (bAt BDs ss)) else (dF X i 3)) < bb then (if (dF X i 3) < (ss + (bAt BDs ss)) then (ss + (bAt BDs ss)) else (dF X i 3)) else bb)) S M G (C := RX4) (T := TX4) (N := 14) (ci := 3) in_X4 tyX4 tyX4_ok nmX4 hlo9 hblo rfl 6 (by decide) q535 (Or.inl rfl) rfl rfl rfl (Nat.le_of_ble_eq_true rfl) dX4_hammer_198 (fun H locs G => ?_)
            obtain ⟨w5_, hw5_⟩ : ∃ z9, z9 = gu w9 (dL X i) (.inr (3, [.int (nI i), .int (dF X i 1), .int (dF X i 2), .int (dF X i 3), .int 2, .int ww, .int (if (if (dF X i 3) < (ss + (bAt BDs ss)) then (ss + (bAt BDs ss)) else (dF X i 3)) < bb then (if (dF X i 3) < (ss + (bAt BDs ss)) then (ss + (bAt BDs ss)) else (dF X i 3)) else bb), .int (dC X 1), .int (dF X i 8), .int (dF X i 9), .int (dF X i 10), .int (dF X i 11), .int (dF X i 12), .ref dl])) := ⟨_, rfl⟩
            replace G : gS D K w5_ s H locs := by rw [hw5_]; exact G
            have c5_dl : w5_ dl = some (.inr (0, [.ref sb9, .ref fb9, .ref sh9, .ref lq9, .ref mp9, .ref ca, .ref oa, .int (dC X 0), .int (dC X 1), .long (dM X 0), .long (dM X 1), .long (dM X 2)])) := by rw [hw5_, gu_n (gne_c hdl9 hlo9 (by decide))]; exact hdl9
            have c5_sb9 : w5_ sb9 = some (.inr (1, fssb9)) := by rw [hw5_, gu_n (gne_c hcsb9 hlo9 (by decide))]; exact hcsb9
            have c5__dL_X_i_ : w5_ (dL X i) = some (.inr (3, [.int (nI i), .int (dF X i 1), .int (dF X i 2), .int (dF X i 3), .int 2, .int ww, .int (if (if (dF X i 3) < (ss + (bAt BDs ss)) then (ss + (bAt BDs ss)) else (dF X i 3)) < bb then (if (dF X i 3) < (ss + (bAt BDs ss)) then (ss + (bAt BDs ss)) else (dF X i 3)) else bb), .int (dC X 1), .int (dF X i 8), .int (dF X i 9), .int (dF X i 10), .int (dF X i 11), .int (dF X i 12), .ref dl])) := by rw [hw5_]; exact gu_s
            have hVw5_ : DV D K w5_ dl ca oa (sF (sF (sF (sF X i 4 2) i 5 ww) i 7 (dC X 1)) i 6 (if (if (dF X i 3) < (ss + (bAt BDs ss)) then (ss + (bAt BDs ss)) else (dF X i 3)) < bb then (if (dF X i 3) < (ss + (bAt BDs ss)) then (ss + (bAt BDs ss)) else (dF X i 3)) else bb)) sb9 fb9 sh9 lq9 mp9 md9 lmd9 ks9 es9 hN9 ky9 vl9 bv9 ta9 cap9 := by rw [hw5_]; exact hV9.putL (k := 6) (x := (if (if (dF X i 3) < (ss + (bAt BDs ss)) then (ss + (bAt BDs ss)) else (dF X i 3)) < bb then (if (dF X i 3) < (ss + (bAt BDs ss)) then (ss + (bAt BDs ss)) else (dF X i 3)) else bb)) hi (by first | rfl | (simp only [dF_s, dF_sA, dF_sC, dF_sM, dF_sB]; rfl))
            have hFw5_ : FD D ca oa w w5_ := hFD9.tr (by rw [hw5_]; exact FD.up hlo9 (by decide))
            rw [hQ]
            refine g_vret S G hr hlocks (hdg := dX4_hammer_201) ?_ ?_ ?_
            · exact Nat.le_of_ble_eq_true rfl
            · exact Nat.le_of_ble_eq_true rfl
            · have e9 : dHam X i = (sF (sF (sF (sF X i 4 2) i 5 ww) i 7 (dC X 1)) i 6 (if (if (dF X i 3) < (ss + (bAt BDs ss)) then (ss + (bAt BDs ss)) else (dF X i 3)) < bb then (if (dF X i 3) < (ss + (bAt BDs ss)) then (ss + (bAt BDs ss)) else (dF X i 3)) else bb)) := by
                unfold dHam
                rw [← hacc]
                show dHamX X i bb ss ww = _
                unfold dHamX
                rw [if_neg c1, if_pos c2, if_neg c3]
              rw [e9]
              exact ⟨rfl, hVw5_.W, hFw5_⟩
          · refine lv_iconst (pc := 143) (v := 1) hx hb dX4_hammer_143 (by decide) ?_
            refine lv_goto (pc := 144) (tgt := 148) hx hb dX4_hammer_144 (by decide) ?_
            refine lv_istore (pc := 148) (lv' := [(4, .int 1), (3, .int ww), (2, .int ss), (1, .int bb), (0, .ref (dL X i))]) hx hb dX4_hammer_148 hl (by decide) rfl (fun ls hl => ?_)
            refine lv_iload (pc := 150) hx hb dX4_hammer_150 (lv_at hl 0 rfl) ?_
            refine lv_if_eq (pc := 152) (tgt := 169) hx hb dX4_hammer_152 (by decide) (fun c => absurd c (by decide)) (fun _ => ?_)
            refine lv_aload_n (pc := 155) hx hb dX4_hammer_155 rfl (lv_at hl 4 rfl) ?_
            refine g_get (pc := 156) (v := .int (dF X i 3)) S M G (C := RX4) (T := TX4) (N := 14) (ci := 3) in_X4 hlo9 rfl 3 (by decide) q529 (Or.inl rfl) rfl dX4_hammer_156 ?_
            refine lv_if_le (pc := 159) (tgt := 169) hx hb dX4_hammer_159 (by decide) (fun c4 => ?_) (fun c4 => ?_)
            · refine lv_aload_n (pc := 169) hx hb dX4_hammer_169 rfl (lv_at hl 4 rfl) ?_
              refine g_get (pc := 170) (v := .int (dF X i 3)) S M G (C := RX4) (T := TX4) (N := 14) (ci := 3) in_X4 hlo9 rfl 3 (by decide) q529 (Or.inl rfl) rfl dX4_hammer_170 ?_
              refine lv_iload_n (pc := 173) hx hb dX4_hammer_173 rfl (lv_at hl 2 rfl) ?_
              refine lv_aload_n (pc := 174) hx hb dX4_hammer_174 rfl (lv_at hl 4 rfl) ?_
              refine g_get (pc := 175) (v := .ref dl) S M G (C := RX4) (T := TX4) (N := 14) (ci := 3) in_X4 hlo9 rfl 13 (by decide) q547 (Or.inl rfl) rfl dX4_hammer_175 ?_
              refine g_getN (pc := 178) (v := .ref sb9) S M G (C := RX1) (T := TX1) (N := 12) (ci := 0) in_X1 hdl9 rfl 0 (by decide) q166 rfl rfl dX4_hammer_178 ?_
              refine lv_iload_n (pc := 181) hx hb dX4_hammer_181 rfl (lv_at hl 2 rfl) ?_
              refine g_callV (pc := 182) S M G hl.1 [.int ss] [.int ss, .int (dF X i 3)] (metX2_at4 l D K w9 hV9.2.1.1) 1 (g_recv M G hcsb9 (q := (RX2, TX2, 3)) rfl) q518 q1123 q516 q517 q19 (by decide) rfl ⟨Nat.le_of_ble_eq_true rfl, Nat.le_of_ble_eq_true rfl⟩ rfl (Nat.le_of_ble_eq_true rfl) dX4_hammer_182 ⟨Nat.le_of_ble_eq_true rfl, Nat.le_of_ble_eq_true rfl⟩ (fun r w2 H locs hp G => ?_)
              obtain ⟨rfl, hw2⟩ := hp
              rw [hw2] at G
              refine W.eq (g2 := F0 m 185 ls [.int (bAt BDs ss), .int ss, .int (dF X i 3)]) rfl ?_
              refine lv_iadd (pc := 185) hx hb dX4_hammer_185 ?_
              refine g_max (pc := 186) (x := (dF X i 3)) (y := (ss + (bAt BDs ss))) S hl.1 q1118 (Nat.le_of_ble_eq_true rfl) (Nat.le_of_ble_eq_true rfl) (Nat.le_of_ble_eq_true rfl) (Nat.le_of_ble_eq_true rfl) dX4_hammer_186 ?_
              refine lv_istore (pc := 189) (lv' := [(5, .int (if (dF X i 3) < (ss + (bAt BDs ss)) then (ss + (bAt BDs ss)) else (dF X i 3))), (4, .int 1), (3, .int ww), (2, .int ss), (1, .int bb), (0, .ref (dL X i))]) hx hb dX4_hammer_189 hl (by decide) rfl (fun ls hl => ?_)
              refine lv_aload_n (pc := 191) hx hb dX4_hammer_191 rfl (lv_at hl 5 rfl) ?_
              refine lv_iload_n (pc := 192) hx hb dX4_hammer_192 rfl (lv_at hl 4 rfl) ?_
              refine lv_iload (pc := 193) hx hb dX4_hammer_193 (lv_at hl 0 rfl) ?_
              refine g_min (pc := 195) (x := bb) (y := (if (dF X i 3) < (ss + (bAt BDs ss)) then (ss + (bAt BDs ss)) else (dF X i 3))) S hl.1 q1124 (Nat.le_of_ble_eq_true rfl) (Nat.le_of_ble_eq_true rfl) (Nat.le_of_ble_eq_true rfl) (Nat.le_of_ble_eq_true rfl) dX4_hammer_195 ?_
              refine g_put (pc := 198) (v := .int (if (if (dF X i 3) < (ss + (bAt BDs ss)) then (ss + (bAt BDs ss)) else (dF X i 3)) < bb then (if (dF X i 3) < (ss + (bAt BDs ss)) then (ss + (bAt BDs ss)) else (dF X i 3)) else bb)) S M G (C := RX4) (T := TX4) (N := 14) (ci := 3) in_X4 tyX4 tyX4_ok nmX4 hlo9 hblo rfl 6 (by decide) q535 (Or.inl rfl) rfl rfl rfl (Nat.le_of_ble_eq_true rfl) dX4_hammer_198 (fun H locs G => ?_)
              obtain ⟨w6_, hw6_⟩ : ∃ z9, z9 = gu w9 (dL X i) (.inr (3, [.int (nI i), .int (dF X i 1), .int (dF X i 2), .int (dF X i 3), .int 2, .int ww, .int (if (if (dF X i 3) < (ss + (bAt BDs ss)) then (ss + (bAt BDs ss)) else (dF X i 3)) < bb then (if (dF X i 3) < (ss + (bAt BDs ss)) then (ss + (bAt BDs ss)) else (dF X i 3)) else bb), .int (dC X 1), .int (dF X i 8), .int (dF X i 9), .int (dF X i 10), .int (dF X i 11), .int (dF X i 12), .ref dl])) := ⟨_, rfl⟩
              replace G : gS D K w6_ s H locs := by rw [hw6_]; exact G
              have c6_dl : w6_ dl = some (.inr (0, [.ref sb9, .ref fb9, .ref sh9, .ref lq9, .ref mp9, .ref ca, .ref oa, .int (dC X 0), .int (dC X 1), .long (dM X 0), .long (dM X 1), .long (dM X 2)])) := by rw [hw6_, gu_n (gne_c hdl9 hlo9 (by decide))]; exact hdl9
              have c6_sb9 : w6_ sb9 = some (.inr (1, fssb9)) := by rw [hw6_, gu_n (gne_c hcsb9 hlo9 (by decide))]; exact hcsb9
              have c6__dL_X_i_ : w6_ (dL X i) = some (.inr (3, [.int (nI i), .int (dF X i 1), .int (dF X i 2), .int (dF X i 3), .int 2, .int ww, .int (if (if (dF X i 3) < (ss + (bAt BDs ss)) then (ss + (bAt BDs ss)) else (dF X i 3)) < bb then (if (dF X i 3) < (ss + (bAt BDs ss)) then (ss + (bAt BDs ss)) else (dF X i 3)) else bb), .int (dC X 1), .int (dF X i 8), .int (dF X i 9), .int (dF X i 10), .int (dF X i 11), .int (dF X i 12), .ref dl])) := by rw [hw6_]; exact gu_s
              have hVw6_ : DV D K w6_ dl ca oa (sF (sF (sF (sF X i 4 2) i 5 ww) i 7 (dC X 1)) i 6 (if (if (dF X i 3) < (ss + (bAt BDs ss)) then (ss + (bAt BDs ss)) else (dF X i 3)) < bb then (if (dF X i 3) < (ss + (bAt BDs ss)) then (ss + (bAt BDs ss)) else (dF X i 3)) else bb)) sb9 fb9 sh9 lq9 mp9 md9 lmd9 ks9 es9 hN9 ky9 vl9 bv9 ta9 cap9 := by rw [hw6_]; exact hV9.putL (k := 6) (x := (if (if (dF X i 3) < (ss + (bAt BDs ss)) then (ss + (bAt BDs ss)) else (dF X i 3)) < bb then (if (dF X i 3) < (ss + (bAt BDs ss)) then (ss + (bAt BDs ss)) else (dF X i 3)) else bb)) hi (by first | rfl | (simp only [dF_s, dF_sA, dF_sC, dF_sM, dF_sB]; rfl))
              have hFw6_ : FD D ca oa w w6_ := hFD9.tr (by rw [hw6_]; exact FD.up hlo9 (by decide))
              rw [hQ]
              refine g_vret S G hr hlocks (hdg := dX4_hammer_201) ?_ ?_ ?_
              · exact Nat.le_of_ble_eq_true rfl
              · exact Nat.le_of_ble_eq_true rfl
              · have e9 : dHam X i = (sF (sF (sF (sF X i 4 2) i 5 ww) i 7 (dC X 1)) i 6 (if (if (dF X i 3) < (ss + (bAt BDs ss)) then (ss + (bAt BDs ss)) else (dF X i 3)) < bb then (if (dF X i 3) < (ss + (bAt BDs ss)) then (ss + (bAt BDs ss)) else (dF X i 3)) else bb)) := by
                  unfold dHam
                  rw [← hacc]
                  show dHamX X i bb ss ww = _
                  unfold dHamX
                  rw [if_neg c1, if_pos c2, if_pos c3, if_pos c4]
                rw [e9]
                exact ⟨rfl, hVw6_.W, hFw6_⟩
            · refine lv_aload_n (pc := 162) hx hb dX4_hammer_162 rfl (lv_at hl 4 rfl) ?_
              refine g_get (pc := 163) (v := .int (dF X i 3)) S M G (C := RX4) (T := TX4) (N := 14) (ci := 3) in_X4 hlo9 rfl 3 (by decide) q529 (Or.inl rfl) rfl dX4_hammer_163 ?_
              refine lv_goto (pc := 166) (tgt := 189) hx hb dX4_hammer_166 (by decide) ?_
              refine lv_istore (pc := 189) (lv' := [(5, .int (dF X i 3)), (4, .int 1), (3, .int ww), (2, .int ss), (1, .int bb), (0, .ref (dL X i))]) hx hb dX4_hammer_189 hl (by decide) rfl (fun ls hl => ?_)
              refine lv_aload_n (pc := 191) hx hb dX4_hammer_191 rfl (lv_at hl 5 rfl) ?_
              refine lv_iload_n (pc := 192) hx hb dX4_hammer_192 rfl (lv_at hl 4 rfl) ?_
              refine lv_iload (pc := 193) hx hb dX4_hammer_193 (lv_at hl 0 rfl) ?_
              refine g_min (pc := 195) (x := bb) (y := (dF X i 3)) S hl.1 q1124 (Nat.le_of_ble_eq_true rfl) (Nat.le_of_ble_eq_true rfl) (Nat.le_of_ble_eq_true rfl) (Nat.le_of_ble_eq_true rfl) dX4_hammer_195 ?_
              refine g_put (pc := 198) (v := .int (if (dF X i 3) < bb then (dF X i 3) else bb)) S M G (C := RX4) (T := TX4) (N := 14) (ci := 3) in_X4 tyX4 tyX4_ok nmX4 hlo9 hblo rfl 6 (by decide) q535 (Or.inl rfl) rfl rfl rfl (Nat.le_of_ble_eq_true rfl) dX4_hammer_198 (fun H locs G => ?_)
              obtain ⟨w7_, hw7_⟩ : ∃ z9, z9 = gu w9 (dL X i) (.inr (3, [.int (nI i), .int (dF X i 1), .int (dF X i 2), .int (dF X i 3), .int 2, .int ww, .int (if (dF X i 3) < bb then (dF X i 3) else bb), .int (dC X 1), .int (dF X i 8), .int (dF X i 9), .int (dF X i 10), .int (dF X i 11), .int (dF X i 12), .ref dl])) := ⟨_, rfl⟩
              replace G : gS D K w7_ s H locs := by rw [hw7_]; exact G
              have c7_dl : w7_ dl = some (.inr (0, [.ref sb9, .ref fb9, .ref sh9, .ref lq9, .ref mp9, .ref ca, .ref oa, .int (dC X 0), .int (dC X 1), .long (dM X 0), .long (dM X 1), .long (dM X 2)])) := by rw [hw7_, gu_n (gne_c hdl9 hlo9 (by decide))]; exact hdl9
              have c7_sb9 : w7_ sb9 = some (.inr (1, fssb9)) := by rw [hw7_, gu_n (gne_c hcsb9 hlo9 (by decide))]; exact hcsb9
              have c7__dL_X_i_ : w7_ (dL X i) = some (.inr (3, [.int (nI i), .int (dF X i 1), .int (dF X i 2), .int (dF X i 3), .int 2, .int ww, .int (if (dF X i 3) < bb then (dF X i 3) else bb), .int (dC X 1), .int (dF X i 8), .int (dF X i 9), .int (dF X i 10), .int (dF X i 11), .int (dF X i 12), .ref dl])) := by rw [hw7_]; exact gu_s
              have hVw7_ : DV D K w7_ dl ca oa (sF (sF (sF (sF X i 4 2) i 5 ww) i 7 (dC X 1)) i 6 (if (dF X i 3) < bb then (dF X i 3) else bb)) sb9 fb9 sh9 lq9 mp9 md9 lmd9 ks9 es9 hN9 ky9 vl9 bv9 ta9 cap9 := by rw [hw7_]; exact hV9.putL (k := 6) (x := (if (dF X i 3) < bb then (dF X i 3) else bb)) hi (by first | rfl | (simp only [dF_s, dF_sA, dF_sC, dF_sM, dF_sB]; rfl))
              have hFw7_ : FD D ca oa w w7_ := hFD9.tr (by rw [hw7_]; exact FD.up hlo9 (by decide))
              rw [hQ]
              refine g_vret S G hr hlocks (hdg := dX4_hammer_201) ?_ ?_ ?_
              · exact Nat.le_of_ble_eq_true rfl
              · exact Nat.le_of_ble_eq_true rfl
              · have e9 : dHam X i = (sF (sF (sF (sF X i 4 2) i 5 ww) i 7 (dC X 1)) i 6 (if (dF X i 3) < bb then (dF X i 3) else bb)) := by
                  unfold dHam
                  rw [← hacc]
                  show dHamX X i bb ss ww = _
                  unfold dHamX
                  rw [if_neg c1, if_pos c2, if_pos c3, if_neg c4]
                rw [e9]
                exact ⟨rfl, hVw7_.W, hFw7_⟩
        · refine lv_aload_n (pc := 108) hx hb dX4_hammer_108 rfl (lv_at hl 4 rfl) ?_
          refine lv_iconst (pc := 109) (v := 1) hx hb dX4_hammer_109 (by decide) ?_
          refine g_put (pc := 110) (v := .int 1) S M G (C := RX4) (T := TX4) (N := 14) (ci := 3) in_X4 tyX4 tyX4_ok nmX4 hlo1 hblo rfl 4 (by decide) q531 (Or.inl rfl) rfl rfl rfl (Nat.le_of_ble_eq_true rfl) dX4_hammer_110 (fun H locs G => ?_)
          obtain ⟨w8_, hw8_⟩ : ∃ z9, z9 = gu w1 (dL X i) (.inr (3, [.int (nI i), .int (dF X i 1), .int (dF X i 2), .int (dF X i 3), .int 1, .int (dF X i 5), .int (dF X i 6), .int (dF X i 7), .int (dF X i 8), .int (dF X i 9), .int (dF X i 10), .int (dF X i 11), .int (dF X i 12), .ref dl])) := ⟨_, rfl⟩
          replace G : gS D K w8_ s H locs := by rw [hw8_]; exact G
          have c8_dl : w8_ dl = some (.inr (0, [.ref sb, .ref fb, .ref sh, .ref lq, .ref mp, .ref ca, .ref oa, .int (dC X 0), .int (dC X 1), .long (dM X 0), .long (dM X 1), .long (dM X 2)])) := by rw [hw8_, gu_n (gne_c hdl1 hlo1 (by decide))]; exact hdl1
          have c8_q : w8_ q = some (.inr (5, [va_rf (([] : List Nat).head?.map ky), .ref it0, .ref (dL X i)])) := by rw [hw8_, gu_n (gne_c hq1 hlo1 (by decide))]; exact hq1
          have c8__dL_X_i_ : w8_ (dL X i) = some (.inr (3, [.int (nI i), .int (dF X i 1), .int (dF X i 2), .int (dF X i 3), .int 1, .int (dF X i 5), .int (dF X i 6), .int (dF X i 7), .int (dF X i 8), .int (dF X i 9), .int (dF X i 10), .int (dF X i 11), .int (dF X i 12), .ref dl])) := by rw [hw8_]; exact gu_s
          have hVw8_ : DV D K w8_ dl ca oa (sF X i 4 1) sb fb sh lq mp md lmd (some k) es hN ky vl bv ta cap := by rw [hw8_]; exact hV1.putL (k := 4) (x := 1) hi (by first | rfl | (simp only [dF_s, dF_sA, dF_sC, dF_sM, dF_sB]; rfl))
          have hFw8_ : FD D ca oa w w8_ := hFD1.tr (by rw [hw8_]; exact FD.up hlo1 (by decide))
          rw [hQ]
          refine g_vret S G hr hlocks (hdg := dX4_hammer_113) ?_ ?_ ?_
          · exact Nat.le_of_ble_eq_true rfl
          · exact Nat.le_of_ble_eq_true rfl
          · have e9 : dHam X i = (sF X i 4 1) := by
              unfold dHam
              rw [← hacc]
              show dHamX X i bb ss ww = _
              unfold dHamX
              rw [if_neg c1, if_neg c2]
            rw [e9]
            exact ⟨rfl, hVw8_.W, hFw8_⟩
    | cons x ms ih =>
      intro bb ss ww w1 H locs ls hL hF1 hin hacc G hl
      obtain ⟨it0, hq1⟩ := hL.it
      have hlo1 := hF1.k4 hlo2 (by decide) (by decide)
      have hdl1 := hF1.k4 hdl2 (by decide) (by decide)
      have hV1 : DV D K w1 dl ca oa X sb fb sh lq mp md lmd (some k) es hN ky vl bv ta cap := hV2.kp (fun a x q1 q2 => hF1 a x q1 (dk_i q2))
      have hFD1 := hFD2.tr (FD.i hF1)
      obtain ⟨hxe, hx10⟩ := onl_mem (hin x (List.mem_cons_self ..))
      refine lv_aload (pc := 12) hx hb dX4_hammer_12 (lv_at hl 0 rfl) ?_
      refine g_callF (pc := 14) S M G hl.1 [] [] (metX6_hasNextL l D K w1 hL) 0 (g_recv M G hq1 (q := (RX6, TX6, 3)) rfl) (g_cls M (ci := 5) rfl) q280 q1092 ⟨by decide, q274, q273, q279, q277, q275⟩ q278 q276 q53 rfl rfl ⟨Nat.le_of_ble_eq_true rfl, Nat.le_of_ble_eq_true rfl⟩ rfl (Nat.le_of_ble_eq_true rfl) dX4_hammer_14 ⟨Nat.le_of_ble_eq_true rfl, Nat.le_of_ble_eq_true rfl⟩ (fun r wz H locs hp G => ?_)
      obtain ⟨rfl, hw2⟩ := hp
      rw [hw2] at G
      rw [show hasN ((x :: ms) : List Nat).head? = 1 from rfl]
      refine W.eq (g2 := F0 m 19 ls [.int 1]) rfl ?_
      refine lv_if_eq (pc := 19) (tgt := 95) hx hb dX4_hammer_19 (by decide) (fun c => absurd c (by decide)) (fun _ => ?_)
      refine lv_aload (pc := 22) hx hb dX4_hammer_22 (lv_at hl 0 rfl) ?_
      refine g_callF (pc := 24) S M G hl.1 [] [] (metX6_nextL l D K w1 (hM2.kp hF1.q) hlo1 hi30 hL) 0 (g_recv M G hq1 (q := (RX6, TX6, 3)) rfl) (g_cls M (ci := 5) rfl) q301 q1094 ⟨by decide, q296, q295, q300, q298, q275⟩ q299 q297 q53 rfl rfl ⟨Nat.le_of_ble_eq_true rfl, Nat.le_of_ble_eq_true rfl⟩ rfl (Nat.le_of_ble_eq_true rfl) dX4_hammer_24 ⟨Nat.le_of_ble_eq_true rfl, Nat.le_of_ble_eq_true rfl⟩ (fun r w4 H locs hp G => ?_)
      obtain ⟨rfl, hL4, hFi⟩ := hp
      have hF4 : FRI w2 w4 := hF1.tr hFi
      have hlo4 := hF4.k4 hlo2 (by decide) (by decide)
      have hdl4 := hF4.k4 hdl2 (by decide) (by decide)
      have hkx4 : w4 (ky x) = some (.inr (4, [.int (nI (hN x / 10)), .int (nI (hN x % 10))])) := hF4.k4 (hM2.cg.1 x hxe) (by decide) (by decide)
      refine W.eq (g2 := F0 m 29 ls [.ref (ky x)]) rfl ?_
      refine va_castS (pc := 29) hx hb hown (hts _ q1095) (g_cls M (ci := 4) rfl) (g_recv M G hkx4 (q := (RX5, TX5, 2)) rfl) dX4_hammer_29 ?_
      refine lv_astore (pc := 32) (lv' := [(5, .ref (ky x)), (4, .ref q), (3, .int ww), (2, .int ss), (1, .int bb), (0, .ref (dL X i))]) hx hb dX4_hammer_32 hl (by decide) rfl (fun ls hl => ?_)
      refine lv_aload_n (pc := 34) hx hb dX4_hammer_34 rfl (lv_at hl 5 rfl) ?_
      refine g_get (pc := 35) (v := .ref dl) S M G (C := RX4) (T := TX4) (N := 14) (ci := 3) in_X4 hlo4 rfl 13 (by decide) q547 (Or.inl rfl) rfl dX4_hammer_35 ?_
      refine g_getN (pc := 38) (v := .ref mp) S M G (C := RX1) (T := TX1) (N := 12) (ci := 0) in_X1 hdl4 rfl 4 (by decide) q173 rfl rfl dX4_hammer_38 ?_
      refine lv_aload (pc := 41) hx hb dX4_hammer_41 (lv_at hl 0 rfl) ?_
      have hM4 := hM2.kp hF4.q
      obtain ⟨fm4, hmp4⟩ : ∃ z, w4 mp = some (.inr (7, z)) := by obtain ⟨_, _, _, _, _, _, ho, -⟩ := hM4.base; exact ⟨_, ho⟩
      have hvx4 : w4 (vl x) = some (.inr (12, [.int (bv x)])) := hF4.k4 (hV2.2.2.2.2.1.2.2.1 x hxe) (by decide) (by decide)
      refine g_callF (pc := 43) S M G hl.1 [.ref (ky x)] [] (metJ5_getW l D K w4 (hM4.cg.1 x hxe) (hM4.cg.2.1 x hxe) hM4 hxe rfl) 1 (g_recv M G hmp4 (q := (RJ5, TJ5, 12)) rfl) (g_cls M (ci := 7) rfl) q1104 q1097 ⟨by decide, q1099, q1098, q1103, q1101, q719⟩ q1102 q1100 q25 rfl rfl ⟨Nat.le_of_ble_eq_true rfl, Nat.le_of_ble_eq_true rfl⟩ rfl (Nat.le_of_ble_eq_true rfl) dX4_hammer_43 ⟨Nat.le_of_ble_eq_true rfl, Nat.le_of_ble_eq_true rfl⟩ (fun r w5 H locs hp G => ?_)
      obtain ⟨rfl, hw2⟩ := hp
      rw [hw2] at G
      refine W.eq (g2 := F0 m 48 ls [.ref (vl x)]) rfl ?_
      refine va_castS (pc := 48) hx hb hown (hts _ q1116) (g_cls M (ci := 12) rfl) (g_recv M G hvx4 (q := (RJ20, TJ20, 1)) rfl) dX4_hammer_48 ?_
      refine g_callV (pc := 51) S M G hl.1 [] [] (metJ20_intValue l D K w4 hvx4) 0 (g_recv M G hvx4 (q := (RJ20, TJ20, 1)) rfl) q914 q1117 q912 q913 q44 (by decide) rfl ⟨Nat.le_of_ble_eq_true rfl, Nat.le_of_ble_eq_true rfl⟩ rfl (Nat.le_of_ble_eq_true rfl) dX4_hammer_51 ⟨Nat.le_of_ble_eq_true rfl, Nat.le_of_ble_eq_true rfl⟩ (fun r w6 H locs hp G => ?_)
      obtain ⟨rfl, hw2⟩ := hp
      rw [hw2] at G
      refine W.eq (g2 := F0 m 54 ls [.int (bv x)]) rfl ?_
      refine lv_istore (pc := 54) (lv' := [(6, .int (bv x)), (5, .ref (ky x)), (4, .ref q), (3, .int ww), (2, .int ss), (1, .int bb), (0, .ref (dL X i))]) hx hb dX4_hammer_54 hl (by decide) rfl (fun ls hl => ?_)
      refine lv_iload_n (pc := 56) hx hb dX4_hammer_56 rfl (lv_at hl 3 rfl) ?_
      refine lv_iconst (pc := 57) (v := (-1)) hx hb dX4_hammer_57 (by decide) ?_
      refine lv_icmp_eq (pc := 58) (tgt := 67) hx hb dX4_hammer_58 (by decide) (fun c5 => ?_) (fun c5 => ?_)
      · refine lv_iload_n (pc := 67) hx hb dX4_hammer_67 rfl (lv_at hl 4 rfl) ?_
        refine lv_iload_n (pc := 68) hx hb dX4_hammer_68 rfl (lv_at hl 5 rfl) ?_
        refine g_max (pc := 69) (x := ss) (y := bb) S hl.1 q1118 (Nat.le_of_ble_eq_true rfl) (Nat.le_of_ble_eq_true rfl) (Nat.le_of_ble_eq_true rfl) (Nat.le_of_ble_eq_true rfl) dX4_hammer_69 ?_
        refine lv_istore_n (pc := 72) (lv' := [(2, .int (if ss < bb then bb else ss)), (6, .int (bv x)), (5, .ref (ky x)), (4, .ref q), (3, .int ww), (1, .int bb), (0, .ref (dL X i))]) hx hb dX4_hammer_72 rfl hl (by decide) rfl (fun ls hl => ?_)
        refine lv_iload (pc := 73) hx hb dX4_hammer_73 (lv_at hl 1 rfl) ?_
        refine lv_istore_n (pc := 75) (lv' := [(1, .int (bv x)), (2, .int (if ss < bb then bb else ss)), (6, .int (bv x)), (5, .ref (ky x)), (4, .ref q), (3, .int ww), (0, .ref (dL X i))]) hx hb dX4_hammer_75 rfl hl (by decide) rfl (fun ls hl => ?_)
        refine lv_aload (pc := 76) hx hb dX4_hammer_76 (lv_at hl 3 rfl) ?_
        refine g_getN (pc := 78) (v := .int (nI (hN x % 10))) S M G (C := RX5) (T := TX5) (N := 2) (ci := 4) in_X5 hkx4 rfl 1 (by decide) q689 rfl rfl dX4_hammer_78 ?_
        refine lv_istore_n (pc := 81) (lv' := [(3, .int (nI (hN x % 10))), (1, .int (bv x)), (2, .int (if ss < bb then bb else ss)), (6, .int (bv x)), (5, .ref (ky x)), (4, .ref q), (0, .ref (dL X i))]) hx hb dX4_hammer_81 rfl hl (by decide) rfl (fun ls hl => ?_)
        refine lv_goto (pc := 82) (tgt := 92) hx hb dX4_hammer_82 (by decide) ?_
        refine lv_goto (pc := 92) (tgt := 12) hx hb dX4_hammer_92 (by decide) ?_
        exact ih (bv x) (if ss < bb then bb else ss) (nI (hN x % 10)) w4 H locs ls hL4 hF4 (fun a ha => hin a (List.mem_cons_of_mem _ ha)) (by rw [← hacc, List.map_cons]; exact (hmF_t (q := (hN x, bv x)) (Or.inl c5)).symm) G (lv_sub hl [5, 0, 2, 1, 6] rfl)
      · refine lv_iload (pc := 61) hx hb dX4_hammer_61 (lv_at hl 0 rfl) ?_
        refine lv_iload_n (pc := 63) hx hb dX4_hammer_63 rfl (lv_at hl 5 rfl) ?_
        refine lv_icmp_le (pc := 64) (tgt := 85) hx hb dX4_hammer_64 (by decide) (fun c6 => ?_) (fun c6 => ?_)
        · refine lv_iload_n (pc := 85) hx hb dX4_hammer_85 rfl (lv_at hl 4 rfl) ?_
          refine lv_iload (pc := 86) hx hb dX4_hammer_86 (lv_at hl 0 rfl) ?_
          refine g_max (pc := 88) (x := ss) (y := (bv x)) S hl.1 q1118 (Nat.le_of_ble_eq_true rfl) (Nat.le_of_ble_eq_true rfl) (Nat.le_of_ble_eq_true rfl) (Nat.le_of_ble_eq_true rfl) dX4_hammer_88 ?_
          refine lv_istore_n (pc := 91) (lv' := [(2, .int (if ss < (bv x) then (bv x) else ss)), (6, .int (bv x)), (5, .ref (ky x)), (4, .ref q), (3, .int ww), (1, .int bb), (0, .ref (dL X i))]) hx hb dX4_hammer_91 rfl hl (by decide) rfl (fun ls hl => ?_)
          refine lv_goto (pc := 92) (tgt := 12) hx hb dX4_hammer_92 (by decide) ?_
          exact ih bb (if ss < (bv x) then (bv x) else ss) ww w4 H locs ls hL4 hF4 (fun a ha => hin a (List.mem_cons_of_mem _ ha)) (by rw [← hacc, List.map_cons]; exact (hmF_f (q := (hN x, bv x)) (fun z => z.elim c5 (fun y => y c6))).symm) G (lv_sub hl [3, 4, 0, 5, 6] rfl)
        · refine lv_iload_n (pc := 67) hx hb dX4_hammer_67 rfl (lv_at hl 4 rfl) ?_
          refine lv_iload_n (pc := 68) hx hb dX4_hammer_68 rfl (lv_at hl 5 rfl) ?_
          refine g_max (pc := 69) (x := ss) (y := bb) S hl.1 q1118 (Nat.le_of_ble_eq_true rfl) (Nat.le_of_ble_eq_true rfl) (Nat.le_of_ble_eq_true rfl) (Nat.le_of_ble_eq_true rfl) dX4_hammer_69 ?_
          refine lv_istore_n (pc := 72) (lv' := [(2, .int (if ss < bb then bb else ss)), (6, .int (bv x)), (5, .ref (ky x)), (4, .ref q), (3, .int ww), (1, .int bb), (0, .ref (dL X i))]) hx hb dX4_hammer_72 rfl hl (by decide) rfl (fun ls hl => ?_)
          refine lv_iload (pc := 73) hx hb dX4_hammer_73 (lv_at hl 1 rfl) ?_
          refine lv_istore_n (pc := 75) (lv' := [(1, .int (bv x)), (2, .int (if ss < bb then bb else ss)), (6, .int (bv x)), (5, .ref (ky x)), (4, .ref q), (3, .int ww), (0, .ref (dL X i))]) hx hb dX4_hammer_75 rfl hl (by decide) rfl (fun ls hl => ?_)
          refine lv_aload (pc := 76) hx hb dX4_hammer_76 (lv_at hl 3 rfl) ?_
          refine g_getN (pc := 78) (v := .int (nI (hN x % 10))) S M G (C := RX5) (T := TX5) (N := 2) (ci := 4) in_X5 hkx4 rfl 1 (by decide) q689 rfl rfl dX4_hammer_78 ?_
          refine lv_istore_n (pc := 81) (lv' := [(3, .int (nI (hN x % 10))), (1, .int (bv x)), (2, .int (if ss < bb then bb else ss)), (6, .int (bv x)), (5, .ref (ky x)), (4, .ref q), (0, .ref (dL X i))]) hx hb dX4_hammer_81 rfl hl (by decide) rfl (fun ls hl => ?_)
          refine lv_goto (pc := 82) (tgt := 92) hx hb dX4_hammer_82 (by decide) ?_
          refine lv_goto (pc := 92) (tgt := 12) hx hb dX4_hammer_92 (by decide) ?_
          exact ih (bv x) (if ss < bb then bb else ss) (nI (hN x % 10)) w4 H locs ls hL4 hF4 (fun a ha => hin a (List.mem_cons_of_mem _ ha)) (by rw [← hacc, List.map_cons]; exact (hmF_t (q := (hN x, bv x)) (Or.inr c6)).symm) G (lv_sub hl [5, 0, 2, 1, 6] rfl)
  exact Lh (onl hN i es) 0 0 (-1) w2 H locs ls hLI FRI.rf (fun a h => h) (by unfold hmR; rw [hV.2.2.2.2.1.2.2.2, bOn_onl]) G (lv_sub hl [0, 1, 2, 3, 4] rfl)
