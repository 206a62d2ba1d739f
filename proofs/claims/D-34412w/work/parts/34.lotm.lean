/-! Lot.iterator -/
abbrev lfs (i : Nat) (g : Nat → Int32) (dl : Nat) : List Value := [.int (nI i), .int (g 1), .int (g 2), .int (g 3), .int (g 4), .int (g 5), .int (g 6), .int (g 7), .int (g 8), .int (g 9), .int (g 10), .int (g 11), .int (g 12), .ref dl]
abbrev dfs (sb fb hb lq mp ca oa : Nat) (rt dy : Int32) (ii oo kk : Int64) : List Value := [.ref sb, .ref fb, .ref hb, .ref lq, .ref mp, .ref ca, .ref oa, .int rt, .int dy, .long ii, .long oo, .long kk]
abbrev rmX4_iterator : Room := ({ frames := 6, cells := 3, slots := 10, locals := 124 } : Room)
set_option maxHeartbeats 4000000 in
theorem metX4_iterator (l : Launch) (D : va_G) (K : Nat → Nat) (w : Gh) {lo dl i : Nat} {g : Nat → Int32} (hlo : w lo = some (.inr (3, lfs i g dl))) {sb fb hb lq mp ca oa : Nat} {rt dy : Int32} {ii oo kk : Int64} (hdl : w dl = some (.inr (0, dfs sb fb hb lq mp ca oa rt dy ii oo kk))) {md : Int32} {ks : Option Nat} {es : List Nat} {hN ky vl : Nat → Nat} (hM : MS D K w mp md ks es hN ky vl) (hks : ∀ k, ks = some k → w k = some (.inr (9, [.int 0, .ref mp]))) (hi30 : i < 30) : gMet l yX4_iterator (ws_ yX4_iterator cX4_iterator 2 (some (.object "java/util/Iterator"))) rmX4_iterator D K [.ref lo] w (fun r' w' => ∃ q k, r' = some (.ref q) ∧ LI K w' q lo mp i md es hN ky (onl hN i es) ∧ MS D K w' mp md (some k) es hN ky vl ∧ w' k = some (.inr (9, [.int 0, .ref mp])) ∧ FRM D w w') := by
  refine gMet.of (by decide) (Nat.le_of_ble_eq_true rfl) ?_
  intro p e s m args below meth c H locs ls S M hr hlocks hname G hl
  have hx := S.1
  have hb := S.2.1
  have hown := S.2.2.2.1
  have hts := S.2.2.2.2
  have hl : lv_has ls 2 [(0, .ref lo)] := hl
  obtain ⟨Q, hQ⟩ : ∃ Q, Q = gE below D K (fun r' w' => ∃ q k, r' = some (.ref q) ∧ LI K w' q lo mp i md es hN ky (onl hN i es) ∧ MS D K w' mp md (some k) es hN ky vl ∧ w' k = some (.inr (9, [.int 0, .ref mp])) ∧ FRM D w w') args s rmX4_iterator.cells rmX4_iterator.slots := ⟨_, rfl⟩
  rw [← hQ]
  obtain ⟨fm, hmpc⟩ : ∃ fm, w mp = some (.inr (7, fm)) := by obtain ⟨tb, sz, th, lf, hd, tl, ho, -⟩ := hM.base; exact ⟨_, ho⟩
  refine lv_aload_n (pc := 0) hx hb dX4_iterator_0 rfl (lv_at hl 0 rfl) ?_
  refine g_get (pc := 1) (v := .ref dl) S M G (C := RX4) (T := TX4) (N := 14) (ci := 3) in_X4 hlo rfl 13 (by decide) q547 (Or.inl rfl) rfl dX4_iterator_1 ?_
  refine g_getN (pc := 4) (v := .ref mp) S M G (C := RX1) (T := TX1) (N := 12) (ci := 0) in_X1 hdl rfl 4 (by decide) q173 rfl rfl dX4_iterator_4 ?_
  refine g_callF (pc := 7) S M G hl.1 [] [] (metJ5_keySetW l D K w hM hks) 0 (g_recv M G hmpc (q := (RJ5, TJ5, 12)) rfl) (g_cls M (ci := 7) rfl) q1019 q1012 ⟨by decide, q1014, q1013, q1018, q1016, q719⟩ q1017 q1015 q25 rfl rfl ⟨Nat.le_of_ble_eq_true rfl, Nat.le_of_ble_eq_true rfl⟩ rfl (Nat.le_of_ble_eq_true rfl) dX4_iterator_7 ⟨Nat.le_of_ble_eq_true rfl, Nat.le_of_ble_eq_true rfl⟩ (fun r w2 H locs hp G => ?_)
  refine W.widen (k := 1) (n := 2) (Nat.le_of_ble_eq_true rfl) (Nat.le_of_ble_eq_true rfl) ?_
  obtain ⟨k, rfl, hk2, hM2, hF2⟩ := hp
  have hlo2 := hF2 lo _ hlo ⟨fun e => absurd (show (3 : Nat) = 7 from e) (by decide), fun e => absurd (show (3 : Nat) = 8 from e) (by decide)⟩
  refine W.eq (g2 := F0 m 12 ls [.ref k]) rfl ?_
  refine g_callF (pc := 12) S M G hl.1 [] [] (metJ25_iteratorW l D K w2 hM2 hk2) 0 (g_recv M G hk2 (q := (RJ25, TJ25, 2)) rfl) (g_cls M (ci := 9) rfl) q1050 q1042 ⟨by decide, q1044, q1043, q1049, q1047, q1045⟩ q1048 q1046 q50 rfl rfl ⟨Nat.le_of_ble_eq_true rfl, Nat.le_of_ble_eq_true rfl⟩ rfl (Nat.le_of_ble_eq_true rfl) dX4_iterator_12 ⟨Nat.le_of_ble_eq_true rfl, Nat.le_of_ble_eq_true rfl⟩ (fun r w3 H locs hp G => ?_)
  refine W.widen (k := 2) (n := 7) (Nat.le_of_ble_eq_true rfl) (Nat.le_of_ble_eq_true rfl) ?_
  obtain ⟨it, rfl, hwit, hbi3, hit3, hF3⟩ := hp
  have hlo3 := hF3 lo _ hlo2
  have hM3 := hM2.kp (FRQ.all hF3)
  refine W.eq (g2 := F0 m 17 ls [.ref it]) rfl ?_
  refine lv_astore_n (pc := 17) (lv' := [(1, .ref it), (0, .ref lo)]) hx hb dX4_iterator_17 rfl hl (by decide) rfl (fun ls hl => ?_)
  refine g_new (pc := 18) S M G (C := RX6) (T := TX6) (N := 3) (ci := 5) (fs := [.null, .null, .null]) in_X6 tyX6 tyX6_ok q1076 q375 q53 rfl df_X6 (Nat.le_of_ble_eq_true rfl) (Nat.le_of_ble_eq_true rfl) dX4_iterator_18 (fun q1_ H hnq1_ hbq1_ heq1_ hsq1_ G => ?_)
  refine W.widen (k := 3) (n := 10) (Nat.le_of_ble_eq_true rfl) (Nat.le_of_ble_eq_true rfl) ?_
  obtain ⟨w2_, hw2_⟩ : ∃ z9, z9 = gu w3 q1_ (.inr (5, [.null, .null, .null])) := ⟨_, rfl⟩
  replace G : gS D K w2_ s H locs := by rw [hw2_]; exact G
  have c2_lo : w2_ lo = some (.inr (3, [.int (nI i), .int (g 1), .int (g 2), .int (g 3), .int (g 4), .int (g 5), .int (g 6), .int (g 7), .int (g 8), .int (g 9), .int (g 10), .int (g 11), .int (g 12), .ref dl])) := by rw [hw2_, gu_n (gne_f hlo3 hnq1_)]; exact hlo3
  have c2_it : w2_ it = some (.inr (10, [va_rf (es.head?), .null, .int md, .int 0, .ref mp])) := by rw [hw2_, gu_n (gne_f hit3 hnq1_)]; exact hit3
  have c2_q1_ : w2_ q1_ = some (.inr (5, [.null, .null, .null])) := by rw [hw2_]; exact gu_s
  refine lv_dup (pc := 21) hx hb dX4_iterator_21 rfl ?_
  refine lv_aload_n (pc := 22) hx hb dX4_iterator_22 rfl (lv_at hl 1 rfl) ?_
  refine lv_aload_n (pc := 23) hx hb dX4_iterator_23 rfl (lv_at hl 0 rfl) ?_
  have hM4 := hM3.kp (show FRQ D w3 w2_ from by rw [hw2_]; exact FRQ.new hnq1_)
  refine g_callI (pc := 24) S M G hl.1 [.ref lo, .ref it] [.ref q1_] (metX6_init l D K w2_ (done := []) (rem := es) (cur := none) hM4 c2_lo hi30 rfl c2_it hbi3 c2_q1_ hbq1_) 2 q1079 q1077 q1078 q53 rfl (by decide) rfl ⟨Nat.le_of_ble_eq_true rfl, Nat.le_of_ble_eq_true rfl⟩ rfl (Nat.le_of_ble_eq_true rfl) dX4_iterator_24 ⟨Nat.le_of_ble_eq_true rfl, Nat.le_of_ble_eq_true rfl⟩ (fun r w5 H locs hp G => ?_)
  obtain ⟨rfl, cur5, hq5, hit5, hF5⟩ := hp
  refine W.eq (g2 := F0 m 27 ls [.ref q1_]) rfl ?_
  rw [hQ]
  refine g_aret S G (rt := (.object "java/util/Iterator")) (r := some q1_) hr (Or.inl ⟨_, rfl⟩) hlocks (hdg := dX4_iterator_27) ?_ ?_ ?_
  · exact Nat.le_of_ble_eq_true rfl
  · exact Nat.le_of_ble_eq_true rfl
  · obtain ⟨g1, g2, d9, g3⟩ := onl_skp (hN := hN) (i := i) es
    have hnq : w3 q1_ = none := hnq1_
    have hk5 : ∀ a y, w3 a = some y → a ≠ it → w5 a = some y := fun a y h1 h2 => hF5 a y (by rw [hw2_, gu_n (gne_f h1 hnq)]; exact h1) (gne_f h1 hnq) h2
    have hF35 : FRI w3 w5 := fun a y h1 h2 => hk5 a y h1 (fun e => by rw [e, hit3] at h1; cases h1; exact (h2 _).2 rfl)
    refine ⟨q1_, k, rfl, ⟨it, d9 ++ (skp hN i es).take 1, (skp hN i es).tail, cur5, ?_, by rw [g1]; exact hq5, hbq1_, hit5, hbi3, g2⟩, hM3.kp hF35.q, hF35.k4 (hF3 k _ hk2) (by decide) (by decide), ?_⟩
    · conv => lhs; rw [g3]
      rw [List.append_assoc]
      congr 1
      cases skp hN i es <;> rfl
    · intro a y h1 h2
      have h3 := hF3 a y (hF2 a y h1 h2)
      exact hk5 a y h3 (fun e => by rw [e] at h1; exact absurd (hF2 it y h1 h2) (by rw [hwit]; simp))
