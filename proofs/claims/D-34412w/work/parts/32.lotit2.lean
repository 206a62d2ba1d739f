/-! Lot's iterator, its methods -/
abbrev onl (hN : Nat → Nat) (i : Nat) (l : List Nat) : List Nat := l.filter (fun a => hN a / 10 == i)
theorem onl_skp {hN : Nat → Nat} {i : Nat} : ∀ l : List Nat, (onl hN i l).head? = (skp hN i l).head? ∧ (onl hN i l).tail = onl hN i (skp hN i l).tail ∧ ∃ d, l = d ++ skp hN i l
  | [] => ⟨rfl, rfl, [], rfl⟩
  | x :: l => by
    by_cases h : hN x / 10 = i
    · rw [skp_c h, show onl hN i (x :: l) = x :: onl hN i l from List.filter_cons_of_pos (by simp [h])]; exact ⟨rfl, rfl, [], rfl⟩
    · rw [skp_n h, show onl hN i (x :: l) = onl hN i l from List.filter_cons_of_neg (by simp [h])]
      obtain ⟨h1, h2, d, h3⟩ := onl_skp l
      exact ⟨h1, h2, x :: d, congrArg (x :: ·) h3⟩
/-- the iterator q of lot i, ms still to come -/
def LI (K : Nat → Nat) (w : Gh) (q lo mp i : Nat) (md : Int32) (es : List Nat) (hN ky : Nat → Nat) (ms : List Nat) : Prop := ∃ it done rem cur, es = done ++ rem ∧ w q = some (.inr (5, [va_rf (ms.head?.map ky), .ref it, .ref lo])) ∧ K 0 ≤ q ∧ w it = some (.inr (10, [va_rf rem.head?, va_rf cur, .int md, .int 0, .ref mp])) ∧ K 0 ≤ it ∧ ms.tail = onl hN i rem
theorem FRQ.up5 {D : va_G} {w : Gh} {b : Nat} {fs : List Value} {x : va_E} (hb : w b = some (.inr (5, fs))) : FRQ D w (gu w b x) := FRQ.up hb ⟨by decide, by decide, by decide⟩
abbrev rmX6_init : Room := ({ frames := 3, cells := 0, slots := 0, locals := 62 } : Room)
set_option maxHeartbeats 4000000 in
theorem metX6_init (l : Launch) (D : va_G) (K : Nat → Nat) (w : Gh) {q it lo mp i : Nat} {md : Int32} {ks : Option Nat} {es done rem : List Nat} {hN ky vl : Nat → Nat} {fl : List Value} {cur : Option Nat} (hM : MS D K w mp md ks es hN ky vl) (hlo : w lo = some (.inr (3, .int (nI i) :: fl))) (hi30 : i < 30) (hes : es = done ++ rem) (hit : w it = some (.inr (10, [va_rf rem.head?, va_rf cur, .int md, .int 0, .ref mp]))) (hbi : K 0 ≤ it) (hq : w q = some (.inr (5, [.null, .null, .null]))) (hbq : K 0 ≤ q) : gMet l yX6_init (ws_ yX6_init cX6_init 3 none) rmX6_init D K [.ref q, .ref lo, .ref it] w (fun r' w' => r' = none ∧ ∃ cur', w' q = some (.inr (5, [va_rf ((skp hN i rem).head?.map ky), .ref it, .ref lo])) ∧ w' it = some (.inr (10, [va_rf (skp hN i rem).tail.head?, va_rf cur', .int md, .int 0, .ref mp])) ∧ ∀ a y, w a = some y → a ≠ q → a ≠ it → w' a = some y) := by
  refine gMet.of (by decide) (Nat.le_of_ble_eq_true rfl) ?_
  intro p e s m args below meth c H locs ls S M hr hlocks hname G hl
  have hx := S.1
  have hb := S.2.1
  have hown := S.2.2.2.1
  have hts := S.2.2.2.2
  have hl : lv_has ls 3 [(0, .ref q), (1, .ref lo), (2, .ref it)] := hl
  obtain ⟨Q, hQ⟩ : ∃ Q, Q = gE below D K (fun r' w' => r' = none ∧ ∃ cur', w' q = some (.inr (5, [va_rf ((skp hN i rem).head?.map ky), .ref it, .ref lo])) ∧ w' it = some (.inr (10, [va_rf (skp hN i rem).tail.head?, va_rf cur', .int md, .int 0, .ref mp])) ∧ ∀ a y, w a = some y → a ≠ q → a ≠ it → w' a = some y) args s rmX6_init.cells rmX6_init.slots := ⟨_, rfl⟩
  rw [← hQ]
  have hqi : q ≠ it := gne_c hq hit (by decide)
  have hli : lo ≠ it := gne_c hlo hit (by decide)
  refine lv_aload_n (pc := 0) hx hb dX6_init_0 rfl (lv_at hl 0 rfl) ?_
  refine lv_aload_n (pc := 1) hx hb dX6_init_1 rfl (lv_at hl 1 rfl) ?_
  refine g_putF (pc := 2) (v := .ref lo) S M G (C := RX6) (T := TX6) (N := 3) (ci := 5) in_X6 tyX6 tyX6_ok nmX6 hq hbq rfl 2 (by decide) q1083 (Or.inl rfl) rfl hname rfl rfl rfl (Nat.le_of_ble_eq_true rfl) dX6_init_2 (fun H locs G => ?_)
  obtain ⟨w1_, hw1_⟩ : ∃ z9, z9 = gu w q (.inr (5, [.null, .null, .ref lo])) := ⟨_, rfl⟩
  replace G : gS D K w1_ s H locs := by rw [hw1_]; exact G
  have c1_it : w1_ it = some (.inr (10, [va_rf (rem.head?), va_rf cur, .int md, .int 0, .ref mp])) := by rw [hw1_, gu_n (gne_c hit hq (by decide))]; exact hit
  have c1_lo : w1_ lo = some (.inr (3, .int (nI i) :: fl)) := by rw [hw1_, gu_n (gne_c hlo hq (by decide))]; exact hlo
  have c1_q : w1_ q = some (.inr (5, [.null, .null, .ref lo])) := by rw [hw1_]; exact gu_s
  refine lv_aload_n (pc := 5) hx hb dX6_init_5 rfl (lv_at hl 0 rfl) ?_
  refine lv_aload_n (pc := 6) hx hb dX6_init_6 rfl (lv_at hl 2 rfl) ?_
  refine g_putF (pc := 7) (v := .ref it) S M G (C := RX6) (T := TX6) (N := 3) (ci := 5) in_X6 tyX6 tyX6_ok nmX6 c1_q hbq rfl 1 (by decide) q1082 (Or.inl rfl) rfl hname rfl rfl rfl (Nat.le_of_ble_eq_true rfl) dX6_init_7 (fun H locs G => ?_)
  obtain ⟨w2_, hw2_⟩ : ∃ z9, z9 = gu w1_ q (.inr (5, [.null, .ref it, .ref lo])) := ⟨_, rfl⟩
  replace G : gS D K w2_ s H locs := by rw [hw2_]; exact G
  have c2_it : w2_ it = some (.inr (10, [va_rf (rem.head?), va_rf cur, .int md, .int 0, .ref mp])) := by rw [hw2_, gu_n (gne_c c1_it c1_q (by decide))]; exact c1_it
  have c2_lo : w2_ lo = some (.inr (3, .int (nI i) :: fl)) := by rw [hw2_, gu_n (gne_c c1_lo c1_q (by decide))]; exact c1_lo
  have c2_q : w2_ q = some (.inr (5, [.null, .ref it, .ref lo])) := by rw [hw2_]; exact gu_s
  refine lv_aload_n (pc := 10) hx hb dX6_init_10 rfl (lv_at hl 0 rfl) ?_
  refine W.objInit hx hb hown (hts _ q1080) (hts _ q62) (hts _ q63) rfl (by rw [S.2.2.1]; exact hl.1) rfl dX6_init_11 (Nat.le_of_ble_eq_true rfl) (Nat.le_of_ble_eq_true rfl) ?_
  refine W.eq (g2 := F0 m 14 ls []) rfl ?_
  refine lv_aload_n (pc := 14) hx hb dX6_init_14 rfl (lv_at hl 0 rfl) ?_
  refine lv_aload_n (pc := 15) hx hb dX6_init_15 rfl (lv_at hl 0 rfl) ?_
  have hMf : MS D K w2_ mp md ks es hN ky vl := hM.kp (by rw [hw2_, hw1_]; exact (FRQ.up5 hq).tr (FRQ.up5 gu_s))
  refine g_callV (pc := 16) S M G hl.1 [] [.ref q] (metX6_find (nxt := none) l D K w2_ hMf c2_q c2_lo hi30 hes c2_it hbi) 0 (g_recv M G c2_q (q := (RX6, TX6, 3)) rfl) q376 q372 q374 qs1 q53 (by decide) rfl ⟨Nat.le_of_ble_eq_true rfl, Nat.le_of_ble_eq_true rfl⟩ rfl (Nat.le_of_ble_eq_true rfl) dX6_init_16 ⟨Nat.le_of_ble_eq_true rfl, Nat.le_of_ble_eq_true rfl⟩ (fun r w2 H locs hp G => ?_)
  obtain ⟨hr, cur', hw2⟩ := hp
  subst hr
  rw [hw2] at G
  obtain ⟨nx0, enx0⟩ : ∃ z, z = (skp hN i rem).head?.map ky := ⟨_, rfl⟩
  rw [← enx0]
  obtain ⟨w3_, hw3_⟩ : ∃ z9, z9 = gu w2_ it (.inr (10, [va_rf ((skp hN i rem).tail.head?), va_rf cur', .int md, .int 0, .ref mp])) := ⟨_, rfl⟩
  replace G : gS D K w3_ s H locs := by rw [hw3_]; exact G
  have c3_q : w3_ q = some (.inr (5, [.null, .ref it, .ref lo])) := by rw [hw3_, gu_n hqi]; exact c2_q
  have c3_lo : w3_ lo = some (.inr (3, .int (nI i) :: fl)) := by rw [hw3_, gu_n hli]; exact c2_lo
  have c3_it : w3_ it = some (.inr (10, [va_rf ((skp hN i rem).tail.head?), va_rf cur', .int md, .int 0, .ref mp])) := by rw [hw3_]; exact gu_s
  refine W.eq (g2 := F0 m 19 ls [va_rf nx0, .ref q]) rfl ?_
  refine g_put (pc := 19) (v := va_rf nx0) S M G (C := RX6) (T := TX6) (N := 3) (ci := 5) in_X6 tyX6 tyX6_ok nmX6 c3_q hbq rfl 0 (by decide) q1081 (Or.inl rfl) rfl (nar_rf _ (by first | exact Or.inl ⟨_, rfl⟩ | exact Or.inr ⟨_, rfl⟩)) (fit_rf _ (by first | exact Or.inl ⟨_, rfl⟩ | exact Or.inr ⟨_, rfl⟩)) (Nat.le_of_ble_eq_true rfl) dX6_init_19 (fun H locs G => ?_)
  obtain ⟨w4_, hw4_⟩ : ∃ z9, z9 = gu w3_ q (.inr (5, [va_rf nx0, .ref it, .ref lo])) := ⟨_, rfl⟩
  replace G : gS D K w4_ s H locs := by rw [hw4_]; exact G
  have c4_it : w4_ it = some (.inr (10, [va_rf ((skp hN i rem).tail.head?), va_rf cur', .int md, .int 0, .ref mp])) := by rw [hw4_, gu_n (Ne.symm hqi)]; exact c3_it
  have c4_lo : w4_ lo = some (.inr (3, .int (nI i) :: fl)) := by rw [hw4_, gu_n (gne_c c3_lo c3_q (by decide))]; exact c3_lo
  have c4_q : w4_ q = some (.inr (5, [va_rf nx0, .ref it, .ref lo])) := by rw [hw4_]; exact gu_s
  rw [hQ]
  refine g_vret S G hr hlocks (hdg := dX6_init_22) ?_ ?_ ?_
  · exact Nat.le_of_ble_eq_true rfl
  · exact Nat.le_of_ble_eq_true rfl
  · refine ⟨rfl, cur', by rw [← enx0]; exact c4_q, c4_it, fun a y h1 h2 h3 => ?_⟩
    rw [hw4_, hw3_, hw2_, hw1_]
    rw [gu_n h2, gu_n h3, gu_n h2, gu_n h2]
    exact h1
abbrev rmX6_hasNext : Room := ({ frames := 0, cells := 0, slots := 0, locals := 0 } : Room)
set_option maxHeartbeats 4000000 in
theorem metX6_hasNext (l : Launch) (D : va_G) (K : Nat → Nat) (w : Gh) {q it lo : Nat} {nxt : Option Nat} (hq : w q = some (.inr (5, [va_rf nxt, .ref it, .ref lo]))) : gMet l yX6_hasNext (ws_ yX6_hasNext cX6_hasNext 1 (some .boolean)) rmX6_hasNext D K [.ref q] w (fun r' w' => r' = some (.int (hasN nxt)) ∧ w' = w) := by
  refine gMet.of (by decide) (Nat.le_of_ble_eq_true rfl) ?_
  intro p e s m args below meth c H locs ls S M hr hlocks hname G hl
  have hx := S.1
  have hb := S.2.1
  have hown := S.2.2.2.1
  have hts := S.2.2.2.2
  have hl : lv_has ls 1 [(0, .ref q)] := hl
  obtain ⟨Q, hQ⟩ : ∃ Q, Q = gE below D K (fun r' w' => r' = some (.int (hasN nxt)) ∧ w' = w) args s rmX6_hasNext.cells rmX6_hasNext.slots := ⟨_, rfl⟩
  rw [← hQ]
  refine lv_aload_n (pc := 0) hx hb dX6_hasNext_0 rfl (lv_at hl 0 rfl) ?_
  refine g_get (pc := 1) (v := va_rf nxt) S M G (C := RX6) (T := TX6) (N := 3) (ci := 5) in_X6 hq rfl 0 (by decide) q1081 (Or.inl rfl) rfl dX6_hasNext_1 ?_
  refine gv_ifnull (pc := 4) (tgt := 11) S dX6_hasNext_4 (by decide) (fun h1 => ?_) (fun nxtv h1 => ?_)
  · have hlx_h1 := hl
    have Gx_h1 := G
    subst h1
    have hl := hlx_h1
    have G : gS D K w s H locs := Gx_h1
    have hl : lv_has ls 1 [(0, .ref q)] := hl
    refine W.eq (g2 := F0 m 11 ls []) rfl ?_
    refine lv_iconst (pc := 11) (v := 0) hx hb dX6_hasNext_11 (by decide) ?_
    rw [hQ]
    refine g_zret S G hr hlocks (hv := ?_) (hdg := dX6_hasNext_12) ?_ ?_ ?_
    · first | exact Or.inl rfl | exact Or.inr rfl | exact Or.inl rfl
    · exact Nat.le_of_ble_eq_true rfl
    · exact Nat.le_of_ble_eq_true rfl
    · exact ⟨rfl, rfl⟩
  · have hlx_h1 := hl
    have Gx_h1 := G
    subst h1
    have hl := hlx_h1
    have G : gS D K w s H locs := Gx_h1
    have hl : lv_has ls 1 [(0, .ref q)] := hl
    refine W.eq (g2 := F0 m 7 ls []) rfl ?_
    refine lv_iconst (pc := 7) (v := 1) hx hb dX6_hasNext_7 (by decide) ?_
    refine lv_goto (pc := 8) (tgt := 12) hx hb dX6_hasNext_8 (by decide) ?_
    rw [hQ]
    refine g_zret S G hr hlocks (hv := ?_) (hdg := dX6_hasNext_12) ?_ ?_ ?_
    · first | exact Or.inl rfl | exact Or.inr rfl | exact Or.inl rfl
    · exact Nat.le_of_ble_eq_true rfl
    · exact Nat.le_of_ble_eq_true rfl
    · exact ⟨rfl, rfl⟩
abbrev rmX6_next_2 : Room := ({ frames := 3, cells := 0, slots := 0, locals := 62 } : Room)
set_option maxHeartbeats 4000000 in
theorem metX6_next_2 (l : Launch) (D : va_G) (K : Nat → Nat) (w : Gh) {q it lo mp i : Nat} {md : Int32} {ks : Option Nat} {es done rem : List Nat} {hN ky vl : Nat → Nat} {fl : List Value} {cur : Option Nat} (hM : MS D K w mp md ks es hN ky vl) (hlo : w lo = some (.inr (3, .int (nI i) :: fl))) (hi30 : i < 30) (hes : es = done ++ rem) (hit : w it = some (.inr (10, [va_rf rem.head?, va_rf cur, .int md, .int 0, .ref mp]))) (hbi : K 0 ≤ it) {k : Nat} (hq : w q = some (.inr (5, [.ref k, .ref it, .ref lo]))) (hbq : K 0 ≤ q) : gMet l yX6_next_2 (ws_ yX6_next_2 cX6_next_2 2 (some (.object "DroitLine$Bidder"))) rmX6_next_2 D K [.ref q] w (fun r' w' => r' = some (.ref k) ∧ ∃ cur', w' q = some (.inr (5, [va_rf ((skp hN i rem).head?.map ky), .ref it, .ref lo])) ∧ w' it = some (.inr (10, [va_rf (skp hN i rem).tail.head?, va_rf cur', .int md, .int 0, .ref mp])) ∧ ∀ a y, w a = some y → a ≠ q → a ≠ it → w' a = some y) := by
  refine gMet.of (by decide) (Nat.le_of_ble_eq_true rfl) ?_
  intro p e s m args below meth c H locs ls S M hr hlocks hname G hl
  have hx := S.1
  have hb := S.2.1
  have hown := S.2.2.2.1
  have hts := S.2.2.2.2
  have hl : lv_has ls 2 [(0, .ref q)] := hl
  obtain ⟨Q, hQ⟩ : ∃ Q, Q = gE below D K (fun r' w' => r' = some (.ref k) ∧ ∃ cur', w' q = some (.inr (5, [va_rf ((skp hN i rem).head?.map ky), .ref it, .ref lo])) ∧ w' it = some (.inr (10, [va_rf (skp hN i rem).tail.head?, va_rf cur', .int md, .int 0, .ref mp])) ∧ ∀ a y, w a = some y → a ≠ q → a ≠ it → w' a = some y) args s rmX6_next_2.cells rmX6_next_2.slots := ⟨_, rfl⟩
  rw [← hQ]
  have hqi : q ≠ it := gne_c hq hit (by decide)
  have hli : lo ≠ it := gne_c hlo hit (by decide)
  refine lv_aload_n (pc := 0) hx hb dX6_next_2_0 rfl (lv_at hl 0 rfl) ?_
  refine g_get (pc := 1) (v := .ref k) S M G (C := RX6) (T := TX6) (N := 3) (ci := 5) in_X6 hq rfl 0 (by decide) q1081 (Or.inl rfl) rfl dX6_next_2_1 ?_
  refine lv_ifnonnull (pc := 4) (tgt := 15) hx hb dX6_next_2_4 (by decide) ?_
  refine lv_aload_n (pc := 15) hx hb dX6_next_2_15 rfl (lv_at hl 0 rfl) ?_
  refine g_get (pc := 16) (v := .ref k) S M G (C := RX6) (T := TX6) (N := 3) (ci := 5) in_X6 hq rfl 0 (by decide) q1081 (Or.inl rfl) rfl dX6_next_2_16 ?_
  refine lv_astore_n (pc := 19) (lv' := [(1, .ref k), (0, .ref q)]) hx hb dX6_next_2_19 rfl hl (by decide) rfl (fun ls hl => ?_)
  refine lv_aload_n (pc := 20) hx hb dX6_next_2_20 rfl (lv_at hl 1 rfl) ?_
  refine lv_aload_n (pc := 21) hx hb dX6_next_2_21 rfl (lv_at hl 1 rfl) ?_
  have hMf := hM
  refine g_callV (pc := 22) S M G hl.1 [] [.ref q] (metX6_find (nxt := some k) l D K w hMf hq hlo hi30 hes hit hbi) 0 (g_recv M G hq (q := (RX6, TX6, 3)) rfl) q376 q372 q374 qs1 q53 (by decide) rfl ⟨Nat.le_of_ble_eq_true rfl, Nat.le_of_ble_eq_true rfl⟩ rfl (Nat.le_of_ble_eq_true rfl) dX6_next_2_22 ⟨Nat.le_of_ble_eq_true rfl, Nat.le_of_ble_eq_true rfl⟩ (fun r w2 H locs hp G => ?_)
  obtain ⟨hr, cur', hw2⟩ := hp
  subst hr
  rw [hw2] at G
  obtain ⟨nx0, enx0⟩ : ∃ z, z = (skp hN i rem).head?.map ky := ⟨_, rfl⟩
  rw [← enx0]
  obtain ⟨w1_, hw1_⟩ : ∃ z9, z9 = gu w it (.inr (10, [va_rf ((skp hN i rem).tail.head?), va_rf cur', .int md, .int 0, .ref mp])) := ⟨_, rfl⟩
  replace G : gS D K w1_ s H locs := by rw [hw1_]; exact G
  have c1_q : w1_ q = some (.inr (5, [.ref k, .ref it, .ref lo])) := by rw [hw1_, gu_n hqi]; exact hq
  have c1_lo : w1_ lo = some (.inr (3, .int (nI i) :: fl)) := by rw [hw1_, gu_n hli]; exact hlo
  have c1_it : w1_ it = some (.inr (10, [va_rf ((skp hN i rem).tail.head?), va_rf cur', .int md, .int 0, .ref mp])) := by rw [hw1_]; exact gu_s
  refine W.eq (g2 := F0 m 25 ls [va_rf nx0, .ref q]) rfl ?_
  refine g_put (pc := 25) (v := va_rf nx0) S M G (C := RX6) (T := TX6) (N := 3) (ci := 5) in_X6 tyX6 tyX6_ok nmX6 c1_q hbq rfl 0 (by decide) q1081 (Or.inl rfl) rfl (nar_rf _ (by first | exact Or.inl ⟨_, rfl⟩ | exact Or.inr ⟨_, rfl⟩)) (fit_rf _ (by first | exact Or.inl ⟨_, rfl⟩ | exact Or.inr ⟨_, rfl⟩)) (Nat.le_of_ble_eq_true rfl) dX6_next_2_25 (fun H locs G => ?_)
  obtain ⟨w2_, hw2_⟩ : ∃ z9, z9 = gu w1_ q (.inr (5, [va_rf nx0, .ref it, .ref lo])) := ⟨_, rfl⟩
  replace G : gS D K w2_ s H locs := by rw [hw2_]; exact G
  have c2_it : w2_ it = some (.inr (10, [va_rf ((skp hN i rem).tail.head?), va_rf cur', .int md, .int 0, .ref mp])) := by rw [hw2_, gu_n (Ne.symm hqi)]; exact c1_it
  have c2_lo : w2_ lo = some (.inr (3, .int (nI i) :: fl)) := by rw [hw2_, gu_n (gne_c c1_lo c1_q (by decide))]; exact c1_lo
  have c2_q : w2_ q = some (.inr (5, [va_rf nx0, .ref it, .ref lo])) := by rw [hw2_]; exact gu_s
  refine lv_aload_n (pc := 28) hx hb dX6_next_2_28 rfl (lv_at hl 0 rfl) ?_
  rw [hQ]
  refine g_aret S G (rt := (.object "DroitLine$Bidder")) (r := some k) hr (Or.inl ⟨_, rfl⟩) hlocks (hdg := dX6_next_2_29) ?_ ?_ ?_
  · exact Nat.le_of_ble_eq_true rfl
  · exact Nat.le_of_ble_eq_true rfl
  · refine ⟨rfl, cur', by rw [← enx0]; exact c2_q, c2_it, fun a y h1 h2 h3 => ?_⟩
    rw [hw2_, hw1_]
    rw [gu_n h2, gu_n h3]
    exact h1
abbrev rmX6_next : Room := ({ frames := 4, cells := 0, slots := 0, locals := 83 } : Room)
set_option maxHeartbeats 4000000 in
theorem metX6_next (l : Launch) (D : va_G) (K : Nat → Nat) (w : Gh) {q it lo mp i : Nat} {md : Int32} {ks : Option Nat} {es done rem : List Nat} {hN ky vl : Nat → Nat} {fl : List Value} {cur : Option Nat} (hM : MS D K w mp md ks es hN ky vl) (hlo : w lo = some (.inr (3, .int (nI i) :: fl))) (hi30 : i < 30) (hes : es = done ++ rem) (hit : w it = some (.inr (10, [va_rf rem.head?, va_rf cur, .int md, .int 0, .ref mp]))) (hbi : K 0 ≤ it) {k : Nat} (hq : w q = some (.inr (5, [.ref k, .ref it, .ref lo]))) (hbq : K 0 ≤ q) : gMet l yX6_next (ws_ yX6_next cX6_next 1 (some (.object "java/lang/Object"))) rmX6_next D K [.ref q] w (fun r' w' => r' = some (.ref k) ∧ ∃ cur', w' q = some (.inr (5, [va_rf ((skp hN i rem).head?.map ky), .ref it, .ref lo])) ∧ w' it = some (.inr (10, [va_rf (skp hN i rem).tail.head?, va_rf cur', .int md, .int 0, .ref mp])) ∧ ∀ a y, w a = some y → a ≠ q → a ≠ it → w' a = some y) := by
  refine gMet.of (by decide) (Nat.le_of_ble_eq_true rfl) ?_
  intro p e s m args below meth c H locs ls S M hr hlocks hname G hl
  have hx := S.1
  have hb := S.2.1
  have hown := S.2.2.2.1
  have hts := S.2.2.2.2
  have hl : lv_has ls 1 [(0, .ref q)] := hl
  obtain ⟨Q, hQ⟩ : ∃ Q, Q = gE below D K (fun r' w' => r' = some (.ref k) ∧ ∃ cur', w' q = some (.inr (5, [va_rf ((skp hN i rem).head?.map ky), .ref it, .ref lo])) ∧ w' it = some (.inr (10, [va_rf (skp hN i rem).tail.head?, va_rf cur', .int md, .int 0, .ref mp])) ∧ ∀ a y, w a = some y → a ≠ q → a ≠ it → w' a = some y) args s rmX6_next.cells rmX6_next.slots := ⟨_, rfl⟩
  rw [← hQ]
  refine lv_aload_n (pc := 0) hx hb dX6_next_0 rfl (lv_at hl 0 rfl) ?_
  refine g_callV (pc := 1) S M G hl.1 [] [] (metX6_next_2 l D K w hM hlo hi30 hes hit hbi hq hbq) 0 (g_recv M G hq (q := (RX6, TX6, 3)) rfl) q305 q302 q303 q304 q53 (by decide) rfl ⟨Nat.le_of_ble_eq_true rfl, Nat.le_of_ble_eq_true rfl⟩ rfl (Nat.le_of_ble_eq_true rfl) dX6_next_1 ⟨Nat.le_of_ble_eq_true rfl, Nat.le_of_ble_eq_true rfl⟩ (fun r w2 H locs hp G => ?_)
  obtain ⟨rfl, hP⟩ := hp
  refine W.eq (g2 := F0 m 4 ls [.ref k]) rfl ?_
  rw [hQ]
  refine g_aret S G (rt := (.object "java/lang/Object")) (r := some k) hr (Or.inl ⟨_, rfl⟩) hlocks (hdg := dX6_next_4) ?_ ?_ ?_
  · exact Nat.le_of_ble_eq_true rfl
  · exact Nat.le_of_ble_eq_true rfl
  · exact ⟨rfl, hP⟩
