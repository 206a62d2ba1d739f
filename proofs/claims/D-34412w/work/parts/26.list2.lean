/-! ArrayList: add, get, iterator -/
abbrev rmJ2_add_2EL : Room := ({ frames := 3, cells := 1, slots := 10, locals := 70 } : Room)
set_option maxHeartbeats 4000000 in
theorem metJ2_add_2EL (l : Launch) (D : va_G) (K : Nat → Nat) (w : Gh) {q : Nat} {md : Int32} (hq : w q = some (.inr (6, [.int md, .ref (K 1), .int 0]))) (hbq : K 0 ≤ q) {x : Nat} {xs : List Value} (hxe : w x = some (.inr (3, xs))) : gMet l yJ2_add_2 (ws_ yJ2_add_2 cJ2_add_2 4 none) rmJ2_add_2EL D K [.ref q, .ref x, .ref (K 1), .int 0] w (fun r' w' => r' = none ∧ ∃ t', w t' = none ∧ K 0 ≤ t' ∧ w' q = some (.inr (6, [.int md, .ref t', .int 1])) ∧ w' t' = some (.inl (D.1 102, 10, gra (va_up (fun _ => none) 0 (some x)))) ∧ ∀ b y, w b = some y → b ≠ q → w' b = some y) := by
  refine gMet.of (by decide) (Nat.le_of_ble_eq_true rfl) ?_
  intro p e s m args below meth c H locs ls S M hr hlocks hname G hl
  have hx := S.1
  have hb := S.2.1
  have hown := S.2.2.2.1
  have hts := S.2.2.2.2
  have hl : lv_has ls 4 [(0, .ref q), (1, .ref x), (2, .ref (K 1)), (3, .int 0)] := hl
  obtain ⟨Q, hQ⟩ : ∃ Q, Q = gE below D K (fun r' w' => r' = none ∧ ∃ t', w t' = none ∧ K 0 ≤ t' ∧ w' q = some (.inr (6, [.int md, .ref t', .int 1])) ∧ w' t' = some (.inl (D.1 102, 10, gra (va_up (fun _ => none) 0 (some x)))) ∧ ∀ b y, w b = some y → b ≠ q → w' b = some y) args s rmJ2_add_2EL.cells rmJ2_add_2EL.slots := ⟨_, rfl⟩
  rw [← hQ]
  refine lv_iload_n (pc := 0) hx hb dJ2_add_2_0 rfl (lv_at hl 3 rfl) ?_
  refine lv_aload_n (pc := 1) hx hb dJ2_add_2_1 rfl (lv_at hl 2 rfl) ?_
  refine g_tlen (pc := 2) (v := 0) S G M.2.2.1 rfl dJ2_add_2_2 ?_
  refine lv_icmp_ne (pc := 3) (tgt := 11) hx hb dJ2_add_2_3 (by decide) (fun c => absurd c (by decide)) (fun _ => ?_)
  refine lv_aload_n (pc := 6) hx hb dJ2_add_2_6 rfl (lv_at hl 0 rfl) ?_
  refine g_callV (pc := 7) S M G hl.1 [] [] (metJ2_growE l D K w hq hbq) 0 (g_recv M G hq (q := (RJ2, TJ2, 3)) rfl) q593 q590 q592 qs4 q22 (by decide) rfl ⟨Nat.le_of_ble_eq_true rfl, Nat.le_of_ble_eq_true rfl⟩ rfl (Nat.le_of_ble_eq_true rfl) dJ2_add_2_7 ⟨Nat.le_of_ble_eq_true rfl, Nat.le_of_ble_eq_true rfl⟩ (fun r w2 H locs hp G => ?_)
  refine W.widen (k := 1) (n := 10) (Nat.le_of_ble_eq_true rfl) (Nat.le_of_ble_eq_true rfl) ?_
  obtain ⟨t', rfl, hwt, hbt', hq', ht', hfr⟩ := hp
  have hx' : w2 x = some (.inr (3, xs)) := hfr x _ hxe (gne_c hxe hq (by decide))
  refine W.eq (g2 := F0 m 10 ls [.ref t']) rfl ?_
  refine lv_astore_n (pc := 10) (lv' := [(2, .ref t'), (0, .ref q), (1, .ref x), (3, .int 0)]) hx hb dJ2_add_2_10 rfl hl (by decide) rfl (fun ls hl => ?_)
  refine lv_aload_n (pc := 11) hx hb dJ2_add_2_11 rfl (lv_at hl 0 rfl) ?_
  refine lv_iload_n (pc := 12) hx hb dJ2_add_2_12 rfl (lv_at hl 3 rfl) ?_
  refine lv_aload_n (pc := 13) hx hb dJ2_add_2_13 rfl (lv_at hl 2 rfl) ?_
  refine g_aast (pc := 14) S M G 2 rfl ht' hbt' (g_recv M G hx' (q := (RX4, TX4, 14)) rfl) q1579 (show ¬ ((0 : Int32) < 0 ∨ 10 ≤ (0 : Int32).toNatClampNeg) from by decide) dJ2_add_2_14 (fun H locs G => ?_)
  rw [show (0 : Int32).toNatClampNeg = 0 from rfl] at G
  obtain ⟨w1_, hw1_⟩ : ∃ z9, z9 = gu w2 t' (.inl (D.1 102, 10, .inr (.inr (.inr (.inr (va_up (fun _ => none) 0 (some x))))))) := ⟨_, rfl⟩
  replace G : gS D K w1_ s H locs := by rw [hw1_]; exact G
  have c1_q : w1_ q = some (.inr (6, [.int md, .ref t', .int 0])) := by rw [hw1_, gu_n (Ne.symm (gne_ao ht' hq'))]; exact hq'
  have c1_x : w1_ x = some (.inr (3, xs)) := by rw [hw1_, gu_n (Ne.symm (gne_ao ht' hx'))]; exact hx'
  have c1_t_ : w1_ t' = some (.inl (D.1 102, 10, .inr (.inr (.inr (.inr (va_up (fun _ => none) 0 (some x))))))) := by rw [hw1_]; exact gu_s
  refine lv_aload_n (pc := 15) hx hb dJ2_add_2_15 rfl (lv_at hl 1 rfl) ?_
  refine lv_iload_n (pc := 16) hx hb dJ2_add_2_16 rfl (lv_at hl 3 rfl) ?_
  refine lv_iconst (pc := 17) (v := 1) hx hb dJ2_add_2_17 (by decide) ?_
  refine lv_iadd (pc := 18) hx hb dJ2_add_2_18 ?_
  rw [show (0 : Int32) + 1 = 1 from rfl]
  refine g_put (pc := 19) (v := .int 1) S M G (C := RJ2) (T := TJ2) (N := 3) (ci := 6) in_J2 tyJ2 tyJ2_ok nmJ2 c1_q hbq rfl 2 (by decide) q99 (Or.inl rfl) rfl rfl rfl (Nat.le_of_ble_eq_true rfl) dJ2_add_2_19 (fun H locs G => ?_)
  obtain ⟨w2_, hw2_⟩ : ∃ z9, z9 = gu w1_ q (.inr (6, [.int md, .ref t', .int 1])) := ⟨_, rfl⟩
  replace G : gS D K w2_ s H locs := by rw [hw2_]; exact G
  have c2_t_ : w2_ t' = some (.inl (D.1 102, 10, .inr (.inr (.inr (.inr (va_up (fun _ => none) 0 (some x))))))) := by rw [hw2_, gu_n (gne_ao c1_t_ c1_q)]; exact c1_t_
  have c2_x : w2_ x = some (.inr (3, xs)) := by rw [hw2_, gu_n (gne_c hxe hq (by decide))]; exact c1_x
  have c2_q : w2_ q = some (.inr (6, [.int md, .ref t', .int 1])) := by rw [hw2_]; exact gu_s
  rw [hQ]
  refine g_vret S G hr hlocks (hdg := dJ2_add_2_22) ?_ ?_ ?_
  · exact Nat.le_of_ble_eq_true rfl
  · exact Nat.le_of_ble_eq_true rfl
  · refine ⟨rfl, t', hwt, hbt', c2_q, c2_t_, fun b y h1 h2 => ?_⟩
    rw [hw2_, hw1_]
    rw [gu_n h2, gu_n (gne_f h1 hwt)]
    exact hfr b y h1 h2
abbrev rmJ2_add_2NL : Room := ({ frames := 0, cells := 0, slots := 0, locals := 0 } : Room)
set_option maxHeartbeats 4000000 in
theorem metJ2_add_2NL (l : Launch) (D : va_G) (K : Nat → Nat) (w : Gh) {q t n cn : Nat} {f : Nat → Option Nat} {md : Int32} (hq : w q = some (.inr (6, [.int md, .ref t, .int (nI cn)]))) (hbq : K 0 ≤ q) (ht : w t = some (.inl (D.1 102, n, gra f))) (hbt : K 0 ≤ t) (hn33 : n ≤ 33) (hcn : cn < n) {x : Nat} {xs : List Value} (hxe : w x = some (.inr (3, xs))) : gMet l yJ2_add_2 (ws_ yJ2_add_2 cJ2_add_2 4 none) rmJ2_add_2NL D K [.ref q, .ref x, .ref t, .int (nI cn)] w (fun r' w' => r' = none ∧ w' q = some (.inr (6, [.int md, .ref t, .int (nI (cn + 1))])) ∧ w' t = some (.inl (D.1 102, n, gra (va_up f cn (some x)))) ∧ ∀ b y, w b = some y → b ≠ q → b ≠ t → w' b = some y) := by
  refine gMet.of (by decide) (Nat.le_of_ble_eq_true rfl) ?_
  intro p e s m args below meth c H locs ls S M hr hlocks hname G hl
  have hx := S.1
  have hb := S.2.1
  have hown := S.2.2.2.1
  have hts := S.2.2.2.2
  have hl : lv_has ls 4 [(0, .ref q), (1, .ref x), (2, .ref t), (3, .int (nI cn))] := hl
  obtain ⟨Q, hQ⟩ : ∃ Q, Q = gE below D K (fun r' w' => r' = none ∧ w' q = some (.inr (6, [.int md, .ref t, .int (nI (cn + 1))])) ∧ w' t = some (.inl (D.1 102, n, gra (va_up f cn (some x)))) ∧ ∀ b y, w b = some y → b ≠ q → b ≠ t → w' b = some y) args s rmJ2_add_2NL.cells rmJ2_add_2NL.slots := ⟨_, rfl⟩
  rw [← hQ]
  refine lv_iload_n (pc := 0) hx hb dJ2_add_2_0 rfl (lv_at hl 3 rfl) ?_
  refine lv_aload_n (pc := 1) hx hb dJ2_add_2_1 rfl (lv_at hl 2 rfl) ?_
  refine g_alen (pc := 2) (v := (nI n)) S M G 2 rfl ht rfl dJ2_add_2_2 ?_
  refine lv_icmp_ne (pc := 3) (tgt := 11) hx hb dJ2_add_2_3 (by decide) (fun _ => ?_) (fun c => absurd ((nI_eq (by omega) (by omega)).mp c) (by omega))
  refine lv_aload_n (pc := 11) hx hb dJ2_add_2_11 rfl (lv_at hl 2 rfl) ?_
  refine lv_iload_n (pc := 12) hx hb dJ2_add_2_12 rfl (lv_at hl 3 rfl) ?_
  refine lv_aload_n (pc := 13) hx hb dJ2_add_2_13 rfl (lv_at hl 1 rfl) ?_
  refine g_aast (pc := 14) S M G 2 rfl ht hbt (g_recv M G hxe (q := (RX4, TX4, 14)) rfl) q1579 (vp_in_nI hcn (by omega)) dJ2_add_2_14 (fun H locs G => ?_)
  rw [nI_clamp (show cn < 2 ^ 31 by omega)] at G
  obtain ⟨w1_, hw1_⟩ : ∃ z9, z9 = gu w t (.inl (D.1 102, n, .inr (.inr (.inr (.inr (va_up f cn (some x))))))) := ⟨_, rfl⟩
  replace G : gS D K w1_ s H locs := by rw [hw1_]; exact G
  have c1_q : w1_ q = some (.inr (6, [.int md, .ref t, .int (nI cn)])) := by rw [hw1_, gu_n (Ne.symm (gne_ao ht hq))]; exact hq
  have c1_x : w1_ x = some (.inr (3, xs)) := by rw [hw1_, gu_n (Ne.symm (gne_ao ht hxe))]; exact hxe
  have c1_t : w1_ t = some (.inl (D.1 102, n, .inr (.inr (.inr (.inr (va_up f cn (some x))))))) := by rw [hw1_]; exact gu_s
  refine lv_aload_n (pc := 15) hx hb dJ2_add_2_15 rfl (lv_at hl 0 rfl) ?_
  refine lv_iload_n (pc := 16) hx hb dJ2_add_2_16 rfl (lv_at hl 3 rfl) ?_
  refine lv_iconst (pc := 17) (v := 1) hx hb dJ2_add_2_17 (by decide) ?_
  refine lv_iadd (pc := 18) hx hb dJ2_add_2_18 ?_
  rw [← nI_succ]
  refine g_put (pc := 19) (v := .int (nI (cn + 1))) S M G (C := RJ2) (T := TJ2) (N := 3) (ci := 6) in_J2 tyJ2 tyJ2_ok nmJ2 c1_q hbq rfl 2 (by decide) q99 (Or.inl rfl) rfl rfl rfl (Nat.le_of_ble_eq_true rfl) dJ2_add_2_19 (fun H locs G => ?_)
  obtain ⟨w2_, hw2_⟩ : ∃ z9, z9 = gu w1_ q (.inr (6, [.int md, .ref t, .int (nI (cn + 1))])) := ⟨_, rfl⟩
  replace G : gS D K w2_ s H locs := by rw [hw2_]; exact G
  have c2_t : w2_ t = some (.inl (D.1 102, n, .inr (.inr (.inr (.inr (va_up f cn (some x))))))) := by rw [hw2_, gu_n (gne_ao c1_t c1_q)]; exact c1_t
  have c2_x : w2_ x = some (.inr (3, xs)) := by rw [hw2_, gu_n (gne_c c1_x c1_q (by decide))]; exact c1_x
  have c2_q : w2_ q = some (.inr (6, [.int md, .ref t, .int (nI (cn + 1))])) := by rw [hw2_]; exact gu_s
  rw [hQ]
  refine g_vret S G hr hlocks (hdg := dJ2_add_2_22) ?_ ?_ ?_
  · exact Nat.le_of_ble_eq_true rfl
  · exact Nat.le_of_ble_eq_true rfl
  · refine ⟨rfl, c2_q, c2_t, fun b y h1 h2 h3 => ?_⟩
    rw [hw2_, hw1_]
    rw [gu_n h2, gu_n h3]
    exact h1
abbrev rmJ2_addEL : Room := ({ frames := 6, cells := 1, slots := 33, locals := 159 } : Room)
set_option maxHeartbeats 4000000 in
theorem metJ2_addEL (l : Launch) (D : va_G) (K : Nat → Nat) (w : Gh) {q : Nat} {md : Int32} (hq : w q = some (.inr (6, [.int md, .ref (K 1), .int 0]))) (hbq : K 0 ≤ q) {x : Nat} {xs : List Value} (hxe : w x = some (.inr (3, xs))) : gMet l yJ2_add (ws_ yJ2_add cJ2_add 2 (some .boolean)) rmJ2_addEL D K [.ref q, .ref x] w (fun r' w' => r' = some (.int 1) ∧ ∃ t', w t' = none ∧ K 0 ≤ t' ∧ w' q = some (.inr (6, [.int (md + 1), .ref t', .int 1])) ∧ w' t' = some (.inl (D.1 102, 10, gra (va_up (fun _ => none) 0 (some x)))) ∧ ∀ b y, w b = some y → b ≠ q → w' b = some y) := by
  refine gMet.of (by decide) (Nat.le_of_ble_eq_true rfl) ?_
  intro p e s m args below meth c H locs ls S M hr hlocks hname G hl
  have hx := S.1
  have hb := S.2.1
  have hown := S.2.2.2.1
  have hts := S.2.2.2.2
  have hl : lv_has ls 2 [(0, .ref q), (1, .ref x)] := hl
  obtain ⟨Q, hQ⟩ : ∃ Q, Q = gE below D K (fun r' w' => r' = some (.int 1) ∧ ∃ t', w t' = none ∧ K 0 ≤ t' ∧ w' q = some (.inr (6, [.int (md + 1), .ref t', .int 1])) ∧ w' t' = some (.inl (D.1 102, 10, gra (va_up (fun _ => none) 0 (some x)))) ∧ ∀ b y, w b = some y → b ≠ q → w' b = some y) args s rmJ2_addEL.cells rmJ2_addEL.slots := ⟨_, rfl⟩
  rw [← hQ]
  refine lv_aload_n (pc := 0) hx hb dJ2_add_0 rfl (lv_at hl 0 rfl) ?_
  refine lv_dup (pc := 1) hx hb dJ2_add_1 rfl ?_
  refine g_get (pc := 2) (v := .int md) S M G (C := RJ2) (T := TJ2) (N := 3) (ci := 6) in_J2 hq rfl 0 (by decide) q103 (Or.inr q102) rfl dJ2_add_2 ?_
  refine lv_iconst (pc := 5) (v := 1) hx hb dJ2_add_5 (by decide) ?_
  refine lv_iadd (pc := 6) hx hb dJ2_add_6 ?_
  refine g_put (pc := 7) (v := .int (md + 1)) S M G (C := RJ2) (T := TJ2) (N := 3) (ci := 6) in_J2 tyJ2 tyJ2_ok nmJ2 hq hbq rfl 0 (by decide) q103 (Or.inr q102) rfl rfl rfl (Nat.le_of_ble_eq_true rfl) dJ2_add_7 (fun H locs G => ?_)
  obtain ⟨w1_, hw1_⟩ : ∃ z9, z9 = gu w q (.inr (6, [.int (md + 1), .ref (K 1), .int 0])) := ⟨_, rfl⟩
  replace G : gS D K w1_ s H locs := by rw [hw1_]; exact G
  have c1_x : w1_ x = some (.inr (3, xs)) := by rw [hw1_, gu_n (gne_c hxe hq (by decide))]; exact hxe
  have c1_q : w1_ q = some (.inr (6, [.int (md + 1), .ref (K 1), .int 0])) := by rw [hw1_]; exact gu_s
  refine lv_aload_n (pc := 10) hx hb dJ2_add_10 rfl (lv_at hl 0 rfl) ?_
  refine lv_aload_n (pc := 11) hx hb dJ2_add_11 rfl (lv_at hl 1 rfl) ?_
  refine lv_aload_n (pc := 12) hx hb dJ2_add_12 rfl (lv_at hl 0 rfl) ?_
  refine g_get (pc := 13) (v := .ref (K 1)) S M G (C := RJ2) (T := TJ2) (N := 3) (ci := 6) in_J2 c1_q rfl 1 (by decide) q96 (Or.inl rfl) rfl dJ2_add_13 ?_
  refine lv_aload_n (pc := 16) hx hb dJ2_add_16 rfl (lv_at hl 0 rfl) ?_
  refine g_get (pc := 17) (v := .int 0) S M G (C := RJ2) (T := TJ2) (N := 3) (ci := 6) in_J2 c1_q rfl 2 (by decide) q99 (Or.inl rfl) rfl dJ2_add_17 ?_
  refine g_callV (pc := 20) S M G hl.1 [.ref x, .ref (K 1), .int 0] [] (metJ2_add_2EL l D K w1_ c1_q hbq c1_x) 3 (g_recv M G c1_q (q := (RJ2, TJ2, 3)) rfl) q589 q586 q588 qs3 q22 (by decide) rfl ⟨Nat.le_of_ble_eq_true rfl, Nat.le_of_ble_eq_true rfl⟩ rfl (Nat.le_of_ble_eq_true rfl) dJ2_add_20 ⟨Nat.le_of_ble_eq_true rfl, Nat.le_of_ble_eq_true rfl⟩ (fun r w2 H locs hp G => ?_)
  refine W.widen (k := 1) (n := 10) (Nat.le_of_ble_eq_true rfl) (Nat.le_of_ble_eq_true rfl) ?_
  obtain ⟨rfl, t', hwt, hbt', hq', ht', hfr⟩ := hp
  refine W.eq (g2 := F0 m 23 ls []) rfl ?_
  refine lv_iconst (pc := 23) (v := 1) hx hb dJ2_add_23 (by decide) ?_
  rw [hQ]
  refine g_zret S G hr hlocks (hv := ?_) (hdg := dJ2_add_24) ?_ ?_ ?_
  · first | exact Or.inl rfl | exact Or.inr rfl | exact Or.inr rfl
  · exact Nat.le_of_ble_eq_true rfl
  · exact Nat.le_of_ble_eq_true rfl
  · refine ⟨rfl, t', ?_, hbt', hq', ht', fun b y h1 h2 => hfr b y (by rw [hw1_, gu_n h2]; exact h1) h2⟩
    rw [hw1_] at hwt
    exact (gu_none hwt).1
abbrev rmJ2_addNL : Room := ({ frames := 6, cells := 1, slots := 33, locals := 159 } : Room)
set_option maxHeartbeats 4000000 in
theorem metJ2_addNL (l : Launch) (D : va_G) (K : Nat → Nat) (w : Gh) {q t n cn : Nat} {f : Nat → Option Nat} {md : Int32} (hq : w q = some (.inr (6, [.int md, .ref t, .int (nI cn)]))) (hbq : K 0 ≤ q) (ht : w t = some (.inl (D.1 102, n, gra f))) (hbt : K 0 ≤ t) (hn33 : n ≤ 33) (hcn : cn < n) {x : Nat} {xs : List Value} (hxe : w x = some (.inr (3, xs))) : gMet l yJ2_add (ws_ yJ2_add cJ2_add 2 (some .boolean)) rmJ2_addNL D K [.ref q, .ref x] w (fun r' w' => r' = some (.int 1) ∧ w' q = some (.inr (6, [.int (md + 1), .ref t, .int (nI (cn + 1))])) ∧ w' t = some (.inl (D.1 102, n, gra (va_up f cn (some x)))) ∧ ∀ b y, w b = some y → b ≠ q → b ≠ t → w' b = some y) := by
  refine gMet.of (by decide) (Nat.le_of_ble_eq_true rfl) ?_
  intro p e s m args below meth c H locs ls S M hr hlocks hname G hl
  have hx := S.1
  have hb := S.2.1
  have hown := S.2.2.2.1
  have hts := S.2.2.2.2
  have hl : lv_has ls 2 [(0, .ref q), (1, .ref x)] := hl
  obtain ⟨Q, hQ⟩ : ∃ Q, Q = gE below D K (fun r' w' => r' = some (.int 1) ∧ w' q = some (.inr (6, [.int (md + 1), .ref t, .int (nI (cn + 1))])) ∧ w' t = some (.inl (D.1 102, n, gra (va_up f cn (some x)))) ∧ ∀ b y, w b = some y → b ≠ q → b ≠ t → w' b = some y) args s rmJ2_addNL.cells rmJ2_addNL.slots := ⟨_, rfl⟩
  rw [← hQ]
  refine lv_aload_n (pc := 0) hx hb dJ2_add_0 rfl (lv_at hl 0 rfl) ?_
  refine lv_dup (pc := 1) hx hb dJ2_add_1 rfl ?_
  refine g_get (pc := 2) (v := .int md) S M G (C := RJ2) (T := TJ2) (N := 3) (ci := 6) in_J2 hq rfl 0 (by decide) q103 (Or.inr q102) rfl dJ2_add_2 ?_
  refine lv_iconst (pc := 5) (v := 1) hx hb dJ2_add_5 (by decide) ?_
  refine lv_iadd (pc := 6) hx hb dJ2_add_6 ?_
  refine g_put (pc := 7) (v := .int (md + 1)) S M G (C := RJ2) (T := TJ2) (N := 3) (ci := 6) in_J2 tyJ2 tyJ2_ok nmJ2 hq hbq rfl 0 (by decide) q103 (Or.inr q102) rfl rfl rfl (Nat.le_of_ble_eq_true rfl) dJ2_add_7 (fun H locs G => ?_)
  obtain ⟨w1_, hw1_⟩ : ∃ z9, z9 = gu w q (.inr (6, [.int (md + 1), .ref t, .int (nI cn)])) := ⟨_, rfl⟩
  replace G : gS D K w1_ s H locs := by rw [hw1_]; exact G
  have c1_t : w1_ t = some (.inl (D.1 102, n, .inr (.inr (.inr (.inr f))))) := by rw [hw1_, gu_n (gne_ao ht hq)]; exact ht
  have c1_x : w1_ x = some (.inr (3, xs)) := by rw [hw1_, gu_n (gne_c hxe hq (by decide))]; exact hxe
  have c1_q : w1_ q = some (.inr (6, [.int (md + 1), .ref t, .int (nI cn)])) := by rw [hw1_]; exact gu_s
  refine lv_aload_n (pc := 10) hx hb dJ2_add_10 rfl (lv_at hl 0 rfl) ?_
  refine lv_aload_n (pc := 11) hx hb dJ2_add_11 rfl (lv_at hl 1 rfl) ?_
  refine lv_aload_n (pc := 12) hx hb dJ2_add_12 rfl (lv_at hl 0 rfl) ?_
  refine g_get (pc := 13) (v := .ref t) S M G (C := RJ2) (T := TJ2) (N := 3) (ci := 6) in_J2 c1_q rfl 1 (by decide) q96 (Or.inl rfl) rfl dJ2_add_13 ?_
  refine lv_aload_n (pc := 16) hx hb dJ2_add_16 rfl (lv_at hl 0 rfl) ?_
  refine g_get (pc := 17) (v := .int (nI cn)) S M G (C := RJ2) (T := TJ2) (N := 3) (ci := 6) in_J2 c1_q rfl 2 (by decide) q99 (Or.inl rfl) rfl dJ2_add_17 ?_
  refine g_callV (pc := 20) S M G hl.1 [.ref x, .ref t, .int (nI cn)] [] (metJ2_add_2NL l D K w1_ c1_q hbq c1_t hbt hn33 hcn c1_x) 3 (g_recv M G c1_q (q := (RJ2, TJ2, 3)) rfl) q589 q586 q588 qs3 q22 (by decide) rfl ⟨Nat.le_of_ble_eq_true rfl, Nat.le_of_ble_eq_true rfl⟩ rfl (Nat.le_of_ble_eq_true rfl) dJ2_add_20 ⟨Nat.le_of_ble_eq_true rfl, Nat.le_of_ble_eq_true rfl⟩ (fun r w2 H locs hp G => ?_)
  obtain ⟨rfl, hq', ht', hfr⟩ := hp
  refine W.eq (g2 := F0 m 23 ls []) rfl ?_
  refine lv_iconst (pc := 23) (v := 1) hx hb dJ2_add_23 (by decide) ?_
  rw [hQ]
  refine g_zret S G hr hlocks (hv := ?_) (hdg := dJ2_add_24) ?_ ?_ ?_
  · first | exact Or.inl rfl | exact Or.inr rfl | exact Or.inr rfl
  · exact Nat.le_of_ble_eq_true rfl
  · exact Nat.le_of_ble_eq_true rfl
  · exact ⟨rfl, hq', ht', fun b y h1 h2 h3 => hfr b y (by rw [hw1_, gu_n h2]; exact h1) h2 h3⟩
abbrev rmJ2_add_2GL : Room := ({ frames := 5, cells := 1, slots := 33, locals := 136 } : Room)
set_option maxHeartbeats 4000000 in
theorem metJ2_add_2GL (l : Launch) (D : va_G) (K : Nat → Nat) (w : Gh) {q t n : Nat} {f : Nat → Option Nat} {md : Int32} (hq : w q = some (.inr (6, [.int md, .ref t, .int (nI n)]))) (hbq : K 0 ≤ q) (ht : w t = some (.inl (D.1 102, n, gra f))) (hn : n3 n) (hel : ∀ i y, f i = some y → ∃ fs, w y = some (.inr (3, fs))) (hf0 : ∀ i, n ≤ i → f i = none) {x : Nat} {xs : List Value} (hxe : w x = some (.inr (3, xs))) : gMet l yJ2_add_2 (ws_ yJ2_add_2 cJ2_add_2 4 none) rmJ2_add_2GL D K [.ref q, .ref x, .ref t, .int (nI n)] w (fun r' w' => r' = none ∧ ∃ t', w t' = none ∧ K 0 ≤ t' ∧ w' q = some (.inr (6, [.int md, .ref t', .int (nI (n + 1))])) ∧ w' t' = some (.inl (D.1 102, n + n / 2, gra (va_up f n (some x)))) ∧ ∀ b y, w b = some y → b ≠ q → w' b = some y) := by
  refine gMet.of (by decide) (Nat.le_of_ble_eq_true rfl) ?_
  intro p e s m args below meth c H locs ls S M hr hlocks hname G hl
  have hx := S.1
  have hb := S.2.1
  have hown := S.2.2.2.1
  have hts := S.2.2.2.2
  have hl : lv_has ls 4 [(0, .ref q), (1, .ref x), (2, .ref t), (3, .int (nI n))] := hl
  obtain ⟨Q, hQ⟩ : ∃ Q, Q = gE below D K (fun r' w' => r' = none ∧ ∃ t', w t' = none ∧ K 0 ≤ t' ∧ w' q = some (.inr (6, [.int md, .ref t', .int (nI (n + 1))])) ∧ w' t' = some (.inl (D.1 102, n + n / 2, gra (va_up f n (some x)))) ∧ ∀ b y, w b = some y → b ≠ q → w' b = some y) args s rmJ2_add_2GL.cells rmJ2_add_2GL.slots := ⟨_, rfl⟩
  rw [← hQ]
  have hnle := n3_le hn
  have hn2 : 0 < n / 2 := by rcases hn with rfl | rfl | rfl <;> decide
  refine lv_iload_n (pc := 0) hx hb dJ2_add_2_0 rfl (lv_at hl 3 rfl) ?_
  refine lv_aload_n (pc := 1) hx hb dJ2_add_2_1 rfl (lv_at hl 2 rfl) ?_
  refine g_alen (pc := 2) (v := (nI n)) S M G 2 rfl ht rfl dJ2_add_2_2 ?_
  refine lv_icmp_ne (pc := 3) (tgt := 11) hx hb dJ2_add_2_3 (by decide) (fun c => absurd rfl c) (fun _ => ?_)
  refine lv_aload_n (pc := 6) hx hb dJ2_add_2_6 rfl (lv_at hl 0 rfl) ?_
  refine g_callV (pc := 7) S M G hl.1 [] [] (metJ2_growN l D K w hq hbq ht hn hel hf0) 0 (g_recv M G hq (q := (RJ2, TJ2, 3)) rfl) q593 q590 q592 qs4 q22 (by decide) rfl ⟨Nat.le_of_ble_eq_true rfl, Nat.le_of_ble_eq_true rfl⟩ rfl (Nat.le_of_ble_eq_true rfl) dJ2_add_2_7 ⟨Nat.le_of_ble_eq_true rfl, Nat.le_of_ble_eq_true rfl⟩ (fun r w2 H locs hp G => ?_)
  refine W.widen (k := 1) (n := 33) (Nat.le_of_ble_eq_true rfl) (Nat.le_of_ble_eq_true rfl) ?_
  obtain ⟨t', rfl, hwt, hbt', hq', ht', hfr⟩ := hp
  have hx' : w2 x = some (.inr (3, xs)) := hfr x _ hxe (gne_c hxe hq (by decide))
  refine W.eq (g2 := F0 m 10 ls [.ref t']) rfl ?_
  refine lv_astore_n (pc := 10) (lv' := [(2, .ref t'), (0, .ref q), (1, .ref x), (3, .int (nI n))]) hx hb dJ2_add_2_10 rfl hl (by decide) rfl (fun ls hl => ?_)
  refine lv_aload_n (pc := 11) hx hb dJ2_add_2_11 rfl (lv_at hl 0 rfl) ?_
  refine lv_iload_n (pc := 12) hx hb dJ2_add_2_12 rfl (lv_at hl 3 rfl) ?_
  refine lv_aload_n (pc := 13) hx hb dJ2_add_2_13 rfl (lv_at hl 2 rfl) ?_
  refine g_aast (pc := 14) S M G 2 rfl ht' hbt' (g_recv M G hx' (q := (RX4, TX4, 14)) rfl) q1579 (vp_in_nI (show n < n + n / 2 by omega) (by omega)) dJ2_add_2_14 (fun H locs G => ?_)
  rw [nI_clamp (show n < 2 ^ 31 by omega)] at G
  obtain ⟨w1_, hw1_⟩ : ∃ z9, z9 = gu w2 t' (.inl (D.1 102, (n + n / 2), .inr (.inr (.inr (.inr (va_up f n (some x))))))) := ⟨_, rfl⟩
  replace G : gS D K w1_ s H locs := by rw [hw1_]; exact G
  have c1_q : w1_ q = some (.inr (6, [.int md, .ref t', .int (nI n)])) := by rw [hw1_, gu_n (Ne.symm (gne_ao ht' hq'))]; exact hq'
  have c1_x : w1_ x = some (.inr (3, xs)) := by rw [hw1_, gu_n (Ne.symm (gne_ao ht' hx'))]; exact hx'
  have c1_t_ : w1_ t' = some (.inl (D.1 102, (n + n / 2), .inr (.inr (.inr (.inr (va_up f n (some x))))))) := by rw [hw1_]; exact gu_s
  refine lv_aload_n (pc := 15) hx hb dJ2_add_2_15 rfl (lv_at hl 1 rfl) ?_
  refine lv_iload_n (pc := 16) hx hb dJ2_add_2_16 rfl (lv_at hl 3 rfl) ?_
  refine lv_iconst (pc := 17) (v := 1) hx hb dJ2_add_2_17 (by decide) ?_
  refine lv_iadd (pc := 18) hx hb dJ2_add_2_18 ?_
  rw [← nI_succ]
  refine g_put (pc := 19) (v := .int (nI (n + 1))) S M G (C := RJ2) (T := TJ2) (N := 3) (ci := 6) in_J2 tyJ2 tyJ2_ok nmJ2 c1_q hbq rfl 2 (by decide) q99 (Or.inl rfl) rfl rfl rfl (Nat.le_of_ble_eq_true rfl) dJ2_add_2_19 (fun H locs G => ?_)
  obtain ⟨w2_, hw2_⟩ : ∃ z9, z9 = gu w1_ q (.inr (6, [.int md, .ref t', .int (nI (n + 1))])) := ⟨_, rfl⟩
  replace G : gS D K w2_ s H locs := by rw [hw2_]; exact G
  have c2_t_ : w2_ t' = some (.inl (D.1 102, (n + n / 2), .inr (.inr (.inr (.inr (va_up f n (some x))))))) := by rw [hw2_, gu_n (gne_ao c1_t_ c1_q)]; exact c1_t_
  have c2_x : w2_ x = some (.inr (3, xs)) := by rw [hw2_, gu_n (gne_c hxe hq (by decide))]; exact c1_x
  have c2_q : w2_ q = some (.inr (6, [.int md, .ref t', .int (nI (n + 1))])) := by rw [hw2_]; exact gu_s
  rw [hQ]
  refine g_vret S G hr hlocks (hdg := dJ2_add_2_22) ?_ ?_ ?_
  · exact Nat.le_of_ble_eq_true rfl
  · exact Nat.le_of_ble_eq_true rfl
  · refine ⟨rfl, t', hwt, hbt', c2_q, c2_t_, fun b y h1 h2 => ?_⟩
    rw [hw2_, hw1_]
    rw [gu_n h2, gu_n (gne_f h1 hwt)]
    exact hfr b y h1 h2
abbrev rmJ2_addGL : Room := ({ frames := 6, cells := 1, slots := 33, locals := 159 } : Room)
set_option maxHeartbeats 4000000 in
theorem metJ2_addGL (l : Launch) (D : va_G) (K : Nat → Nat) (w : Gh) {q t n : Nat} {f : Nat → Option Nat} {md : Int32} (hq : w q = some (.inr (6, [.int md, .ref t, .int (nI n)]))) (hbq : K 0 ≤ q) (ht : w t = some (.inl (D.1 102, n, gra f))) (hn : n3 n) (hel : ∀ i y, f i = some y → ∃ fs, w y = some (.inr (3, fs))) (hf0 : ∀ i, n ≤ i → f i = none) {x : Nat} {xs : List Value} (hxe : w x = some (.inr (3, xs))) : gMet l yJ2_add (ws_ yJ2_add cJ2_add 2 (some .boolean)) rmJ2_addGL D K [.ref q, .ref x] w (fun r' w' => r' = some (.int 1) ∧ ∃ t', w t' = none ∧ K 0 ≤ t' ∧ w' q = some (.inr (6, [.int (md + 1), .ref t', .int (nI (n + 1))])) ∧ w' t' = some (.inl (D.1 102, n + n / 2, gra (va_up f n (some x)))) ∧ ∀ b y, w b = some y → b ≠ q → w' b = some y) := by
  refine gMet.of (by decide) (Nat.le_of_ble_eq_true rfl) ?_
  intro p e s m args below meth c H locs ls S M hr hlocks hname G hl
  have hx := S.1
  have hb := S.2.1
  have hown := S.2.2.2.1
  have hts := S.2.2.2.2
  have hl : lv_has ls 2 [(0, .ref q), (1, .ref x)] := hl
  obtain ⟨Q, hQ⟩ : ∃ Q, Q = gE below D K (fun r' w' => r' = some (.int 1) ∧ ∃ t', w t' = none ∧ K 0 ≤ t' ∧ w' q = some (.inr (6, [.int (md + 1), .ref t', .int (nI (n + 1))])) ∧ w' t' = some (.inl (D.1 102, n + n / 2, gra (va_up f n (some x)))) ∧ ∀ b y, w b = some y → b ≠ q → w' b = some y) args s rmJ2_addGL.cells rmJ2_addGL.slots := ⟨_, rfl⟩
  rw [← hQ]
  refine lv_aload_n (pc := 0) hx hb dJ2_add_0 rfl (lv_at hl 0 rfl) ?_
  refine lv_dup (pc := 1) hx hb dJ2_add_1 rfl ?_
  refine g_get (pc := 2) (v := .int md) S M G (C := RJ2) (T := TJ2) (N := 3) (ci := 6) in_J2 hq rfl 0 (by decide) q103 (Or.inr q102) rfl dJ2_add_2 ?_
  refine lv_iconst (pc := 5) (v := 1) hx hb dJ2_add_5 (by decide) ?_
  refine lv_iadd (pc := 6) hx hb dJ2_add_6 ?_
  refine g_put (pc := 7) (v := .int (md + 1)) S M G (C := RJ2) (T := TJ2) (N := 3) (ci := 6) in_J2 tyJ2 tyJ2_ok nmJ2 hq hbq rfl 0 (by decide) q103 (Or.inr q102) rfl rfl rfl (Nat.le_of_ble_eq_true rfl) dJ2_add_7 (fun H locs G => ?_)
  obtain ⟨w1_, hw1_⟩ : ∃ z9, z9 = gu w q (.inr (6, [.int (md + 1), .ref t, .int (nI n)])) := ⟨_, rfl⟩
  replace G : gS D K w1_ s H locs := by rw [hw1_]; exact G
  have c1_t : w1_ t = some (.inl (D.1 102, n, .inr (.inr (.inr (.inr f))))) := by rw [hw1_, gu_n (gne_ao ht hq)]; exact ht
  have c1_x : w1_ x = some (.inr (3, xs)) := by rw [hw1_, gu_n (gne_c hxe hq (by decide))]; exact hxe
  have c1_q : w1_ q = some (.inr (6, [.int (md + 1), .ref t, .int (nI n)])) := by rw [hw1_]; exact gu_s
  refine lv_aload_n (pc := 10) hx hb dJ2_add_10 rfl (lv_at hl 0 rfl) ?_
  refine lv_aload_n (pc := 11) hx hb dJ2_add_11 rfl (lv_at hl 1 rfl) ?_
  refine lv_aload_n (pc := 12) hx hb dJ2_add_12 rfl (lv_at hl 0 rfl) ?_
  refine g_get (pc := 13) (v := .ref t) S M G (C := RJ2) (T := TJ2) (N := 3) (ci := 6) in_J2 c1_q rfl 1 (by decide) q96 (Or.inl rfl) rfl dJ2_add_13 ?_
  refine lv_aload_n (pc := 16) hx hb dJ2_add_16 rfl (lv_at hl 0 rfl) ?_
  refine g_get (pc := 17) (v := .int (nI n)) S M G (C := RJ2) (T := TJ2) (N := 3) (ci := 6) in_J2 c1_q rfl 2 (by decide) q99 (Or.inl rfl) rfl dJ2_add_17 ?_
  refine g_callV (pc := 20) S M G hl.1 [.ref x, .ref t, .int (nI n)] [] (metJ2_add_2GL l D K w1_ c1_q hbq c1_t hn (fun i y hy => by obtain ⟨fs, hfs⟩ := hel i y hy; exact ⟨fs, by rw [hw1_, gu_n (gne_c hfs hq (by decide))]; exact hfs⟩) hf0 c1_x) 3 (g_recv M G c1_q (q := (RJ2, TJ2, 3)) rfl) q589 q586 q588 qs3 q22 (by decide) rfl ⟨Nat.le_of_ble_eq_true rfl, Nat.le_of_ble_eq_true rfl⟩ rfl (Nat.le_of_ble_eq_true rfl) dJ2_add_20 ⟨Nat.le_of_ble_eq_true rfl, Nat.le_of_ble_eq_true rfl⟩ (fun r w2 H locs hp G => ?_)
  refine W.widen (k := 1) (n := 33) (Nat.le_of_ble_eq_true rfl) (Nat.le_of_ble_eq_true rfl) ?_
  obtain ⟨rfl, t', hwt, hbt', hq', ht', hfr⟩ := hp
  refine W.eq (g2 := F0 m 23 ls []) rfl ?_
  refine lv_iconst (pc := 23) (v := 1) hx hb dJ2_add_23 (by decide) ?_
  rw [hQ]
  refine g_zret S G hr hlocks (hv := ?_) (hdg := dJ2_add_24) ?_ ?_ ?_
  · first | exact Or.inl rfl | exact Or.inr rfl | exact Or.inr rfl
  · exact Nat.le_of_ble_eq_true rfl
  · exact Nat.le_of_ble_eq_true rfl
  · refine ⟨rfl, t', ?_, hbt', hq', ht', fun b y h1 h2 => hfr b y (by rw [hw1_, gu_n h2]; exact h1) h2⟩
    rw [hw1_] at hwt
    exact (gu_none hwt).1
abbrev rmJ2_add_2EB : Room := ({ frames := 3, cells := 1, slots := 10, locals := 70 } : Room)
set_option maxHeartbeats 4000000 in
theorem metJ2_add_2EB (l : Launch) (D : va_G) (K : Nat → Nat) (w : Gh) {q : Nat} {md : Int32} (hq : w q = some (.inr (6, [.int md, .ref (K 1), .int 0]))) (hbq : K 0 ≤ q) {x : Nat} {xs : List Value} (hxe : w x = some (.inr (4, xs))) : gMet l yJ2_add_2 (ws_ yJ2_add_2 cJ2_add_2 4 none) rmJ2_add_2EB D K [.ref q, .ref x, .ref (K 1), .int 0] w (fun r' w' => r' = none ∧ ∃ t', w t' = none ∧ K 0 ≤ t' ∧ w' q = some (.inr (6, [.int md, .ref t', .int 1])) ∧ w' t' = some (.inl (D.1 102, 10, gra (va_up (fun _ => none) 0 (some x)))) ∧ ∀ b y, w b = some y → b ≠ q → w' b = some y) := by
  refine gMet.of (by decide) (Nat.le_of_ble_eq_true rfl) ?_
  intro p e s m args below meth c H locs ls S M hr hlocks hname G hl
  have hx := S.1
  have hb := S.2.1
  have hown := S.2.2.2.1
  have hts := S.2.2.2.2
  have hl : lv_has ls 4 [(0, .ref q), (1, .ref x), (2, .ref (K 1)), (3, .int 0)] := hl
  obtain ⟨Q, hQ⟩ : ∃ Q, Q = gE below D K (fun r' w' => r' = none ∧ ∃ t', w t' = none ∧ K 0 ≤ t' ∧ w' q = some (.inr (6, [.int md, .ref t', .int 1])) ∧ w' t' = some (.inl (D.1 102, 10, gra (va_up (fun _ => none) 0 (some x)))) ∧ ∀ b y, w b = some y → b ≠ q → w' b = some y) args s rmJ2_add_2EB.cells rmJ2_add_2EB.slots := ⟨_, rfl⟩
  rw [← hQ]
  refine lv_iload_n (pc := 0) hx hb dJ2_add_2_0 rfl (lv_at hl 3 rfl) ?_
  refine lv_aload_n (pc := 1) hx hb dJ2_add_2_1 rfl (lv_at hl 2 rfl) ?_
  refine g_tlen (pc := 2) (v := 0) S G M.2.2.1 rfl dJ2_add_2_2 ?_
  refine lv_icmp_ne (pc := 3) (tgt := 11) hx hb dJ2_add_2_3 (by decide) (fun c => absurd c (by decide)) (fun _ => ?_)
  refine lv_aload_n (pc := 6) hx hb dJ2_add_2_6 rfl (lv_at hl 0 rfl) ?_
  refine g_callV (pc := 7) S M G hl.1 [] [] (metJ2_growE l D K w hq hbq) 0 (g_recv M G hq (q := (RJ2, TJ2, 3)) rfl) q593 q590 q592 qs4 q22 (by decide) rfl ⟨Nat.le_of_ble_eq_true rfl, Nat.le_of_ble_eq_true rfl⟩ rfl (Nat.le_of_ble_eq_true rfl) dJ2_add_2_7 ⟨Nat.le_of_ble_eq_true rfl, Nat.le_of_ble_eq_true rfl⟩ (fun r w2 H locs hp G => ?_)
  refine W.widen (k := 1) (n := 10) (Nat.le_of_ble_eq_true rfl) (Nat.le_of_ble_eq_true rfl) ?_
  obtain ⟨t', rfl, hwt, hbt', hq', ht', hfr⟩ := hp
  have hx' : w2 x = some (.inr (4, xs)) := hfr x _ hxe (gne_c hxe hq (by decide))
  refine W.eq (g2 := F0 m 10 ls [.ref t']) rfl ?_
  refine lv_astore_n (pc := 10) (lv' := [(2, .ref t'), (0, .ref q), (1, .ref x), (3, .int 0)]) hx hb dJ2_add_2_10 rfl hl (by decide) rfl (fun ls hl => ?_)
  refine lv_aload_n (pc := 11) hx hb dJ2_add_2_11 rfl (lv_at hl 0 rfl) ?_
  refine lv_iload_n (pc := 12) hx hb dJ2_add_2_12 rfl (lv_at hl 3 rfl) ?_
  refine lv_aload_n (pc := 13) hx hb dJ2_add_2_13 rfl (lv_at hl 2 rfl) ?_
  refine g_aast (pc := 14) S M G 2 rfl ht' hbt' (g_recv M G hx' (q := (RX5, TX5, 2)) rfl) q1580 (show ¬ ((0 : Int32) < 0 ∨ 10 ≤ (0 : Int32).toNatClampNeg) from by decide) dJ2_add_2_14 (fun H locs G => ?_)
  rw [show (0 : Int32).toNatClampNeg = 0 from rfl] at G
  obtain ⟨w1_, hw1_⟩ : ∃ z9, z9 = gu w2 t' (.inl (D.1 102, 10, .inr (.inr (.inr (.inr (va_up (fun _ => none) 0 (some x))))))) := ⟨_, rfl⟩
  replace G : gS D K w1_ s H locs := by rw [hw1_]; exact G
  have c1_q : w1_ q = some (.inr (6, [.int md, .ref t', .int 0])) := by rw [hw1_, gu_n (Ne.symm (gne_ao ht' hq'))]; exact hq'
  have c1_x : w1_ x = some (.inr (4, xs)) := by rw [hw1_, gu_n (Ne.symm (gne_ao ht' hx'))]; exact hx'
  have c1_t_ : w1_ t' = some (.inl (D.1 102, 10, .inr (.inr (.inr (.inr (va_up (fun _ => none) 0 (some x))))))) := by rw [hw1_]; exact gu_s
  refine lv_aload_n (pc := 15) hx hb dJ2_add_2_15 rfl (lv_at hl 1 rfl) ?_
  refine lv_iload_n (pc := 16) hx hb dJ2_add_2_16 rfl (lv_at hl 3 rfl) ?_
  refine lv_iconst (pc := 17) (v := 1) hx hb dJ2_add_2_17 (by decide) ?_
  refine lv_iadd (pc := 18) hx hb dJ2_add_2_18 ?_
  rw [show (0 : Int32) + 1 = 1 from rfl]
  refine g_put (pc := 19) (v := .int 1) S M G (C := RJ2) (T := TJ2) (N := 3) (ci := 6) in_J2 tyJ2 tyJ2_ok nmJ2 c1_q hbq rfl 2 (by decide) q99 (Or.inl rfl) rfl rfl rfl (Nat.le_of_ble_eq_true rfl) dJ2_add_2_19 (fun H locs G => ?_)
  obtain ⟨w2_, hw2_⟩ : ∃ z9, z9 = gu w1_ q (.inr (6, [.int md, .ref t', .int 1])) := ⟨_, rfl⟩
  replace G : gS D K w2_ s H locs := by rw [hw2_]; exact G
  have c2_t_ : w2_ t' = some (.inl (D.1 102, 10, .inr (.inr (.inr (.inr (va_up (fun _ => none) 0 (some x))))))) := by rw [hw2_, gu_n (gne_ao c1_t_ c1_q)]; exact c1_t_
  have c2_x : w2_ x = some (.inr (4, xs)) := by rw [hw2_, gu_n (gne_c hxe hq (by decide))]; exact c1_x
  have c2_q : w2_ q = some (.inr (6, [.int md, .ref t', .int 1])) := by rw [hw2_]; exact gu_s
  rw [hQ]
  refine g_vret S G hr hlocks (hdg := dJ2_add_2_22) ?_ ?_ ?_
  · exact Nat.le_of_ble_eq_true rfl
  · exact Nat.le_of_ble_eq_true rfl
  · refine ⟨rfl, t', hwt, hbt', c2_q, c2_t_, fun b y h1 h2 => ?_⟩
    rw [hw2_, hw1_]
    rw [gu_n h2, gu_n (gne_f h1 hwt)]
    exact hfr b y h1 h2
abbrev rmJ2_add_2NB : Room := ({ frames := 0, cells := 0, slots := 0, locals := 0 } : Room)
set_option maxHeartbeats 4000000 in
theorem metJ2_add_2NB (l : Launch) (D : va_G) (K : Nat → Nat) (w : Gh) {q t n cn : Nat} {f : Nat → Option Nat} {md : Int32} (hq : w q = some (.inr (6, [.int md, .ref t, .int (nI cn)]))) (hbq : K 0 ≤ q) (ht : w t = some (.inl (D.1 102, n, gra f))) (hbt : K 0 ≤ t) (hn33 : n ≤ 33) (hcn : cn < n) {x : Nat} {xs : List Value} (hxe : w x = some (.inr (4, xs))) : gMet l yJ2_add_2 (ws_ yJ2_add_2 cJ2_add_2 4 none) rmJ2_add_2NB D K [.ref q, .ref x, .ref t, .int (nI cn)] w (fun r' w' => r' = none ∧ w' q = some (.inr (6, [.int md, .ref t, .int (nI (cn + 1))])) ∧ w' t = some (.inl (D.1 102, n, gra (va_up f cn (some x)))) ∧ ∀ b y, w b = some y → b ≠ q → b ≠ t → w' b = some y) := by
  refine gMet.of (by decide) (Nat.le_of_ble_eq_true rfl) ?_
  intro p e s m args below meth c H locs ls S M hr hlocks hname G hl
  have hx := S.1
  have hb := S.2.1
  have hown := S.2.2.2.1
  have hts := S.2.2.2.2
  have hl : lv_has ls 4 [(0, .ref q), (1, .ref x), (2, .ref t), (3, .int (nI cn))] := hl
  obtain ⟨Q, hQ⟩ : ∃ Q, Q = gE below D K (fun r' w' => r' = none ∧ w' q = some (.inr (6, [.int md, .ref t, .int (nI (cn + 1))])) ∧ w' t = some (.inl (D.1 102, n, gra (va_up f cn (some x)))) ∧ ∀ b y, w b = some y → b ≠ q → b ≠ t → w' b = some y) args s rmJ2_add_2NB.cells rmJ2_add_2NB.slots := ⟨_, rfl⟩
  rw [← hQ]
  refine lv_iload_n (pc := 0) hx hb dJ2_add_2_0 rfl (lv_at hl 3 rfl) ?_
  refine lv_aload_n (pc := 1) hx hb dJ2_add_2_1 rfl (lv_at hl 2 rfl) ?_
  refine g_alen (pc := 2) (v := (nI n)) S M G 2 rfl ht rfl dJ2_add_2_2 ?_
  refine lv_icmp_ne (pc := 3) (tgt := 11) hx hb dJ2_add_2_3 (by decide) (fun _ => ?_) (fun c => absurd ((nI_eq (by omega) (by omega)).mp c) (by omega))
  refine lv_aload_n (pc := 11) hx hb dJ2_add_2_11 rfl (lv_at hl 2 rfl) ?_
  refine lv_iload_n (pc := 12) hx hb dJ2_add_2_12 rfl (lv_at hl 3 rfl) ?_
  refine lv_aload_n (pc := 13) hx hb dJ2_add_2_13 rfl (lv_at hl 1 rfl) ?_
  refine g_aast (pc := 14) S M G 2 rfl ht hbt (g_recv M G hxe (q := (RX5, TX5, 2)) rfl) q1580 (vp_in_nI hcn (by omega)) dJ2_add_2_14 (fun H locs G => ?_)
  rw [nI_clamp (show cn < 2 ^ 31 by omega)] at G
  obtain ⟨w1_, hw1_⟩ : ∃ z9, z9 = gu w t (.inl (D.1 102, n, .inr (.inr (.inr (.inr (va_up f cn (some x))))))) := ⟨_, rfl⟩
  replace G : gS D K w1_ s H locs := by rw [hw1_]; exact G
  have c1_q : w1_ q = some (.inr (6, [.int md, .ref t, .int (nI cn)])) := by rw [hw1_, gu_n (Ne.symm (gne_ao ht hq))]; exact hq
  have c1_x : w1_ x = some (.inr (4, xs)) := by rw [hw1_, gu_n (Ne.symm (gne_ao ht hxe))]; exact hxe
  have c1_t : w1_ t = some (.inl (D.1 102, n, .inr (.inr (.inr (.inr (va_up f cn (some x))))))) := by rw [hw1_]; exact gu_s
  refine lv_aload_n (pc := 15) hx hb dJ2_add_2_15 rfl (lv_at hl 0 rfl) ?_
  refine lv_iload_n (pc := 16) hx hb dJ2_add_2_16 rfl (lv_at hl 3 rfl) ?_
  refine lv_iconst (pc := 17) (v := 1) hx hb dJ2_add_2_17 (by decide) ?_
  refine lv_iadd (pc := 18) hx hb dJ2_add_2_18 ?_
  rw [← nI_succ]
  refine g_put (pc := 19) (v := .int (nI (cn + 1))) S M G (C := RJ2) (T := TJ2) (N := 3) (ci := 6) in_J2 tyJ2 tyJ2_ok nmJ2 c1_q hbq rfl 2 (by decide) q99 (Or.inl rfl) rfl rfl rfl (Nat.le_of_ble_eq_true rfl) dJ2_add_2_19 (fun H locs G => ?_)
  obtain ⟨w2_, hw2_⟩ : ∃ z9, z9 = gu w1_ q (.inr (6, [.int md, .ref t, .int (nI (cn + 1))])) := ⟨_, rfl⟩
  replace G : gS D K w2_ s H locs := by rw [hw2_]; exact G
  have c2_t : w2_ t = some (.inl (D.1 102, n, .inr (.inr (.inr (.inr (va_up f cn (some x))))))) := by rw [hw2_, gu_n (gne_ao c1_t c1_q)]; exact c1_t
  have c2_x : w2_ x = some (.inr (4, xs)) := by rw [hw2_, gu_n (gne_c c1_x c1_q (by decide))]; exact c1_x
  have c2_q : w2_ q = some (.inr (6, [.int md, .ref t, .int (nI (cn + 1))])) := by rw [hw2_]; exact gu_s
  rw [hQ]
  refine g_vret S G hr hlocks (hdg := dJ2_add_2_22) ?_ ?_ ?_
  · exact Nat.le_of_ble_eq_true rfl
  · exact Nat.le_of_ble_eq_true rfl
  · refine ⟨rfl, c2_q, c2_t, fun b y h1 h2 h3 => ?_⟩
    rw [hw2_, hw1_]
    rw [gu_n h2, gu_n h3]
    exact h1
abbrev rmJ2_addEB : Room := ({ frames := 4, cells := 1, slots := 10, locals := 93 } : Room)
set_option maxHeartbeats 4000000 in
theorem metJ2_addEB (l : Launch) (D : va_G) (K : Nat → Nat) (w : Gh) {q : Nat} {md : Int32} (hq : w q = some (.inr (6, [.int md, .ref (K 1), .int 0]))) (hbq : K 0 ≤ q) {x : Nat} {xs : List Value} (hxe : w x = some (.inr (4, xs))) : gMet l yJ2_add (ws_ yJ2_add cJ2_add 2 (some .boolean)) rmJ2_addEB D K [.ref q, .ref x] w (fun r' w' => r' = some (.int 1) ∧ ∃ t', w t' = none ∧ K 0 ≤ t' ∧ w' q = some (.inr (6, [.int (md + 1), .ref t', .int 1])) ∧ w' t' = some (.inl (D.1 102, 10, gra (va_up (fun _ => none) 0 (some x)))) ∧ ∀ b y, w b = some y → b ≠ q → w' b = some y) := by
  refine gMet.of (by decide) (Nat.le_of_ble_eq_true rfl) ?_
  intro p e s m args below meth c H locs ls S M hr hlocks hname G hl
  have hx := S.1
  have hb := S.2.1
  have hown := S.2.2.2.1
  have hts := S.2.2.2.2
  have hl : lv_has ls 2 [(0, .ref q), (1, .ref x)] := hl
  obtain ⟨Q, hQ⟩ : ∃ Q, Q = gE below D K (fun r' w' => r' = some (.int 1) ∧ ∃ t', w t' = none ∧ K 0 ≤ t' ∧ w' q = some (.inr (6, [.int (md + 1), .ref t', .int 1])) ∧ w' t' = some (.inl (D.1 102, 10, gra (va_up (fun _ => none) 0 (some x)))) ∧ ∀ b y, w b = some y → b ≠ q → w' b = some y) args s rmJ2_addEB.cells rmJ2_addEB.slots := ⟨_, rfl⟩
  rw [← hQ]
  refine lv_aload_n (pc := 0) hx hb dJ2_add_0 rfl (lv_at hl 0 rfl) ?_
  refine lv_dup (pc := 1) hx hb dJ2_add_1 rfl ?_
  refine g_get (pc := 2) (v := .int md) S M G (C := RJ2) (T := TJ2) (N := 3) (ci := 6) in_J2 hq rfl 0 (by decide) q103 (Or.inr q102) rfl dJ2_add_2 ?_
  refine lv_iconst (pc := 5) (v := 1) hx hb dJ2_add_5 (by decide) ?_
  refine lv_iadd (pc := 6) hx hb dJ2_add_6 ?_
  refine g_put (pc := 7) (v := .int (md + 1)) S M G (C := RJ2) (T := TJ2) (N := 3) (ci := 6) in_J2 tyJ2 tyJ2_ok nmJ2 hq hbq rfl 0 (by decide) q103 (Or.inr q102) rfl rfl rfl (Nat.le_of_ble_eq_true rfl) dJ2_add_7 (fun H locs G => ?_)
  obtain ⟨w1_, hw1_⟩ : ∃ z9, z9 = gu w q (.inr (6, [.int (md + 1), .ref (K 1), .int 0])) := ⟨_, rfl⟩
  replace G : gS D K w1_ s H locs := by rw [hw1_]; exact G
  have c1_x : w1_ x = some (.inr (4, xs)) := by rw [hw1_, gu_n (gne_c hxe hq (by decide))]; exact hxe
  have c1_q : w1_ q = some (.inr (6, [.int (md + 1), .ref (K 1), .int 0])) := by rw [hw1_]; exact gu_s
  refine lv_aload_n (pc := 10) hx hb dJ2_add_10 rfl (lv_at hl 0 rfl) ?_
  refine lv_aload_n (pc := 11) hx hb dJ2_add_11 rfl (lv_at hl 1 rfl) ?_
  refine lv_aload_n (pc := 12) hx hb dJ2_add_12 rfl (lv_at hl 0 rfl) ?_
  refine g_get (pc := 13) (v := .ref (K 1)) S M G (C := RJ2) (T := TJ2) (N := 3) (ci := 6) in_J2 c1_q rfl 1 (by decide) q96 (Or.inl rfl) rfl dJ2_add_13 ?_
  refine lv_aload_n (pc := 16) hx hb dJ2_add_16 rfl (lv_at hl 0 rfl) ?_
  refine g_get (pc := 17) (v := .int 0) S M G (C := RJ2) (T := TJ2) (N := 3) (ci := 6) in_J2 c1_q rfl 2 (by decide) q99 (Or.inl rfl) rfl dJ2_add_17 ?_
  refine g_callV (pc := 20) S M G hl.1 [.ref x, .ref (K 1), .int 0] [] (metJ2_add_2EB l D K w1_ c1_q hbq c1_x) 3 (g_recv M G c1_q (q := (RJ2, TJ2, 3)) rfl) q589 q586 q588 qs3 q22 (by decide) rfl ⟨Nat.le_of_ble_eq_true rfl, Nat.le_of_ble_eq_true rfl⟩ rfl (Nat.le_of_ble_eq_true rfl) dJ2_add_20 ⟨Nat.le_of_ble_eq_true rfl, Nat.le_of_ble_eq_true rfl⟩ (fun r w2 H locs hp G => ?_)
  refine W.widen (k := 1) (n := 10) (Nat.le_of_ble_eq_true rfl) (Nat.le_of_ble_eq_true rfl) ?_
  obtain ⟨rfl, t', hwt, hbt', hq', ht', hfr⟩ := hp
  refine W.eq (g2 := F0 m 23 ls []) rfl ?_
  refine lv_iconst (pc := 23) (v := 1) hx hb dJ2_add_23 (by decide) ?_
  rw [hQ]
  refine g_zret S G hr hlocks (hv := ?_) (hdg := dJ2_add_24) ?_ ?_ ?_
  · first | exact Or.inl rfl | exact Or.inr rfl | exact Or.inr rfl
  · exact Nat.le_of_ble_eq_true rfl
  · exact Nat.le_of_ble_eq_true rfl
  · refine ⟨rfl, t', ?_, hbt', hq', ht', fun b y h1 h2 => hfr b y (by rw [hw1_, gu_n h2]; exact h1) h2⟩
    rw [hw1_] at hwt
    exact (gu_none hwt).1
abbrev rmJ2_addNB : Room := ({ frames := 1, cells := 0, slots := 0, locals := 23 } : Room)
set_option maxHeartbeats 4000000 in
theorem metJ2_addNB (l : Launch) (D : va_G) (K : Nat → Nat) (w : Gh) {q t n cn : Nat} {f : Nat → Option Nat} {md : Int32} (hq : w q = some (.inr (6, [.int md, .ref t, .int (nI cn)]))) (hbq : K 0 ≤ q) (ht : w t = some (.inl (D.1 102, n, gra f))) (hbt : K 0 ≤ t) (hn33 : n ≤ 33) (hcn : cn < n) {x : Nat} {xs : List Value} (hxe : w x = some (.inr (4, xs))) : gMet l yJ2_add (ws_ yJ2_add cJ2_add 2 (some .boolean)) rmJ2_addNB D K [.ref q, .ref x] w (fun r' w' => r' = some (.int 1) ∧ w' q = some (.inr (6, [.int (md + 1), .ref t, .int (nI (cn + 1))])) ∧ w' t = some (.inl (D.1 102, n, gra (va_up f cn (some x)))) ∧ ∀ b y, w b = some y → b ≠ q → b ≠ t → w' b = some y) := by
  refine gMet.of (by decide) (Nat.le_of_ble_eq_true rfl) ?_
  intro p e s m args below meth c H locs ls S M hr hlocks hname G hl
  have hx := S.1
  have hb := S.2.1
  have hown := S.2.2.2.1
  have hts := S.2.2.2.2
  have hl : lv_has ls 2 [(0, .ref q), (1, .ref x)] := hl
  obtain ⟨Q, hQ⟩ : ∃ Q, Q = gE below D K (fun r' w' => r' = some (.int 1) ∧ w' q = some (.inr (6, [.int (md + 1), .ref t, .int (nI (cn + 1))])) ∧ w' t = some (.inl (D.1 102, n, gra (va_up f cn (some x)))) ∧ ∀ b y, w b = some y → b ≠ q → b ≠ t → w' b = some y) args s rmJ2_addNB.cells rmJ2_addNB.slots := ⟨_, rfl⟩
  rw [← hQ]
  refine lv_aload_n (pc := 0) hx hb dJ2_add_0 rfl (lv_at hl 0 rfl) ?_
  refine lv_dup (pc := 1) hx hb dJ2_add_1 rfl ?_
  refine g_get (pc := 2) (v := .int md) S M G (C := RJ2) (T := TJ2) (N := 3) (ci := 6) in_J2 hq rfl 0 (by decide) q103 (Or.inr q102) rfl dJ2_add_2 ?_
  refine lv_iconst (pc := 5) (v := 1) hx hb dJ2_add_5 (by decide) ?_
  refine lv_iadd (pc := 6) hx hb dJ2_add_6 ?_
  refine g_put (pc := 7) (v := .int (md + 1)) S M G (C := RJ2) (T := TJ2) (N := 3) (ci := 6) in_J2 tyJ2 tyJ2_ok nmJ2 hq hbq rfl 0 (by decide) q103 (Or.inr q102) rfl rfl rfl (Nat.le_of_ble_eq_true rfl) dJ2_add_7 (fun H locs G => ?_)
  obtain ⟨w1_, hw1_⟩ : ∃ z9, z9 = gu w q (.inr (6, [.int (md + 1), .ref t, .int (nI cn)])) := ⟨_, rfl⟩
  replace G : gS D K w1_ s H locs := by rw [hw1_]; exact G
  have c1_t : w1_ t = some (.inl (D.1 102, n, .inr (.inr (.inr (.inr f))))) := by rw [hw1_, gu_n (gne_ao ht hq)]; exact ht
  have c1_x : w1_ x = some (.inr (4, xs)) := by rw [hw1_, gu_n (gne_c hxe hq (by decide))]; exact hxe
  have c1_q : w1_ q = some (.inr (6, [.int (md + 1), .ref t, .int (nI cn)])) := by rw [hw1_]; exact gu_s
  refine lv_aload_n (pc := 10) hx hb dJ2_add_10 rfl (lv_at hl 0 rfl) ?_
  refine lv_aload_n (pc := 11) hx hb dJ2_add_11 rfl (lv_at hl 1 rfl) ?_
  refine lv_aload_n (pc := 12) hx hb dJ2_add_12 rfl (lv_at hl 0 rfl) ?_
  refine g_get (pc := 13) (v := .ref t) S M G (C := RJ2) (T := TJ2) (N := 3) (ci := 6) in_J2 c1_q rfl 1 (by decide) q96 (Or.inl rfl) rfl dJ2_add_13 ?_
  refine lv_aload_n (pc := 16) hx hb dJ2_add_16 rfl (lv_at hl 0 rfl) ?_
  refine g_get (pc := 17) (v := .int (nI cn)) S M G (C := RJ2) (T := TJ2) (N := 3) (ci := 6) in_J2 c1_q rfl 2 (by decide) q99 (Or.inl rfl) rfl dJ2_add_17 ?_
  refine g_callV (pc := 20) S M G hl.1 [.ref x, .ref t, .int (nI cn)] [] (metJ2_add_2NB l D K w1_ c1_q hbq c1_t hbt hn33 hcn c1_x) 3 (g_recv M G c1_q (q := (RJ2, TJ2, 3)) rfl) q589 q586 q588 qs3 q22 (by decide) rfl ⟨Nat.le_of_ble_eq_true rfl, Nat.le_of_ble_eq_true rfl⟩ rfl (Nat.le_of_ble_eq_true rfl) dJ2_add_20 ⟨Nat.le_of_ble_eq_true rfl, Nat.le_of_ble_eq_true rfl⟩ (fun r w2 H locs hp G => ?_)
  obtain ⟨rfl, hq', ht', hfr⟩ := hp
  refine W.eq (g2 := F0 m 23 ls []) rfl ?_
  refine lv_iconst (pc := 23) (v := 1) hx hb dJ2_add_23 (by decide) ?_
  rw [hQ]
  refine g_zret S G hr hlocks (hv := ?_) (hdg := dJ2_add_24) ?_ ?_ ?_
  · first | exact Or.inl rfl | exact Or.inr rfl | exact Or.inr rfl
  · exact Nat.le_of_ble_eq_true rfl
  · exact Nat.le_of_ble_eq_true rfl
  · exact ⟨rfl, hq', ht', fun b y h1 h2 h3 => hfr b y (by rw [hw1_, gu_n h2]; exact h1) h2 h3⟩
abbrev rmJ18_checkIndex : Room := ({ frames := 0, cells := 0, slots := 0, locals := 0 } : Room)
set_option maxHeartbeats 4000000 in
theorem metJ18_checkIndex (l : Launch) (D : va_G) (K : Nat → Nat) (w : Gh) {i cn : Nat} (hi : i < cn) (hcn : cn < 2 ^ 31) : gMet l yJ18_checkIndex (ws_ yJ18_checkIndex cJ18_checkIndex 3 (some .int)) rmJ18_checkIndex D K [.int (nI i), .int (nI cn), .null] w (fun r' w' => r' = some (.int (nI i)) ∧ w' = w) := by
  refine gMet.of (by decide) (Nat.le_of_ble_eq_true rfl) ?_
  intro p e s m args below meth c H locs ls S M hr hlocks hname G hl
  have hx := S.1
  have hb := S.2.1
  have hown := S.2.2.2.1
  have hts := S.2.2.2.2
  have hl : lv_has ls 3 [(0, .int (nI i)), (1, .int (nI cn)), (2, .null)] := hl
  obtain ⟨Q, hQ⟩ : ∃ Q, Q = gE below D K (fun r' w' => r' = some (.int (nI i)) ∧ w' = w) args s rmJ18_checkIndex.cells rmJ18_checkIndex.slots := ⟨_, rfl⟩
  rw [← hQ]
  refine lv_iload_n (pc := 0) hx hb dJ18_checkIndex_0 rfl (lv_at hl 0 rfl) ?_
  refine lv_if_lt (pc := 1) (tgt := 9) hx hb dJ18_checkIndex_1 (by decide) (fun c => absurd c (nI_pos (by omega))) (fun _ => ?_)
  refine lv_iload_n (pc := 4) hx hb dJ18_checkIndex_4 rfl (lv_at hl 0 rfl) ?_
  refine lv_iload_n (pc := 5) hx hb dJ18_checkIndex_5 rfl (lv_at hl 1 rfl) ?_
  refine lv_icmp_lt (pc := 6) (tgt := 16) hx hb dJ18_checkIndex_6 (by decide) (fun _ => ?_) (fun c => absurd (nI_lt hi (by omega)) c)
  refine lv_iload_n (pc := 16) hx hb dJ18_checkIndex_16 rfl (lv_at hl 0 rfl) ?_
  rw [hQ]
  refine g_iret S G hr hlocks (hdg := dJ18_checkIndex_17) ?_ ?_ ?_
  · exact Nat.le_of_ble_eq_true rfl
  · exact Nat.le_of_ble_eq_true rfl
  · exact ⟨rfl, rfl⟩
abbrev rmJ17_checkIndex : Room := ({ frames := 1, cells := 0, slots := 0, locals := 22 } : Room)
set_option maxHeartbeats 4000000 in
theorem metJ17_checkIndex (l : Launch) (D : va_G) (K : Nat → Nat) (w : Gh) {i cn : Nat} (hi : i < cn) (hcn : cn < 2 ^ 31) : gMet l yJ17_checkIndex (ws_ yJ17_checkIndex cJ17_checkIndex 2 (some .int)) rmJ17_checkIndex D K [.int (nI i), .int (nI cn)] w (fun r' w' => r' = some (.int (nI i)) ∧ w' = w) := by
  refine gMet.of (by decide) (Nat.le_of_ble_eq_true rfl) ?_
  intro p e s m args below meth c H locs ls S M hr hlocks hname G hl
  have hx := S.1
  have hb := S.2.1
  have hown := S.2.2.2.1
  have hts := S.2.2.2.2
  have hl : lv_has ls 2 [(0, .int (nI i)), (1, .int (nI cn))] := hl
  obtain ⟨Q, hQ⟩ : ∃ Q, Q = gE below D K (fun r' w' => r' = some (.int (nI i)) ∧ w' = w) args s rmJ17_checkIndex.cells rmJ17_checkIndex.slots := ⟨_, rfl⟩
  rw [← hQ]
  refine lv_iload_n (pc := 0) hx hb dJ17_checkIndex_0 rfl (lv_at hl 0 rfl) ?_
  refine lv_iload_n (pc := 1) hx hb dJ17_checkIndex_1 rfl (lv_at hl 1 rfl) ?_
  refine lv_null (pc := 2) hx hb dJ17_checkIndex_2 ?_
  refine g_callS (pc := 3) S M G hl.1 [.int (nI i), .int (nI cn), .null] [] (metJ18_checkIndex l D K w hi hcn) 3 q674 q672 q673 q41 (by decide) rfl ⟨Nat.le_of_ble_eq_true rfl, Nat.le_of_ble_eq_true rfl⟩ rfl (Nat.le_of_ble_eq_true rfl) dJ17_checkIndex_3 ⟨Nat.le_of_ble_eq_true rfl, Nat.le_of_ble_eq_true rfl⟩ (fun r w2 H locs hp G => ?_)
  obtain ⟨rfl, hw2⟩ := hp
  rw [hw2] at G
  refine W.eq (g2 := F0 m 6 ls [.int (nI i)]) rfl ?_
  rw [hQ]
  refine g_iret S G hr hlocks (hdg := dJ17_checkIndex_6) ?_ ?_ ?_
  · exact Nat.le_of_ble_eq_true rfl
  · exact Nat.le_of_ble_eq_true rfl
  · exact ⟨rfl, rfl⟩
abbrev rmJ2_elementData : Room := ({ frames := 0, cells := 0, slots := 0, locals := 0 } : Room)
set_option maxHeartbeats 4000000 in
theorem metJ2_elementData (l : Launch) (D : va_G) (K : Nat → Nat) (w : Gh) {q t n cn i x : Nat} {f : Nat → Option Nat} {md : Int32} (hq : w q = some (.inr (6, [.int md, .ref t, .int (nI cn)]))) (ht : w t = some (.inl (D.1 102, n, gra f))) (hn33 : n ≤ 33) (hi : i < cn) (hcn : cn ≤ n) (hf : f i = some x) : gMet l yJ2_elementData (ws_ yJ2_elementData cJ2_elementData 2 (some (.object "java/lang/Object"))) rmJ2_elementData D K [.ref q, .int (nI i)] w (fun r' w' => r' = some (.ref x) ∧ w' = w) := by
  refine gMet.of (by decide) (Nat.le_of_ble_eq_true rfl) ?_
  intro p e s m args below meth c H locs ls S M hr hlocks hname G hl
  have hx := S.1
  have hb := S.2.1
  have hown := S.2.2.2.1
  have hts := S.2.2.2.2
  have hl : lv_has ls 2 [(0, .ref q), (1, .int (nI i))] := hl
  obtain ⟨Q, hQ⟩ : ∃ Q, Q = gE below D K (fun r' w' => r' = some (.ref x) ∧ w' = w) args s rmJ2_elementData.cells rmJ2_elementData.slots := ⟨_, rfl⟩
  rw [← hQ]
  have hin : i < n := by omega
  refine lv_aload_n (pc := 0) hx hb dJ2_elementData_0 rfl (lv_at hl 0 rfl) ?_
  refine g_get (pc := 1) (v := .ref t) S M G (C := RJ2) (T := TJ2) (N := 3) (ci := 6) in_J2 hq rfl 1 (by decide) q96 (Or.inl rfl) rfl dJ2_elementData_1 ?_
  refine lv_iload_n (pc := 4) hx hb dJ2_elementData_4 rfl (lv_at hl 1 rfl) ?_
  refine g_aald (pc := 5) S M G 2 rfl ht (vp_in_nI hin (by omega)) dJ2_elementData_5 ?_
  obtain ⟨r1, er1⟩ : ∃ z9, z9 = f (nI i).toNatClampNeg := ⟨_, rfl⟩
  rw [← er1]
  refine W.eq (g2 := F0 m 6 ls [va_rf r1]) rfl ?_
  rw [nI_clamp (show i < 2 ^ 31 by omega)] at er1
  rw [hf] at er1
  rw [er1]
  refine W.eq (g2 := F0 m 6 ls [.ref x]) rfl ?_
  rw [hQ]
  refine g_aret S G (rt := (.object "java/lang/Object")) (r := some x) hr (Or.inl ⟨_, rfl⟩) hlocks (hdg := dJ2_elementData_6) ?_ ?_ ?_
  · exact Nat.le_of_ble_eq_true rfl
  · exact Nat.le_of_ble_eq_true rfl
  · exact ⟨rfl, rfl⟩
abbrev rmJ2_get : Room := ({ frames := 2, cells := 0, slots := 0, locals := 43 } : Room)
set_option maxHeartbeats 4000000 in
theorem metJ2_get (l : Launch) (D : va_G) (K : Nat → Nat) (w : Gh) {q t n cn i x : Nat} {f : Nat → Option Nat} {md : Int32} (hq : w q = some (.inr (6, [.int md, .ref t, .int (nI cn)]))) (ht : w t = some (.inl (D.1 102, n, gra f))) (hn33 : n ≤ 33) (hi : i < cn) (hcn : cn ≤ n) (hf : f i = some x) : gMet l yJ2_get (ws_ yJ2_get cJ2_get 2 (some (.object "java/lang/Object"))) rmJ2_get D K [.ref q, .int (nI i)] w (fun r' w' => r' = some (.ref x) ∧ w' = w) := by
  refine gMet.of (by decide) (Nat.le_of_ble_eq_true rfl) ?_
  intro p e s m args below meth c H locs ls S M hr hlocks hname G hl
  have hx := S.1
  have hb := S.2.1
  have hown := S.2.2.2.1
  have hts := S.2.2.2.2
  have hl : lv_has ls 2 [(0, .ref q), (1, .int (nI i))] := hl
  obtain ⟨Q, hQ⟩ : ∃ Q, Q = gE below D K (fun r' w' => r' = some (.ref x) ∧ w' = w) args s rmJ2_get.cells rmJ2_get.slots := ⟨_, rfl⟩
  rw [← hQ]
  refine lv_iload_n (pc := 0) hx hb dJ2_get_0 rfl (lv_at hl 1 rfl) ?_
  refine lv_aload_n (pc := 1) hx hb dJ2_get_1 rfl (lv_at hl 0 rfl) ?_
  refine g_get (pc := 2) (v := .int (nI cn)) S M G (C := RJ2) (T := TJ2) (N := 3) (ci := 6) in_J2 hq rfl 2 (by decide) q99 (Or.inl rfl) rfl dJ2_get_2 ?_
  refine g_callS (pc := 5) S M G hl.1 [.int (nI i), .int (nI cn)] [] (metJ17_checkIndex l D K w hi (by omega)) 2 q671 q669 q670 q40 (by decide) rfl ⟨Nat.le_of_ble_eq_true rfl, Nat.le_of_ble_eq_true rfl⟩ rfl (Nat.le_of_ble_eq_true rfl) dJ2_get_5 ⟨Nat.le_of_ble_eq_true rfl, Nat.le_of_ble_eq_true rfl⟩ (fun r w2 H locs hp G => ?_)
  obtain ⟨rfl, hw2⟩ := hp
  rw [hw2] at G
  refine W.eq (g2 := F0 m 8 ls [.int (nI i)]) rfl ?_
  refine lv_pop (pc := 8) hx hb dJ2_get_8 rfl ?_
  refine lv_aload_n (pc := 9) hx hb dJ2_get_9 rfl (lv_at hl 0 rfl) ?_
  refine lv_iload_n (pc := 10) hx hb dJ2_get_10 rfl (lv_at hl 1 rfl) ?_
  refine g_callV (pc := 11) S M G hl.1 [.int (nI i)] [] (metJ2_elementData l D K w hq ht hn33 hi hcn hf) 1 (g_recv M G hq (q := (RJ2, TJ2, 3)) rfl) q678 q675 q676 q677 q22 (by decide) rfl ⟨Nat.le_of_ble_eq_true rfl, Nat.le_of_ble_eq_true rfl⟩ rfl (Nat.le_of_ble_eq_true rfl) dJ2_get_11 ⟨Nat.le_of_ble_eq_true rfl, Nat.le_of_ble_eq_true rfl⟩ (fun r w2 H locs hp G => ?_)
  obtain ⟨rfl, hw2⟩ := hp
  rw [hw2] at G
  refine W.eq (g2 := F0 m 14 ls [.ref x]) rfl ?_
  rw [hQ]
  refine g_aret S G (rt := (.object "java/lang/Object")) (r := some x) hr (Or.inl ⟨_, rfl⟩) hlocks (hdg := dJ2_get_14) ?_ ?_ ?_
  · exact Nat.le_of_ble_eq_true rfl
  · exact Nat.le_of_ble_eq_true rfl
  · exact ⟨rfl, rfl⟩
abbrev rmJ29_init : Room := ({ frames := 1, cells := 0, slots := 0, locals := 20 } : Room)
set_option maxHeartbeats 4000000 in
theorem metJ29_init (l : Launch) (D : va_G) (K : Nat → Nat) (w : Gh) {it q t : Nat} {md sz : Int32} (hit : w it = some (.inr (11, [.int 0, .int 0, .int 0, .null]))) (hbi : K 0 ≤ it) (hq : w q = some (.inr (6, [.int md, .ref t, .int sz]))) : gMet l yJ29_init (ws_ yJ29_init cJ29_init 2 none) rmJ29_init D K [.ref it, .ref q] w (fun r' w' => r' = none ∧ w' = gu w it (.inr (11, [.int 0, .int (-1), .int md, .ref q]))) := by
  refine gMet.of (by decide) (Nat.le_of_ble_eq_true rfl) ?_
  intro p e s m args below meth c H locs ls S M hr hlocks hname G hl
  have hx := S.1
  have hb := S.2.1
  have hown := S.2.2.2.1
  have hts := S.2.2.2.2
  have hl : lv_has ls 2 [(0, .ref it), (1, .ref q)] := hl
  obtain ⟨Q, hQ⟩ : ∃ Q, Q = gE below D K (fun r' w' => r' = none ∧ w' = gu w it (.inr (11, [.int 0, .int (-1), .int md, .ref q]))) args s rmJ29_init.cells rmJ29_init.slots := ⟨_, rfl⟩
  rw [← hQ]
  refine lv_aload_n (pc := 0) hx hb dJ29_init_0 rfl (lv_at hl 0 rfl) ?_
  refine lv_aload_n (pc := 1) hx hb dJ29_init_1 rfl (lv_at hl 1 rfl) ?_
  refine g_putF (pc := 2) (v := .ref q) S M G (C := RJ29) (T := TJ29) (N := 4) (ci := 11) in_J29 tyJ29 tyJ29_ok nmJ29 hit hbi rfl 3 (by decide) q261 (Or.inl rfl) rfl hname rfl rfl rfl (Nat.le_of_ble_eq_true rfl) dJ29_init_2 (fun H locs G => ?_)
  obtain ⟨w1_, hw1_⟩ : ∃ z9, z9 = gu w it (.inr (11, [.int 0, .int 0, .int 0, .ref q])) := ⟨_, rfl⟩
  replace G : gS D K w1_ s H locs := by rw [hw1_]; exact G
  have c1_q : w1_ q = some (.inr (6, [.int md, .ref t, .int sz])) := by rw [hw1_, gu_n (gne_c hq hit (by decide))]; exact hq
  have c1_it : w1_ it = some (.inr (11, [.int 0, .int 0, .int 0, .ref q])) := by rw [hw1_]; exact gu_s
  refine lv_aload_n (pc := 5) hx hb dJ29_init_5 rfl (lv_at hl 0 rfl) ?_
  refine W.objInit hx hb hown (hts _ q257) (hts _ q62) (hts _ q63) rfl (by rw [S.2.2.1]; exact hl.1) rfl dJ29_init_6 (Nat.le_of_ble_eq_true rfl) (Nat.le_of_ble_eq_true rfl) ?_
  refine W.eq (g2 := F0 m 9 ls []) rfl ?_
  refine lv_aload_n (pc := 9) hx hb dJ29_init_9 rfl (lv_at hl 0 rfl) ?_
  refine lv_iconst (pc := 10) (v := (-1)) hx hb dJ29_init_10 (by decide) ?_
  refine g_put (pc := 11) (v := .int (-1)) S M G (C := RJ29) (T := TJ29) (N := 4) (ci := 11) in_J29 tyJ29 tyJ29_ok nmJ29 c1_it hbi rfl 1 (by decide) q259 (Or.inl rfl) rfl rfl rfl (Nat.le_of_ble_eq_true rfl) dJ29_init_11 (fun H locs G => ?_)
  obtain ⟨w2_, hw2_⟩ : ∃ z9, z9 = gu w1_ it (.inr (11, [.int 0, .int (-1), .int 0, .ref q])) := ⟨_, rfl⟩
  replace G : gS D K w2_ s H locs := by rw [hw2_]; exact G
  have c2_q : w2_ q = some (.inr (6, [.int md, .ref t, .int sz])) := by rw [hw2_, gu_n (gne_c c1_q c1_it (by decide))]; exact c1_q
  have c2_it : w2_ it = some (.inr (11, [.int 0, .int (-1), .int 0, .ref q])) := by rw [hw2_]; exact gu_s
  refine lv_aload_n (pc := 14) hx hb dJ29_init_14 rfl (lv_at hl 0 rfl) ?_
  refine lv_aload_n (pc := 15) hx hb dJ29_init_15 rfl (lv_at hl 0 rfl) ?_
  refine g_get (pc := 16) (v := .ref q) S M G (C := RJ29) (T := TJ29) (N := 4) (ci := 11) in_J29 c2_it rfl 3 (by decide) q261 (Or.inl rfl) rfl dJ29_init_16 ?_
  refine g_get (pc := 19) (v := .int md) S M G (C := RJ2) (T := TJ2) (N := 3) (ci := 6) in_J2 c2_q rfl 0 (by decide) q101 (Or.inr q102) rfl dJ29_init_19 ?_
  refine g_put (pc := 22) (v := .int md) S M G (C := RJ29) (T := TJ29) (N := 4) (ci := 11) in_J29 tyJ29 tyJ29_ok nmJ29 c2_it hbi rfl 2 (by decide) q260 (Or.inl rfl) rfl rfl rfl (Nat.le_of_ble_eq_true rfl) dJ29_init_22 (fun H locs G => ?_)
  obtain ⟨w3_, hw3_⟩ : ∃ z9, z9 = gu w2_ it (.inr (11, [.int 0, .int (-1), .int md, .ref q])) := ⟨_, rfl⟩
  replace G : gS D K w3_ s H locs := by rw [hw3_]; exact G
  have c3_q : w3_ q = some (.inr (6, [.int md, .ref t, .int sz])) := by rw [hw3_, gu_n (gne_c c2_q c2_it (by decide))]; exact c2_q
  have c3_it : w3_ it = some (.inr (11, [.int 0, .int (-1), .int md, .ref q])) := by rw [hw3_]; exact gu_s
  rw [hQ]
  refine g_vret S G hr hlocks (hdg := dJ29_init_25) ?_ ?_ ?_
  · exact Nat.le_of_ble_eq_true rfl
  · exact Nat.le_of_ble_eq_true rfl
  · refine ⟨rfl, ?_⟩
    rw [hw3_, hw2_, hw1_]
    repeat rw [gu_uu]
    first | done | rfl
abbrev rmJ2_iterator : Room := ({ frames := 2, cells := 1, slots := 4, locals := 41 } : Room)
set_option maxHeartbeats 4000000 in
theorem metJ2_iterator (l : Launch) (D : va_G) (K : Nat → Nat) (w : Gh) {q t : Nat} {md sz : Int32} (hq : w q = some (.inr (6, [.int md, .ref t, .int sz]))) : gMet l yJ2_iterator (ws_ yJ2_iterator cJ2_iterator 1 (some (.object "java/util/Iterator"))) rmJ2_iterator D K [.ref q] w (fun r' w' => ∃ it, r' = some (.ref it) ∧ w it = none ∧ K 0 ≤ it ∧ w' it = some (.inr (11, [.int 0, .int (-1), .int md, .ref q])) ∧ ∀ a x, w a = some x → w' a = some x) := by
  refine gMet.of (by decide) (Nat.le_of_ble_eq_true rfl) ?_
  intro p e s m args below meth c H locs ls S M hr hlocks hname G hl
  have hx := S.1
  have hb := S.2.1
  have hown := S.2.2.2.1
  have hts := S.2.2.2.2
  have hl : lv_has ls 1 [(0, .ref q)] := hl
  obtain ⟨Q, hQ⟩ : ∃ Q, Q = gE below D K (fun r' w' => ∃ it, r' = some (.ref it) ∧ w it = none ∧ K 0 ≤ it ∧ w' it = some (.inr (11, [.int 0, .int (-1), .int md, .ref q])) ∧ ∀ a x, w a = some x → w' a = some x) args s rmJ2_iterator.cells rmJ2_iterator.slots := ⟨_, rfl⟩
  rw [← hQ]
  refine g_new (pc := 0) S M G (C := RJ29) (T := TJ29) (N := 4) (ci := 11) (fs := [.int 0, .int 0, .int 0, .null]) in_J29 tyJ29 tyJ29_ok q252 q253 q55 rfl df_J29 (Nat.le_of_ble_eq_true rfl) (Nat.le_of_ble_eq_true rfl) dJ2_iterator_0 (fun q1_ H hnq1_ hbq1_ heq1_ hsq1_ G => ?_)
  refine W.widen (k := 1) (n := 4) (Nat.le_of_ble_eq_true rfl) (Nat.le_of_ble_eq_true rfl) ?_
  obtain ⟨w2_, hw2_⟩ : ∃ z9, z9 = gu w q1_ (.inr (11, [.int 0, .int 0, .int 0, .null])) := ⟨_, rfl⟩
  replace G : gS D K w2_ s H locs := by rw [hw2_]; exact G
  have c2_q : w2_ q = some (.inr (6, [.int md, .ref t, .int sz])) := by rw [hw2_, gu_n (gne_f hq hnq1_)]; exact hq
  have c2_q1_ : w2_ q1_ = some (.inr (11, [.int 0, .int 0, .int 0, .null])) := by rw [hw2_]; exact gu_s
  refine lv_dup (pc := 3) hx hb dJ2_iterator_3 rfl ?_
  refine lv_aload_n (pc := 4) hx hb dJ2_iterator_4 rfl (lv_at hl 0 rfl) ?_
  refine g_callI (pc := 5) S M G hl.1 [.ref q] [.ref q1_] (metJ29_init l D K w2_ c2_q1_ hbq1_ c2_q) 1 q256 q254 q255 q55 rfl (by decide) rfl ⟨Nat.le_of_ble_eq_true rfl, Nat.le_of_ble_eq_true rfl⟩ rfl (Nat.le_of_ble_eq_true rfl) dJ2_iterator_5 ⟨Nat.le_of_ble_eq_true rfl, Nat.le_of_ble_eq_true rfl⟩ (fun r w2 H locs hp G => ?_)
  obtain ⟨rfl, hw2⟩ := hp
  rw [hw2] at G
  obtain ⟨w3_, hw3_⟩ : ∃ z9, z9 = gu w2_ q1_ (.inr (11, [.int 0, .int (-1), .int md, .ref q])) := ⟨_, rfl⟩
  replace G : gS D K w3_ s H locs := by rw [hw3_]; exact G
  have c3_q : w3_ q = some (.inr (6, [.int md, .ref t, .int sz])) := by rw [hw3_, gu_n (gne_f hq hnq1_)]; exact c2_q
  have c3_q1_ : w3_ q1_ = some (.inr (11, [.int 0, .int (-1), .int md, .ref q])) := by rw [hw3_]; exact gu_s
  refine W.eq (g2 := F0 m 8 ls [.ref q1_]) rfl ?_
  rw [hQ]
  refine g_aret S G (rt := (.object "java/util/Iterator")) (r := some q1_) hr (Or.inl ⟨_, rfl⟩) hlocks (hdg := dJ2_iterator_8) ?_ ?_ ?_
  · exact Nat.le_of_ble_eq_true rfl
  · exact Nat.le_of_ble_eq_true rfl
  · refine ⟨q1_, rfl, hnq1_, hbq1_, c3_q1_, fun a x h1 => ?_⟩
    rw [hw3_, hw2_, gu_n (gne_f h1 hnq1_), gu_n (gne_f h1 hnq1_)]
    exact h1
abbrev rmJ29_hasNext : Room := ({ frames := 0, cells := 0, slots := 0, locals := 0 } : Room)
set_option maxHeartbeats 4000000 in
theorem metJ29_hasNext (l : Launch) (D : va_G) (K : Nat → Nat) (w : Gh) {it q t : Nat} {cu la ex md sz : Int32} (hit : w it = some (.inr (11, [.int cu, .int la, .int ex, .ref q]))) (hq : w q = some (.inr (6, [.int md, .ref t, .int sz]))) : gMet l yJ29_hasNext (ws_ yJ29_hasNext cJ29_hasNext 1 (some .boolean)) rmJ29_hasNext D K [.ref it] w (fun r' w' => r' = some (.int (if cu = sz then 0 else 1)) ∧ w' = w) := by
  refine gMet.of (by decide) (Nat.le_of_ble_eq_true rfl) ?_
  intro p e s m args below meth c H locs ls S M hr hlocks hname G hl
  have hx := S.1
  have hb := S.2.1
  have hown := S.2.2.2.1
  have hts := S.2.2.2.2
  have hl : lv_has ls 1 [(0, .ref it)] := hl
  obtain ⟨Q, hQ⟩ : ∃ Q, Q = gE below D K (fun r' w' => r' = some (.int (if cu = sz then 0 else 1)) ∧ w' = w) args s rmJ29_hasNext.cells rmJ29_hasNext.slots := ⟨_, rfl⟩
  rw [← hQ]
  refine lv_aload_n (pc := 0) hx hb dJ29_hasNext_0 rfl (lv_at hl 0 rfl) ?_
  refine g_get (pc := 1) (v := .int cu) S M G (C := RJ29) (T := TJ29) (N := 4) (ci := 11) in_J29 hit rfl 0 (by decide) q258 (Or.inl rfl) rfl dJ29_hasNext_1 ?_
  refine lv_aload_n (pc := 4) hx hb dJ29_hasNext_4 rfl (lv_at hl 0 rfl) ?_
  refine g_get (pc := 5) (v := .ref q) S M G (C := RJ29) (T := TJ29) (N := 4) (ci := 11) in_J29 hit rfl 3 (by decide) q261 (Or.inl rfl) rfl dJ29_hasNext_5 ?_
  refine g_getN (pc := 8) (v := .int sz) S M G (C := RJ2) (T := TJ2) (N := 3) (ci := 6) in_J2 hq rfl 2 (by decide) q98 rfl rfl dJ29_hasNext_8 ?_
  refine lv_icmp_eq (pc := 11) (tgt := 18) hx hb dJ29_hasNext_11 (by decide) (fun c1 => ?_) (fun c1 => ?_)
  · refine lv_iconst (pc := 18) (v := 0) hx hb dJ29_hasNext_18 (by decide) ?_
    rw [hQ]
    refine g_zret S G hr hlocks (hv := ?_) (hdg := dJ29_hasNext_19) ?_ ?_ ?_
    · first | exact Or.inl rfl | exact Or.inr rfl | exact Or.inl rfl
    · exact Nat.le_of_ble_eq_true rfl
    · exact Nat.le_of_ble_eq_true rfl
    · exact ⟨by rw [if_pos c1], rfl⟩
  · refine lv_iconst (pc := 14) (v := 1) hx hb dJ29_hasNext_14 (by decide) ?_
    refine lv_goto (pc := 15) (tgt := 19) hx hb dJ29_hasNext_15 (by decide) ?_
    rw [hQ]
    refine g_zret S G hr hlocks (hv := ?_) (hdg := dJ29_hasNext_19) ?_ ?_ ?_
    · first | exact Or.inl rfl | exact Or.inr rfl | exact Or.inl rfl
    · exact Nat.le_of_ble_eq_true rfl
    · exact Nat.le_of_ble_eq_true rfl
    · exact ⟨by rw [if_neg c1], rfl⟩
abbrev rmJ29_checkForComodification : Room := ({ frames := 0, cells := 0, slots := 0, locals := 0 } : Room)
set_option maxHeartbeats 4000000 in
theorem metJ29_checkForComodification (l : Launch) (D : va_G) (K : Nat → Nat) (w : Gh) {it q t : Nat} {cu la md sz : Int32} (hit : w it = some (.inr (11, [.int cu, .int la, .int md, .ref q]))) (hq : w q = some (.inr (6, [.int md, .ref t, .int sz]))) : gMet l yJ29_checkForComodification (ws_ yJ29_checkForComodification cJ29_checkForComodification 1 none) rmJ29_checkForComodification D K [.ref it] w (fun r' w' => r' = none ∧ w' = w) := by
  refine gMet.of (by decide) (Nat.le_of_ble_eq_true rfl) ?_
  intro p e s m args below meth c H locs ls S M hr hlocks hname G hl
  have hx := S.1
  have hb := S.2.1
  have hown := S.2.2.2.1
  have hts := S.2.2.2.2
  have hl : lv_has ls 1 [(0, .ref it)] := hl
  obtain ⟨Q, hQ⟩ : ∃ Q, Q = gE below D K (fun r' w' => r' = none ∧ w' = w) args s rmJ29_checkForComodification.cells rmJ29_checkForComodification.slots := ⟨_, rfl⟩
  rw [← hQ]
  refine lv_aload_n (pc := 0) hx hb dJ29_checkForComodification_0 rfl (lv_at hl 0 rfl) ?_
  refine g_get (pc := 1) (v := .ref q) S M G (C := RJ29) (T := TJ29) (N := 4) (ci := 11) in_J29 hit rfl 3 (by decide) q261 (Or.inl rfl) rfl dJ29_checkForComodification_1 ?_
  refine g_get (pc := 4) (v := .int md) S M G (C := RJ2) (T := TJ2) (N := 3) (ci := 6) in_J2 hq rfl 0 (by decide) q101 (Or.inr q102) rfl dJ29_checkForComodification_4 ?_
  refine lv_aload_n (pc := 7) hx hb dJ29_checkForComodification_7 rfl (lv_at hl 0 rfl) ?_
  refine g_get (pc := 8) (v := .int md) S M G (C := RJ29) (T := TJ29) (N := 4) (ci := 11) in_J29 hit rfl 2 (by decide) q260 (Or.inl rfl) rfl dJ29_checkForComodification_8 ?_
  refine lv_icmp_eq (pc := 11) (tgt := 22) hx hb dJ29_checkForComodification_11 (by decide) (fun _ => ?_) (fun c => absurd rfl c)
  rw [hQ]
  refine g_vret S G hr hlocks (hdg := dJ29_checkForComodification_22) ?_ ?_ ?_
  · exact Nat.le_of_ble_eq_true rfl
  · exact Nat.le_of_ble_eq_true rfl
  · exact ⟨rfl, rfl⟩
abbrev rmJ29_next : Room := ({ frames := 1, cells := 0, slots := 0, locals := 20 } : Room)
set_option maxHeartbeats 4000000 in
theorem metJ29_next (l : Launch) (D : va_G) (K : Nat → Nat) (w : Gh) {it q t n cn i x : Nat} {f : Nat → Option Nat} {la md : Int32} (hit : w it = some (.inr (11, [.int (nI i), .int la, .int md, .ref q]))) (hbi : K 0 ≤ it) (hq : w q = some (.inr (6, [.int md, .ref t, .int (nI cn)]))) (ht : w t = some (.inl (D.1 102, n, gra f))) (hn33 : n ≤ 33) (hi : i < cn) (hcn : cn ≤ n) (hf : f i = some x) : gMet l yJ29_next (ws_ yJ29_next cJ29_next 3 (some (.object "java/lang/Object"))) rmJ29_next D K [.ref it] w (fun r' w' => r' = some (.ref x) ∧ w' = gu w it (.inr (11, [.int (nI (i + 1)), .int (nI i), .int md, .ref q]))) := by
  refine gMet.of (by decide) (Nat.le_of_ble_eq_true rfl) ?_
  intro p e s m args below meth c H locs ls S M hr hlocks hname G hl
  have hx := S.1
  have hb := S.2.1
  have hown := S.2.2.2.1
  have hts := S.2.2.2.2
  have hl : lv_has ls 3 [(0, .ref it)] := hl
  obtain ⟨Q, hQ⟩ : ∃ Q, Q = gE below D K (fun r' w' => r' = some (.ref x) ∧ w' = gu w it (.inr (11, [.int (nI (i + 1)), .int (nI i), .int md, .ref q]))) args s rmJ29_next.cells rmJ29_next.slots := ⟨_, rfl⟩
  rw [← hQ]
  have hin : i < n := by omega
  refine lv_aload_n (pc := 0) hx hb dJ29_next_0 rfl (lv_at hl 0 rfl) ?_
  refine g_callV (pc := 1) S M G hl.1 [] [] (metJ29_checkForComodification l D K w hit hq) 0 (g_recv M G hit (q := (RJ29, TJ29, 4)) rfl) q389 q386 q387 q388 q55 (by decide) rfl ⟨Nat.le_of_ble_eq_true rfl, Nat.le_of_ble_eq_true rfl⟩ rfl (Nat.le_of_ble_eq_true rfl) dJ29_next_1 ⟨Nat.le_of_ble_eq_true rfl, Nat.le_of_ble_eq_true rfl⟩ (fun r w2 H locs hp G => ?_)
  obtain ⟨rfl, hw2⟩ := hp
  rw [hw2] at G
  refine W.eq (g2 := F0 m 4 ls []) rfl ?_
  refine lv_aload_n (pc := 4) hx hb dJ29_next_4 rfl (lv_at hl 0 rfl) ?_
  refine g_get (pc := 5) (v := .int (nI i)) S M G (C := RJ29) (T := TJ29) (N := 4) (ci := 11) in_J29 hit rfl 0 (by decide) q258 (Or.inl rfl) rfl dJ29_next_5 ?_
  refine lv_istore_n (pc := 8) (lv' := [(1, .int (nI i)), (0, .ref it)]) hx hb dJ29_next_8 rfl hl (by decide) rfl (fun ls hl => ?_)
  refine lv_iload_n (pc := 9) hx hb dJ29_next_9 rfl (lv_at hl 0 rfl) ?_
  refine lv_aload_n (pc := 10) hx hb dJ29_next_10 rfl (lv_at hl 1 rfl) ?_
  refine g_get (pc := 11) (v := .ref q) S M G (C := RJ29) (T := TJ29) (N := 4) (ci := 11) in_J29 hit rfl 3 (by decide) q261 (Or.inl rfl) rfl dJ29_next_11 ?_
  refine g_getN (pc := 14) (v := .int (nI cn)) S M G (C := RJ2) (T := TJ2) (N := 3) (ci := 6) in_J2 hq rfl 2 (by decide) q98 rfl rfl dJ29_next_14 ?_
  refine lv_icmp_lt (pc := 17) (tgt := 28) hx hb dJ29_next_17 (by decide) (fun _ => ?_) (fun c => absurd (nI_lt hi (by omega)) c)
  refine lv_aload_n (pc := 28) hx hb dJ29_next_28 rfl (lv_at hl 1 rfl) ?_
  refine g_get (pc := 29) (v := .ref q) S M G (C := RJ29) (T := TJ29) (N := 4) (ci := 11) in_J29 hit rfl 3 (by decide) q261 (Or.inl rfl) rfl dJ29_next_29 ?_
  refine g_get (pc := 32) (v := .ref t) S M G (C := RJ2) (T := TJ2) (N := 3) (ci := 6) in_J2 hq rfl 1 (by decide) q97 (Or.inl rfl) rfl dJ29_next_32 ?_
  refine lv_astore_n (pc := 35) (lv' := [(2, .ref t), (1, .int (nI i)), (0, .ref it)]) hx hb dJ29_next_35 rfl hl (by decide) rfl (fun ls hl => ?_)
  refine lv_iload_n (pc := 36) hx hb dJ29_next_36 rfl (lv_at hl 1 rfl) ?_
  refine lv_aload_n (pc := 37) hx hb dJ29_next_37 rfl (lv_at hl 0 rfl) ?_
  refine g_alen (pc := 38) (v := (nI n)) S M G 2 rfl ht rfl dJ29_next_38 ?_
  refine lv_icmp_lt (pc := 39) (tgt := 50) hx hb dJ29_next_39 (by decide) (fun _ => ?_) (fun c => absurd (nI_lt hin (by omega)) c)
  refine lv_aload_n (pc := 50) hx hb dJ29_next_50 rfl (lv_at hl 2 rfl) ?_
  refine lv_iload_n (pc := 51) hx hb dJ29_next_51 rfl (lv_at hl 1 rfl) ?_
  refine lv_iconst (pc := 52) (v := 1) hx hb dJ29_next_52 (by decide) ?_
  refine lv_iadd (pc := 53) hx hb dJ29_next_53 ?_
  rw [← nI_succ]
  refine g_put (pc := 54) (v := .int (nI (i + 1))) S M G (C := RJ29) (T := TJ29) (N := 4) (ci := 11) in_J29 tyJ29 tyJ29_ok nmJ29 hit hbi rfl 0 (by decide) q258 (Or.inl rfl) rfl rfl rfl (Nat.le_of_ble_eq_true rfl) dJ29_next_54 (fun H locs G => ?_)
  obtain ⟨w1_, hw1_⟩ : ∃ z9, z9 = gu w it (.inr (11, [.int (nI (i + 1)), .int la, .int md, .ref q])) := ⟨_, rfl⟩
  replace G : gS D K w1_ s H locs := by rw [hw1_]; exact G
  have c1_q : w1_ q = some (.inr (6, [.int md, .ref t, .int (nI cn)])) := by rw [hw1_, gu_n (gne_c hq hit (by decide))]; exact hq
  have c1_t : w1_ t = some (.inl (D.1 102, n, .inr (.inr (.inr (.inr f))))) := by rw [hw1_, gu_n (gne_ao ht hit)]; exact ht
  have c1_it : w1_ it = some (.inr (11, [.int (nI (i + 1)), .int la, .int md, .ref q])) := by rw [hw1_]; exact gu_s
  refine lv_aload_n (pc := 57) hx hb dJ29_next_57 rfl (lv_at hl 0 rfl) ?_
  refine lv_aload_n (pc := 58) hx hb dJ29_next_58 rfl (lv_at hl 2 rfl) ?_
  refine lv_iload_n (pc := 59) hx hb dJ29_next_59 rfl (lv_at hl 1 rfl) ?_
  refine lv_dup_x1 (pc := 60) hx hb dJ29_next_60 rfl rfl ?_
  refine g_put (pc := 61) (v := .int (nI i)) S M G (C := RJ29) (T := TJ29) (N := 4) (ci := 11) in_J29 tyJ29 tyJ29_ok nmJ29 c1_it hbi rfl 1 (by decide) q259 (Or.inl rfl) rfl rfl rfl (Nat.le_of_ble_eq_true rfl) dJ29_next_61 (fun H locs G => ?_)
  obtain ⟨w2_, hw2_⟩ : ∃ z9, z9 = gu w1_ it (.inr (11, [.int (nI (i + 1)), .int (nI i), .int md, .ref q])) := ⟨_, rfl⟩
  replace G : gS D K w2_ s H locs := by rw [hw2_]; exact G
  have c2_q : w2_ q = some (.inr (6, [.int md, .ref t, .int (nI cn)])) := by rw [hw2_, gu_n (gne_c c1_q c1_it (by decide))]; exact c1_q
  have c2_t : w2_ t = some (.inl (D.1 102, n, .inr (.inr (.inr (.inr f))))) := by rw [hw2_, gu_n (gne_ao c1_t c1_it)]; exact c1_t
  have c2_it : w2_ it = some (.inr (11, [.int (nI (i + 1)), .int (nI i), .int md, .ref q])) := by rw [hw2_]; exact gu_s
  refine g_aald (pc := 64) S M G 2 rfl c2_t (vp_in_nI hin (by omega)) dJ29_next_64 ?_
  obtain ⟨r1, er1⟩ : ∃ z9, z9 = f (nI i).toNatClampNeg := ⟨_, rfl⟩
  rw [← er1]
  refine W.eq (g2 := F0 m 65 ls [va_rf r1]) rfl ?_
  rw [nI_clamp (show i < 2 ^ 31 by omega)] at er1
  rw [hf] at er1
  rw [er1]
  refine W.eq (g2 := F0 m 65 ls [.ref x]) rfl ?_
  rw [hQ]
  refine g_aret S G (rt := (.object "java/lang/Object")) (r := some x) hr (Or.inl ⟨_, rfl⟩) hlocks (hdg := dJ29_next_65) ?_ ?_ ?_
  · exact Nat.le_of_ble_eq_true rfl
  · exact Nat.le_of_ble_eq_true rfl
  · refine ⟨rfl, ?_⟩
    rw [hw2_, hw1_]
    repeat rw [gu_uu]
    first | done | rfl
