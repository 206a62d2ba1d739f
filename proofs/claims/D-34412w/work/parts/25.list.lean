/-! ArrayList -/
abbrev n3 (n : Nat) : Prop := n = 10 ∨ n = 15 ∨ n = 22
theorem n3_le {n : Nat} (h : n3 n) : n ≤ 22 := by rcases h with rfl | rfl | rfl <;> decide
theorem n3_sh {n : Nat} (h : n3 n) : nI n >>> ((1 : Int32) &&& 31) = nI (n / 2) := by rcases h with rfl | rfl | rfl <;> decide
theorem n3_mx {n : Nat} (h : n3 n) : (if (1 : Int32) < nI (n / 2) then nI (n / 2) else 1) = nI (n / 2) := by rcases h with rfl | rfl | rfl <;> decide
theorem n3_d {n : Nat} : nI n + 1 - nI n = 1 := by rw [Int32.add_comm, Int32.add_sub_cancel]
theorem n3_p {n : Nat} (h : n3 n) : ¬ nI (n + n / 2) ≤ 0 := by rcases h with rfl | rfl | rfl <;> decide
theorem n3_q {n : Nat} (h : n3 n) : ¬ (2147483639 : Int32) < nI (n + n / 2) := by rcases h with rfl | rfl | rfl <;> decide
theorem n3_0 {n : Nat} (h : n3 n) : 0 < nI n := by rcases h with rfl | rfl | rfl <;> decide
theorem n3_mn {n : Nat} (h : n3 n) : (if nI (n + n / 2) < nI n then nI (n + n / 2) else nI n) = nI n := by rcases h with rfl | rfl | rfl <;> decide
theorem cpy_all {f : Nat → Option Nat} {n : Nat} (h : ∀ i, n ≤ i → f i = none) : va_cpy f (fun _ => none) (0 : Int32).toNatClampNeg (0 : Int32).toNatClampNeg n = f := by
  funext k
  show (if 0 ≤ k ∧ k < 0 + n then f (0 + (k - 0)) else none) = f k
  by_cases q : k < n
  · rw [if_pos ⟨Nat.zero_le _, by omega⟩]; congr 1; omega
  · rw [if_neg (fun z => q (by omega)), h k (by omega)]
abbrev rmJ1_init : Room := ({ frames := 2, cells := 0, slots := 0, locals := 40 } : Room)
set_option maxHeartbeats 4000000 in
theorem metJ1_init (l : Launch) (D : va_G) (K : Nat → Nat) (w : Gh) {q : Nat} (hq : w q = some (.inr (6, [.int 0, .null, .int 0]))) (hbq : K 0 ≤ q) : gMet l yJ1_init (ws_ yJ1_init cJ1_init 1 none) rmJ1_init D K [.ref q] w (fun r' w' => r' = none ∧ w' = gu w q (.inr (6, [.int 0, .null, .int 0]))) := by
  refine gMet.of (by decide) (Nat.le_of_ble_eq_true rfl) ?_
  intro p e s m args below meth c H locs ls S M hr hlocks hname G hl
  have hx := S.1
  have hb := S.2.1
  have hown := S.2.2.2.1
  have hts := S.2.2.2.2
  have hl : lv_has ls 1 [(0, .ref q)] := hl
  obtain ⟨Q, hQ⟩ : ∃ Q, Q = gE below D K (fun r' w' => r' = none ∧ w' = gu w q (.inr (6, [.int 0, .null, .int 0]))) args s rmJ1_init.cells rmJ1_init.slots := ⟨_, rfl⟩
  rw [← hQ]
  refine lv_aload_n (pc := 0) hx hb dJ1_init_0 rfl (lv_at hl 0 rfl) ?_
  refine g_callI (pc := 1) S M G hl.1 [] [] (metJ0_init l D K w (a := q)) 0 q92 q90 q91 q20 rfl (by decide) rfl ⟨Nat.le_of_ble_eq_true rfl, Nat.le_of_ble_eq_true rfl⟩ rfl (Nat.le_of_ble_eq_true rfl) dJ1_init_1 ⟨Nat.le_of_ble_eq_true rfl, Nat.le_of_ble_eq_true rfl⟩ (fun r wz H locs hp G => ?_)
  obtain ⟨rfl, hw2⟩ := hp
  rw [hw2] at G
  refine W.eq (g2 := F0 m 4 ls []) rfl ?_
  refine lv_aload_n (pc := 4) hx hb dJ1_init_4 rfl (lv_at hl 0 rfl) ?_
  refine lv_iconst (pc := 5) (v := 0) hx hb dJ1_init_5 (by decide) ?_
  refine g_put (pc := 6) (v := .int 0) S M G (C := RJ2) (T := TJ2) (N := 3) (ci := 6) in_J2 tyJ2 tyJ2_ok nmJ2 hq hbq rfl 0 (by decide) q100 (Or.inl rfl) rfl rfl rfl (Nat.le_of_ble_eq_true rfl) dJ1_init_6 (fun H locs G => ?_)
  obtain ⟨w1_, hw1_⟩ : ∃ z9, z9 = gu w q (.inr (6, [.int 0, .null, .int 0])) := ⟨_, rfl⟩
  replace G : gS D K w1_ s H locs := by rw [hw1_]; exact G
  have c1_q : w1_ q = some (.inr (6, [.int 0, .null, .int 0])) := by rw [hw1_]; exact gu_s
  rw [hQ]
  refine g_vret S G hr hlocks (hdg := dJ1_init_9) ?_ ?_ ?_
  · exact Nat.le_of_ble_eq_true rfl
  · exact Nat.le_of_ble_eq_true rfl
  · refine ⟨rfl, ?_⟩
    rw [hw1_]
    repeat rw [gu_uu]
    first | done | rfl
abbrev rmJ2_init : Room := ({ frames := 3, cells := 0, slots := 0, locals := 60 } : Room)
set_option maxHeartbeats 4000000 in
theorem metJ2_init (l : Launch) (D : va_G) (K : Nat → Nat) (w : Gh) {q : Nat} (hq : w q = some (.inr (6, [.int 0, .null, .int 0]))) (hbq : K 0 ≤ q) : gMet l yJ2_init (ws_ yJ2_init cJ2_init 1 none) rmJ2_init D K [.ref q] w (fun r' w' => r' = none ∧ w' = gu w q (.inr (6, [.int 0, .ref (K 1), .int 0]))) := by
  refine gMet.of (by decide) (Nat.le_of_ble_eq_true rfl) ?_
  intro p e s m args below meth c H locs ls S M hr hlocks hname G hl
  have hx := S.1
  have hb := S.2.1
  have hown := S.2.2.2.1
  have hts := S.2.2.2.2
  have hl : lv_has ls 1 [(0, .ref q)] := hl
  obtain ⟨Q, hQ⟩ : ∃ Q, Q = gE below D K (fun r' w' => r' = none ∧ w' = gu w q (.inr (6, [.int 0, .ref (K 1), .int 0]))) args s rmJ2_init.cells rmJ2_init.slots := ⟨_, rfl⟩
  rw [← hQ]
  refine lv_aload_n (pc := 0) hx hb dJ2_init_0 rfl (lv_at hl 0 rfl) ?_
  refine g_callI (pc := 1) S M G hl.1 [] [] (metJ1_init l D K w hq hbq) 0 q89 q87 q88 q21 rfl (by decide) rfl ⟨Nat.le_of_ble_eq_true rfl, Nat.le_of_ble_eq_true rfl⟩ rfl (Nat.le_of_ble_eq_true rfl) dJ2_init_1 ⟨Nat.le_of_ble_eq_true rfl, Nat.le_of_ble_eq_true rfl⟩ (fun r w2 H locs hp G => ?_)
  obtain ⟨rfl, hw2⟩ := hp
  rw [hw2] at G
  obtain ⟨w1_, hw1_⟩ : ∃ z9, z9 = gu w q (.inr (6, [.int 0, .null, .int 0])) := ⟨_, rfl⟩
  replace G : gS D K w1_ s H locs := by rw [hw1_]; exact G
  have c1_q : w1_ q = some (.inr (6, [.int 0, .null, .int 0])) := by rw [hw1_]; exact gu_s
  refine W.eq (g2 := F0 m 4 ls []) rfl ?_
  refine lv_aload_n (pc := 4) hx hb dJ2_init_4 rfl (lv_at hl 0 rfl) ?_
  refine g_gets (pc := 5) (v := .ref (K 1)) S G M.2.1 q94 dJ2_init_5 ?_
  refine g_put (pc := 8) (v := .ref (K 1)) S M G (C := RJ2) (T := TJ2) (N := 3) (ci := 6) in_J2 tyJ2 tyJ2_ok nmJ2 c1_q hbq rfl 1 (by decide) q96 (Or.inl rfl) rfl rfl rfl (Nat.le_of_ble_eq_true rfl) dJ2_init_8 (fun H locs G => ?_)
  obtain ⟨w2_, hw2_⟩ : ∃ z9, z9 = gu w1_ q (.inr (6, [.int 0, .ref (K 1), .int 0])) := ⟨_, rfl⟩
  replace G : gS D K w2_ s H locs := by rw [hw2_]; exact G
  have c2_q : w2_ q = some (.inr (6, [.int 0, .ref (K 1), .int 0])) := by rw [hw2_]; exact gu_s
  rw [hQ]
  refine g_vret S G hr hlocks (hdg := dJ2_init_11) ?_ ?_ ?_
  · exact Nat.le_of_ble_eq_true rfl
  · exact Nat.le_of_ble_eq_true rfl
  · refine ⟨rfl, ?_⟩
    rw [hw2_, hw1_]
    repeat rw [gu_uu]
    first | done | rfl
abbrev rmJ2_size : Room := ({ frames := 0, cells := 0, slots := 0, locals := 0 } : Room)
set_option maxHeartbeats 4000000 in
theorem metJ2_size (l : Launch) (D : va_G) (K : Nat → Nat) (w : Gh) {q t : Nat} {md sz : Int32} (hq : w q = some (.inr (6, [.int md, .ref t, .int sz]))) : gMet l yJ2_size (ws_ yJ2_size cJ2_size 1 (some .int)) rmJ2_size D K [.ref q] w (fun r' w' => r' = some (.int sz) ∧ w' = w) := by
  refine gMet.of (by decide) (Nat.le_of_ble_eq_true rfl) ?_
  intro p e s m args below meth c H locs ls S M hr hlocks hname G hl
  have hx := S.1
  have hb := S.2.1
  have hown := S.2.2.2.1
  have hts := S.2.2.2.2
  have hl : lv_has ls 1 [(0, .ref q)] := hl
  obtain ⟨Q, hQ⟩ : ∃ Q, Q = gE below D K (fun r' w' => r' = some (.int sz) ∧ w' = w) args s rmJ2_size.cells rmJ2_size.slots := ⟨_, rfl⟩
  rw [← hQ]
  refine lv_aload_n (pc := 0) hx hb dJ2_size_0 rfl (lv_at hl 0 rfl) ?_
  refine g_get (pc := 1) (v := .int sz) S M G (C := RJ2) (T := TJ2) (N := 3) (ci := 6) in_J2 hq rfl 2 (by decide) q99 (Or.inl rfl) rfl dJ2_size_1 ?_
  rw [hQ]
  refine g_iret S G hr hlocks (hdg := dJ2_size_4) ?_ ?_ ?_
  · exact Nat.le_of_ble_eq_true rfl
  · exact Nat.le_of_ble_eq_true rfl
  · exact ⟨rfl, rfl⟩
abbrev rmJ2_grow_2E : Room := ({ frames := 1, cells := 1, slots := 10, locals := 27 } : Room)
set_option maxHeartbeats 4000000 in
theorem metJ2_grow_2E (l : Launch) (D : va_G) (K : Nat → Nat) (w : Gh) {q : Nat} {md : Int32} (hq : w q = some (.inr (6, [.int md, .ref (K 1), .int 0]))) (hbq : K 0 ≤ q) : gMet l yJ2_grow_2 (ws_ yJ2_grow_2 cJ2_grow_2 4 (some (.array (.object "java/lang/Object")))) rmJ2_grow_2E D K [.ref q, .int 1] w (fun r' w' => ∃ t', r' = some (.ref t') ∧ w t' = none ∧ K 0 ≤ t' ∧ w' q = some (.inr (6, [.int md, .ref t', .int 0])) ∧ w' t' = some (.inl (D.1 102, 10, gra (fun _ => none))) ∧ ∀ b x, w b = some x → b ≠ q → w' b = some x) := by
  refine gMet.of (by decide) (Nat.le_of_ble_eq_true rfl) ?_
  intro p e s m args below meth c H locs ls S M hr hlocks hname G hl
  have hx := S.1
  have hb := S.2.1
  have hown := S.2.2.2.1
  have hts := S.2.2.2.2
  have hl : lv_has ls 4 [(0, .ref q), (1, .int 1)] := hl
  obtain ⟨Q, hQ⟩ : ∃ Q, Q = gE below D K (fun r' w' => ∃ t', r' = some (.ref t') ∧ w t' = none ∧ K 0 ≤ t' ∧ w' q = some (.inr (6, [.int md, .ref t', .int 0])) ∧ w' t' = some (.inl (D.1 102, 10, gra (fun _ => none))) ∧ ∀ b x, w b = some x → b ≠ q → w' b = some x) args s rmJ2_grow_2E.cells rmJ2_grow_2E.slots := ⟨_, rfl⟩
  rw [← hQ]
  refine lv_aload_n (pc := 0) hx hb dJ2_grow_2_0 rfl (lv_at hl 0 rfl) ?_
  refine g_get (pc := 1) (v := .ref (K 1)) S M G (C := RJ2) (T := TJ2) (N := 3) (ci := 6) in_J2 hq rfl 1 (by decide) q96 (Or.inl rfl) rfl dJ2_grow_2_1 ?_
  refine g_tlen (pc := 4) (v := 0) S G M.2.2.1 rfl dJ2_grow_2_4 ?_
  refine lv_istore_n (pc := 5) (lv' := [(2, .int 0), (0, .ref q), (1, .int 1)]) hx hb dJ2_grow_2_5 rfl hl (by decide) rfl (fun ls hl => ?_)
  refine lv_iload_n (pc := 6) hx hb dJ2_grow_2_6 rfl (lv_at hl 0 rfl) ?_
  refine lv_if_gt (pc := 7) (tgt := 20) hx hb dJ2_grow_2_7 (by decide) (fun c => absurd c (by decide)) (fun _ => ?_)
  refine lv_aload_n (pc := 10) hx hb dJ2_grow_2_10 rfl (lv_at hl 1 rfl) ?_
  refine g_get (pc := 11) (v := .ref (K 1)) S M G (C := RJ2) (T := TJ2) (N := 3) (ci := 6) in_J2 hq rfl 1 (by decide) q96 (Or.inl rfl) rfl dJ2_grow_2_11 ?_
  refine g_gets (pc := 14) (v := .ref (K 1)) S G M.2.1 q94 dJ2_grow_2_14 ?_
  refine lv_acmp_eq (pc := 17) (tgt := 45) (rx := (some (K 1))) (ry := (some (K 1))) hx hb dJ2_grow_2_17 (by decide) (fun _ => ?_) (fun c => absurd rfl c)
  refine lv_aload_n (pc := 45) hx hb dJ2_grow_2_45 rfl (lv_at hl 1 rfl) ?_
  refine lv_bipush (pc := 46) (v := 10) hx hb dJ2_grow_2_46 (by decide) ?_
  refine lv_iload_n (pc := 48) hx hb dJ2_grow_2_48 rfl (lv_at hl 2 rfl) ?_
  refine g_max (pc := 49) (x := 10) (y := 1) S hl.1 q647 (Nat.le_of_ble_eq_true rfl) (Nat.le_of_ble_eq_true rfl) (Nat.le_of_ble_eq_true rfl) (Nat.le_of_ble_eq_true rfl) dJ2_grow_2_49 ?_
  rw [show (if (10 : Int32) < 1 then (1 : Int32) else 10) = 10 from by decide]
  refine g_newq (pc := 52) S M G (C := "java/lang/Object") (N' := 10) 2 rfl q648 q639 (by decide) rfl (by decide) (Nat.le_of_ble_eq_true rfl) (Nat.le_trans (show 0 + 10 ≤ 10 from (by decide)) (Nat.le_of_ble_eq_true rfl)) dJ2_grow_2_52 (fun q1_ H hnq1_ hbq1_ heq1_ hsq1_ G => ?_)
  refine W.widen (k := 1) (n := 10) (Nat.le_of_ble_eq_true rfl) (show 0 + 10 ≤ 10 from (by decide)) ?_
  obtain ⟨w2_, hw2_⟩ : ∃ z9, z9 = gu w q1_ (.inl (D.1 102, 10, .inr (.inr (.inr (.inr (fun _ => none)))))) := ⟨_, rfl⟩
  replace G : gS D K w2_ s H locs := by rw [hw2_]; exact G
  have c2_q : w2_ q = some (.inr (6, [.int md, .ref (K 1), .int 0])) := by rw [hw2_, gu_n (gne_f hq hnq1_)]; exact hq
  have c2_q1_ : w2_ q1_ = some (.inl (D.1 102, 10, .inr (.inr (.inr (.inr (fun _ => none)))))) := by rw [hw2_]; exact gu_s
  refine lv_dup_x1 (pc := 55) hx hb dJ2_grow_2_55 rfl rfl ?_
  refine g_put (pc := 56) (v := .ref q1_) S M G (C := RJ2) (T := TJ2) (N := 3) (ci := 6) in_J2 tyJ2 tyJ2_ok nmJ2 c2_q hbq rfl 1 (by decide) q96 (Or.inl rfl) rfl rfl rfl (Nat.le_of_ble_eq_true rfl) dJ2_grow_2_56 (fun H locs G => ?_)
  obtain ⟨w3_, hw3_⟩ : ∃ z9, z9 = gu w2_ q (.inr (6, [.int md, .ref q1_, .int 0])) := ⟨_, rfl⟩
  replace G : gS D K w3_ s H locs := by rw [hw3_]; exact G
  have c3_q1_ : w3_ q1_ = some (.inl (D.1 102, 10, .inr (.inr (.inr (.inr (fun _ => none)))))) := by rw [hw3_, gu_n (Ne.symm (gne_f hq hnq1_))]; exact c2_q1_
  have c3_q : w3_ q = some (.inr (6, [.int md, .ref q1_, .int 0])) := by rw [hw3_]; exact gu_s
  rw [hQ]
  refine g_aret S G (rt := (.array (.object "java/lang/Object"))) (r := some q1_) hr (Or.inr ⟨_, rfl⟩) hlocks (hdg := dJ2_grow_2_59) ?_ ?_ ?_
  · exact Nat.le_of_ble_eq_true rfl
  · exact Nat.le_of_ble_eq_true rfl
  · refine ⟨q1_, rfl, hnq1_, hbq1_, c3_q, c3_q1_, fun b x h1 h2 => ?_⟩
    rw [hw3_, hw2_]
    rw [gu_n h2, gu_n (gne_f h1 hnq1_)]
    exact h1
abbrev rmJ2_growE : Room := ({ frames := 2, cells := 1, slots := 10, locals := 50 } : Room)
set_option maxHeartbeats 4000000 in
theorem metJ2_growE (l : Launch) (D : va_G) (K : Nat → Nat) (w : Gh) {q : Nat} {md : Int32} (hq : w q = some (.inr (6, [.int md, .ref (K 1), .int 0]))) (hbq : K 0 ≤ q) : gMet l yJ2_grow (ws_ yJ2_grow cJ2_grow 1 (some (.array (.object "java/lang/Object")))) rmJ2_growE D K [.ref q] w (fun r' w' => ∃ t', r' = some (.ref t') ∧ w t' = none ∧ K 0 ≤ t' ∧ w' q = some (.inr (6, [.int md, .ref t', .int 0])) ∧ w' t' = some (.inl (D.1 102, 10, gra (fun _ => none))) ∧ ∀ b x, w b = some x → b ≠ q → w' b = some x) := by
  refine gMet.of (by decide) (Nat.le_of_ble_eq_true rfl) ?_
  intro p e s m args below meth c H locs ls S M hr hlocks hname G hl
  have hx := S.1
  have hb := S.2.1
  have hown := S.2.2.2.1
  have hts := S.2.2.2.2
  have hl : lv_has ls 1 [(0, .ref q)] := hl
  obtain ⟨Q, hQ⟩ : ∃ Q, Q = gE below D K (fun r' w' => ∃ t', r' = some (.ref t') ∧ w t' = none ∧ K 0 ≤ t' ∧ w' q = some (.inr (6, [.int md, .ref t', .int 0])) ∧ w' t' = some (.inl (D.1 102, 10, gra (fun _ => none))) ∧ ∀ b x, w b = some x → b ≠ q → w' b = some x) args s rmJ2_growE.cells rmJ2_growE.slots := ⟨_, rfl⟩
  rw [← hQ]
  refine lv_aload_n (pc := 0) hx hb dJ2_grow_0 rfl (lv_at hl 0 rfl) ?_
  refine lv_aload_n (pc := 1) hx hb dJ2_grow_1 rfl (lv_at hl 0 rfl) ?_
  refine g_get (pc := 2) (v := .int 0) S M G (C := RJ2) (T := TJ2) (N := 3) (ci := 6) in_J2 hq rfl 2 (by decide) q99 (Or.inl rfl) rfl dJ2_grow_2 ?_
  refine lv_iconst (pc := 5) (v := 1) hx hb dJ2_grow_5 (by decide) ?_
  refine lv_iadd (pc := 6) hx hb dJ2_grow_6 ?_
  rw [show (0 : Int32) + 1 = 1 from rfl]
  refine g_callV (pc := 7) S M G hl.1 [.int 1] [] (metJ2_grow_2E l D K w hq hbq) 1 (g_recv M G hq (q := (RJ2, TJ2, 3)) rfl) q597 q594 q596 qs5 q22 (by decide) rfl ⟨Nat.le_of_ble_eq_true rfl, Nat.le_of_ble_eq_true rfl⟩ rfl (Nat.le_of_ble_eq_true rfl) dJ2_grow_7 ⟨Nat.le_of_ble_eq_true rfl, Nat.le_of_ble_eq_true rfl⟩ (fun r w2 H locs hp G => ?_)
  refine W.widen (k := 1) (n := 10) (Nat.le_of_ble_eq_true rfl) (Nat.le_of_ble_eq_true rfl) ?_
  obtain ⟨t', rfl, hwt, hbt', hq', ht', hfr⟩ := hp
  refine W.eq (g2 := F0 m 10 ls [.ref t']) rfl ?_
  rw [hQ]
  refine g_aret S G (rt := (.array (.object "java/lang/Object"))) (r := some t') hr (Or.inr ⟨_, rfl⟩) hlocks (hdg := dJ2_grow_10) ?_ ?_ ?_
  · exact Nat.le_of_ble_eq_true rfl
  · exact Nat.le_of_ble_eq_true rfl
  · exact ⟨t', rfl, hwt, hbt', hq', ht', hfr⟩
abbrev rmJ14_newLength : Room := ({ frames := 1, cells := 0, slots := 0, locals := 27 } : Room)
set_option maxHeartbeats 4000000 in
theorem metJ14_newLength (l : Launch) (D : va_G) (K : Nat → Nat) (w : Gh) {n : Nat} (hn : n3 n) : gMet l yJ14_newLength (ws_ yJ14_newLength cJ14_newLength 4 (some .int)) rmJ14_newLength D K [.int (nI n), .int 1, .int (nI (n / 2))] w (fun r' w' => r' = some (.int (nI (n + n / 2))) ∧ w' = w) := by
  refine gMet.of (by decide) (Nat.le_of_ble_eq_true rfl) ?_
  intro p e s m args below meth c H locs ls S M hr hlocks hname G hl
  have hx := S.1
  have hb := S.2.1
  have hown := S.2.2.2.1
  have hts := S.2.2.2.2
  have hl : lv_has ls 4 [(0, .int (nI n)), (1, .int 1), (2, .int (nI (n / 2)))] := hl
  obtain ⟨Q, hQ⟩ : ∃ Q, Q = gE below D K (fun r' w' => r' = some (.int (nI (n + n / 2))) ∧ w' = w) args s rmJ14_newLength.cells rmJ14_newLength.slots := ⟨_, rfl⟩
  rw [← hQ]
  refine lv_iload_n (pc := 0) hx hb dJ14_newLength_0 rfl (lv_at hl 0 rfl) ?_
  refine lv_iload_n (pc := 1) hx hb dJ14_newLength_1 rfl (lv_at hl 1 rfl) ?_
  refine lv_iload_n (pc := 2) hx hb dJ14_newLength_2 rfl (lv_at hl 2 rfl) ?_
  refine g_max (pc := 3) (x := 1) (y := (nI (n / 2))) S hl.1 q601 (Nat.le_of_ble_eq_true rfl) (Nat.le_of_ble_eq_true rfl) (Nat.le_of_ble_eq_true rfl) (Nat.le_of_ble_eq_true rfl) dJ14_newLength_3 ?_
  rw [n3_mx hn]
  refine lv_iadd (pc := 6) hx hb dJ14_newLength_6 ?_
  rw [nI_add]
  refine lv_istore_n (pc := 7) (lv' := [(3, .int (nI (n + n / 2))), (0, .int (nI n)), (1, .int 1), (2, .int (nI (n / 2)))]) hx hb dJ14_newLength_7 rfl hl (by decide) rfl (fun ls hl => ?_)
  refine lv_iconst (pc := 8) (v := 0) hx hb dJ14_newLength_8 (by decide) ?_
  refine lv_iload_n (pc := 9) hx hb dJ14_newLength_9 rfl (lv_at hl 0 rfl) ?_
  refine lv_icmp_ge (pc := 10) (tgt := 21) hx hb dJ14_newLength_10 (by decide) (fun c => absurd c (n3_p hn)) (fun _ => ?_)
  refine lv_iload_n (pc := 13) hx hb dJ14_newLength_13 rfl (lv_at hl 0 rfl) ?_
  refine lv_ldc (pc := 14) (v := 2147483639) hx hb hown (hts _ q604) dJ14_newLength_14 ?_
  refine lv_icmp_gt (pc := 16) (tgt := 21) hx hb dJ14_newLength_16 (by decide) (fun c => absurd c (n3_q hn)) (fun _ => ?_)
  refine lv_iload_n (pc := 19) hx hb dJ14_newLength_19 rfl (lv_at hl 0 rfl) ?_
  rw [hQ]
  refine g_iret S G hr hlocks (hdg := dJ14_newLength_20) ?_ ?_ ?_
  · exact Nat.le_of_ble_eq_true rfl
  · exact Nat.le_of_ble_eq_true rfl
  · exact ⟨rfl, rfl⟩
abbrev rmJ16_copyOf_2 : Room := ({ frames := 1, cells := 1, slots := 33, locals := 49 } : Room)
set_option maxHeartbeats 4000000 in
theorem metJ16_copyOf_2 (l : Launch) (D : va_G) (K : Nat → Nat) (w : Gh) {t n : Nat} {f : Nat → Option Nat} (ht : w t = some (.inl (D.1 102, n, gra f))) (hn : n3 n) (hel : ∀ i y, f i = some y → ∃ fs, w y = some (.inr (3, fs))) (hf0 : ∀ i, n ≤ i → f i = none) : gMet l yJ16_copyOf_2 (ws_ yJ16_copyOf_2 cJ16_copyOf_2 4 (some (.array (.object "java/lang/Object")))) rmJ16_copyOf_2 D K [.ref t, .int (nI (n + n / 2)), .ref (K 3)] w (fun r' w' => ∃ t', r' = some (.ref t') ∧ w t' = none ∧ K 0 ≤ t' ∧ w' = gu w t' (.inl (D.1 102, n + n / 2, gra f))) := by
  refine gMet.of (by decide) (Nat.le_of_ble_eq_true rfl) ?_
  intro p e s m args below meth c H locs ls S M hr hlocks hname G hl
  have hx := S.1
  have hb := S.2.1
  have hown := S.2.2.2.1
  have hts := S.2.2.2.2
  have hl : lv_has ls 4 [(0, .ref t), (1, .int (nI (n + n / 2))), (2, .ref (K 3))] := hl
  obtain ⟨Q, hQ⟩ : ∃ Q, Q = gE below D K (fun r' w' => ∃ t', r' = some (.ref t') ∧ w t' = none ∧ K 0 ≤ t' ∧ w' = gu w t' (.inl (D.1 102, n + n / 2, gra f))) args s rmJ16_copyOf_2.cells rmJ16_copyOf_2.slots := ⟨_, rfl⟩
  rw [← hQ]
  have hnle := n3_le hn
  refine lv_aload_n (pc := 0) hx hb dJ16_copyOf_2_0 rfl (lv_at hl 2 rfl) ?_
  refine g_ldcM (pc := 1) S M q638 dJ16_copyOf_2_1 ?_
  refine lv_acmp_ne (pc := 3) (tgt := 13) (rx := (some (K 3))) (ry := (some (K 3))) hx hb dJ16_copyOf_2_3 (by decide) (fun c => absurd rfl c) (fun _ => ?_)
  refine lv_iload_n (pc := 6) hx hb dJ16_copyOf_2_6 rfl (lv_at hl 1 rfl) ?_
  refine g_newq (pc := 7) S M G (C := "java/lang/Object") (N' := (n + n / 2)) 2 rfl q640 q639 (nI_pos (by omega)) (nI_clamp (by omega)) (by omega) (Nat.le_of_ble_eq_true rfl) (Nat.le_trans (show 0 + (n + n / 2) ≤ 33 from (by omega)) (Nat.le_of_ble_eq_true rfl)) dJ16_copyOf_2_7 (fun q1_ H hnq1_ hbq1_ heq1_ hsq1_ G => ?_)
  refine W.widen (k := 1) (n := 33) (Nat.le_of_ble_eq_true rfl) (show 0 + (n + n / 2) ≤ 33 from (by omega)) ?_
  obtain ⟨w2_, hw2_⟩ : ∃ z9, z9 = gu w q1_ (.inl (D.1 102, (n + n / 2), .inr (.inr (.inr (.inr (fun _ => none)))))) := ⟨_, rfl⟩
  replace G : gS D K w2_ s H locs := by rw [hw2_]; exact G
  have c2_t : w2_ t = some (.inl (D.1 102, n, .inr (.inr (.inr (.inr f))))) := by rw [hw2_, gu_n (gne_f ht hnq1_)]; exact ht
  have c2_q1_ : w2_ q1_ = some (.inl (D.1 102, (n + n / 2), .inr (.inr (.inr (.inr (fun _ => none)))))) := by rw [hw2_]; exact gu_s
  refine lv_goto (pc := 10) (tgt := 24) hx hb dJ16_copyOf_2_10 (by decide) ?_
  refine lv_astore_n (pc := 24) (lv' := [(3, .ref q1_), (0, .ref t), (1, .int (nI (n + n / 2))), (2, .ref (K 3))]) hx hb dJ16_copyOf_2_24 rfl hl (by decide) rfl (fun ls hl => ?_)
  refine lv_aload_n (pc := 25) hx hb dJ16_copyOf_2_25 rfl (lv_at hl 1 rfl) ?_
  refine lv_iconst (pc := 26) (v := 0) hx hb dJ16_copyOf_2_26 (by decide) ?_
  refine lv_aload_n (pc := 27) hx hb dJ16_copyOf_2_27 rfl (lv_at hl 0 rfl) ?_
  refine lv_iconst (pc := 28) (v := 0) hx hb dJ16_copyOf_2_28 (by decide) ?_
  refine lv_aload_n (pc := 29) hx hb dJ16_copyOf_2_29 rfl (lv_at hl 1 rfl) ?_
  refine g_alen (pc := 30) (v := (nI n)) S M G 2 rfl c2_t rfl dJ16_copyOf_2_30 ?_
  refine lv_iload_n (pc := 31) hx hb dJ16_copyOf_2_31 rfl (lv_at hl 2 rfl) ?_
  refine g_min (pc := 32) (x := (nI n)) (y := (nI (n + n / 2))) S hl.1 q641 (Nat.le_of_ble_eq_true rfl) (Nat.le_of_ble_eq_true rfl) (Nat.le_of_ble_eq_true rfl) (Nat.le_of_ble_eq_true rfl) dJ16_copyOf_2_32 ?_
  rw [n3_mn hn]
  refine g_copyq (pc := 35) S M G hl.1 q644 c2_t c2_q1_ hbq1_ q1579 (by decide) (by decide) (nI_pos (by omega)) (by rw [nI_clamp (by omega)]; show 0 + n ≤ n; omega) (by rw [nI_clamp (by omega)]; show 0 + n ≤ n + n / 2; omega) (fun i _ y hy => by obtain ⟨fs, hfs⟩ := hel _ y hy; exact g_recv M G (w := w2_) (a := y) (ci := 3) (fs := fs) (q := (RX4, TX4, 14)) (by rw [hw2_, gu_n (gne_f hfs hnq1_)]; exact hfs) rfl) (Nat.le_of_ble_eq_true rfl) (by decide) dJ16_copyOf_2_35 (fun H locs G => ?_)
  rw [nI_clamp (show n < 2 ^ 31 by omega), cpy_all hf0] at G
  obtain ⟨w3_, hw3_⟩ : ∃ z9, z9 = gu w2_ q1_ (.inl (D.1 102, (n + n / 2), .inr (.inr (.inr (.inr f))))) := ⟨_, rfl⟩
  replace G : gS D K w3_ s H locs := by rw [hw3_]; exact G
  have c3_t : w3_ t = some (.inl (D.1 102, n, .inr (.inr (.inr (.inr f))))) := by rw [hw3_, gu_n (gne_f ht hnq1_)]; exact c2_t
  have c3_q1_ : w3_ q1_ = some (.inl (D.1 102, (n + n / 2), .inr (.inr (.inr (.inr f))))) := by rw [hw3_]; exact gu_s
  refine lv_aload_n (pc := 38) hx hb dJ16_copyOf_2_38 rfl (lv_at hl 0 rfl) ?_
  rw [hQ]
  refine g_aret S G (rt := (.array (.object "java/lang/Object"))) (r := some q1_) hr (Or.inr ⟨_, rfl⟩) hlocks (hdg := dJ16_copyOf_2_39) ?_ ?_ ?_
  · exact Nat.le_of_ble_eq_true rfl
  · exact Nat.le_of_ble_eq_true rfl
  · exact ⟨q1_, rfl, hnq1_, hbq1_, by rw [hw3_, hw2_, gu_uu]⟩
abbrev rmJ16_copyOf : Room := ({ frames := 2, cells := 1, slots := 33, locals := 72 } : Room)
set_option maxHeartbeats 4000000 in
theorem metJ16_copyOf (l : Launch) (D : va_G) (K : Nat → Nat) (w : Gh) {t n : Nat} {f : Nat → Option Nat} (ht : w t = some (.inl (D.1 102, n, gra f))) (hn : n3 n) (hel : ∀ i y, f i = some y → ∃ fs, w y = some (.inr (3, fs))) (hf0 : ∀ i, n ≤ i → f i = none) : gMet l yJ16_copyOf (ws_ yJ16_copyOf cJ16_copyOf 2 (some (.array (.object "java/lang/Object")))) rmJ16_copyOf D K [.ref t, .int (nI (n + n / 2))] w (fun r' w' => ∃ t', r' = some (.ref t') ∧ w t' = none ∧ K 0 ≤ t' ∧ w' = gu w t' (.inl (D.1 102, n + n / 2, gra f))) := by
  refine gMet.of (by decide) (Nat.le_of_ble_eq_true rfl) ?_
  intro p e s m args below meth c H locs ls S M hr hlocks hname G hl
  have hx := S.1
  have hb := S.2.1
  have hown := S.2.2.2.1
  have hts := S.2.2.2.2
  have hl : lv_has ls 2 [(0, .ref t), (1, .int (nI (n + n / 2)))] := hl
  obtain ⟨Q, hQ⟩ : ∃ Q, Q = gE below D K (fun r' w' => ∃ t', r' = some (.ref t') ∧ w t' = none ∧ K 0 ≤ t' ∧ w' = gu w t' (.inl (D.1 102, n + n / 2, gra f))) args s rmJ16_copyOf.cells rmJ16_copyOf.slots := ⟨_, rfl⟩
  rw [← hQ]
  refine lv_aload_n (pc := 0) hx hb dJ16_copyOf_0 rfl (lv_at hl 0 rfl) ?_
  refine lv_iload_n (pc := 1) hx hb dJ16_copyOf_1 rfl (lv_at hl 1 rfl) ?_
  refine lv_aload_n (pc := 2) hx hb dJ16_copyOf_2 rfl (lv_at hl 0 rfl) ?_
  refine g_getC (pc := 3) S M G hl.1 ht q611 (Nat.le_of_ble_eq_true rfl) (Nat.le_of_ble_eq_true rfl) dJ16_copyOf_3 ?_
  refine g_callS (pc := 6) S M G hl.1 [.ref t, .int (nI (n + n / 2)), .ref (K 3)] [] (metJ16_copyOf_2 l D K w ht hn hel hf0) 3 q637 q635 q636 q38 (by decide) rfl ⟨Nat.le_of_ble_eq_true rfl, Nat.le_of_ble_eq_true rfl⟩ rfl (Nat.le_of_ble_eq_true rfl) dJ16_copyOf_6 ⟨Nat.le_of_ble_eq_true rfl, Nat.le_of_ble_eq_true rfl⟩ (fun r w2 H locs hp G => ?_)
  refine W.widen (k := 1) (n := 33) (Nat.le_of_ble_eq_true rfl) (Nat.le_of_ble_eq_true rfl) ?_
  obtain ⟨t', rfl, hP⟩ := hp
  refine W.eq (g2 := F0 m 9 ls [.ref t']) rfl ?_
  rw [hQ]
  refine g_aret S G (rt := (.array (.object "java/lang/Object"))) (r := some t') hr (Or.inr ⟨_, rfl⟩) hlocks (hdg := dJ16_copyOf_9) ?_ ?_ ?_
  · exact Nat.le_of_ble_eq_true rfl
  · exact Nat.le_of_ble_eq_true rfl
  · exact ⟨t', rfl, hP⟩
abbrev rmJ2_grow_2N : Room := ({ frames := 3, cells := 1, slots := 33, locals := 93 } : Room)
set_option maxHeartbeats 4000000 in
theorem metJ2_grow_2N (l : Launch) (D : va_G) (K : Nat → Nat) (w : Gh) {q t n : Nat} {f : Nat → Option Nat} {md : Int32} (hq : w q = some (.inr (6, [.int md, .ref t, .int (nI n)]))) (hbq : K 0 ≤ q) (ht : w t = some (.inl (D.1 102, n, gra f))) (hn : n3 n) (hel : ∀ i y, f i = some y → ∃ fs, w y = some (.inr (3, fs))) (hf0 : ∀ i, n ≤ i → f i = none) : gMet l yJ2_grow_2 (ws_ yJ2_grow_2 cJ2_grow_2 4 (some (.array (.object "java/lang/Object")))) rmJ2_grow_2N D K [.ref q, .int ((nI n) + 1)] w (fun r' w' => ∃ t', r' = some (.ref t') ∧ w t' = none ∧ K 0 ≤ t' ∧ w' q = some (.inr (6, [.int md, .ref t', .int (nI n)])) ∧ w' t' = some (.inl (D.1 102, n + n / 2, gra f)) ∧ ∀ b x, w b = some x → b ≠ q → w' b = some x) := by
  refine gMet.of (by decide) (Nat.le_of_ble_eq_true rfl) ?_
  intro p e s m args below meth c H locs ls S M hr hlocks hname G hl
  have hx := S.1
  have hb := S.2.1
  have hown := S.2.2.2.1
  have hts := S.2.2.2.2
  have hl : lv_has ls 4 [(0, .ref q), (1, .int ((nI n) + 1))] := hl
  obtain ⟨Q, hQ⟩ : ∃ Q, Q = gE below D K (fun r' w' => ∃ t', r' = some (.ref t') ∧ w t' = none ∧ K 0 ≤ t' ∧ w' q = some (.inr (6, [.int md, .ref t', .int (nI n)])) ∧ w' t' = some (.inl (D.1 102, n + n / 2, gra f)) ∧ ∀ b x, w b = some x → b ≠ q → w' b = some x) args s rmJ2_grow_2N.cells rmJ2_grow_2N.slots := ⟨_, rfl⟩
  rw [← hQ]
  have hnle := n3_le hn
  refine lv_aload_n (pc := 0) hx hb dJ2_grow_2_0 rfl (lv_at hl 0 rfl) ?_
  refine g_get (pc := 1) (v := .ref t) S M G (C := RJ2) (T := TJ2) (N := 3) (ci := 6) in_J2 hq rfl 1 (by decide) q96 (Or.inl rfl) rfl dJ2_grow_2_1 ?_
  refine g_alen (pc := 4) (v := (nI n)) S M G 2 rfl ht rfl dJ2_grow_2_4 ?_
  refine lv_istore_n (pc := 5) (lv' := [(2, .int (nI n)), (0, .ref q), (1, .int ((nI n) + 1))]) hx hb dJ2_grow_2_5 rfl hl (by decide) rfl (fun ls hl => ?_)
  refine lv_iload_n (pc := 6) hx hb dJ2_grow_2_6 rfl (lv_at hl 0 rfl) ?_
  refine lv_if_gt (pc := 7) (tgt := 20) hx hb dJ2_grow_2_7 (by decide) (fun _ => ?_) (fun c => absurd (n3_0 hn) c)
  refine lv_iload_n (pc := 20) hx hb dJ2_grow_2_20 rfl (lv_at hl 0 rfl) ?_
  refine lv_iload_n (pc := 21) hx hb dJ2_grow_2_21 rfl (lv_at hl 2 rfl) ?_
  refine lv_iload_n (pc := 22) hx hb dJ2_grow_2_22 rfl (lv_at hl 0 rfl) ?_
  refine lv_isub (pc := 23) hx hb dJ2_grow_2_23 ?_
  rw [n3_d]
  refine lv_iload_n (pc := 24) hx hb dJ2_grow_2_24 rfl (lv_at hl 0 rfl) ?_
  refine lv_iconst (pc := 25) (v := 1) hx hb dJ2_grow_2_25 (by decide) ?_
  refine lv_ishr (pc := 26) hx hb dJ2_grow_2_26 ?_
  rw [n3_sh hn]
  refine g_callS (pc := 27) S M G hl.1 [.int (nI n), .int 1, .int (nI (n / 2))] [] (metJ14_newLength l D K w hn) 3 q600 q598 q599 q36 (by decide) rfl ⟨Nat.le_of_ble_eq_true rfl, Nat.le_of_ble_eq_true rfl⟩ rfl (Nat.le_of_ble_eq_true rfl) dJ2_grow_2_27 ⟨Nat.le_of_ble_eq_true rfl, Nat.le_of_ble_eq_true rfl⟩ (fun r w2 H locs hp G => ?_)
  obtain ⟨rfl, hw2⟩ := hp
  rw [hw2] at G
  refine W.eq (g2 := F0 m 30 ls [.int (nI (n + n / 2))]) rfl ?_
  refine lv_istore_n (pc := 30) (lv' := [(3, .int (nI (n + n / 2))), (2, .int (nI n)), (0, .ref q), (1, .int ((nI n) + 1))]) hx hb dJ2_grow_2_30 rfl hl (by decide) rfl (fun ls hl => ?_)
  refine lv_aload_n (pc := 31) hx hb dJ2_grow_2_31 rfl (lv_at hl 2 rfl) ?_
  refine lv_aload_n (pc := 32) hx hb dJ2_grow_2_32 rfl (lv_at hl 2 rfl) ?_
  refine g_get (pc := 33) (v := .ref t) S M G (C := RJ2) (T := TJ2) (N := 3) (ci := 6) in_J2 hq rfl 1 (by decide) q96 (Or.inl rfl) rfl dJ2_grow_2_33 ?_
  refine lv_iload_n (pc := 36) hx hb dJ2_grow_2_36 rfl (lv_at hl 0 rfl) ?_
  refine g_callS (pc := 37) S M G hl.1 [.ref t, .int (nI (n + n / 2))] [.ref q] (metJ16_copyOf l D K w ht hn hel hf0) 2 q610 q608 q609 q38 (by decide) rfl ⟨Nat.le_of_ble_eq_true rfl, Nat.le_of_ble_eq_true rfl⟩ rfl (Nat.le_of_ble_eq_true rfl) dJ2_grow_2_37 ⟨Nat.le_of_ble_eq_true rfl, Nat.le_of_ble_eq_true rfl⟩ (fun r w2 H locs hp G => ?_)
  refine W.widen (k := 1) (n := 33) (Nat.le_of_ble_eq_true rfl) (Nat.le_of_ble_eq_true rfl) ?_
  obtain ⟨t', rfl, hnt', hbt', hw2⟩ := hp
  rw [hw2] at G
  obtain ⟨w1_, hw1_⟩ : ∃ z9, z9 = gu w t' (.inl (D.1 102, (n + n / 2), .inr (.inr (.inr (.inr f))))) := ⟨_, rfl⟩
  replace G : gS D K w1_ s H locs := by rw [hw1_]; exact G
  have c1_q : w1_ q = some (.inr (6, [.int md, .ref t, .int (nI n)])) := by rw [hw1_, gu_n (gne_f hq hnt')]; exact hq
  have c1_t : w1_ t = some (.inl (D.1 102, n, .inr (.inr (.inr (.inr f))))) := by rw [hw1_, gu_n (gne_f ht hnt')]; exact ht
  have c1_t_ : w1_ t' = some (.inl (D.1 102, (n + n / 2), .inr (.inr (.inr (.inr f))))) := by rw [hw1_]; exact gu_s
  refine W.eq (g2 := F0 m 40 ls [.ref t', .ref q]) rfl ?_
  refine lv_dup_x1 (pc := 40) hx hb dJ2_grow_2_40 rfl rfl ?_
  refine g_put (pc := 41) (v := .ref t') S M G (C := RJ2) (T := TJ2) (N := 3) (ci := 6) in_J2 tyJ2 tyJ2_ok nmJ2 c1_q hbq rfl 1 (by decide) q96 (Or.inl rfl) rfl rfl rfl (Nat.le_of_ble_eq_true rfl) dJ2_grow_2_41 (fun H locs G => ?_)
  obtain ⟨w2_, hw2_⟩ : ∃ z9, z9 = gu w1_ q (.inr (6, [.int md, .ref t', .int (nI n)])) := ⟨_, rfl⟩
  replace G : gS D K w2_ s H locs := by rw [hw2_]; exact G
  have c2_t : w2_ t = some (.inl (D.1 102, n, .inr (.inr (.inr (.inr f))))) := by rw [hw2_, gu_n (gne_ao c1_t c1_q)]; exact c1_t
  have c2_t_ : w2_ t' = some (.inl (D.1 102, (n + n / 2), .inr (.inr (.inr (.inr f))))) := by rw [hw2_, gu_n (Ne.symm (gne_f hq hnt'))]; exact c1_t_
  have c2_q : w2_ q = some (.inr (6, [.int md, .ref t', .int (nI n)])) := by rw [hw2_]; exact gu_s
  rw [hQ]
  refine g_aret S G (rt := (.array (.object "java/lang/Object"))) (r := some t') hr (Or.inr ⟨_, rfl⟩) hlocks (hdg := dJ2_grow_2_44) ?_ ?_ ?_
  · exact Nat.le_of_ble_eq_true rfl
  · exact Nat.le_of_ble_eq_true rfl
  · refine ⟨t', rfl, hnt', hbt', c2_q, c2_t_, fun b x h1 h2 => ?_⟩
    rw [hw2_, hw1_]
    rw [gu_n h2, gu_n (gne_f h1 hnt')]
    exact h1
abbrev rmJ2_growN : Room := ({ frames := 4, cells := 1, slots := 33, locals := 116 } : Room)
set_option maxHeartbeats 4000000 in
theorem metJ2_growN (l : Launch) (D : va_G) (K : Nat → Nat) (w : Gh) {q t n : Nat} {f : Nat → Option Nat} {md : Int32} (hq : w q = some (.inr (6, [.int md, .ref t, .int (nI n)]))) (hbq : K 0 ≤ q) (ht : w t = some (.inl (D.1 102, n, gra f))) (hn : n3 n) (hel : ∀ i y, f i = some y → ∃ fs, w y = some (.inr (3, fs))) (hf0 : ∀ i, n ≤ i → f i = none) : gMet l yJ2_grow (ws_ yJ2_grow cJ2_grow 1 (some (.array (.object "java/lang/Object")))) rmJ2_growN D K [.ref q] w (fun r' w' => ∃ t', r' = some (.ref t') ∧ w t' = none ∧ K 0 ≤ t' ∧ w' q = some (.inr (6, [.int md, .ref t', .int (nI n)])) ∧ w' t' = some (.inl (D.1 102, n + n / 2, gra f)) ∧ ∀ b x, w b = some x → b ≠ q → w' b = some x) := by
  refine gMet.of (by decide) (Nat.le_of_ble_eq_true rfl) ?_
  intro p e s m args below meth c H locs ls S M hr hlocks hname G hl
  have hx := S.1
  have hb := S.2.1
  have hown := S.2.2.2.1
  have hts := S.2.2.2.2
  have hl : lv_has ls 1 [(0, .ref q)] := hl
  obtain ⟨Q, hQ⟩ : ∃ Q, Q = gE below D K (fun r' w' => ∃ t', r' = some (.ref t') ∧ w t' = none ∧ K 0 ≤ t' ∧ w' q = some (.inr (6, [.int md, .ref t', .int (nI n)])) ∧ w' t' = some (.inl (D.1 102, n + n / 2, gra f)) ∧ ∀ b x, w b = some x → b ≠ q → w' b = some x) args s rmJ2_growN.cells rmJ2_growN.slots := ⟨_, rfl⟩
  rw [← hQ]
  refine lv_aload_n (pc := 0) hx hb dJ2_grow_0 rfl (lv_at hl 0 rfl) ?_
  refine lv_aload_n (pc := 1) hx hb dJ2_grow_1 rfl (lv_at hl 0 rfl) ?_
  refine g_get (pc := 2) (v := .int (nI n)) S M G (C := RJ2) (T := TJ2) (N := 3) (ci := 6) in_J2 hq rfl 2 (by decide) q99 (Or.inl rfl) rfl dJ2_grow_2 ?_
  refine lv_iconst (pc := 5) (v := 1) hx hb dJ2_grow_5 (by decide) ?_
  refine lv_iadd (pc := 6) hx hb dJ2_grow_6 ?_
  refine g_callV (pc := 7) S M G hl.1 [.int ((nI n) + 1)] [] (metJ2_grow_2N l D K w hq hbq ht hn hel hf0) 1 (g_recv M G hq (q := (RJ2, TJ2, 3)) rfl) q597 q594 q596 qs5 q22 (by decide) rfl ⟨Nat.le_of_ble_eq_true rfl, Nat.le_of_ble_eq_true rfl⟩ rfl (Nat.le_of_ble_eq_true rfl) dJ2_grow_7 ⟨Nat.le_of_ble_eq_true rfl, Nat.le_of_ble_eq_true rfl⟩ (fun r w2 H locs hp G => ?_)
  refine W.widen (k := 1) (n := 33) (Nat.le_of_ble_eq_true rfl) (Nat.le_of_ble_eq_true rfl) ?_
  obtain ⟨t', rfl, hwt, hbt', hq', ht', hfr⟩ := hp
  refine W.eq (g2 := F0 m 10 ls [.ref t']) rfl ?_
  rw [hQ]
  refine g_aret S G (rt := (.array (.object "java/lang/Object"))) (r := some t') hr (Or.inr ⟨_, rfl⟩) hlocks (hdg := dJ2_grow_10) ?_ ?_ ?_
  · exact Nat.le_of_ble_eq_true rfl
  · exact Nat.le_of_ble_eq_true rfl
  · exact ⟨t', rfl, hwt, hbt', hq', ht', hfr⟩
