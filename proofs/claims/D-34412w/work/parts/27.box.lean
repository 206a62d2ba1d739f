/-! Integer, LinkedHashMap's constructor -/
abbrev rmJ19_init : Room := ({ frames := 1, cells := 0, slots := 0, locals := 20 } : Room)
set_option maxHeartbeats 4000000 in
theorem metJ19_init (l : Launch) (D : va_G) (K : Nat → Nat) (w : Gh) {a : Nat} : gMet l yJ19_init (ws_ yJ19_init cJ19_init 1 none) rmJ19_init D K [.ref a] w (fun r' w' => r' = none ∧ w' = w) := by
  refine gMet.of (by decide) (Nat.le_of_ble_eq_true rfl) ?_
  intro p e s m args below meth c H locs ls S M hr hlocks hname G hl
  have hx := S.1
  have hb := S.2.1
  have hown := S.2.2.2.1
  have hts := S.2.2.2.2
  have hl : lv_has ls 1 [(0, .ref a)] := hl
  obtain ⟨Q, hQ⟩ : ∃ Q, Q = gE below D K (fun r' w' => r' = none ∧ w' = w) args s rmJ19_init.cells rmJ19_init.slots := ⟨_, rfl⟩
  rw [← hQ]
  refine lv_aload_n (pc := 0) hx hb dJ19_init_0 rfl (lv_at hl 0 rfl) ?_
  refine W.objInit hx hb hown (hts _ q710) (hts _ q62) (hts _ q63) rfl (by rw [S.2.2.1]; exact hl.1) rfl dJ19_init_1 (Nat.le_of_ble_eq_true rfl) (Nat.le_of_ble_eq_true rfl) ?_
  refine W.eq (g2 := F0 m 4 ls []) rfl ?_
  rw [hQ]
  refine g_vret S G hr hlocks (hdg := dJ19_init_4) ?_ ?_ ?_
  · exact Nat.le_of_ble_eq_true rfl
  · exact Nat.le_of_ble_eq_true rfl
  · exact ⟨rfl, rfl⟩
abbrev rmJ20_init : Room := ({ frames := 2, cells := 0, slots := 0, locals := 40 } : Room)
set_option maxHeartbeats 4000000 in
theorem metJ20_init (l : Launch) (D : va_G) (K : Nat → Nat) (w : Gh) {q : Nat} {x : Int32} (hq : w q = some (.inr (12, [.int 0]))) (hbq : K 0 ≤ q) : gMet l yJ20_init (ws_ yJ20_init cJ20_init 2 none) rmJ20_init D K [.ref q, .int x] w (fun r' w' => r' = none ∧ w' = gu w q (.inr (12, [.int x]))) := by
  refine gMet.of (by decide) (Nat.le_of_ble_eq_true rfl) ?_
  intro p e s m args below meth c H locs ls S M hr hlocks hname G hl
  have hx := S.1
  have hb := S.2.1
  have hown := S.2.2.2.1
  have hts := S.2.2.2.2
  have hl : lv_has ls 2 [(0, .ref q), (1, .int x)] := hl
  obtain ⟨Q, hQ⟩ : ∃ Q, Q = gE below D K (fun r' w' => r' = none ∧ w' = gu w q (.inr (12, [.int x]))) args s rmJ20_init.cells rmJ20_init.slots := ⟨_, rfl⟩
  rw [← hQ]
  refine lv_aload_n (pc := 0) hx hb dJ20_init_0 rfl (lv_at hl 0 rfl) ?_
  refine g_callI (pc := 1) S M G hl.1 [] [] (metJ19_init l D K w (a := q)) 0 q709 q707 q708 q43 rfl (by decide) rfl ⟨Nat.le_of_ble_eq_true rfl, Nat.le_of_ble_eq_true rfl⟩ rfl (Nat.le_of_ble_eq_true rfl) dJ20_init_1 ⟨Nat.le_of_ble_eq_true rfl, Nat.le_of_ble_eq_true rfl⟩ (fun r wz H locs hp G => ?_)
  obtain ⟨rfl, hw2⟩ := hp
  rw [hw2] at G
  refine W.eq (g2 := F0 m 4 ls []) rfl ?_
  refine lv_aload_n (pc := 4) hx hb dJ20_init_4 rfl (lv_at hl 0 rfl) ?_
  refine lv_iload_n (pc := 5) hx hb dJ20_init_5 rfl (lv_at hl 1 rfl) ?_
  refine g_putF (pc := 6) (v := .int x) S M G (C := RJ20) (T := TJ20) (N := 1) (ci := 12) in_J20 tyJ20 tyJ20_ok nmJ20 hq hbq rfl 0 (by decide) q711 (Or.inl rfl) rfl hname rfl rfl rfl (Nat.le_of_ble_eq_true rfl) dJ20_init_6 (fun H locs G => ?_)
  obtain ⟨w1_, hw1_⟩ : ∃ z9, z9 = gu w q (.inr (12, [.int x])) := ⟨_, rfl⟩
  replace G : gS D K w1_ s H locs := by rw [hw1_]; exact G
  have c1_q : w1_ q = some (.inr (12, [.int x])) := by rw [hw1_]; exact gu_s
  rw [hQ]
  refine g_vret S G hr hlocks (hdg := dJ20_init_9) ?_ ?_ ?_
  · exact Nat.le_of_ble_eq_true rfl
  · exact Nat.le_of_ble_eq_true rfl
  · refine ⟨rfl, ?_⟩
    rw [hw1_]
    repeat rw [gu_uu]
    first | done | rfl
abbrev rmJ20_valueOf : Room := ({ frames := 3, cells := 1, slots := 1, locals := 61 } : Room)
set_option maxHeartbeats 4000000 in
theorem metJ20_valueOf (l : Launch) (D : va_G) (K : Nat → Nat) (w : Gh) {x : Int32} (hWK : ∀ j, j < 256 → w (K (10 + j)) = some (.inr (12, [.int (vb_c j)]))) : gMet l yJ20_valueOf (ws_ yJ20_valueOf cJ20_valueOf 1 (some (.object "java/lang/Integer"))) rmJ20_valueOf D K [.int x] w (fun r' w' => ∃ b, r' = some (.ref b) ∧ w' b = some (.inr (12, [.int x])) ∧ ∀ a y, w a = some y → w' a = some y) := by
  refine gMet.of (by decide) (Nat.le_of_ble_eq_true rfl) ?_
  intro p e s m args below meth c H locs ls S M hr hlocks hname G hl
  have hx := S.1
  have hb := S.2.1
  have hown := S.2.2.2.1
  have hts := S.2.2.2.2
  have hl : lv_has ls 1 [(0, .int x)] := hl
  obtain ⟨Q, hQ⟩ : ∃ Q, Q = gE below D K (fun r' w' => ∃ b, r' = some (.ref b) ∧ w' b = some (.inr (12, [.int x])) ∧ ∀ a y, w a = some y → w' a = some y) args s rmJ20_valueOf.cells rmJ20_valueOf.slots := ⟨_, rfl⟩
  rw [← hQ]
  refine lv_iload_n (pc := 0) hx hb dJ20_valueOf_0 rfl (lv_at hl 0 rfl) ?_
  refine lv_bipush (pc := 1) (v := (-128)) hx hb dJ20_valueOf_1 (by decide) ?_
  refine lv_icmp_lt (pc := 3) (tgt := 23) hx hb dJ20_valueOf_3 (by decide) (fun c1 => ?_) (fun c1 => ?_)
  · refine g_new (pc := 23) S M G (C := RJ20) (T := TJ20) (N := 1) (ci := 12) (fs := [.int 0]) in_J20 tyJ20 tyJ20_ok q702 q703 q44 rfl df_J20 (Nat.le_of_ble_eq_true rfl) (Nat.le_of_ble_eq_true rfl) dJ20_valueOf_23 (fun q1_ H hnq1_ hbq1_ heq1_ hsq1_ G => ?_)
    refine W.widen (k := 1) (n := 1) (Nat.le_of_ble_eq_true rfl) (Nat.le_of_ble_eq_true rfl) ?_
    obtain ⟨w2_, hw2_⟩ : ∃ z9, z9 = gu w q1_ (.inr (12, [.int 0])) := ⟨_, rfl⟩
    replace G : gS D K w2_ s H locs := by rw [hw2_]; exact G
    have c2_q1_ : w2_ q1_ = some (.inr (12, [.int 0])) := by rw [hw2_]; exact gu_s
    refine lv_dup (pc := 26) hx hb dJ20_valueOf_26 rfl ?_
    refine lv_iload_n (pc := 27) hx hb dJ20_valueOf_27 rfl (lv_at hl 0 rfl) ?_
    refine g_callI (pc := 28) S M G hl.1 [.int x] [.ref q1_] (metJ20_init l D K w2_ (x := x) c2_q1_ hbq1_) 1 q706 q704 q705 q44 rfl (by decide) rfl ⟨Nat.le_of_ble_eq_true rfl, Nat.le_of_ble_eq_true rfl⟩ rfl (Nat.le_of_ble_eq_true rfl) dJ20_valueOf_28 ⟨Nat.le_of_ble_eq_true rfl, Nat.le_of_ble_eq_true rfl⟩ (fun r w2 H locs hp G => ?_)
    obtain ⟨rfl, hw2⟩ := hp
    rw [hw2] at G
    obtain ⟨w3_, hw3_⟩ : ∃ z9, z9 = gu w2_ q1_ (.inr (12, [.int x])) := ⟨_, rfl⟩
    replace G : gS D K w3_ s H locs := by rw [hw3_]; exact G
    have c3_q1_ : w3_ q1_ = some (.inr (12, [.int x])) := by rw [hw3_]; exact gu_s
    refine W.eq (g2 := F0 m 31 ls [.ref q1_]) rfl ?_
    rw [hQ]
    refine g_aret S G (rt := (.object "java/lang/Integer")) (r := some q1_) hr (Or.inl ⟨_, rfl⟩) hlocks (hdg := dJ20_valueOf_31) ?_ ?_ ?_
    · exact Nat.le_of_ble_eq_true rfl
    · exact Nat.le_of_ble_eq_true rfl
    · refine ⟨q1_, rfl, c3_q1_, fun a y h1 => ?_⟩
      rw [hw3_, hw2_, gu_n (gne_f h1 hnq1_), gu_n (gne_f h1 hnq1_)]
      exact h1
  · refine lv_iload_n (pc := 6) hx hb dJ20_valueOf_6 rfl (lv_at hl 0 rfl) ?_
    refine g_gets (pc := 7) (v := .int 127) S G M.2.2.2.1 q698 dJ20_valueOf_7 ?_
    refine lv_icmp_gt (pc := 10) (tgt := 23) hx hb dJ20_valueOf_10 (by decide) (fun c2 => ?_) (fun c2 => ?_)
    · refine g_new (pc := 23) S M G (C := RJ20) (T := TJ20) (N := 1) (ci := 12) (fs := [.int 0]) in_J20 tyJ20 tyJ20_ok q702 q703 q44 rfl df_J20 (Nat.le_of_ble_eq_true rfl) (Nat.le_of_ble_eq_true rfl) dJ20_valueOf_23 (fun q4_ H hnq4_ hbq4_ heq4_ hsq4_ G => ?_)
      refine W.widen (k := 1) (n := 1) (Nat.le_of_ble_eq_true rfl) (Nat.le_of_ble_eq_true rfl) ?_
      obtain ⟨w5_, hw5_⟩ : ∃ z9, z9 = gu w q4_ (.inr (12, [.int 0])) := ⟨_, rfl⟩
      replace G : gS D K w5_ s H locs := by rw [hw5_]; exact G
      have c5_q4_ : w5_ q4_ = some (.inr (12, [.int 0])) := by rw [hw5_]; exact gu_s
      refine lv_dup (pc := 26) hx hb dJ20_valueOf_26 rfl ?_
      refine lv_iload_n (pc := 27) hx hb dJ20_valueOf_27 rfl (lv_at hl 0 rfl) ?_
      refine g_callI (pc := 28) S M G hl.1 [.int x] [.ref q4_] (metJ20_init l D K w5_ (x := x) c5_q4_ hbq4_) 1 q706 q704 q705 q44 rfl (by decide) rfl ⟨Nat.le_of_ble_eq_true rfl, Nat.le_of_ble_eq_true rfl⟩ rfl (Nat.le_of_ble_eq_true rfl) dJ20_valueOf_28 ⟨Nat.le_of_ble_eq_true rfl, Nat.le_of_ble_eq_true rfl⟩ (fun r w2 H locs hp G => ?_)
      obtain ⟨rfl, hw2⟩ := hp
      rw [hw2] at G
      obtain ⟨w6_, hw6_⟩ : ∃ z9, z9 = gu w5_ q4_ (.inr (12, [.int x])) := ⟨_, rfl⟩
      replace G : gS D K w6_ s H locs := by rw [hw6_]; exact G
      have c6_q4_ : w6_ q4_ = some (.inr (12, [.int x])) := by rw [hw6_]; exact gu_s
      refine W.eq (g2 := F0 m 31 ls [.ref q4_]) rfl ?_
      rw [hQ]
      refine g_aret S G (rt := (.object "java/lang/Integer")) (r := some q4_) hr (Or.inl ⟨_, rfl⟩) hlocks (hdg := dJ20_valueOf_31) ?_ ?_ ?_
      · exact Nat.le_of_ble_eq_true rfl
      · exact Nat.le_of_ble_eq_true rfl
      · refine ⟨q4_, rfl, c6_q4_, fun a y h1 => ?_⟩
        rw [hw6_, hw5_, gu_n (gne_f h1 hnq4_), gu_n (gne_f h1 hnq4_)]
        exact h1
    · obtain ⟨j, hj, hxj, hxv⟩ := bx_small c1 c2
      refine g_gets (pc := 13) (v := .ref (K 2)) S G M.2.2.2.2.1 q700 dJ20_valueOf_13 ?_
      refine lv_iload_n (pc := 16) hx hb dJ20_valueOf_16 rfl (lv_at hl 0 rfl) ?_
      refine lv_sipush (pc := 17) (v := 128) hx hb dJ20_valueOf_17 (by decide) ?_
      refine lv_iadd (pc := 20) hx hb dJ20_valueOf_20 ?_
      rw [hxj]
      refine g_tald (pc := 21) S G M.2.2.2.2.2.1 (vp_in_nI hj (by decide)) (v := .ref (K (10 + j))) (by show Value.ref (K (10 + (nI j).toNatClampNeg)) = _; rw [nI_clamp (by omega)]) dJ20_valueOf_21 ?_
      rw [hQ]
      refine g_aret S G (rt := (.object "java/lang/Integer")) (r := some (K (10 + j))) hr (Or.inl ⟨_, rfl⟩) hlocks (hdg := dJ20_valueOf_22) ?_ ?_ ?_
      · exact Nat.le_of_ble_eq_true rfl
      · exact Nat.le_of_ble_eq_true rfl
      · exact ⟨K (10 + j), rfl, by rw [hxv]; exact hWK j hj, fun a y h1 => h1⟩
abbrev rmJ20_intValue : Room := ({ frames := 0, cells := 0, slots := 0, locals := 0 } : Room)
set_option maxHeartbeats 4000000 in
theorem metJ20_intValue (l : Launch) (D : va_G) (K : Nat → Nat) (w : Gh) {q : Nat} {x : Int32} (hq : w q = some (.inr (12, [.int x]))) : gMet l yJ20_intValue (ws_ yJ20_intValue cJ20_intValue 1 (some .int)) rmJ20_intValue D K [.ref q] w (fun r' w' => r' = some (.int x) ∧ w' = w) := by
  refine gMet.of (by decide) (Nat.le_of_ble_eq_true rfl) ?_
  intro p e s m args below meth c H locs ls S M hr hlocks hname G hl
  have hx := S.1
  have hb := S.2.1
  have hown := S.2.2.2.1
  have hts := S.2.2.2.2
  have hl : lv_has ls 1 [(0, .ref q)] := hl
  obtain ⟨Q, hQ⟩ : ∃ Q, Q = gE below D K (fun r' w' => r' = some (.int x) ∧ w' = w) args s rmJ20_intValue.cells rmJ20_intValue.slots := ⟨_, rfl⟩
  rw [← hQ]
  refine lv_aload_n (pc := 0) hx hb dJ20_intValue_0 rfl (lv_at hl 0 rfl) ?_
  refine g_get (pc := 1) (v := .int x) S M G (C := RJ20) (T := TJ20) (N := 1) (ci := 12) in_J20 hq rfl 0 (by decide) q711 (Or.inl rfl) rfl dJ20_intValue_1 ?_
  rw [hQ]
  refine g_iret S G hr hlocks (hdg := dJ20_intValue_4) ?_ ?_ ?_
  · exact Nat.le_of_ble_eq_true rfl
  · exact Nat.le_of_ble_eq_true rfl
  · exact ⟨rfl, rfl⟩
abbrev rmJ3_init : Room := ({ frames := 1, cells := 0, slots := 0, locals := 20 } : Room)
set_option maxHeartbeats 4000000 in
theorem metJ3_init (l : Launch) (D : va_G) (K : Nat → Nat) (w : Gh) {a : Nat} : gMet l yJ3_init (ws_ yJ3_init cJ3_init 1 none) rmJ3_init D K [.ref a] w (fun r' w' => r' = none ∧ w' = w) := by
  refine gMet.of (by decide) (Nat.le_of_ble_eq_true rfl) ?_
  intro p e s m args below meth c H locs ls S M hr hlocks hname G hl
  have hx := S.1
  have hb := S.2.1
  have hown := S.2.2.2.1
  have hts := S.2.2.2.2
  have hl : lv_has ls 1 [(0, .ref a)] := hl
  obtain ⟨Q, hQ⟩ : ∃ Q, Q = gE below D K (fun r' w' => r' = none ∧ w' = w) args s rmJ3_init.cells rmJ3_init.slots := ⟨_, rfl⟩
  rw [← hQ]
  refine lv_aload_n (pc := 0) hx hb dJ3_init_0 rfl (lv_at hl 0 rfl) ?_
  refine W.objInit hx hb hown (hts _ q122) (hts _ q62) (hts _ q63) rfl (by rw [S.2.2.1]; exact hl.1) rfl dJ3_init_1 (Nat.le_of_ble_eq_true rfl) (Nat.le_of_ble_eq_true rfl) ?_
  refine W.eq (g2 := F0 m 4 ls []) rfl ?_
  rw [hQ]
  refine g_vret S G hr hlocks (hdg := dJ3_init_4) ?_ ?_ ?_
  · exact Nat.le_of_ble_eq_true rfl
  · exact Nat.le_of_ble_eq_true rfl
  · exact ⟨rfl, rfl⟩
abbrev rmJ4_init : Room := ({ frames := 2, cells := 0, slots := 0, locals := 40 } : Room)
set_option maxHeartbeats 4000000 in
theorem metJ4_init (l : Launch) (D : va_G) (K : Nat → Nat) (w : Gh) {q : Nat} (hq : w q = some (.inr (7, mfl none 0 0 0 0 none none none))) (hbq : K 0 ≤ q) : gMet l yJ4_init (ws_ yJ4_init cJ4_init 1 none) rmJ4_init D K [.ref q] w (fun r' w' => r' = none ∧ w' = gu w q (.inr (7, mfl none 0 0 0 1061158912 none none none))) := by
  refine gMet.of (by decide) (Nat.le_of_ble_eq_true rfl) ?_
  intro p e s m args below meth c H locs ls S M hr hlocks hname G hl
  have hx := S.1
  have hb := S.2.1
  have hown := S.2.2.2.1
  have hts := S.2.2.2.2
  have hl : lv_has ls 1 [(0, .ref q)] := hl
  obtain ⟨Q, hQ⟩ : ∃ Q, Q = gE below D K (fun r' w' => r' = none ∧ w' = gu w q (.inr (7, mfl none 0 0 0 1061158912 none none none))) args s rmJ4_init.cells rmJ4_init.slots := ⟨_, rfl⟩
  rw [← hQ]
  refine lv_aload_n (pc := 0) hx hb dJ4_init_0 rfl (lv_at hl 0 rfl) ?_
  refine g_callI (pc := 1) S M G hl.1 [] [] (metJ3_init l D K w (a := q)) 0 q121 q119 q120 q23 rfl (by decide) rfl ⟨Nat.le_of_ble_eq_true rfl, Nat.le_of_ble_eq_true rfl⟩ rfl (Nat.le_of_ble_eq_true rfl) dJ4_init_1 ⟨Nat.le_of_ble_eq_true rfl, Nat.le_of_ble_eq_true rfl⟩ (fun r wz H locs hp G => ?_)
  obtain ⟨rfl, hw2⟩ := hp
  rw [hw2] at G
  refine W.eq (g2 := F0 m 4 ls []) rfl ?_
  refine lv_aload_n (pc := 4) hx hb dJ4_init_4 rfl (lv_at hl 0 rfl) ?_
  refine lv_ldcf (pc := 5) (v := 1061158912) hx hb hown (hts _ q123) dJ4_init_5 ?_
  refine g_putF (pc := 7) (v := .float 1061158912) S M G (C := RJ5) (T := TJ5) (N := 12) (ci := 7) in_J5 tyJ5 tyJ5_ok nmJ5 hq hbq rfl 5 (by decide) q137 (Or.inl rfl) rfl hname rfl rfl rfl (Nat.le_of_ble_eq_true rfl) dJ4_init_7 (fun H locs G => ?_)
  obtain ⟨w1_, hw1_⟩ : ∃ z9, z9 = gu w q (.inr (7, mfl none 0 0 0 1061158912 none none none)) := ⟨_, rfl⟩
  replace G : gS D K w1_ s H locs := by rw [hw1_]; exact G
  have c1_q : w1_ q = some (.inr (7, mfl none 0 0 0 1061158912 none none none)) := by rw [hw1_]; exact gu_s
  rw [hQ]
  refine g_vret S G hr hlocks (hdg := dJ4_init_10) ?_ ?_ ?_
  · exact Nat.le_of_ble_eq_true rfl
  · exact Nat.le_of_ble_eq_true rfl
  · refine ⟨rfl, ?_⟩
    rw [hw1_]
    repeat rw [gu_uu]
    first | done | rfl
abbrev rmJ5_init : Room := ({ frames := 3, cells := 0, slots := 0, locals := 60 } : Room)
set_option maxHeartbeats 4000000 in
theorem metJ5_init (l : Launch) (D : va_G) (K : Nat → Nat) (w : Gh) {q : Nat} (hq : w q = some (.inr (7, mfl none 0 0 0 0 none none none))) (hbq : K 0 ≤ q) : gMet l yJ5_init (ws_ yJ5_init cJ5_init 1 none) rmJ5_init D K [.ref q] w (fun r' w' => r' = none ∧ w' = gu w q (.inr (7, mfl none 0 0 0 1061158912 none none none))) := by
  refine gMet.of (by decide) (Nat.le_of_ble_eq_true rfl) ?_
  intro p e s m args below meth c H locs ls S M hr hlocks hname G hl
  have hx := S.1
  have hb := S.2.1
  have hown := S.2.2.2.1
  have hts := S.2.2.2.2
  have hl : lv_has ls 1 [(0, .ref q)] := hl
  obtain ⟨Q, hQ⟩ : ∃ Q, Q = gE below D K (fun r' w' => r' = none ∧ w' = gu w q (.inr (7, mfl none 0 0 0 1061158912 none none none))) args s rmJ5_init.cells rmJ5_init.slots := ⟨_, rfl⟩
  rw [← hQ]
  refine lv_aload_n (pc := 0) hx hb dJ5_init_0 rfl (lv_at hl 0 rfl) ?_
  refine g_callI (pc := 1) S M G hl.1 [] [] (metJ4_init l D K w hq hbq) 0 q118 q116 q117 q24 rfl (by decide) rfl ⟨Nat.le_of_ble_eq_true rfl, Nat.le_of_ble_eq_true rfl⟩ rfl (Nat.le_of_ble_eq_true rfl) dJ5_init_1 ⟨Nat.le_of_ble_eq_true rfl, Nat.le_of_ble_eq_true rfl⟩ (fun r w2 H locs hp G => ?_)
  obtain ⟨rfl, hw2⟩ := hp
  rw [hw2] at G
  obtain ⟨w1_, hw1_⟩ : ∃ z9, z9 = gu w q (.inr (7, mfl none 0 0 0 1061158912 none none none)) := ⟨_, rfl⟩
  replace G : gS D K w1_ s H locs := by rw [hw1_]; exact G
  have c1_q : w1_ q = some (.inr (7, mfl none 0 0 0 1061158912 none none none)) := by rw [hw1_]; exact gu_s
  refine W.eq (g2 := F0 m 4 ls []) rfl ?_
  refine lv_aload_n (pc := 4) hx hb dJ5_init_4 rfl (lv_at hl 0 rfl) ?_
  refine lv_iconst (pc := 5) (v := 0) hx hb dJ5_init_5 (by decide) ?_
  refine g_put (pc := 6) (v := .int 0) S M G (C := RJ5) (T := TJ5) (N := 12) (ci := 7) in_J5 tyJ5 tyJ5_ok nmJ5 c1_q hbq rfl 11 (by decide) q129 (Or.inl rfl) rfl rfl rfl (Nat.le_of_ble_eq_true rfl) dJ5_init_6 (fun H locs G => ?_)
  obtain ⟨w2_, hw2_⟩ : ∃ z9, z9 = gu w1_ q (.inr (7, mfl none 0 0 0 1061158912 none none none)) := ⟨_, rfl⟩
  replace G : gS D K w2_ s H locs := by rw [hw2_]; exact G
  have c2_q : w2_ q = some (.inr (7, mfl none 0 0 0 1061158912 none none none)) := by rw [hw2_]; exact gu_s
  refine lv_aload_n (pc := 9) hx hb dJ5_init_9 rfl (lv_at hl 0 rfl) ?_
  refine lv_iconst (pc := 10) (v := 0) hx hb dJ5_init_10 (by decide) ?_
  refine g_putF (pc := 11) (v := .int 0) S M G (C := RJ5) (T := TJ5) (N := 12) (ci := 7) in_J5 tyJ5 tyJ5_ok nmJ5 c2_q hbq rfl 10 (by decide) q128 (Or.inl rfl) rfl hname rfl rfl rfl (Nat.le_of_ble_eq_true rfl) dJ5_init_11 (fun H locs G => ?_)
  obtain ⟨w3_, hw3_⟩ : ∃ z9, z9 = gu w2_ q (.inr (7, mfl none 0 0 0 1061158912 none none none)) := ⟨_, rfl⟩
  replace G : gS D K w3_ s H locs := by rw [hw3_]; exact G
  have c3_q : w3_ q = some (.inr (7, mfl none 0 0 0 1061158912 none none none)) := by rw [hw3_]; exact gu_s
  rw [hQ]
  refine g_vret S G hr hlocks (hdg := dJ5_init_14) ?_ ?_ ?_
  · exact Nat.le_of_ble_eq_true rfl
  · exact Nat.le_of_ble_eq_true rfl
  · refine ⟨rfl, ?_⟩
    rw [hw3_, hw2_, hw1_]
    repeat rw [gu_uu]
    first | done | rfl
