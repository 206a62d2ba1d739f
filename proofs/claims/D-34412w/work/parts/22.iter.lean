/-! the key set and its iterator -/
abbrev rmJ0_init : Room := ({ frames := 1, cells := 0, slots := 0, locals := 20 } : Room)
set_option maxHeartbeats 4000000 in
theorem metJ0_init (l : Launch) (D : va_G) (K : Nat → Nat) (w : Gh) {a : Nat} : gMet l yJ0_init (ws_ yJ0_init cJ0_init 1 none) rmJ0_init D K [.ref a] w (fun r' w' => r' = none ∧ w' = w) := by
  refine gMet.of (by decide) (Nat.le_of_ble_eq_true rfl) ?_
  intro p e s m args below meth c H locs ls S M hr hlocks hname G hl
  have hx := S.1
  have hb := S.2.1
  have hown := S.2.2.2.1
  have hts := S.2.2.2.2
  have hl : lv_has ls 1 [(0, .ref a)] := hl
  obtain ⟨Q, hQ⟩ : ∃ Q, Q = gE below D K (fun r' w' => r' = none ∧ w' = w) args s rmJ0_init.cells rmJ0_init.slots := ⟨_, rfl⟩
  rw [← hQ]
  refine lv_aload_n (pc := 0) hx hb dJ0_init_0 rfl (lv_at hl 0 rfl) ?_
  refine W.objInit hx hb hown (hts _ q93) (hts _ q62) (hts _ q63) rfl (by rw [S.2.2.1]; exact hl.1) rfl dJ0_init_1 (Nat.le_of_ble_eq_true rfl) (Nat.le_of_ble_eq_true rfl) ?_
  refine W.eq (g2 := F0 m 4 ls []) rfl ?_
  rw [hQ]
  refine g_vret S G hr hlocks (hdg := dJ0_init_4) ?_ ?_ ?_
  · exact Nat.le_of_ble_eq_true rfl
  · exact Nat.le_of_ble_eq_true rfl
  · exact ⟨rfl, rfl⟩
abbrev rmJ24_init : Room := ({ frames := 2, cells := 0, slots := 0, locals := 40 } : Room)
set_option maxHeartbeats 4000000 in
theorem metJ24_init (l : Launch) (D : va_G) (K : Nat → Nat) (w : Gh) {a : Nat} : gMet l yJ24_init (ws_ yJ24_init cJ24_init 1 none) rmJ24_init D K [.ref a] w (fun r' w' => r' = none ∧ w' = w) := by
  refine gMet.of (by decide) (Nat.le_of_ble_eq_true rfl) ?_
  intro p e s m args below meth c H locs ls S M hr hlocks hname G hl
  have hx := S.1
  have hb := S.2.1
  have hown := S.2.2.2.1
  have hts := S.2.2.2.2
  have hl : lv_has ls 1 [(0, .ref a)] := hl
  obtain ⟨Q, hQ⟩ : ∃ Q, Q = gE below D K (fun r' w' => r' = none ∧ w' = w) args s rmJ24_init.cells rmJ24_init.slots := ⟨_, rfl⟩
  rw [← hQ]
  refine lv_aload_n (pc := 0) hx hb dJ24_init_0 rfl (lv_at hl 0 rfl) ?_
  refine g_callI (pc := 1) S M G hl.1 [] [] (metJ0_init l D K w (a := a)) 0 q92 q1032 q91 q20 rfl (by decide) rfl ⟨Nat.le_of_ble_eq_true rfl, Nat.le_of_ble_eq_true rfl⟩ rfl (Nat.le_of_ble_eq_true rfl) dJ24_init_1 ⟨Nat.le_of_ble_eq_true rfl, Nat.le_of_ble_eq_true rfl⟩ (fun r wz H locs hp G => ?_)
  obtain ⟨rfl, hw2⟩ := hp
  rw [hw2] at G
  refine W.eq (g2 := F0 m 4 ls []) rfl ?_
  rw [hQ]
  refine g_vret S G hr hlocks (hdg := dJ24_init_4) ?_ ?_ ?_
  · exact Nat.le_of_ble_eq_true rfl
  · exact Nat.le_of_ble_eq_true rfl
  · exact ⟨rfl, rfl⟩
abbrev rmJ25_init : Room := ({ frames := 3, cells := 0, slots := 0, locals := 60 } : Room)
set_option maxHeartbeats 4000000 in
theorem metJ25_init (l : Launch) (D : va_G) (K : Nat → Nat) (w : Gh) {q mp : Nat} (hq : w q = some (.inr (9, [.int 0, .null]))) (hbq : K 0 ≤ q) : gMet l yJ25_init (ws_ yJ25_init cJ25_init 3 none) rmJ25_init D K [.ref q, .ref mp, .int 0] w (fun r' w' => r' = none ∧ w' = gu w q (.inr (9, [.int 0, .ref mp]))) := by
  refine gMet.of (by decide) (Nat.le_of_ble_eq_true rfl) ?_
  intro p e s m args below meth c H locs ls S M hr hlocks hname G hl
  have hx := S.1
  have hb := S.2.1
  have hown := S.2.2.2.1
  have hts := S.2.2.2.2
  have hl : lv_has ls 3 [(0, .ref q), (1, .ref mp), (2, .int 0)] := hl
  obtain ⟨Q, hQ⟩ : ∃ Q, Q = gE below D K (fun r' w' => r' = none ∧ w' = gu w q (.inr (9, [.int 0, .ref mp]))) args s rmJ25_init.cells rmJ25_init.slots := ⟨_, rfl⟩
  rw [← hQ]
  refine lv_aload_n (pc := 0) hx hb dJ25_init_0 rfl (lv_at hl 0 rfl) ?_
  refine lv_aload_n (pc := 1) hx hb dJ25_init_1 rfl (lv_at hl 1 rfl) ?_
  refine g_putF (pc := 2) (v := .ref mp) S M G (C := RJ25) (T := TJ25) (N := 2) (ci := 9) in_J25 tyJ25 tyJ25_ok nmJ25 hq hbq rfl 1 (by decide) q1034 (Or.inl rfl) rfl hname rfl rfl rfl (Nat.le_of_ble_eq_true rfl) dJ25_init_2 (fun H locs G => ?_)
  obtain ⟨w1_, hw1_⟩ : ∃ z9, z9 = gu w q (.inr (9, [.int 0, .ref mp])) := ⟨_, rfl⟩
  replace G : gS D K w1_ s H locs := by rw [hw1_]; exact G
  have c1_q : w1_ q = some (.inr (9, [.int 0, .ref mp])) := by rw [hw1_]; exact gu_s
  refine lv_aload_n (pc := 5) hx hb dJ25_init_5 rfl (lv_at hl 0 rfl) ?_
  refine g_callI (pc := 6) S M G hl.1 [] [] (metJ24_init l D K w1_ (a := q)) 0 q1031 q1029 q1030 q49 rfl (by decide) rfl ⟨Nat.le_of_ble_eq_true rfl, Nat.le_of_ble_eq_true rfl⟩ rfl (Nat.le_of_ble_eq_true rfl) dJ25_init_6 ⟨Nat.le_of_ble_eq_true rfl, Nat.le_of_ble_eq_true rfl⟩ (fun r wz H locs hp G => ?_)
  obtain ⟨rfl, hw2⟩ := hp
  rw [hw2] at G
  refine W.eq (g2 := F0 m 9 ls []) rfl ?_
  refine lv_aload_n (pc := 9) hx hb dJ25_init_9 rfl (lv_at hl 0 rfl) ?_
  refine lv_iload_n (pc := 10) hx hb dJ25_init_10 rfl (lv_at hl 2 rfl) ?_
  refine g_putF (pc := 11) (v := .int 0) S M G (C := RJ25) (T := TJ25) (N := 2) (ci := 9) in_J25 tyJ25 tyJ25_ok nmJ25 c1_q hbq rfl 0 (by decide) q1033 (Or.inl rfl) rfl hname rfl rfl rfl (Nat.le_of_ble_eq_true rfl) dJ25_init_11 (fun H locs G => ?_)
  obtain ⟨w2_, hw2_⟩ : ∃ z9, z9 = gu w1_ q (.inr (9, [.int 0, .ref mp])) := ⟨_, rfl⟩
  replace G : gS D K w2_ s H locs := by rw [hw2_]; exact G
  have c2_q : w2_ q = some (.inr (9, [.int 0, .ref mp])) := by rw [hw2_]; exact gu_s
  rw [hQ]
  refine g_vret S G hr hlocks (hdg := dJ25_init_14) ?_ ?_ ?_
  · exact Nat.le_of_ble_eq_true rfl
  · exact Nat.le_of_ble_eq_true rfl
  · refine ⟨rfl, ?_⟩
    rw [hw2_, hw1_, gu_uu]
abbrev rmJ5_sequencedKeySet : Room := ({ frames := 4, cells := 1, slots := 2, locals := 82 } : Room)
set_option maxHeartbeats 4000000 in
theorem metJ5_sequencedKeySet (l : Launch) (D : va_G) (K : Nat → Nat) (w : Gh) {mp : Nat} {tb : Option Nat} {sz md th : Int32} {lf : UInt32} {ks hd tl : Option Nat} (ho : w mp = some (.inr (7, mfl tb sz md th lf ks hd tl))) (hbm : K 0 ≤ mp) (hks : ∀ k, ks = some k → w k = some (.inr (9, [.int 0, .ref mp]))) : gMet l yJ5_sequencedKeySet (ws_ yJ5_sequencedKeySet cJ5_sequencedKeySet 3 (some (.object "java/util/SequencedSet"))) rmJ5_sequencedKeySet D K [.ref mp] w (fun r' w' => ∃ k, r' = some (.ref k) ∧ (ks = some k ∧ w' = w ∨ ks = none ∧ w k = none ∧ K 0 ≤ k ∧ w' k = some (.inr (9, [.int 0, .ref mp])) ∧ w' mp = some (.inr (7, mfl tb sz md th lf (some k) hd tl)) ∧ MK w w' mp [])) := by
  refine gMet.of (by decide) (Nat.le_of_ble_eq_true rfl) ?_
  intro p e s m args below meth c H locs ls S M hr hlocks hname G hl
  have hx := S.1
  have hb := S.2.1
  have hown := S.2.2.2.1
  have hts := S.2.2.2.2
  have hl : lv_has ls 3 [(0, .ref mp)] := hl
  obtain ⟨Q, hQ⟩ : ∃ Q, Q = gE below D K (fun r' w' => ∃ k, r' = some (.ref k) ∧ (ks = some k ∧ w' = w ∨ ks = none ∧ w k = none ∧ K 0 ≤ k ∧ w' k = some (.inr (9, [.int 0, .ref mp])) ∧ w' mp = some (.inr (7, mfl tb sz md th lf (some k) hd tl)) ∧ MK w w' mp [])) args s rmJ5_sequencedKeySet.cells rmJ5_sequencedKeySet.slots := ⟨_, rfl⟩
  rw [← hQ]
  refine lv_aload_n (pc := 0) hx hb dJ5_sequencedKeySet_0 rfl (lv_at hl 0 rfl) ?_
  refine g_get (pc := 1) (v := va_rf ks) S M G (C := RJ5) (T := TJ5) (N := 12) (ci := 7) in_J5 ho rfl 6 (by decide) q138 (Or.inr q139) rfl dJ5_sequencedKeySet_1 ?_
  refine gv_astore_n (pc := 4) (lv' := [(1, va_rf ks), (0, .ref mp)]) S dJ5_sequencedKeySet_4 rfl hl (by decide) rfl (fun ls hl => ?_)
  refine gv_aload_n (pc := 5) S dJ5_sequencedKeySet_5 rfl (lv_at hl 0 rfl) ?_
  refine gv_ifnonnull (pc := 6) (tgt := 26) S dJ5_sequencedKeySet_6 (by decide) (fun ksv h1 => ?_) (fun h1 => ?_)
  · have hlx_h1 := hl
    have Gx_h1 := G
    subst h1
    have hl := hlx_h1
    have G : gS D K w s H locs := Gx_h1
    have hl : lv_has ls 3 [(1, .ref ksv), (0, .ref mp)] := hl
    refine W.eq (g2 := F0 m 26 ls []) rfl ?_
    have hcks : w ksv = some (.inr (9, [.int 0, .ref mp])) := hks ksv rfl
    refine lv_aload_n (pc := 26) hx hb dJ5_sequencedKeySet_26 rfl (lv_at hl 0 rfl) ?_
    refine va_castY (pc := 27) hx hb hown (hts _ q1040) (g_nw M q1566 rfl) (g_recv M G hcks (q := (RJ25, TJ25, 2)) rfl) dJ5_sequencedKeySet_27 ?_
    rw [hQ]
    refine g_aret S G (rt := (.object "java/util/SequencedSet")) (r := some ksv) hr (Or.inl ⟨_, rfl⟩) hlocks (hdg := dJ5_sequencedKeySet_30) ?_ ?_ ?_
    · exact Nat.le_of_ble_eq_true rfl
    · exact Nat.le_of_ble_eq_true rfl
    · exact ⟨ksv, rfl, Or.inl ⟨rfl, rfl⟩⟩
  · have hlx_h1 := hl
    have Gx_h1 := G
    subst h1
    have hl := hlx_h1
    have G : gS D K w s H locs := Gx_h1
    have hl : lv_has ls 3 [(1, .null), (0, .ref mp)] := hl
    refine W.eq (g2 := F0 m 9 ls []) rfl ?_
    refine g_new (pc := 9) S M G (C := RJ25) (T := TJ25) (N := 2) (ci := 9) (fs := [.int 0, .null]) in_J25 tyJ25 tyJ25_ok q1024 q1025 q50 rfl df_J25 (Nat.le_of_ble_eq_true rfl) (Nat.le_of_ble_eq_true rfl) dJ5_sequencedKeySet_9 (fun q1_ H hnq1_ hbq1_ heq1_ hsq1_ G => ?_)
    refine W.widen (k := 1) (n := 2) (Nat.le_of_ble_eq_true rfl) (Nat.le_of_ble_eq_true rfl) ?_
    obtain ⟨w2_, hw2_⟩ : ∃ z9, z9 = gu w q1_ (.inr (9, [.int 0, .null])) := ⟨_, rfl⟩
    replace G : gS D K w2_ s H locs := by rw [hw2_]; exact G
    have c2_mp : w2_ mp = some (.inr (7, mfl tb sz md th lf none hd tl)) := by rw [hw2_, gu_n (gne_f ho hnq1_)]; exact ho
    have c2_q1_ : w2_ q1_ = some (.inr (9, [.int 0, .null])) := by rw [hw2_]; exact gu_s
    refine lv_dup (pc := 12) hx hb dJ5_sequencedKeySet_12 rfl ?_
    refine lv_aload_n (pc := 13) hx hb dJ5_sequencedKeySet_13 rfl (lv_at hl 1 rfl) ?_
    refine lv_iconst (pc := 14) (v := 0) hx hb dJ5_sequencedKeySet_14 (by decide) ?_
    refine g_callI (pc := 15) S M G hl.1 [.ref mp, .int 0] [.ref q1_] (metJ25_init l D K w2_ (mp := mp) c2_q1_ hbq1_) 2 q1028 q1026 q1027 q50 rfl (by decide) rfl ⟨Nat.le_of_ble_eq_true rfl, Nat.le_of_ble_eq_true rfl⟩ rfl (Nat.le_of_ble_eq_true rfl) dJ5_sequencedKeySet_15 ⟨Nat.le_of_ble_eq_true rfl, Nat.le_of_ble_eq_true rfl⟩ (fun r w2 H locs hp G => ?_)
    obtain ⟨rfl, hw2⟩ := hp
    rw [hw2] at G
    obtain ⟨w3_, hw3_⟩ : ∃ z9, z9 = gu w2_ q1_ (.inr (9, [.int 0, .ref mp])) := ⟨_, rfl⟩
    replace G : gS D K w3_ s H locs := by rw [hw3_]; exact G
    have c3_mp : w3_ mp = some (.inr (7, mfl tb sz md th lf none hd tl)) := by rw [hw3_, gu_n (gne_c c2_mp c2_q1_ (by decide))]; exact c2_mp
    have c3_q1_ : w3_ q1_ = some (.inr (9, [.int 0, .ref mp])) := by rw [hw3_]; exact gu_s
    refine W.eq (g2 := F0 m 18 ls [.ref q1_]) rfl ?_
    refine lv_astore_n (pc := 18) (lv' := [(2, .ref q1_), (1, .null), (0, .ref mp)]) hx hb dJ5_sequencedKeySet_18 rfl hl (by decide) rfl (fun ls hl => ?_)
    refine lv_aload_n (pc := 19) hx hb dJ5_sequencedKeySet_19 rfl (lv_at hl 2 rfl) ?_
    refine lv_aload_n (pc := 20) hx hb dJ5_sequencedKeySet_20 rfl (lv_at hl 0 rfl) ?_
    refine g_put (pc := 21) (v := .ref q1_) S M G (C := RJ5) (T := TJ5) (N := 12) (ci := 7) in_J5 tyJ5 tyJ5_ok nmJ5 c3_mp hbm rfl 6 (by decide) q138 (Or.inr q139) rfl rfl rfl (Nat.le_of_ble_eq_true rfl) dJ5_sequencedKeySet_21 (fun H locs G => ?_)
    obtain ⟨w4_, hw4_⟩ : ∃ z9, z9 = gu w3_ mp (.inr (7, mfl tb sz md th lf (some q1_) hd tl)) := ⟨_, rfl⟩
    replace G : gS D K w4_ s H locs := by rw [hw4_]; exact G
    have c4_q1_ : w4_ q1_ = some (.inr (9, [.int 0, .ref mp])) := by rw [hw4_, gu_n (gne_c c3_q1_ c3_mp (by decide))]; exact c3_q1_
    have c4_mp : w4_ mp = some (.inr (7, mfl tb sz md th lf (some q1_) hd tl)) := by rw [hw4_]; exact gu_s
    refine lv_aload_n (pc := 24) hx hb dJ5_sequencedKeySet_24 rfl (lv_at hl 0 rfl) ?_
    rw [hQ]
    refine g_aret S G (rt := (.object "java/util/SequencedSet")) (r := some q1_) hr (Or.inl ⟨_, rfl⟩) hlocks (hdg := dJ5_sequencedKeySet_25) ?_ ?_ ?_
    · exact Nat.le_of_ble_eq_true rfl
    · exact Nat.le_of_ble_eq_true rfl
    · refine ⟨q1_, rfl, Or.inr ⟨rfl, hnq1_, hbq1_, c4_q1_, c4_mp, ?_⟩⟩
      rw [hw4_, hw3_, hw2_]
      exact ((MK.rf.up (Or.inr (Or.inr hnq1_))).up (Or.inr (Or.inr hnq1_))).up (Or.inl rfl)
abbrev rmJ5_keySet : Room := ({ frames := 5, cells := 1, slots := 2, locals := 104 } : Room)
set_option maxHeartbeats 4000000 in
theorem metJ5_keySet (l : Launch) (D : va_G) (K : Nat → Nat) (w : Gh) {mp : Nat} {tb : Option Nat} {sz md th : Int32} {lf : UInt32} {ks hd tl : Option Nat} (ho : w mp = some (.inr (7, mfl tb sz md th lf ks hd tl))) (hbm : K 0 ≤ mp) (hks : ∀ k, ks = some k → w k = some (.inr (9, [.int 0, .ref mp]))) : gMet l yJ5_keySet (ws_ yJ5_keySet cJ5_keySet 1 (some (.object "java/util/Set"))) rmJ5_keySet D K [.ref mp] w (fun r' w' => ∃ k, r' = some (.ref k) ∧ (ks = some k ∧ w' = w ∨ ks = none ∧ w k = none ∧ K 0 ≤ k ∧ w' k = some (.inr (9, [.int 0, .ref mp])) ∧ w' mp = some (.inr (7, mfl tb sz md th lf (some k) hd tl)) ∧ MK w w' mp [])) := by
  refine gMet.of (by decide) (Nat.le_of_ble_eq_true rfl) ?_
  intro p e s m args below meth c H locs ls S M hr hlocks hname G hl
  have hx := S.1
  have hb := S.2.1
  have hown := S.2.2.2.1
  have hts := S.2.2.2.2
  have hl : lv_has ls 1 [(0, .ref mp)] := hl
  obtain ⟨Q, hQ⟩ : ∃ Q, Q = gE below D K (fun r' w' => ∃ k, r' = some (.ref k) ∧ (ks = some k ∧ w' = w ∨ ks = none ∧ w k = none ∧ K 0 ≤ k ∧ w' k = some (.inr (9, [.int 0, .ref mp])) ∧ w' mp = some (.inr (7, mfl tb sz md th lf (some k) hd tl)) ∧ MK w w' mp [])) args s rmJ5_keySet.cells rmJ5_keySet.slots := ⟨_, rfl⟩
  rw [← hQ]
  refine lv_aload_n (pc := 0) hx hb dJ5_keySet_0 rfl (lv_at hl 0 rfl) ?_
  refine g_callV (pc := 1) S M G hl.1 [] [] (metJ5_sequencedKeySet l D K w ho hbm hks) 0 (g_recv M G ho (q := (RJ5, TJ5, 12)) rfl) q1023 q1020 q1021 q1022 q25 (by decide) rfl ⟨Nat.le_of_ble_eq_true rfl, Nat.le_of_ble_eq_true rfl⟩ rfl (Nat.le_of_ble_eq_true rfl) dJ5_keySet_1 ⟨Nat.le_of_ble_eq_true rfl, Nat.le_of_ble_eq_true rfl⟩ (fun r w2 H locs hp G => ?_)
  refine W.widen (k := 1) (n := 2) (Nat.le_of_ble_eq_true rfl) (Nat.le_of_ble_eq_true rfl) ?_
  obtain ⟨k, rfl, hP⟩ := hp
  refine W.eq (g2 := F0 m 4 ls [.ref k]) rfl ?_
  rw [hQ]
  refine g_aret S G (rt := (.object "java/util/Set")) (r := some k) hr (Or.inl ⟨_, rfl⟩) hlocks (hdg := dJ5_keySet_4) ?_ ?_ ?_
  · exact Nat.le_of_ble_eq_true rfl
  · exact Nat.le_of_ble_eq_true rfl
  · exact ⟨k, rfl, hP⟩
abbrev rmJ26_init : Room := ({ frames := 1, cells := 0, slots := 0, locals := 20 } : Room)
set_option maxHeartbeats 4000000 in
theorem metJ26_init (l : Launch) (D : va_G) (K : Nat → Nat) (w : Gh) {q mp : Nat} {tb : Option Nat} {sz md th : Int32} {lf : UInt32} {ks hd tl : Option Nat} (hq : w q = some (.inr (10, [.null, .null, .int 0, .int 0, .null]))) (hbq : K 0 ≤ q) (ho : w mp = some (.inr (7, mfl tb sz md th lf ks hd tl))) : gMet l yJ26_init (ws_ yJ26_init cJ26_init 3 none) rmJ26_init D K [.ref q, .ref mp, .int 0] w (fun r' w' => r' = none ∧ w' = gu w q (.inr (10, [va_rf hd, .null, .int md, .int 0, .ref mp]))) := by
  refine gMet.of (by decide) (Nat.le_of_ble_eq_true rfl) ?_
  intro p e s m args below meth c H locs ls S M hr hlocks hname G hl
  have hx := S.1
  have hb := S.2.1
  have hown := S.2.2.2.1
  have hts := S.2.2.2.2
  have hl : lv_has ls 3 [(0, .ref q), (1, .ref mp), (2, .int 0)] := hl
  obtain ⟨Q, hQ⟩ : ∃ Q, Q = gE below D K (fun r' w' => r' = none ∧ w' = gu w q (.inr (10, [va_rf hd, .null, .int md, .int 0, .ref mp]))) args s rmJ26_init.cells rmJ26_init.slots := ⟨_, rfl⟩
  rw [← hQ]
  refine lv_aload_n (pc := 0) hx hb dJ26_init_0 rfl (lv_at hl 0 rfl) ?_
  refine lv_aload_n (pc := 1) hx hb dJ26_init_1 rfl (lv_at hl 1 rfl) ?_
  refine g_putF (pc := 2) (v := .ref mp) S M G (C := RJ27) (T := TJ27) (N := 5) (ci := 10) in_J27 tyJ27 tyJ27_ok nmJ27 hq hbq rfl 4 (by decide) q1064 (Or.inl rfl) rfl hname rfl rfl rfl (Nat.le_of_ble_eq_true rfl) dJ26_init_2 (fun H locs G => ?_)
  obtain ⟨w1_, hw1_⟩ : ∃ z9, z9 = gu w q (.inr (10, [.null, .null, .int 0, .int 0, .ref mp])) := ⟨_, rfl⟩
  replace G : gS D K w1_ s H locs := by rw [hw1_]; exact G
  have c1_mp : w1_ mp = some (.inr (7, mfl tb sz md th lf ks hd tl)) := by rw [hw1_, gu_n (gne_c ho hq (by decide))]; exact ho
  have c1_q : w1_ q = some (.inr (10, [.null, .null, .int 0, .int 0, .ref mp])) := by rw [hw1_]; exact gu_s
  refine lv_aload_n (pc := 5) hx hb dJ26_init_5 rfl (lv_at hl 0 rfl) ?_
  refine W.objInit hx hb hown (hts _ q1059) (hts _ q62) (hts _ q63) rfl (by rw [S.2.2.1]; exact hl.1) rfl dJ26_init_6 (Nat.le_of_ble_eq_true rfl) (Nat.le_of_ble_eq_true rfl) ?_
  refine W.eq (g2 := F0 m 9 ls []) rfl ?_
  refine lv_aload_n (pc := 9) hx hb dJ26_init_9 rfl (lv_at hl 0 rfl) ?_
  refine lv_iload_n (pc := 10) hx hb dJ26_init_10 rfl (lv_at hl 2 rfl) ?_
  refine g_put (pc := 11) (v := .int 0) S M G (C := RJ27) (T := TJ27) (N := 5) (ci := 10) in_J27 tyJ27 tyJ27_ok nmJ27 c1_q hbq rfl 3 (by decide) q1063 (Or.inl rfl) rfl rfl rfl (Nat.le_of_ble_eq_true rfl) dJ26_init_11 (fun H locs G => ?_)
  obtain ⟨w2_, hw2_⟩ : ∃ z9, z9 = gu w1_ q (.inr (10, [.null, .null, .int 0, .int 0, .ref mp])) := ⟨_, rfl⟩
  replace G : gS D K w2_ s H locs := by rw [hw2_]; exact G
  have c2_mp : w2_ mp = some (.inr (7, mfl tb sz md th lf ks hd tl)) := by rw [hw2_, gu_n (gne_c c1_mp c1_q (by decide))]; exact c1_mp
  have c2_q : w2_ q = some (.inr (10, [.null, .null, .int 0, .int 0, .ref mp])) := by rw [hw2_]; exact gu_s
  refine lv_aload_n (pc := 14) hx hb dJ26_init_14 rfl (lv_at hl 0 rfl) ?_
  refine lv_iload_n (pc := 15) hx hb dJ26_init_15 rfl (lv_at hl 2 rfl) ?_
  refine lv_if_eq (pc := 16) (tgt := 26) hx hb dJ26_init_16 (by decide) (fun _ => ?_) (fun c => absurd c (by decide))
  refine lv_aload_n (pc := 26) hx hb dJ26_init_26 rfl (lv_at hl 1 rfl) ?_
  refine g_get (pc := 27) (v := va_rf hd) S M G (C := RJ5) (T := TJ5) (N := 12) (ci := 7) in_J5 c2_mp rfl 8 (by decide) q125 (Or.inl rfl) rfl dJ26_init_27 ?_
  refine g_put (pc := 30) (v := va_rf hd) S M G (C := RJ27) (T := TJ27) (N := 5) (ci := 10) in_J27 tyJ27 tyJ27_ok nmJ27 c2_q hbq rfl 0 (by decide) q1060 (Or.inl rfl) rfl (nar_rf _ (by first | exact Or.inl ⟨_, rfl⟩ | exact Or.inr ⟨_, rfl⟩)) (fit_rf _ (by first | exact Or.inl ⟨_, rfl⟩ | exact Or.inr ⟨_, rfl⟩)) (Nat.le_of_ble_eq_true rfl) dJ26_init_30 (fun H locs G => ?_)
  obtain ⟨w3_, hw3_⟩ : ∃ z9, z9 = gu w2_ q (.inr (10, [va_rf hd, .null, .int 0, .int 0, .ref mp])) := ⟨_, rfl⟩
  replace G : gS D K w3_ s H locs := by rw [hw3_]; exact G
  have c3_mp : w3_ mp = some (.inr (7, mfl tb sz md th lf ks hd tl)) := by rw [hw3_, gu_n (gne_c c2_mp c2_q (by decide))]; exact c2_mp
  have c3_q : w3_ q = some (.inr (10, [va_rf hd, .null, .int 0, .int 0, .ref mp])) := by rw [hw3_]; exact gu_s
  refine lv_aload_n (pc := 33) hx hb dJ26_init_33 rfl (lv_at hl 0 rfl) ?_
  refine lv_aload_n (pc := 34) hx hb dJ26_init_34 rfl (lv_at hl 1 rfl) ?_
  refine g_get (pc := 35) (v := .int md) S M G (C := RJ5) (T := TJ5) (N := 12) (ci := 7) in_J5 c3_mp rfl 3 (by decide) q132 (Or.inr q133) rfl dJ26_init_35 ?_
  refine g_put (pc := 38) (v := .int md) S M G (C := RJ27) (T := TJ27) (N := 5) (ci := 10) in_J27 tyJ27 tyJ27_ok nmJ27 c3_q hbq rfl 2 (by decide) q1062 (Or.inl rfl) rfl rfl rfl (Nat.le_of_ble_eq_true rfl) dJ26_init_38 (fun H locs G => ?_)
  obtain ⟨w4_, hw4_⟩ : ∃ z9, z9 = gu w3_ q (.inr (10, [va_rf hd, .null, .int md, .int 0, .ref mp])) := ⟨_, rfl⟩
  replace G : gS D K w4_ s H locs := by rw [hw4_]; exact G
  have c4_mp : w4_ mp = some (.inr (7, mfl tb sz md th lf ks hd tl)) := by rw [hw4_, gu_n (gne_c c3_mp c3_q (by decide))]; exact c3_mp
  have c4_q : w4_ q = some (.inr (10, [va_rf hd, .null, .int md, .int 0, .ref mp])) := by rw [hw4_]; exact gu_s
  refine lv_aload_n (pc := 41) hx hb dJ26_init_41 rfl (lv_at hl 0 rfl) ?_
  refine lv_null (pc := 42) hx hb dJ26_init_42 ?_
  refine g_put (pc := 43) (v := .null) S M G (C := RJ27) (T := TJ27) (N := 5) (ci := 10) in_J27 tyJ27 tyJ27_ok nmJ27 c4_q hbq rfl 1 (by decide) q1061 (Or.inl rfl) rfl rfl rfl (Nat.le_of_ble_eq_true rfl) dJ26_init_43 (fun H locs G => ?_)
  obtain ⟨w5_, hw5_⟩ : ∃ z9, z9 = gu w4_ q (.inr (10, [va_rf hd, .null, .int md, .int 0, .ref mp])) := ⟨_, rfl⟩
  replace G : gS D K w5_ s H locs := by rw [hw5_]; exact G
  have c5_mp : w5_ mp = some (.inr (7, mfl tb sz md th lf ks hd tl)) := by rw [hw5_, gu_n (gne_c c4_mp c4_q (by decide))]; exact c4_mp
  have c5_q : w5_ q = some (.inr (10, [va_rf hd, .null, .int md, .int 0, .ref mp])) := by rw [hw5_]; exact gu_s
  rw [hQ]
  refine g_vret S G hr hlocks (hdg := dJ26_init_46) ?_ ?_ ?_
  · exact Nat.le_of_ble_eq_true rfl
  · exact Nat.le_of_ble_eq_true rfl
  · refine ⟨rfl, ?_⟩
    rw [hw5_, hw4_, hw3_, hw2_, hw1_]
    repeat rw [gu_uu]
abbrev rmJ27_init : Room := ({ frames := 2, cells := 0, slots := 0, locals := 42 } : Room)
set_option maxHeartbeats 4000000 in
theorem metJ27_init (l : Launch) (D : va_G) (K : Nat → Nat) (w : Gh) {q mp : Nat} {tb : Option Nat} {sz md th : Int32} {lf : UInt32} {ks hd tl : Option Nat} (hq : w q = some (.inr (10, [.null, .null, .int 0, .int 0, .null]))) (hbq : K 0 ≤ q) (ho : w mp = some (.inr (7, mfl tb sz md th lf ks hd tl))) : gMet l yJ27_init (ws_ yJ27_init cJ27_init 3 none) rmJ27_init D K [.ref q, .ref mp, .int 0] w (fun r' w' => r' = none ∧ w' = gu w q (.inr (10, [va_rf hd, .null, .int md, .int 0, .ref mp]))) := by
  refine gMet.of (by decide) (Nat.le_of_ble_eq_true rfl) ?_
  intro p e s m args below meth c H locs ls S M hr hlocks hname G hl
  have hx := S.1
  have hb := S.2.1
  have hown := S.2.2.2.1
  have hts := S.2.2.2.2
  have hl : lv_has ls 3 [(0, .ref q), (1, .ref mp), (2, .int 0)] := hl
  obtain ⟨Q, hQ⟩ : ∃ Q, Q = gE below D K (fun r' w' => r' = none ∧ w' = gu w q (.inr (10, [va_rf hd, .null, .int md, .int 0, .ref mp]))) args s rmJ27_init.cells rmJ27_init.slots := ⟨_, rfl⟩
  rw [← hQ]
  refine lv_aload_n (pc := 0) hx hb dJ27_init_0 rfl (lv_at hl 0 rfl) ?_
  refine lv_aload_n (pc := 1) hx hb dJ27_init_1 rfl (lv_at hl 1 rfl) ?_
  refine lv_iload_n (pc := 2) hx hb dJ27_init_2 rfl (lv_at hl 2 rfl) ?_
  refine g_callI (pc := 3) S M G hl.1 [.ref mp, .int 0] [] (metJ26_init l D K w hq hbq ho) 2 q1058 q1056 q1057 q51 rfl (by decide) rfl ⟨Nat.le_of_ble_eq_true rfl, Nat.le_of_ble_eq_true rfl⟩ rfl (Nat.le_of_ble_eq_true rfl) dJ27_init_3 ⟨Nat.le_of_ble_eq_true rfl, Nat.le_of_ble_eq_true rfl⟩ (fun r w2 H locs hp G => ?_)
  obtain ⟨rfl, hw2⟩ := hp
  refine W.eq (g2 := F0 m 6 ls []) rfl ?_
  rw [hQ]
  refine g_vret S G hr hlocks (hdg := dJ27_init_6) ?_ ?_ ?_
  · exact Nat.le_of_ble_eq_true rfl
  · exact Nat.le_of_ble_eq_true rfl
  · exact ⟨rfl, hw2⟩
abbrev rmJ25_iterator : Room := ({ frames := 3, cells := 1, slots := 5, locals := 64 } : Room)
set_option maxHeartbeats 4000000 in
theorem metJ25_iterator (l : Launch) (D : va_G) (K : Nat → Nat) (w : Gh) {k mp : Nat} {tb : Option Nat} {sz md th : Int32} {lf : UInt32} {ks hd tl : Option Nat} (hk : w k = some (.inr (9, [.int 0, .ref mp]))) (ho : w mp = some (.inr (7, mfl tb sz md th lf ks hd tl))) : gMet l yJ25_iterator (ws_ yJ25_iterator cJ25_iterator 1 (some (.object "java/util/Iterator"))) rmJ25_iterator D K [.ref k] w (fun r' w' => ∃ it, r' = some (.ref it) ∧ w it = none ∧ K 0 ≤ it ∧ w' it = some (.inr (10, [va_rf hd, .null, .int md, .int 0, .ref mp])) ∧ ∀ a x, w a = some x → w' a = some x) := by
  refine gMet.of (by decide) (Nat.le_of_ble_eq_true rfl) ?_
  intro p e s m args below meth c H locs ls S M hr hlocks hname G hl
  have hx := S.1
  have hb := S.2.1
  have hown := S.2.2.2.1
  have hts := S.2.2.2.2
  have hl : lv_has ls 1 [(0, .ref k)] := hl
  obtain ⟨Q, hQ⟩ : ∃ Q, Q = gE below D K (fun r' w' => ∃ it, r' = some (.ref it) ∧ w it = none ∧ K 0 ≤ it ∧ w' it = some (.inr (10, [va_rf hd, .null, .int md, .int 0, .ref mp])) ∧ ∀ a x, w a = some x → w' a = some x) args s rmJ25_iterator.cells rmJ25_iterator.slots := ⟨_, rfl⟩
  rw [← hQ]
  refine g_new (pc := 0) S M G (C := RJ27) (T := TJ27) (N := 5) (ci := 10) (fs := [.null, .null, .int 0, .int 0, .null]) in_J27 tyJ27 tyJ27_ok q1051 q1052 q52 rfl df_J27 (Nat.le_of_ble_eq_true rfl) (Nat.le_of_ble_eq_true rfl) dJ25_iterator_0 (fun q1_ H hnq1_ hbq1_ heq1_ hsq1_ G => ?_)
  refine W.widen (k := 1) (n := 5) (Nat.le_of_ble_eq_true rfl) (Nat.le_of_ble_eq_true rfl) ?_
  obtain ⟨w2_, hw2_⟩ : ∃ z9, z9 = gu w q1_ (.inr (10, [.null, .null, .int 0, .int 0, .null])) := ⟨_, rfl⟩
  replace G : gS D K w2_ s H locs := by rw [hw2_]; exact G
  have c2_k : w2_ k = some (.inr (9, [.int 0, .ref mp])) := by rw [hw2_, gu_n (gne_f hk hnq1_)]; exact hk
  have c2_mp : w2_ mp = some (.inr (7, mfl tb sz md th lf ks hd tl)) := by rw [hw2_, gu_n (gne_f ho hnq1_)]; exact ho
  have c2_q1_ : w2_ q1_ = some (.inr (10, [.null, .null, .int 0, .int 0, .null])) := by rw [hw2_]; exact gu_s
  refine lv_dup (pc := 3) hx hb dJ25_iterator_3 rfl ?_
  refine lv_aload_n (pc := 4) hx hb dJ25_iterator_4 rfl (lv_at hl 0 rfl) ?_
  refine g_get (pc := 5) (v := .ref mp) S M G (C := RJ25) (T := TJ25) (N := 2) (ci := 9) in_J25 c2_k rfl 1 (by decide) q1034 (Or.inl rfl) rfl dJ25_iterator_5 ?_
  refine lv_aload_n (pc := 8) hx hb dJ25_iterator_8 rfl (lv_at hl 0 rfl) ?_
  refine g_get (pc := 9) (v := .int 0) S M G (C := RJ25) (T := TJ25) (N := 2) (ci := 9) in_J25 c2_k rfl 0 (by decide) q1033 (Or.inl rfl) rfl dJ25_iterator_9 ?_
  refine g_callI (pc := 12) S M G hl.1 [.ref mp, .int 0] [.ref q1_] (metJ27_init l D K w2_ c2_q1_ hbq1_ c2_mp) 2 q1055 q1053 q1054 q52 rfl (by decide) rfl ⟨Nat.le_of_ble_eq_true rfl, Nat.le_of_ble_eq_true rfl⟩ rfl (Nat.le_of_ble_eq_true rfl) dJ25_iterator_12 ⟨Nat.le_of_ble_eq_true rfl, Nat.le_of_ble_eq_true rfl⟩ (fun r w2 H locs hp G => ?_)
  obtain ⟨rfl, hw2⟩ := hp
  rw [hw2] at G
  obtain ⟨w3_, hw3_⟩ : ∃ z9, z9 = gu w2_ q1_ (.inr (10, [va_rf hd, .null, .int md, .int 0, .ref mp])) := ⟨_, rfl⟩
  replace G : gS D K w3_ s H locs := by rw [hw3_]; exact G
  have c3_k : w3_ k = some (.inr (9, [.int 0, .ref mp])) := by rw [hw3_, gu_n (gne_c c2_k c2_q1_ (by decide))]; exact c2_k
  have c3_mp : w3_ mp = some (.inr (7, mfl tb sz md th lf ks hd tl)) := by rw [hw3_, gu_n (gne_c c2_mp c2_q1_ (by decide))]; exact c2_mp
  have c3_q1_ : w3_ q1_ = some (.inr (10, [va_rf hd, .null, .int md, .int 0, .ref mp])) := by rw [hw3_]; exact gu_s
  refine W.eq (g2 := F0 m 15 ls [.ref q1_]) rfl ?_
  rw [hQ]
  refine g_aret S G (rt := (.object "java/util/Iterator")) (r := some q1_) hr (Or.inl ⟨_, rfl⟩) hlocks (hdg := dJ25_iterator_15) ?_ ?_ ?_
  · exact Nat.le_of_ble_eq_true rfl
  · exact Nat.le_of_ble_eq_true rfl
  · refine ⟨q1_, rfl, hnq1_, hbq1_, c3_q1_, fun a x h1 => ?_⟩
    rw [hw3_, hw2_, gu_n (gne_f h1 hnq1_), gu_n (gne_f h1 hnq1_)]
    exact h1
def hasN : Option Nat → Int32
  | none => 0
  | some _ => 1
abbrev rmJ26_hasNext : Room := ({ frames := 0, cells := 0, slots := 0, locals := 0 } : Room)
set_option maxHeartbeats 4000000 in
theorem metJ26_hasNext (l : Launch) (D : va_G) (K : Nat → Nat) (w : Gh) {it mp : Nat} {o cur : Option Nat} {md : Int32} (hi : w it = some (.inr (10, [va_rf o, va_rf cur, .int md, .int 0, .ref mp]))) : gMet l yJ26_hasNext (ws_ yJ26_hasNext cJ26_hasNext 1 (some .boolean)) rmJ26_hasNext D K [.ref it] w (fun r' w' => r' = some (.int (hasN o)) ∧ w' = w) := by
  refine gMet.of (by decide) (Nat.le_of_ble_eq_true rfl) ?_
  intro p e s m args below meth c H locs ls S M hr hlocks hname G hl
  have hx := S.1
  have hb := S.2.1
  have hown := S.2.2.2.1
  have hts := S.2.2.2.2
  have hl : lv_has ls 1 [(0, .ref it)] := hl
  obtain ⟨Q, hQ⟩ : ∃ Q, Q = gE below D K (fun r' w' => r' = some (.int (hasN o)) ∧ w' = w) args s rmJ26_hasNext.cells rmJ26_hasNext.slots := ⟨_, rfl⟩
  rw [← hQ]
  refine lv_aload_n (pc := 0) hx hb dJ26_hasNext_0 rfl (lv_at hl 0 rfl) ?_
  refine g_get (pc := 1) (v := va_rf o) S M G (C := RJ27) (T := TJ27) (N := 5) (ci := 10) in_J27 hi rfl 0 (by decide) q1060 (Or.inl rfl) rfl dJ26_hasNext_1 ?_
  refine gv_ifnull (pc := 4) (tgt := 11) S dJ26_hasNext_4 (by decide) (fun h1 => ?_) (fun ov h1 => ?_)
  · have hlx_h1 := hl
    have Gx_h1 := G
    subst h1
    have hl := hlx_h1
    have G : gS D K w s H locs := Gx_h1
    have hl : lv_has ls 1 [(0, .ref it)] := hl
    refine W.eq (g2 := F0 m 11 ls []) rfl ?_
    refine lv_iconst (pc := 11) (v := 0) hx hb dJ26_hasNext_11 (by decide) ?_
    rw [hQ]
    refine g_zret S G hr hlocks (hv := ?_) (hdg := dJ26_hasNext_12) ?_ ?_ ?_
    · first | exact Or.inl rfl | exact Or.inr rfl | exact Or.inl rfl
    · exact Nat.le_of_ble_eq_true rfl
    · exact Nat.le_of_ble_eq_true rfl
    · exact ⟨rfl, rfl⟩
  · have hlx_h1 := hl
    have Gx_h1 := G
    subst h1
    have hl := hlx_h1
    have G : gS D K w s H locs := Gx_h1
    have hl : lv_has ls 1 [(0, .ref it)] := hl
    refine W.eq (g2 := F0 m 7 ls []) rfl ?_
    refine lv_iconst (pc := 7) (v := 1) hx hb dJ26_hasNext_7 (by decide) ?_
    refine lv_goto (pc := 8) (tgt := 12) hx hb dJ26_hasNext_8 (by decide) ?_
    rw [hQ]
    refine g_zret S G hr hlocks (hv := ?_) (hdg := dJ26_hasNext_12) ?_ ?_ ?_
    · first | exact Or.inl rfl | exact Or.inr rfl | exact Or.inl rfl
    · exact Nat.le_of_ble_eq_true rfl
    · exact Nat.le_of_ble_eq_true rfl
    · exact ⟨rfl, rfl⟩
abbrev rmJ26_nextNode : Room := ({ frames := 0, cells := 0, slots := 0, locals := 0 } : Room)
set_option maxHeartbeats 4000000 in
theorem metJ26_nextNode (l : Launch) (D : va_G) (K : Nat → Nat) (w : Gh) {it mp x : Nat} {cur : Option Nat} {md : Int32} {tb : Option Nat} {sz th : Int32} {lf : UInt32} {ks hd tl : Option Nat} {hN ky vl : Nat → Nat} {nx bf af : Nat → Option Nat} (hi : w it = some (.inr (10, [.ref x, va_rf cur, .int md, .int 0, .ref mp]))) (hbi : K 0 ≤ it) (ho : w mp = some (.inr (7, mfl tb sz md th lf ks hd tl))) (hxe : w x = some (.inr (8, nfl (nI (hN x)) (ky x) (vl x) (nx x) (bf x) (af x)))) : gMet l yJ26_nextNode (ws_ yJ26_nextNode cJ26_nextNode 2 (some (.object "java/util/LinkedHashMap$Entry"))) rmJ26_nextNode D K [.ref it] w (fun r' w' => r' = some (.ref x) ∧ w' = gu w it (.inr (10, [va_rf (af x), .ref x, .int md, .int 0, .ref mp]))) := by
  refine gMet.of (by decide) (Nat.le_of_ble_eq_true rfl) ?_
  intro p e s m args below meth c H locs ls S M hr hlocks hname G hl
  have hx := S.1
  have hb := S.2.1
  have hown := S.2.2.2.1
  have hts := S.2.2.2.2
  have hl : lv_has ls 2 [(0, .ref it)] := hl
  obtain ⟨Q, hQ⟩ : ∃ Q, Q = gE below D K (fun r' w' => r' = some (.ref x) ∧ w' = gu w it (.inr (10, [va_rf (af x), .ref x, .int md, .int 0, .ref mp]))) args s rmJ26_nextNode.cells rmJ26_nextNode.slots := ⟨_, rfl⟩
  rw [← hQ]
  refine lv_aload_n (pc := 0) hx hb dJ26_nextNode_0 rfl (lv_at hl 0 rfl) ?_
  refine g_get (pc := 1) (v := .ref x) S M G (C := RJ27) (T := TJ27) (N := 5) (ci := 10) in_J27 hi rfl 0 (by decide) q1060 (Or.inl rfl) rfl dJ26_nextNode_1 ?_
  refine lv_astore_n (pc := 4) (lv' := [(1, .ref x), (0, .ref it)]) hx hb dJ26_nextNode_4 rfl hl (by decide) rfl (fun ls hl => ?_)
  refine lv_aload_n (pc := 5) hx hb dJ26_nextNode_5 rfl (lv_at hl 1 rfl) ?_
  refine g_get (pc := 6) (v := .ref mp) S M G (C := RJ27) (T := TJ27) (N := 5) (ci := 10) in_J27 hi rfl 4 (by decide) q1064 (Or.inl rfl) rfl dJ26_nextNode_6 ?_
  refine g_get (pc := 9) (v := .int md) S M G (C := RJ5) (T := TJ5) (N := 12) (ci := 7) in_J5 ho rfl 3 (by decide) q132 (Or.inr q133) rfl dJ26_nextNode_9 ?_
  refine lv_aload_n (pc := 12) hx hb dJ26_nextNode_12 rfl (lv_at hl 1 rfl) ?_
  refine g_get (pc := 13) (v := .int md) S M G (C := RJ27) (T := TJ27) (N := 5) (ci := 10) in_J27 hi rfl 2 (by decide) q1062 (Or.inl rfl) rfl dJ26_nextNode_13 ?_
  refine lv_icmp_eq (pc := 16) (tgt := 27) hx hb dJ26_nextNode_16 (by decide) (fun _ => ?_) (fun c => absurd rfl c)
  refine lv_aload_n (pc := 27) hx hb dJ26_nextNode_27 rfl (lv_at hl 0 rfl) ?_
  refine lv_ifnonnull (pc := 28) (tgt := 39) hx hb dJ26_nextNode_28 (by decide) ?_
  refine lv_aload_n (pc := 39) hx hb dJ26_nextNode_39 rfl (lv_at hl 1 rfl) ?_
  refine lv_aload_n (pc := 40) hx hb dJ26_nextNode_40 rfl (lv_at hl 0 rfl) ?_
  refine g_put (pc := 41) (v := .ref x) S M G (C := RJ27) (T := TJ27) (N := 5) (ci := 10) in_J27 tyJ27 tyJ27_ok nmJ27 hi hbi rfl 1 (by decide) q1061 (Or.inl rfl) rfl rfl rfl (Nat.le_of_ble_eq_true rfl) dJ26_nextNode_41 (fun H locs G => ?_)
  obtain ⟨w1_, hw1_⟩ : ∃ z9, z9 = gu w it (.inr (10, [.ref x, .ref x, .int md, .int 0, .ref mp])) := ⟨_, rfl⟩
  replace G : gS D K w1_ s H locs := by rw [hw1_]; exact G
  have c1_mp : w1_ mp = some (.inr (7, mfl tb sz md th lf ks hd tl)) := by rw [hw1_, gu_n (gne_c ho hi (by decide))]; exact ho
  have c1_x : w1_ x = some (.inr (8, nfl (nI (hN x)) (ky x) (vl x) (nx x) (bf x) (af x))) := by rw [hw1_, gu_n (gne_c hxe hi (by decide))]; exact hxe
  have c1_it : w1_ it = some (.inr (10, [.ref x, .ref x, .int md, .int 0, .ref mp])) := by rw [hw1_]; exact gu_s
  refine lv_aload_n (pc := 44) hx hb dJ26_nextNode_44 rfl (lv_at hl 1 rfl) ?_
  refine lv_aload_n (pc := 45) hx hb dJ26_nextNode_45 rfl (lv_at hl 1 rfl) ?_
  refine g_get (pc := 46) (v := .int 0) S M G (C := RJ27) (T := TJ27) (N := 5) (ci := 10) in_J27 c1_it rfl 3 (by decide) q1063 (Or.inl rfl) rfl dJ26_nextNode_46 ?_
  refine lv_if_eq (pc := 49) (tgt := 59) hx hb dJ26_nextNode_49 (by decide) (fun _ => ?_) (fun c => absurd c (by decide))
  refine lv_aload_n (pc := 59) hx hb dJ26_nextNode_59 rfl (lv_at hl 0 rfl) ?_
  refine g_get (pc := 60) (v := va_rf (af x)) S M G (C := RJ22) (T := TJ22) (N := 6) (ci := 8) in_J22 c1_x rfl 5 (by decide) q794 (Or.inl rfl) rfl dJ26_nextNode_60 ?_
  obtain ⟨r1, er1⟩ : ∃ z9, z9 = af x := ⟨_, rfl⟩
  rw [← er1]
  refine g_put (pc := 63) (v := va_rf r1) S M G (C := RJ27) (T := TJ27) (N := 5) (ci := 10) in_J27 tyJ27 tyJ27_ok nmJ27 c1_it hbi rfl 0 (by decide) q1060 (Or.inl rfl) rfl (nar_rf _ (by first | exact Or.inl ⟨_, rfl⟩ | exact Or.inr ⟨_, rfl⟩)) (fit_rf _ (by first | exact Or.inl ⟨_, rfl⟩ | exact Or.inr ⟨_, rfl⟩)) (Nat.le_of_ble_eq_true rfl) dJ26_nextNode_63 (fun H locs G => ?_)
  obtain ⟨w2_, hw2_⟩ : ∃ z9, z9 = gu w1_ it (.inr (10, [va_rf r1, .ref x, .int md, .int 0, .ref mp])) := ⟨_, rfl⟩
  replace G : gS D K w2_ s H locs := by rw [hw2_]; exact G
  have c2_mp : w2_ mp = some (.inr (7, mfl tb sz md th lf ks hd tl)) := by rw [hw2_, gu_n (gne_c c1_mp c1_it (by decide))]; exact c1_mp
  have c2_x : w2_ x = some (.inr (8, nfl (nI (hN x)) (ky x) (vl x) (nx x) (bf x) (af x))) := by rw [hw2_, gu_n (gne_c c1_x c1_it (by decide))]; exact c1_x
  have c2_it : w2_ it = some (.inr (10, [va_rf r1, .ref x, .int md, .int 0, .ref mp])) := by rw [hw2_]; exact gu_s
  refine lv_aload_n (pc := 66) hx hb dJ26_nextNode_66 rfl (lv_at hl 0 rfl) ?_
  rw [hQ]
  refine g_aret S G (rt := (.object "java/util/LinkedHashMap$Entry")) (r := some x) hr (Or.inl ⟨_, rfl⟩) hlocks (hdg := dJ26_nextNode_67) ?_ ?_ ?_
  · exact Nat.le_of_ble_eq_true rfl
  · exact Nat.le_of_ble_eq_true rfl
  · refine ⟨rfl, ?_⟩
    rw [hw2_, hw1_]
    repeat rw [gu_uu]
    first | rfl | (rw [er1])
abbrev rmJ21_getKey : Room := ({ frames := 0, cells := 0, slots := 0, locals := 0 } : Room)
set_option maxHeartbeats 4000000 in
theorem metJ21_getKey (l : Launch) (D : va_G) (K : Nat → Nat) (w : Gh) {hN ky vl : Nat → Nat} {nx bf af : Nat → Option Nat} {x : Nat} (hxe : w x = some (.inr (8, nfl (nI (hN x)) (ky x) (vl x) (nx x) (bf x) (af x)))) : gMet l yJ21_getKey (ws_ yJ21_getKey cJ21_getKey 1 (some (.object "java/lang/Object"))) rmJ21_getKey D K [.ref x] w (fun r' w' => r' = some (.ref (ky x)) ∧ w' = w) := by
  refine gMet.of (by decide) (Nat.le_of_ble_eq_true rfl) ?_
  intro p e s m args below meth c H locs ls S M hr hlocks hname G hl
  have hx := S.1
  have hb := S.2.1
  have hown := S.2.2.2.1
  have hts := S.2.2.2.2
  have hl : lv_has ls 1 [(0, .ref x)] := hl
  obtain ⟨Q, hQ⟩ : ∃ Q, Q = gE below D K (fun r' w' => r' = some (.ref (ky x)) ∧ w' = w) args s rmJ21_getKey.cells rmJ21_getKey.slots := ⟨_, rfl⟩
  rw [← hQ]
  refine lv_aload_n (pc := 0) hx hb dJ21_getKey_0 rfl (lv_at hl 0 rfl) ?_
  refine g_get (pc := 1) (v := .ref (ky x)) S M G (C := RJ22) (T := TJ22) (N := 6) (ci := 8) in_J22 hxe rfl 1 (by decide) q801 (Or.inl rfl) rfl dJ21_getKey_1 ?_
  rw [hQ]
  refine g_aret S G (rt := (.object "java/lang/Object")) (r := some (ky x)) hr (Or.inl ⟨_, rfl⟩) hlocks (hdg := dJ21_getKey_4) ?_ ?_ ?_
  · exact Nat.le_of_ble_eq_true rfl
  · exact Nat.le_of_ble_eq_true rfl
  · exact ⟨rfl, rfl⟩
abbrev rmJ27_next : Room := ({ frames := 1, cells := 0, slots := 0, locals := 21 } : Room)
set_option maxHeartbeats 4000000 in
theorem metJ27_next (l : Launch) (D : va_G) (K : Nat → Nat) (w : Gh) {it mp x : Nat} {cur : Option Nat} {md : Int32} {tb : Option Nat} {sz th : Int32} {lf : UInt32} {ks hd tl : Option Nat} {hN ky vl : Nat → Nat} {nx bf af : Nat → Option Nat} (hi : w it = some (.inr (10, [.ref x, va_rf cur, .int md, .int 0, .ref mp]))) (hbi : K 0 ≤ it) (ho : w mp = some (.inr (7, mfl tb sz md th lf ks hd tl))) (hxe : w x = some (.inr (8, nfl (nI (hN x)) (ky x) (vl x) (nx x) (bf x) (af x)))) : gMet l yJ27_next (ws_ yJ27_next cJ27_next 1 (some (.object "java/lang/Object"))) rmJ27_next D K [.ref it] w (fun r' w' => r' = some (.ref (ky x)) ∧ w' = gu w it (.inr (10, [va_rf (af x), .ref x, .int md, .int 0, .ref mp]))) := by
  refine gMet.of (by decide) (Nat.le_of_ble_eq_true rfl) ?_
  intro p e s m args below meth c H locs ls S M hr hlocks hname G hl
  have hx := S.1
  have hb := S.2.1
  have hown := S.2.2.2.1
  have hts := S.2.2.2.2
  have hl : lv_has ls 1 [(0, .ref it)] := hl
  obtain ⟨Q, hQ⟩ : ∃ Q, Q = gE below D K (fun r' w' => r' = some (.ref (ky x)) ∧ w' = gu w it (.inr (10, [va_rf (af x), .ref x, .int md, .int 0, .ref mp]))) args s rmJ27_next.cells rmJ27_next.slots := ⟨_, rfl⟩
  rw [← hQ]
  refine lv_aload_n (pc := 0) hx hb dJ27_next_0 rfl (lv_at hl 0 rfl) ?_
  refine g_callU (pc := 1) (owner := "java/util/LinkedHashMap$LinkedHashIterator") S M G hl.1 [] [] (metJ26_nextNode l D K w hi hbi ho hxe) 0 (g_recv M G hi (q := (RJ27, TJ27, 5)) rfl) q400 q395 q396 (va_Decl.abs (M.1.2.2.1 _ q397 rfl)) q399 q398 q51 (by decide) rfl ⟨Nat.le_of_ble_eq_true rfl, Nat.le_of_ble_eq_true rfl⟩ rfl (Nat.le_of_ble_eq_true rfl) dJ27_next_1 ⟨Nat.le_of_ble_eq_true rfl, Nat.le_of_ble_eq_true rfl⟩ (fun r w2 H locs hp G => ?_)
  obtain ⟨rfl, hw2⟩ := hp
  rw [hw2] at G
  obtain ⟨w1_, hw1_⟩ : ∃ z9, z9 = gu w it (.inr (10, [va_rf (af x), .ref x, .int md, .int 0, .ref mp])) := ⟨_, rfl⟩
  replace G : gS D K w1_ s H locs := by rw [hw1_]; exact G
  have c1_mp : w1_ mp = some (.inr (7, mfl tb sz md th lf ks hd tl)) := by rw [hw1_, gu_n (gne_c ho hi (by decide))]; exact ho
  have c1_x : w1_ x = some (.inr (8, nfl (nI (hN x)) (ky x) (vl x) (nx x) (bf x) (af x))) := by rw [hw1_, gu_n (gne_c hxe hi (by decide))]; exact hxe
  have c1_it : w1_ it = some (.inr (10, [va_rf (af x), .ref x, .int md, .int 0, .ref mp])) := by rw [hw1_]; exact gu_s
  refine W.eq (g2 := F0 m 4 ls [.ref x]) rfl ?_
  refine g_callU (pc := 4) (owner := "java/util/HashMap$Node") S M G hl.1 [] [] (metJ21_getKey l D K w1_ c1_x) 0 (g_recv M G c1_x (q := (RJ22, TJ22, 6)) rfl) q407 q401 q402 (va_Decl.abs (M.1.2.2.1 _ q403 rfl)) q406 q405 q46 (by decide) rfl ⟨Nat.le_of_ble_eq_true rfl, Nat.le_of_ble_eq_true rfl⟩ rfl (Nat.le_of_ble_eq_true rfl) dJ27_next_4 ⟨Nat.le_of_ble_eq_true rfl, Nat.le_of_ble_eq_true rfl⟩ (fun r w2 H locs hp G => ?_)
  obtain ⟨rfl, hw2⟩ := hp
  rw [hw2] at G
  refine W.eq (g2 := F0 m 7 ls [.ref (ky x)]) rfl ?_
  rw [hQ]
  refine g_aret S G (rt := (.object "java/lang/Object")) (r := some (ky x)) hr (Or.inl ⟨_, rfl⟩) hlocks (hdg := dJ27_next_7) ?_ ?_ ?_
  · exact Nat.le_of_ble_eq_true rfl
  · exact Nat.le_of_ble_eq_true rfl
  · exact ⟨rfl, hw1_⟩
