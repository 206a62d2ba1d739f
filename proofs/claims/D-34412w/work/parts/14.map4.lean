/-! LinkedHashMap.afterNodeRemoval -/
abbrev rmJ5_afterNodeRemoval : Room := ({ frames := 0, cells := 0, slots := 0, locals := 0 } : Room)
set_option maxHeartbeats 4000000 in
theorem metJ5_afterNodeRemoval (l : Launch) (D : va_G) (K : Nat → Nat) (w : Gh) {mp x : Nat} {tb : Option Nat} {sz md th : Int32} {lf : UInt32} {ks hd tl : Option Nat} {l1 l2 : List Nat} {hN ky vl : Nat → Nat} {nx bf af : Nat → Option Nat} (ho : w mp = some (.inr (7, mfl tb sz md th lf ks hd tl))) (hbm : K 0 ≤ mp) (hE : EN w (l1 ++ x :: l2) hN ky vl nx bf af) (hbe : ∀ a ∈ l1 ++ x :: l2, K 0 ≤ a) (hD : DL (l1 ++ x :: l2) bf af hd tl) (hnd : (l1 ++ x :: l2).Nodup) : gMet l yJ5_afterNodeRemoval (ws_ yJ5_afterNodeRemoval cJ5_afterNodeRemoval 5 none) rmJ5_afterNodeRemoval D K [.ref mp, .ref x] w (fun r' w' => r' = none ∧ ∃ bf' af' hd' tl', DL (l1 ++ l2) bf' af' hd' tl' ∧ w' mp = some (.inr (7, mfl tb sz md th lf ks hd' tl')) ∧ EN w' (l1 ++ l2) hN ky vl nx bf' af' ∧ MK w w' mp (l1 ++ x :: l2) ∧ w' x = some (.inr (8, nfl (nI (hN x)) (ky x) (vl x) (nx x) none none))) := by
  refine gMet.of (by decide) (Nat.le_of_ble_eq_true rfl) ?_
  intro p e s m args below meth c H locs ls S M hr hlocks hname G hl
  have hx := S.1
  have hb := S.2.1
  have hown := S.2.2.2.1
  have hts := S.2.2.2.2
  have hl : lv_has ls 5 [(0, .ref mp), (1, .ref x)] := hl
  obtain ⟨Q, hQ⟩ : ∃ Q, Q = gE below D K (fun r' w' => r' = none ∧ ∃ bf' af' hd' tl', DL (l1 ++ l2) bf' af' hd' tl' ∧ w' mp = some (.inr (7, mfl tb sz md th lf ks hd' tl')) ∧ EN w' (l1 ++ l2) hN ky vl nx bf' af' ∧ MK w w' mp (l1 ++ x :: l2) ∧ w' x = some (.inr (8, nfl (nI (hN x)) (ky x) (vl x) (nx x) none none))) args s rmJ5_afterNodeRemoval.cells rmJ5_afterNodeRemoval.slots := ⟨_, rfl⟩
  rw [← hQ]
  obtain ⟨hbx, hax, hDp⟩ := hD.pull hnd
  have hx0 := hE x (by simp)
  have hnn := List.nodup_append.mp hnd
  have hn2 : x ∉ l2 := (List.nodup_cons.mp hnn.2.1).1
  have hn1 : x ∉ l1 := fun q => hnn.2.2 x q x List.mem_cons_self rfl
  have hdis : ∀ y ∈ l1, y ∉ l2 := fun y h1 h2 => hnn.2.2 y h1 y (List.mem_cons_of_mem _ h2) rfl
  have hE0 : EN w (l1 ++ l2) hN ky vl nx bf af := fun a ha => hE a (by rcases List.mem_append.mp ha with q | q; exact List.mem_append_left _ q; exact List.mem_append_right _ (List.mem_cons_of_mem _ q))
  have hxm : x ∉ l1 ++ l2 := fun q => (List.mem_append.mp q).elim hn1 hn2
  have hmm : mp ∉ l1 ++ l2 := hE0.no ho (by decide)
  refine lv_aload_n (pc := 0) hx hb dJ5_afterNodeRemoval_0 rfl (lv_at hl 1 rfl) ?_
  refine va_castS (pc := 1) hx hb hown (hts _ q782) (g_cls M (ci := 8) rfl) (g_recv M G hx0 (q := (RJ22, TJ22, 6)) rfl) dJ5_afterNodeRemoval_1 ?_
  refine lv_astore_n (pc := 4) (lv' := [(2, .ref x), (0, .ref mp), (1, .ref x)]) hx hb dJ5_afterNodeRemoval_4 rfl hl (by decide) rfl (fun ls hl => ?_)
  refine lv_aload_n (pc := 5) hx hb dJ5_afterNodeRemoval_5 rfl (lv_at hl 0 rfl) ?_
  refine g_get (pc := 6) (v := va_rf (bf x)) S M G (C := RJ22) (T := TJ22) (N := 6) (ci := 8) in_J22 hx0 rfl 4 (by decide) q791 (Or.inl rfl) rfl dJ5_afterNodeRemoval_6 ?_
  obtain ⟨r1, er1⟩ : ∃ z9, z9 = bf x := ⟨_, rfl⟩
  rw [← er1]
  refine gv_astore_n (pc := 9) (lv' := [(3, va_rf r1), (2, .ref x), (0, .ref mp), (1, .ref x)]) S dJ5_afterNodeRemoval_9 rfl hl (by decide) rfl (fun ls hl => ?_)
  refine lv_aload_n (pc := 10) hx hb dJ5_afterNodeRemoval_10 rfl (lv_at hl 1 rfl) ?_
  refine g_get (pc := 11) (v := va_rf (af x)) S M G (C := RJ22) (T := TJ22) (N := 6) (ci := 8) in_J22 hx0 rfl 5 (by decide) q793 (Or.inl rfl) rfl dJ5_afterNodeRemoval_11 ?_
  obtain ⟨r2, er2⟩ : ∃ z9, z9 = af x := ⟨_, rfl⟩
  rw [← er2]
  refine gv_astore (pc := 14) (lv' := [(4, va_rf r2), (3, va_rf r1), (2, .ref x), (0, .ref mp), (1, .ref x)]) S dJ5_afterNodeRemoval_14 hl (by decide) (by simp [cat_rf]) (fun ls hl => ?_)
  refine lv_aload_n (pc := 16) hx hb dJ5_afterNodeRemoval_16 rfl (lv_at hl 2 rfl) ?_
  refine lv_aload_n (pc := 17) hx hb dJ5_afterNodeRemoval_17 rfl (lv_at hl 2 rfl) ?_
  refine lv_null (pc := 18) hx hb dJ5_afterNodeRemoval_18 ?_
  refine lv_dup_x1 (pc := 19) hx hb dJ5_afterNodeRemoval_19 rfl rfl ?_
  refine g_put (pc := 20) (v := .null) S M G (C := RJ22) (T := TJ22) (N := 6) (ci := 8) in_J22 tyJ22 tyJ22_ok nmJ22 hx0 (hbe x (by simp)) rfl 5 (by decide) q793 (Or.inl rfl) rfl rfl rfl (Nat.le_of_ble_eq_true rfl) dJ5_afterNodeRemoval_20 (fun H locs G => ?_)
  obtain ⟨w1_, hw1_⟩ : ∃ z9, z9 = gu w x (.inr (8, [.int (nI (hN x)), .ref (ky x), .ref (vl x), va_rf (nx x), va_rf (bf x), .null])) := ⟨_, rfl⟩
  replace G : gS D K w1_ s H locs := by rw [hw1_]; exact G
  have c1_mp : w1_ mp = some (.inr (7, [va_rf tb, .null, .int sz, .int md, .int th, .float lf, va_rf ks, .null, va_rf hd, va_rf tl, .int 0, .int 0])) := by rw [hw1_, gu_n (gne_c ho hx0 (by decide))]; exact ho
  have c1_x : w1_ x = some (.inr (8, [.int (nI (hN x)), .ref (ky x), .ref (vl x), va_rf (nx x), va_rf (bf x), .null])) := by rw [hw1_]; exact gu_s
  refine g_put (pc := 23) (v := .null) S M G (C := RJ22) (T := TJ22) (N := 6) (ci := 8) in_J22 tyJ22 tyJ22_ok nmJ22 c1_x (hbe x (by simp)) rfl 4 (by decide) q791 (Or.inl rfl) rfl rfl rfl (Nat.le_of_ble_eq_true rfl) dJ5_afterNodeRemoval_23 (fun H locs G => ?_)
  obtain ⟨w2_, hw2_⟩ : ∃ z9, z9 = gu w1_ x (.inr (8, [.int (nI (hN x)), .ref (ky x), .ref (vl x), va_rf (nx x), .null, .null])) := ⟨_, rfl⟩
  replace G : gS D K w2_ s H locs := by rw [hw2_]; exact G
  have c2_mp : w2_ mp = some (.inr (7, [va_rf tb, .null, .int sz, .int md, .int th, .float lf, va_rf ks, .null, va_rf hd, va_rf tl, .int 0, .int 0])) := by rw [hw2_, gu_n (gne_c c1_mp c1_x (by decide))]; exact c1_mp
  have c2_x : w2_ x = some (.inr (8, [.int (nI (hN x)), .ref (ky x), .ref (vl x), va_rf (nx x), .null, .null])) := by rw [hw2_]; exact gu_s
  refine gv_aload_n (pc := 26) S dJ5_afterNodeRemoval_26 rfl (lv_at hl 1 rfl) ?_
  refine gv_ifnonnull (pc := 27) (tgt := 39) S dJ5_afterNodeRemoval_27 (by decide) (fun r1v h3 => ?_) (fun h3 => ?_)
  · have hlx_h3 := hl
    have Gx_h3 := G
    subst h3
    have hl := hlx_h3
    have G : gS D K w2_ s H locs := Gx_h3
    have hl : lv_has ls 5 [(4, va_rf r2), (3, .ref r1v), (2, .ref x), (0, .ref mp), (1, .ref x)] := hl
    refine W.eq (g2 := F0 m 39 ls []) rfl ?_
    have hmr1v : r1v ∈ l1 := List.mem_of_getLast? (hbx ▸ er1).symm
    have hxr1v : r1v ≠ x := fun q => hn1 (by rw [← q]; exact hmr1v)
    have cer1v : w2_ r1v = some (.inr (8, [.int (nI (hN r1v)), .ref (ky r1v), .ref (vl r1v), va_rf (nx r1v), va_rf (bf r1v), va_rf (af r1v)])) := by rw [hw2_, gu_n hxr1v, hw1_, gu_n hxr1v]; exact hE r1v (List.mem_append_left _ hmr1v)
    refine lv_aload_n (pc := 39) hx hb dJ5_afterNodeRemoval_39 rfl (lv_at hl 1 rfl) ?_
    refine gv_aload (pc := 40) S dJ5_afterNodeRemoval_40 (lv_at hl 0 rfl) ?_
    refine g_put (pc := 42) (v := va_rf r2) S M G (C := RJ22) (T := TJ22) (N := 6) (ci := 8) in_J22 tyJ22 tyJ22_ok nmJ22 cer1v (hbe r1v (List.mem_append_left _ hmr1v)) rfl 5 (by decide) q793 (Or.inl rfl) rfl (nar_rf _ (by first | exact Or.inl ⟨_, rfl⟩ | exact Or.inr ⟨_, rfl⟩)) (fit_rf _ (by first | exact Or.inl ⟨_, rfl⟩ | exact Or.inr ⟨_, rfl⟩)) (Nat.le_of_ble_eq_true rfl) dJ5_afterNodeRemoval_42 (fun H locs G => ?_)
    obtain ⟨w3_, hw3_⟩ : ∃ z9, z9 = gu w2_ r1v (.inr (8, [.int (nI (hN r1v)), .ref (ky r1v), .ref (vl r1v), va_rf (nx r1v), va_rf (bf r1v), va_rf r2])) := ⟨_, rfl⟩
    replace G : gS D K w3_ s H locs := by rw [hw3_]; exact G
    have c3_mp : w3_ mp = some (.inr (7, [va_rf tb, .null, .int sz, .int md, .int th, .float lf, va_rf ks, .null, va_rf hd, va_rf tl, .int 0, .int 0])) := by rw [hw3_, gu_n (gne_c c2_mp cer1v (by decide))]; exact c2_mp
    have c3_x : w3_ x = some (.inr (8, [.int (nI (hN x)), .ref (ky x), .ref (vl x), va_rf (nx x), .null, .null])) := by rw [hw3_, gu_n (Ne.symm hxr1v)]; exact c2_x
    have c3_r1v : w3_ r1v = some (.inr (8, [.int (nI (hN r1v)), .ref (ky r1v), .ref (vl r1v), va_rf (nx r1v), va_rf (bf r1v), va_rf r2])) := by rw [hw3_]; exact gu_s
    refine gv_aload (pc := 45) S dJ5_afterNodeRemoval_45 (lv_at hl 0 rfl) ?_
    refine gv_ifnonnull (pc := 47) (tgt := 58) S dJ5_afterNodeRemoval_47 (by decide) (fun r2v h4 => ?_) (fun h4 => ?_)
    · have hlx_h4 := hl
      have Gx_h4 := G
      subst h4
      have hl := hlx_h4
      have G : gS D K w3_ s H locs := Gx_h4
      have hl : lv_has ls 5 [(4, .ref r2v), (3, .ref r1v), (2, .ref x), (0, .ref mp), (1, .ref x)] := hl
      refine W.eq (g2 := F0 m 58 ls []) rfl ?_
      have hmr2v : r2v ∈ l2 := List.mem_of_head? (hax ▸ er2).symm
      have hxr2v : r2v ≠ x := fun q => hn2 (by rw [← q]; exact hmr2v)
      have cer2v : w3_ r2v = some (.inr (8, [.int (nI (hN r2v)), .ref (ky r2v), .ref (vl r2v), va_rf (nx r2v), va_rf (bf r2v), va_rf (af r2v)])) := by rw [hw3_, gu_n (fun q => hdis r1v hmr1v (by rw [← q]; exact hmr2v)), hw2_, gu_n hxr2v, hw1_, gu_n hxr2v]; exact hE r2v (List.mem_append_right _ (List.mem_cons_of_mem _ hmr2v))
      refine lv_aload (pc := 58) hx hb dJ5_afterNodeRemoval_58 (lv_at hl 0 rfl) ?_
      refine lv_aload_n (pc := 60) hx hb dJ5_afterNodeRemoval_60 rfl (lv_at hl 1 rfl) ?_
      refine g_put (pc := 61) (v := .ref r1v) S M G (C := RJ22) (T := TJ22) (N := 6) (ci := 8) in_J22 tyJ22 tyJ22_ok nmJ22 cer2v (hbe r2v (List.mem_append_right _ (List.mem_cons_of_mem _ hmr2v))) rfl 4 (by decide) q791 (Or.inl rfl) rfl rfl rfl (Nat.le_of_ble_eq_true rfl) dJ5_afterNodeRemoval_61 (fun H locs G => ?_)
      obtain ⟨w4_, hw4_⟩ : ∃ z9, z9 = gu w3_ r2v (.inr (8, [.int (nI (hN r2v)), .ref (ky r2v), .ref (vl r2v), va_rf (nx r2v), .ref r1v, va_rf (af r2v)])) := ⟨_, rfl⟩
      replace G : gS D K w4_ s H locs := by rw [hw4_]; exact G
      have c4_mp : w4_ mp = some (.inr (7, [va_rf tb, .null, .int sz, .int md, .int th, .float lf, va_rf ks, .null, va_rf hd, va_rf tl, .int 0, .int 0])) := by rw [hw4_, gu_n (gne_c c3_mp cer2v (by decide))]; exact c3_mp
      have c4_x : w4_ x = some (.inr (8, [.int (nI (hN x)), .ref (ky x), .ref (vl x), va_rf (nx x), .null, .null])) := by rw [hw4_, gu_n (Ne.symm hxr2v)]; exact c3_x
      have c4_r1v : w4_ r1v = some (.inr (8, [.int (nI (hN r1v)), .ref (ky r1v), .ref (vl r1v), va_rf (nx r1v), va_rf (bf r1v), .ref r2v])) := by rw [hw4_, gu_n (Ne.symm (fun q => hdis r1v hmr1v (by rw [← q]; exact hmr2v)))]; exact c3_r1v
      have c4_r2v : w4_ r2v = some (.inr (8, [.int (nI (hN r2v)), .ref (ky r2v), .ref (vl r2v), va_rf (nx r2v), .ref r1v, va_rf (af r2v)])) := by rw [hw4_]; exact gu_s
      rw [hQ]
      refine g_vret S G hr hlocks (hdg := dJ5_afterNodeRemoval_64) ?_ ?_ ?_
      · exact Nat.le_of_ble_eq_true rfl
      · exact Nat.le_of_ble_eq_true rfl
      · have q1 : l1.getLast? = some r1v := (hbx.symm.trans er1.symm)
        have q2 : l2.head? = some r2v := (hax.symm.trans er2.symm)
        rw [q1, q2] at hDp
        refine ⟨rfl, (va_up bf r2v (bf x)), (va_up af r1v (af x)), hd, tl, hDp, ?_, ?_, ?_, c4_x⟩
        · rw [c4_mp] <;> first | rfl | (rw [← er1] <;> rfl) | (rw [← er2] <;> rfl) | (rw [← er1, ← er2] <;> rfl)
        · rw [hw4_, hw3_, hw2_, hw1_]
          exact ((((hE0.off hxm).off hxm).af (af x) (by rw [← er2] <;> rfl)).bf (bf x) (by rw [va_up_ne _ _ ((fun q => hdis r1v hmr1v (by rw [← q]; exact hmr2v)))]; rw [← er1] <;> rfl))
        · rw [hw4_, hw3_, hw2_, hw1_]
          exact ((((MK.rf.up (Or.inr (Or.inl (by simp)))).up (Or.inr (Or.inl (by simp)))).up (Or.inr (Or.inl (List.mem_append_left _ hmr1v)))).up (Or.inr (Or.inl (List.mem_append_right _ (List.mem_cons_of_mem _ hmr2v)))))
    · have hlx_h4 := hl
      have Gx_h4 := G
      subst h4
      have hl := hlx_h4
      have G : gS D K w3_ s H locs := Gx_h4
      have hl : lv_has ls 5 [(4, .null), (3, .ref r1v), (2, .ref x), (0, .ref mp), (1, .ref x)] := hl
      refine W.eq (g2 := F0 m 50 ls []) rfl ?_
      refine lv_aload_n (pc := 50) hx hb dJ5_afterNodeRemoval_50 rfl (lv_at hl 3 rfl) ?_
      refine lv_aload_n (pc := 51) hx hb dJ5_afterNodeRemoval_51 rfl (lv_at hl 1 rfl) ?_
      refine g_put (pc := 52) (v := .ref r1v) S M G (C := RJ5) (T := TJ5) (N := 12) (ci := 7) in_J5 tyJ5 tyJ5_ok nmJ5 c3_mp hbm rfl 9 (by decide) q127 (Or.inl rfl) rfl rfl rfl (Nat.le_of_ble_eq_true rfl) dJ5_afterNodeRemoval_52 (fun H locs G => ?_)
      obtain ⟨w5_, hw5_⟩ : ∃ z9, z9 = gu w3_ mp (.inr (7, [va_rf tb, .null, .int sz, .int md, .int th, .float lf, va_rf ks, .null, va_rf hd, .ref r1v, .int 0, .int 0])) := ⟨_, rfl⟩
      replace G : gS D K w5_ s H locs := by rw [hw5_]; exact G
      have c5_x : w5_ x = some (.inr (8, [.int (nI (hN x)), .ref (ky x), .ref (vl x), va_rf (nx x), .null, .null])) := by rw [hw5_, gu_n (gne_c c3_x c3_mp (by decide))]; exact c3_x
      have c5_r1v : w5_ r1v = some (.inr (8, [.int (nI (hN r1v)), .ref (ky r1v), .ref (vl r1v), va_rf (nx r1v), va_rf (bf r1v), .null])) := by rw [hw5_, gu_n (gne_c c3_r1v c3_mp (by decide))]; exact c3_r1v
      have c5_mp : w5_ mp = some (.inr (7, [va_rf tb, .null, .int sz, .int md, .int th, .float lf, va_rf ks, .null, va_rf hd, .ref r1v, .int 0, .int 0])) := by rw [hw5_]; exact gu_s
      refine lv_goto (pc := 55) (tgt := 64) hx hb dJ5_afterNodeRemoval_55 (by decide) ?_
      rw [hQ]
      refine g_vret S G hr hlocks (hdg := dJ5_afterNodeRemoval_64) ?_ ?_ ?_
      · exact Nat.le_of_ble_eq_true rfl
      · exact Nat.le_of_ble_eq_true rfl
      · have q1 : l1.getLast? = some r1v := (hbx.symm.trans er1.symm)
        have q2 : l2.head? = none := (hax.symm.trans er2.symm)
        rw [q1, q2] at hDp
        refine ⟨rfl, bf, (va_up af r1v (af x)), hd, (bf x), hDp, ?_, ?_, ?_, c5_x⟩
        · rw [c5_mp] <;> first | rfl | (rw [← er1] <;> rfl) | (rw [← er2] <;> rfl) | (rw [← er1, ← er2] <;> rfl)
        · rw [hw5_, hw3_, hw2_, hw1_]
          exact ((((hE0.off hxm).off hxm).af (af x) (by rw [← er2] <;> rfl)).off hmm)
        · rw [hw5_, hw3_, hw2_, hw1_]
          exact ((((MK.rf.up (Or.inr (Or.inl (by simp)))).up (Or.inr (Or.inl (by simp)))).up (Or.inr (Or.inl (List.mem_append_left _ hmr1v)))).up (Or.inl rfl))
  · have hlx_h3 := hl
    have Gx_h3 := G
    subst h3
    have hl := hlx_h3
    have G : gS D K w2_ s H locs := Gx_h3
    have hl : lv_has ls 5 [(4, va_rf r2), (3, .null), (2, .ref x), (0, .ref mp), (1, .ref x)] := hl
    refine W.eq (g2 := F0 m 30 ls []) rfl ?_
    refine lv_aload_n (pc := 30) hx hb dJ5_afterNodeRemoval_30 rfl (lv_at hl 3 rfl) ?_
    refine gv_aload (pc := 31) S dJ5_afterNodeRemoval_31 (lv_at hl 0 rfl) ?_
    refine g_put (pc := 33) (v := va_rf r2) S M G (C := RJ5) (T := TJ5) (N := 12) (ci := 7) in_J5 tyJ5 tyJ5_ok nmJ5 c2_mp hbm rfl 8 (by decide) q124 (Or.inl rfl) rfl (nar_rf _ (by first | exact Or.inl ⟨_, rfl⟩ | exact Or.inr ⟨_, rfl⟩)) (fit_rf _ (by first | exact Or.inl ⟨_, rfl⟩ | exact Or.inr ⟨_, rfl⟩)) (Nat.le_of_ble_eq_true rfl) dJ5_afterNodeRemoval_33 (fun H locs G => ?_)
    obtain ⟨w6_, hw6_⟩ : ∃ z9, z9 = gu w2_ mp (.inr (7, [va_rf tb, .null, .int sz, .int md, .int th, .float lf, va_rf ks, .null, va_rf r2, va_rf tl, .int 0, .int 0])) := ⟨_, rfl⟩
    replace G : gS D K w6_ s H locs := by rw [hw6_]; exact G
    have c6_x : w6_ x = some (.inr (8, [.int (nI (hN x)), .ref (ky x), .ref (vl x), va_rf (nx x), .null, .null])) := by rw [hw6_, gu_n (gne_c c2_x c2_mp (by decide))]; exact c2_x
    have c6_mp : w6_ mp = some (.inr (7, [va_rf tb, .null, .int sz, .int md, .int th, .float lf, va_rf ks, .null, va_rf r2, va_rf tl, .int 0, .int 0])) := by rw [hw6_]; exact gu_s
    refine lv_goto (pc := 36) (tgt := 45) hx hb dJ5_afterNodeRemoval_36 (by decide) ?_
    refine gv_aload (pc := 45) S dJ5_afterNodeRemoval_45 (lv_at hl 0 rfl) ?_
    refine gv_ifnonnull (pc := 47) (tgt := 58) S dJ5_afterNodeRemoval_47 (by decide) (fun r2v h5 => ?_) (fun h5 => ?_)
    · have hlx_h5 := hl
      have Gx_h5 := G
      subst h5
      have hl := hlx_h5
      have G : gS D K w6_ s H locs := Gx_h5
      have hl : lv_has ls 5 [(4, .ref r2v), (3, .null), (2, .ref x), (0, .ref mp), (1, .ref x)] := hl
      refine W.eq (g2 := F0 m 58 ls []) rfl ?_
      have hmr2v : r2v ∈ l2 := List.mem_of_head? (hax ▸ er2).symm
      have hxr2v : r2v ≠ x := fun q => hn2 (by rw [← q]; exact hmr2v)
      have cer2v : w6_ r2v = some (.inr (8, [.int (nI (hN r2v)), .ref (ky r2v), .ref (vl r2v), va_rf (nx r2v), va_rf (bf r2v), va_rf (af r2v)])) := by rw [hw6_, gu_n (gne_c (hE r2v (List.mem_append_right _ (List.mem_cons_of_mem _ hmr2v))) ho (by decide)), hw2_, gu_n hxr2v, hw1_, gu_n hxr2v]; exact hE r2v (List.mem_append_right _ (List.mem_cons_of_mem _ hmr2v))
      refine lv_aload (pc := 58) hx hb dJ5_afterNodeRemoval_58 (lv_at hl 0 rfl) ?_
      refine lv_aload_nN (pc := 60) hx hb dJ5_afterNodeRemoval_60 rfl (lv_at hl 1 rfl) ?_
      refine g_put (pc := 61) (v := .null) S M G (C := RJ22) (T := TJ22) (N := 6) (ci := 8) in_J22 tyJ22 tyJ22_ok nmJ22 cer2v (hbe r2v (List.mem_append_right _ (List.mem_cons_of_mem _ hmr2v))) rfl 4 (by decide) q791 (Or.inl rfl) rfl rfl rfl (Nat.le_of_ble_eq_true rfl) dJ5_afterNodeRemoval_61 (fun H locs G => ?_)
      obtain ⟨w7_, hw7_⟩ : ∃ z9, z9 = gu w6_ r2v (.inr (8, [.int (nI (hN r2v)), .ref (ky r2v), .ref (vl r2v), va_rf (nx r2v), .null, va_rf (af r2v)])) := ⟨_, rfl⟩
      replace G : gS D K w7_ s H locs := by rw [hw7_]; exact G
      have c7_mp : w7_ mp = some (.inr (7, [va_rf tb, .null, .int sz, .int md, .int th, .float lf, va_rf ks, .null, .ref r2v, va_rf tl, .int 0, .int 0])) := by rw [hw7_, gu_n (gne_c c6_mp cer2v (by decide))]; exact c6_mp
      have c7_x : w7_ x = some (.inr (8, [.int (nI (hN x)), .ref (ky x), .ref (vl x), va_rf (nx x), .null, .null])) := by rw [hw7_, gu_n (Ne.symm hxr2v)]; exact c6_x
      have c7_r2v : w7_ r2v = some (.inr (8, [.int (nI (hN r2v)), .ref (ky r2v), .ref (vl r2v), va_rf (nx r2v), .null, va_rf (af r2v)])) := by rw [hw7_]; exact gu_s
      rw [hQ]
      refine g_vret S G hr hlocks (hdg := dJ5_afterNodeRemoval_64) ?_ ?_ ?_
      · exact Nat.le_of_ble_eq_true rfl
      · exact Nat.le_of_ble_eq_true rfl
      · have q1 : l1.getLast? = none := (hbx.symm.trans er1.symm)
        have q2 : l2.head? = some r2v := (hax.symm.trans er2.symm)
        rw [q1, q2] at hDp
        refine ⟨rfl, (va_up bf r2v (bf x)), af, (af x), tl, hDp, ?_, ?_, ?_, c7_x⟩
        · rw [c7_mp] <;> first | rfl | (rw [← er1] <;> rfl) | (rw [← er2] <;> rfl) | (rw [← er1, ← er2] <;> rfl)
        · rw [hw7_, hw6_, hw2_, hw1_]
          exact ((((hE0.off hxm).off hxm).off hmm).bf (bf x) (by rw [← er1] <;> rfl))
        · rw [hw7_, hw6_, hw2_, hw1_]
          exact ((((MK.rf.up (Or.inr (Or.inl (by simp)))).up (Or.inr (Or.inl (by simp)))).up (Or.inl rfl)).up (Or.inr (Or.inl (List.mem_append_right _ (List.mem_cons_of_mem _ hmr2v)))))
    · have hlx_h5 := hl
      have Gx_h5 := G
      subst h5
      have hl := hlx_h5
      have G : gS D K w6_ s H locs := Gx_h5
      have hl : lv_has ls 5 [(4, .null), (3, .null), (2, .ref x), (0, .ref mp), (1, .ref x)] := hl
      refine W.eq (g2 := F0 m 50 ls []) rfl ?_
      refine lv_aload_n (pc := 50) hx hb dJ5_afterNodeRemoval_50 rfl (lv_at hl 3 rfl) ?_
      refine lv_aload_nN (pc := 51) hx hb dJ5_afterNodeRemoval_51 rfl (lv_at hl 1 rfl) ?_
      refine g_put (pc := 52) (v := .null) S M G (C := RJ5) (T := TJ5) (N := 12) (ci := 7) in_J5 tyJ5 tyJ5_ok nmJ5 c6_mp hbm rfl 9 (by decide) q127 (Or.inl rfl) rfl rfl rfl (Nat.le_of_ble_eq_true rfl) dJ5_afterNodeRemoval_52 (fun H locs G => ?_)
      obtain ⟨w8_, hw8_⟩ : ∃ z9, z9 = gu w6_ mp (.inr (7, [va_rf tb, .null, .int sz, .int md, .int th, .float lf, va_rf ks, .null, .null, .null, .int 0, .int 0])) := ⟨_, rfl⟩
      replace G : gS D K w8_ s H locs := by rw [hw8_]; exact G
      have c8_x : w8_ x = some (.inr (8, [.int (nI (hN x)), .ref (ky x), .ref (vl x), va_rf (nx x), .null, .null])) := by rw [hw8_, gu_n (gne_c c6_x c6_mp (by decide))]; exact c6_x
      have c8_mp : w8_ mp = some (.inr (7, [va_rf tb, .null, .int sz, .int md, .int th, .float lf, va_rf ks, .null, .null, .null, .int 0, .int 0])) := by rw [hw8_]; exact gu_s
      refine lv_goto (pc := 55) (tgt := 64) hx hb dJ5_afterNodeRemoval_55 (by decide) ?_
      rw [hQ]
      refine g_vret S G hr hlocks (hdg := dJ5_afterNodeRemoval_64) ?_ ?_ ?_
      · exact Nat.le_of_ble_eq_true rfl
      · exact Nat.le_of_ble_eq_true rfl
      · have q1 : l1.getLast? = none := (hbx.symm.trans er1.symm)
        have q2 : l2.head? = none := (hax.symm.trans er2.symm)
        rw [q1, q2] at hDp
        refine ⟨rfl, bf, af, (af x), (bf x), hDp, ?_, ?_, ?_, c8_x⟩
        · rw [c8_mp] <;> first | rfl | (rw [← er1] <;> rfl) | (rw [← er2] <;> rfl) | (rw [← er1, ← er2] <;> rfl)
        · rw [hw8_, hw6_, hw2_, hw1_]
          exact ((((hE0.off hxm).off hxm).off hmm).off hmm)
        · rw [hw8_, hw6_, hw2_, hw1_]
          exact ((((MK.rf.up (Or.inr (Or.inl (by simp)))).up (Or.inr (Or.inl (by simp)))).up (Or.inl rfl)).up (Or.inl rfl))
