/-! HashMap.treeifyBin, putVal, put: the walk -/
theorem p3_z6 {n : Nat} (hn : p3 n) (h : n ≤ 32) : ¬ 64 ≤ nI n := by rcases hn with rfl | rfl | rfl <;> first | decide | omega
theorem p3_of {n L : Nat} (hn : p2 n) (h : ¬ L ≤ n / 4 * 3) (hL : L ≤ 96) : p3 n := by rcases hn with rfl | rfl | rfl | rfl <;> first | (simp [p3]; done) | omega
theorem p3_sz {n L : Nat} (hn : p3 n) (h : L ≤ n / 4 * 3) : L + 1 ≤ 2 * n / 4 * 3 := by rcases hn with rfl | rfl | rfl <;> omega
theorem p2_q {n : Nat} (hn : p2 n) : n / 4 * 3 ≤ 96 := by rcases hn with rfl | rfl | rfl | rfl <;> decide
theorem p2_32 {n : Nat} (hn : p2 n) (h : ¬ 64 ≤ n) : p3 n ∧ n ≤ 32 := by rcases hn with rfl | rfl | rfl | rfl <;> first | (simp [p3]; done) | omega
theorem nd_map {l : List Nat} {g : Nat → Nat} (hn : l.Nodup) (hi : ∀ a ∈ l, ∀ b ∈ l, g a = g b → a = b) : (l.map g).Nodup := by
  have h2 : List.Pairwise (fun a b => a ∈ l ∧ b ∈ l) l := by
    rw [List.pairwise_iff_forall_sublist]
    intro a b hs
    exact ⟨hs.subset (by simp), hs.subset (by simp)⟩
  refine List.Pairwise.map _ (R := fun a b => a ≠ b ∧ a ∈ l ∧ b ∈ l) (fun a b z z2 => z.1 (hi a z.2.1 b z.2.2 z2)) ?_
  exact List.Pairwise.and hn h2 |>.imp (fun h => ⟨h.1, h.2.1, h.2.2⟩)
theorem len1 {α : Type} (l : List α) (q : α) : nI (l ++ [q]).length = nI l.length + 1 := by rw [List.length_append]; exact nI_succ _
theorem Sg.snoc {nx : Nat → Option Nat} {o : Option Nat} {l : List Nat} {c q : Nat} (h : Sg nx o (l ++ [c]) none) (hn : (l ++ [c]).Nodup) (hq : q ∉ l ++ [c]) : Sg (va_up (va_up nx q none) c (some q)) o (l ++ [c] ++ [q]) none := by
  have hc : c ∉ l := fun z => (List.nodup_append.mp hn).2.2 c z c (by simp) rfl
  have hqc : q ≠ c := fun z => hq (by rw [z]; simp)
  exact ((h.up hq).last (some q) hc).app ⟨rfl, by rw [va_up_ne _ _ hqc, va_up_self]; rfl⟩
abbrev rmJ4_treeifyBin : Room := ({ frames := 1, cells := 1, slots := 128, locals := 33 } : Room)
set_option maxHeartbeats 4000000 in
theorem metJ4_treeifyBin (l : Launch) (D : va_G) (K : Nat → Nat) (w : Gh) {mp t n : Nat} {f : Nat → Option Nat} {sz md : Int32} {lf : UInt32} {ks hd tl : Option Nat} {es : List Nat} {hN ky vl : Nat → Nat} {nx bf af : Nat → Option Nat} (ho : w mp = some (.inr (7, mfl (some t) sz md (nI (n / 4 * 3)) lf ks hd tl))) (hbm : K 0 ≤ mp) (ht : w t = some (.inl (D.1 103, n, gra f))) (hbt : K 0 ≤ t) (hn : p3 n) (hE : EN w es hN ky vl nx bf af) (hbe : ∀ a ∈ es, K 0 ≤ a) (hlt : ∀ a ∈ es, hN a < 300) (hCH : CHn es hN n f nx) (hn2 : n ≤ 32) (hh : Int32) : gMet l yJ4_treeifyBin (ws_ yJ4_treeifyBin cJ4_treeifyBin 9 none) rmJ4_treeifyBin D K [.ref mp, .ref t, .int hh] w (fun r' w' => r' = none ∧ ∃ t' f' nx', w t' = none ∧ K 0 ≤ t' ∧ w' mp = some (.inr (7, mfl (some t') sz md (nI (2 * n / 4 * 3)) lf ks hd tl)) ∧ w' t' = some (.inl (D.1 103, 2 * n, gra f')) ∧ EN w' es hN ky vl nx' bf af ∧ CHn es hN (2 * n) f' nx' ∧ MT w w' mp t es) := by
  refine gMet.of (by decide) (Nat.le_of_ble_eq_true rfl) ?_
  intro p e s m args below meth c H locs ls S M hr hlocks hname G hl
  have hx := S.1
  have hb := S.2.1
  have hown := S.2.2.2.1
  have hts := S.2.2.2.2
  have hl : lv_has ls 9 [(0, .ref mp), (1, .ref t), (2, .int hh)] := hl
  obtain ⟨Q, hQ⟩ : ∃ Q, Q = gE below D K (fun r' w' => r' = none ∧ ∃ t' f' nx', w t' = none ∧ K 0 ≤ t' ∧ w' mp = some (.inr (7, mfl (some t') sz md (nI (2 * n / 4 * 3)) lf ks hd tl)) ∧ w' t' = some (.inl (D.1 103, 2 * n, gra f')) ∧ EN w' es hN ky vl nx' bf af ∧ CHn es hN (2 * n) f' nx' ∧ MT w w' mp t es) args s rmJ4_treeifyBin.cells rmJ4_treeifyBin.slots := ⟨_, rfl⟩
  rw [← hQ]
  refine lv_aload_n (pc := 0) hx hb dJ4_treeifyBin_0 rfl (lv_at hl 1 rfl) ?_
  refine lv_ifnull (pc := 1) hx hb dJ4_treeifyBin_1 ?_
  refine lv_aload_n (pc := 4) hx hb dJ4_treeifyBin_4 rfl (lv_at hl 1 rfl) ?_
  refine g_alen (pc := 5) (v := (nI n)) S M G 3 rfl ht rfl dJ4_treeifyBin_5 ?_
  refine lv_dup (pc := 6) hx hb dJ4_treeifyBin_6 rfl ?_
  refine lv_istore_n (pc := 7) (lv' := [(3, .int (nI n)), (0, .ref mp), (1, .ref t), (2, .int hh)]) hx hb dJ4_treeifyBin_7 rfl hl (by decide) rfl (fun ls hl => ?_)
  refine lv_bipush (pc := 8) (v := 64) hx hb dJ4_treeifyBin_8 (by decide) ?_
  refine lv_icmp_ge (pc := 10) (tgt := 21) hx hb dJ4_treeifyBin_10 (by decide) (fun c => absurd c (p3_z6 hn hn2)) (fun _ => ?_)
  refine lv_aload_n (pc := 13) hx hb dJ4_treeifyBin_13 rfl (lv_at hl 1 rfl) ?_
  refine g_callU (pc := 14) (owner := "java/util/HashMap") S M G hl.1 [] [] (metJ4_resizeN l D K w ho hbm ht hbt hn hE hbe hlt hCH) 0 (g_recv M G ho (q := (RJ5, TJ5, 12)) rfl) q760 q756 q758 (va_Decl.of (hts _ q757) (hts _ q760)) q757 q759 q24 (by decide) rfl ⟨Nat.le_of_ble_eq_true rfl, Nat.le_of_ble_eq_true rfl⟩ rfl (Nat.le_of_ble_eq_true rfl) dJ4_treeifyBin_14 ⟨Nat.le_of_ble_eq_true rfl, Nat.le_of_ble_eq_true rfl⟩ (fun r w2 H locs hp G => ?_)
  refine W.widen (k := 1) (n := 128) (Nat.le_of_ble_eq_true rfl) (Nat.le_of_ble_eq_true rfl) ?_
  obtain ⟨t', f', nx', rfl, hP⟩ := hp
  refine W.eq (g2 := F0 m 17 ls [.ref t']) rfl ?_
  refine lv_pop (pc := 17) hx hb dJ4_treeifyBin_17 rfl ?_
  refine lv_goto (pc := 18) (tgt := 109) hx hb dJ4_treeifyBin_18 (by decide) ?_
  rw [hQ]
  refine g_vret S G hr hlocks (hdg := dJ4_treeifyBin_109) ?_ ?_ ?_
  · exact Nat.le_of_ble_eq_true rfl
  · exact Nat.le_of_ble_eq_true rfl
  · exact ⟨rfl, t', f', nx', hP⟩
abbrev rmJ4_putValC : Room := ({ frames := 4, cells := 3, slots := 262, locals := 93 } : Room)
set_option maxHeartbeats 4000000 in
theorem metJ4_putValC (l : Launch) (D : va_G) (K : Nat → Nat) (w : Gh) {mp n t : Nat} {f : Nat → Option Nat} {lf : UInt32} {hd tl : Option Nat} {nx bf af : Nat → Option Nat} {md : Int32} {ks : Option Nat} {es : List Nat} {hN ky vl : Nat → Nat} {key h v : Nat} (hk : KY w key h) (hh : h < 300) (hM : MPQ D K w mp (nI es.length) md ks es hN ky vl n t f lf hd tl nx bf af) (hsz : es.length ≤ n / 4 * 3) (h96 : es.length < 96) (hab : ∀ a ∈ es, hN a ≠ h) : gMet l yJ4_putVal (ws_ yJ4_putVal cJ4_putVal 13 (some (.object "java/lang/Object"))) rmJ4_putValC D K [.ref mp, .int (nI h), .ref key, .ref v, .int 0, .int 1] w (fun r' w' => r' = some .null ∧ ∃ np, w np = none ∧ MPF D K w' mp (md + 1) ks (es ++ [np]) (va_up hN np h) (va_up ky np key) (va_up vl np v) ∧ FRM D w w') := by
  refine gMet.of (by decide) (Nat.le_of_ble_eq_true rfl) ?_
  intro p e s m args below meth c H locs ls S M hr hlocks hname G hl
  have hx := S.1
  have hb := S.2.1
  have hown := S.2.2.2.1
  have hts := S.2.2.2.2
  have hl : lv_has ls 13 [(0, .ref mp), (1, .int (nI h)), (2, .ref key), (3, .ref v), (4, .int 0), (5, .int 1)] := hl
  obtain ⟨Q, hQ⟩ : ∃ Q, Q = gE below D K (fun r' w' => r' = some .null ∧ ∃ np, w np = none ∧ MPF D K w' mp (md + 1) ks (es ++ [np]) (va_up hN np h) (va_up ky np key) (va_up vl np v) ∧ FRM D w w') args s rmJ4_putValC.cells rmJ4_putValC.slots := ⟨_, rfl⟩
  rw [← hQ]
  obtain ⟨ho, hbm, ht, hbt, hn, hE, hbe, hD, hnd, hCH, hKy, hlt, hinj⟩ := hM
  obtain ⟨ch, hch1, hch2, hch3⟩ := hCH
  have hmod := p2_mod (h := h) hn
  have hl0 : Sg nx (f (h % n)) (ch (h % n)) none := hch1 _ hmod
  have hle : ∀ a ∈ ch (h % n), a ∈ es := fun a ha => ((hch2 _ hmod a).mp ha).1
  have J259 : ∀ (np : Nat) (bf9 af9 : Nat → Option Nat) (hd9 : Option Nat) (n1 t1 : Nat) (f1 nx1 : Nat → Option Nat) (w9 : Gh) (H : Heap) (locs : List Loc) (ls : Array Slot), w np = none → K 0 ≤ np → np ∉ es → FRM D w w9 → w9 mp = some (.inr (7, mfl (some t1) (nI es.length) md (nI (n1 / 4 * 3)) lf ks hd9 (some np))) → w9 t1 = some (.inl (D.1 103, n1, gra f1)) → K 0 ≤ t1 → p2 n1 → es.length ≤ n1 / 4 * 3 → EN w9 (es ++ [np]) (va_up hN np h) (va_up ky np key) (va_up vl np v) nx1 bf9 af9 → DL (es ++ [np]) bf9 af9 hd9 (some np) → CHn (es ++ [np]) (va_up hN np h) n1 f1 nx1 → gS D K w9 s H locs → lv_has ls 13 [(0, .ref mp), (5, .int 1)] → W p l e rmJ4_putValC s m args below meth c H locs 2 134 Q (F0 m 259 ls []) := by
    intro np bf9 af9 hd9 n1 t1 f1 nx1 w9 H locs ls hwn hbn hqn hF9 ho9 ht9 hbt9 hn9 hs9 hE9 hD9 hCH9 G hl
    refine lv_aload_n (pc := 259) hx hb dJ4_putVal_259 rfl (lv_at hl 0 rfl) ?_
    refine lv_dup (pc := 260) hx hb dJ4_putVal_260 rfl ?_
    refine g_get (pc := 261) (v := .int md) S M G (C := RJ5) (T := TJ5) (N := 12) (ci := 7) in_J5 ho9 rfl 3 (by decide) q135 (Or.inl rfl) rfl dJ4_putVal_261 ?_
    refine lv_iconst (pc := 264) (v := 1) hx hb dJ4_putVal_264 (by decide) ?_
    refine lv_iadd (pc := 265) hx hb dJ4_putVal_265 ?_
    refine g_put (pc := 266) (v := .int (md + 1)) S M G (C := RJ5) (T := TJ5) (N := 12) (ci := 7) in_J5 tyJ5 tyJ5_ok nmJ5 ho9 hbm rfl 3 (by decide) q135 (Or.inl rfl) rfl rfl rfl (Nat.le_of_ble_eq_true rfl) dJ4_putVal_266 (fun H locs G => ?_)
    obtain ⟨w1_, hw1_⟩ : ∃ z9, z9 = gu w9 mp (.inr (7, mfl (some t1) (nI es.length) (md + 1) (nI (n1 / 4 * 3)) lf ks hd9 (some np))) := ⟨_, rfl⟩
    replace G : gS D K w1_ s H locs := by rw [hw1_]; exact G
    have c1_t1 : w1_ t1 = some (.inl (D.1 103, n1, .inr (.inr (.inr (.inr f1))))) := by rw [hw1_, gu_n (gne_ao ht9 ho9)]; exact ht9
    have c1_mp : w1_ mp = some (.inr (7, mfl (some t1) (nI es.length) (md + 1) (nI (n1 / 4 * 3)) lf ks hd9 (some np))) := by rw [hw1_]; exact gu_s
    have hEw1_ : EN w1_ (es ++ [np]) (va_up hN np h) (va_up ky np key) (va_up vl np v) nx1 bf9 af9 := by rw [hw1_]; exact hE9.off (hE9.no ho9 (by decide))
    have hFw1_ : FRM D w w1_ := by rw [hw1_]; exact hF9.tr (FRM.up ho9 nm_7)
    refine lv_aload_n (pc := 269) hx hb dJ4_putVal_269 rfl (lv_at hl 0 rfl) ?_
    refine lv_dup (pc := 270) hx hb dJ4_putVal_270 rfl ?_
    refine g_get (pc := 271) (v := .int (nI es.length)) S M G (C := RJ5) (T := TJ5) (N := 12) (ci := 7) in_J5 c1_mp rfl 2 (by decide) q131 (Or.inl rfl) rfl dJ4_putVal_271 ?_
    refine lv_iconst (pc := 274) (v := 1) hx hb dJ4_putVal_274 (by decide) ?_
    refine lv_iadd (pc := 275) hx hb dJ4_putVal_275 ?_
    rw [← len1 es np]
    refine lv_dup_x1 (pc := 276) hx hb dJ4_putVal_276 rfl rfl ?_
    refine g_put (pc := 277) (v := .int (nI (es ++ [np]).length)) S M G (C := RJ5) (T := TJ5) (N := 12) (ci := 7) in_J5 tyJ5 tyJ5_ok nmJ5 c1_mp hbm rfl 2 (by decide) q131 (Or.inl rfl) rfl rfl rfl (Nat.le_of_ble_eq_true rfl) dJ4_putVal_277 (fun H locs G => ?_)
    obtain ⟨w2_, hw2_⟩ : ∃ z9, z9 = gu w1_ mp (.inr (7, mfl (some t1) (nI (es ++ [np]).length) (md + 1) (nI (n1 / 4 * 3)) lf ks hd9 (some np))) := ⟨_, rfl⟩
    replace G : gS D K w2_ s H locs := by rw [hw2_]; exact G
    have c2_t1 : w2_ t1 = some (.inl (D.1 103, n1, .inr (.inr (.inr (.inr f1))))) := by rw [hw2_, gu_n (gne_ao c1_t1 c1_mp)]; exact c1_t1
    have c2_mp : w2_ mp = some (.inr (7, mfl (some t1) (nI (es ++ [np]).length) (md + 1) (nI (n1 / 4 * 3)) lf ks hd9 (some np))) := by rw [hw2_]; exact gu_s
    have hEw2_ : EN w2_ (es ++ [np]) (va_up hN np h) (va_up ky np key) (va_up vl np v) nx1 bf9 af9 := by rw [hw2_]; exact hEw1_.off (hEw1_.no c1_mp (by decide))
    have hFw2_ : FRM D w w2_ := by rw [hw2_]; exact hFw1_.tr (FRM.up c1_mp nm_7)
    refine lv_aload_n (pc := 280) hx hb dJ4_putVal_280 rfl (lv_at hl 0 rfl) ?_
    refine g_get (pc := 281) (v := .int (nI (n1 / 4 * 3))) S M G (C := RJ5) (T := TJ5) (N := 12) (ci := 7) in_J5 c2_mp rfl 4 (by decide) q136 (Or.inl rfl) rfl dJ4_putVal_281 ?_
    refine lv_icmp_le (pc := 284) (tgt := 292) hx hb dJ4_putVal_284 (by decide) (fun c1 => ?_) (fun c1 => ?_)
    · refine lv_aload_n (pc := 292) hx hb dJ4_putVal_292 rfl (lv_at hl 0 rfl) ?_
      refine lv_iload (pc := 293) hx hb dJ4_putVal_293 (lv_at hl 1 rfl) ?_
      refine g_callU (pc := 295) (owner := "java/util/HashMap") S M G hl.1 [.int 1] [] (metJ5_afterNodeInsertion l D K w2_ c2_mp) 1 (g_recv M G c2_mp (q := (RJ5, TJ5, 12)) rfl) q990 q985 q987 (va_Decl.abs (M.1.2.2.1 _ q995 rfl)) q989 q988 q25 (by decide) rfl ⟨Nat.le_of_ble_eq_true rfl, Nat.le_of_ble_eq_true rfl⟩ rfl (Nat.le_of_ble_eq_true rfl) dJ4_putVal_295 ⟨Nat.le_of_ble_eq_true rfl, Nat.le_of_ble_eq_true rfl⟩ (fun r w6 H locs hp G => ?_)
      obtain ⟨rfl, hw2⟩ := hp
      rw [hw2] at G
      refine W.eq (g2 := F0 m 298 ls []) rfl ?_
      refine lv_null (pc := 298) hx hb dJ4_putVal_298 ?_
      rw [hQ]
      refine g_aret S G (rt := (.object "java/lang/Object")) (r := none) hr (Or.inl ⟨_, rfl⟩) hlocks (hdg := dJ4_putVal_299) ?_ ?_ ?_
      · exact Nat.le_of_ble_eq_true rfl
      · exact Nat.le_of_ble_eq_true rfl
      · have hsz9 : (es ++ [np]).length ≤ n1 / 4 * 3 := (nI_leI (by rw [List.length_append]; show es.length + 1 < _; omega) (by have := p2_q hn9; omega)).mp c1
        exact ⟨rfl, np, hwn, ⟨n1, t1, f1, lf, hd9, some np, nx1, bf9, af9, ⟨c2_mp, hbm, c2_t1, hbt9, hn9, hEw2_, be_add hbe hbn, hD9, nd_add hnd hqn, hCH9, ky_add hFw2_ hKy hqn hk, lt_add hlt hqn hh, inj_add hinj hqn hab⟩, hsz9⟩, hFw2_⟩
    · refine lv_aload_n (pc := 287) hx hb dJ4_putVal_287 rfl (lv_at hl 0 rfl) ?_
      have hlen : ¬ (es ++ [np]).length ≤ n1 / 4 * 3 := fun z => c1 (nI_le z (by have := p2_q hn9; omega))
      have hn3 : p3 n1 := p3_of hn9 hlen (by rw [List.length_append]; exact h96)
      refine g_callU (pc := 288) (owner := "java/util/HashMap") S M G hl.1 [] [] (metJ4_resizeN l D K w2_ c2_mp hbm c2_t1 hbt9 hn3 hEw2_ (be_add hbe hbn) (lt_add hlt hqn hh) hCH9) 0 (g_recv M G c2_mp (q := (RJ5, TJ5, 12)) rfl) q760 q756 q758 (va_Decl.of (hts _ q757) (hts _ q760)) q757 q759 q24 (by decide) rfl ⟨Nat.le_of_ble_eq_true rfl, Nat.le_of_ble_eq_true rfl⟩ rfl (Nat.le_of_ble_eq_true rfl) dJ4_putVal_288 ⟨Nat.le_of_ble_eq_true rfl, Nat.le_of_ble_eq_true rfl⟩ (fun r w5 H locs hp G => ?_)
      refine W.widen (k := 3) (n := 262) (Nat.le_of_ble_eq_true rfl) (Nat.le_of_ble_eq_true rfl) ?_
      obtain ⟨t5, f5, nx5, rfl, hwt5, hbt5, ho5, ht5, hE5, hCH5, hMT5⟩ := hp
      have hF5 : FRM D w w5 := hFw2_.tr (FRM.mt hMT5 c2_mp c2_t1 hEw2_)
      refine W.eq (g2 := F0 m 291 ls [.ref t5]) rfl ?_
      refine lv_pop (pc := 291) hx hb dJ4_putVal_291 rfl ?_
      refine lv_aload_n (pc := 292) hx hb dJ4_putVal_292 rfl (lv_at hl 0 rfl) ?_
      refine lv_iload (pc := 293) hx hb dJ4_putVal_293 (lv_at hl 1 rfl) ?_
      refine g_callU (pc := 295) (owner := "java/util/HashMap") S M G hl.1 [.int 1] [] (metJ5_afterNodeInsertion l D K w5 ho5) 1 (g_recv M G ho5 (q := (RJ5, TJ5, 12)) rfl) q990 q985 q987 (va_Decl.abs (M.1.2.2.1 _ q995 rfl)) q989 q988 q25 (by decide) rfl ⟨Nat.le_of_ble_eq_true rfl, Nat.le_of_ble_eq_true rfl⟩ rfl (Nat.le_of_ble_eq_true rfl) dJ4_putVal_295 ⟨Nat.le_of_ble_eq_true rfl, Nat.le_of_ble_eq_true rfl⟩ (fun r w6 H locs hp G => ?_)
      obtain ⟨rfl, hw2⟩ := hp
      rw [hw2] at G
      refine W.eq (g2 := F0 m 298 ls []) rfl ?_
      refine lv_null (pc := 298) hx hb dJ4_putVal_298 ?_
      rw [hQ]
      refine g_aret S G (rt := (.object "java/lang/Object")) (r := none) hr (Or.inl ⟨_, rfl⟩) hlocks (hdg := dJ4_putVal_299) ?_ ?_ ?_
      · exact Nat.le_of_ble_eq_true rfl
      · exact Nat.le_of_ble_eq_true rfl
      · have hsz9 : (es ++ [np]).length ≤ (2 * n1) / 4 * 3 := by rw [List.length_append]; exact p3_sz hn3 hs9
        exact ⟨rfl, np, hwn, ⟨(2 * n1), t5, f5, lf, hd9, some np, nx5, bf9, af9, ⟨ho5, hbm, ht5, hbt5, (p3_22 hn3), hE5, be_add hbe hbn, hD9, nd_add hnd hqn, hCH5, ky_add hF5 hKy hqn hk, lt_add hlt hqn hh, inj_add hinj hqn hab⟩, hsz9⟩, hF5⟩
  refine lv_aload_n (pc := 0) hx hb dJ4_putVal_0 rfl (lv_at hl 0 rfl) ?_
  refine g_get (pc := 1) (v := .ref t) S M G (C := RJ5) (T := TJ5) (N := 12) (ci := 7) in_J5 ho rfl 0 (by decide) q130 (Or.inl rfl) rfl dJ4_putVal_1 ?_
  refine lv_dup (pc := 4) hx hb dJ4_putVal_4 rfl ?_
  refine lv_astore (pc := 5) (lv' := [(6, .ref t), (0, .ref mp), (1, .int (nI h)), (2, .ref key), (3, .ref v), (4, .int 0), (5, .int 1)]) hx hb dJ4_putVal_5 hl (by decide) rfl (fun ls hl => ?_)
  refine lv_ifnull (pc := 7) hx hb dJ4_putVal_7 ?_
  refine lv_aload (pc := 10) hx hb dJ4_putVal_10 (lv_at hl 0 rfl) ?_
  refine g_alen (pc := 12) (v := (nI n)) S M G 3 rfl ht rfl dJ4_putVal_12 ?_
  refine lv_dup (pc := 13) hx hb dJ4_putVal_13 rfl ?_
  refine lv_istore (pc := 14) (lv' := [(8, .int (nI n)), (6, .ref t), (0, .ref mp), (1, .int (nI h)), (2, .ref key), (3, .ref v), (4, .int 0), (5, .int 1)]) hx hb dJ4_putVal_14 hl (by decide) rfl (fun ls hl => ?_)
  refine lv_if_ne (pc := 16) (tgt := 29) hx hb dJ4_putVal_16 (by decide) (fun _ => ?_) (fun c => absurd c (fun e => p2_nle hn (by rw [e]; decide)))
  refine lv_aload (pc := 29) hx hb dJ4_putVal_29 (lv_at hl 1 rfl) ?_
  refine lv_iload (pc := 31) hx hb dJ4_putVal_31 (lv_at hl 0 rfl) ?_
  refine lv_iconst (pc := 33) (v := 1) hx hb dJ4_putVal_33 (by decide) ?_
  refine lv_isub (pc := 34) hx hb dJ4_putVal_34 ?_
  refine lv_iload_n (pc := 35) hx hb dJ4_putVal_35 rfl (lv_at hl 3 rfl) ?_
  refine lv_iand (pc := 36) hx hb dJ4_putVal_36 ?_
  rw [p2_and hn hh]
  refine lv_dup (pc := 37) hx hb dJ4_putVal_37 rfl ?_
  refine lv_istore (pc := 38) (lv' := [(9, .int (nI (h % n))), (8, .int (nI n)), (6, .ref t), (0, .ref mp), (1, .int (nI h)), (2, .ref key), (3, .ref v), (4, .int 0), (5, .int 1)]) hx hb dJ4_putVal_38 hl (by decide) rfl (fun ls hl => ?_)
  refine g_aald (pc := 40) S M G 3 rfl ht (p2_in hn) dJ4_putVal_40 ?_
  obtain ⟨r2, er2⟩ : ∃ z9, z9 = f (nI (h % n)).toNatClampNeg := ⟨_, rfl⟩
  rw [← er2]
  refine W.eq (g2 := F0 m 41 ls [va_rf r2]) rfl ?_
  rw [p2_cl hn] at er2
  refine lv_dup (pc := 41) hx hb dJ4_putVal_41 (cat_rf _) ?_
  refine gv_astore (pc := 42) (lv' := [(7, va_rf r2), (9, .int (nI (h % n))), (8, .int (nI n)), (6, .ref t), (0, .ref mp), (1, .int (nI h)), (2, .ref key), (3, .ref v), (4, .int 0), (5, .int 1)]) S dJ4_putVal_42 hl (by decide) rfl (fun ls hl => ?_)
  refine gv_ifnonnull (pc := 44) (tgt := 63) S dJ4_putVal_44 (by decide) (fun r2v h3 => ?_) (fun h3 => ?_)
  · have hlx_h3 := hl
    have Gx_h3 := G
    subst h3
    have hl := hlx_h3
    have G : gS D K w s H locs := Gx_h3
    have hl : lv_has ls 13 [(7, .ref r2v), (9, .int (nI (h % n))), (8, .int (nI n)), (6, .ref t), (0, .ref mp), (1, .int (nI h)), (2, .ref key), (3, .ref v), (4, .int 0), (5, .int 1)] := hl
    refine W.eq (g2 := F0 m 63 ls []) rfl ?_
    obtain ⟨l1, hl1, hsg1⟩ := Sg.cons1 er2 hl0
    have hcur : r2v ∈ es := hle r2v (by rw [hl1]; exact List.mem_cons_self)
    have ce1 := hE r2v hcur
    refine lv_aload (pc := 63) hx hb dJ4_putVal_63 (lv_at hl 0 rfl) ?_
    refine g_get (pc := 65) (v := .int (nI (hN r2v))) S M G (C := RJ22) (T := TJ22) (N := 6) (ci := 8) in_J22 ce1 rfl 0 (by decide) q800 (Or.inl rfl) rfl dJ4_putVal_65 ?_
    refine lv_iload_n (pc := 68) hx hb dJ4_putVal_68 rfl (lv_at hl 5 rfl) ?_
    refine lv_icmp_ne (pc := 69) (tgt := 104) hx hb dJ4_putVal_69 (by decide) (fun _ => ?_) (fun c => absurd (hq_of (hlt r2v hcur) hh c) (hab r2v hcur))
    refine lv_aload (pc := 104) hx hb dJ4_putVal_104 (lv_at hl 0 rfl) ?_
    refine va_instNo (pc := 106) hx hb hown (hts _ q766) (M.1.2.2.2.2.1 ("java/util/LinkedHashMap$Entry", "java/util/HashMap$TreeNode") (by decide)) (g_recv M G ce1 (q := (RJ22, TJ22, 6)) rfl) dJ4_putVal_106 ?_
    refine lv_if_eq (pc := 109) (tgt := 131) hx hb dJ4_putVal_109 (by decide) (fun _ => ?_) (fun c => absurd c (by decide))
    refine lv_iconst (pc := 131) (v := 0) hx hb dJ4_putVal_131 (by decide) ?_
    refine lv_istore (pc := 132) (lv' := [(12, .int 0), (7, .ref r2v), (9, .int (nI (h % n))), (8, .int (nI n)), (6, .ref t), (0, .ref mp), (1, .int (nI h)), (2, .ref key), (3, .ref v), (4, .int 0), (5, .int 1)]) hx hb dJ4_putVal_132 hl (by decide) rfl (fun ls hl => ?_)
    have Lc : ∀ (fuel : Nat) (pre rest : List Nat) (cur : Nat) (H : Heap) (locs : List Loc) (ls : Array Slot), rest.length < fuel → ch (h % n) = pre ++ cur :: rest → Sg nx (nx cur) rest none → gS D K w s H locs → lv_has ls 13 [(7, .ref cur), (12, .int (nI pre.length)), (0, .ref mp), (1, .int (nI h)), (2, .ref key), (3, .ref v), (5, .int 1), (6, .ref t)] → W p l e rmJ4_putValC s m args below meth c H locs 0 0 Q (F0 m 134 ls []) := by
      intro fuel
      induction fuel with
      | zero => intro pre rest cur H locs ls h0; exact absurd h0 (Nat.not_lt_zero _)
      | succ fuel ih =>
        intro pre rest cur H locs ls hfu hlp hsg G hl
        have hcur : cur ∈ es := hle cur (by rw [hlp]; simp)
        have cec := hE cur hcur
        refine lv_aload (pc := 134) hx hb dJ4_putVal_134 (lv_at hl 0 rfl) ?_
        refine g_get (pc := 136) (v := va_rf (nx cur)) S M G (C := RJ22) (T := TJ22) (N := 6) (ci := 8) in_J22 cec rfl 3 (by decide) q816 (Or.inl rfl) rfl dJ4_putVal_136 ?_
        obtain ⟨r4, er4⟩ : ∃ z9, z9 = nx cur := ⟨_, rfl⟩
        rw [← er4]
        refine lv_dup (pc := 139) hx hb dJ4_putVal_139 (cat_rf _) ?_
        refine gv_astore (pc := 140) (lv' := [(10, va_rf r4), (7, .ref cur), (12, .int (nI pre.length)), (0, .ref mp), (1, .int (nI h)), (2, .ref key), (3, .ref v), (5, .int 1), (6, .ref t)]) S dJ4_putVal_140 hl (by decide) rfl (fun ls hl => ?_)
        refine gv_ifnonnull (pc := 142) (tgt := 175) S dJ4_putVal_142 (by decide) (fun r4v h5 => ?_) (fun h5 => ?_)
        · have hlx_h5 := hl
          have Gx_h5 := G
          subst h5
          have hl := hlx_h5
          have G : gS D K w s H locs := Gx_h5
          have hl : lv_has ls 13 [(10, .ref r4v), (7, .ref cur), (12, .int (nI pre.length)), (0, .ref mp), (1, .int (nI h)), (2, .ref key), (3, .ref v), (5, .int 1), (6, .ref t)] := hl
          refine W.eq (g2 := F0 m 175 ls []) rfl ?_
          obtain ⟨l3, hl3, hsg3⟩ := Sg.cons1 er4 hsg
          have hnxt : r4v ∈ es := hle r4v (by rw [hlp, hl3]; simp)
          have ce2 := hE r4v hnxt
          refine lv_aload (pc := 175) hx hb dJ4_putVal_175 (lv_at hl 0 rfl) ?_
          refine g_get (pc := 177) (v := .int (nI (hN r4v))) S M G (C := RJ22) (T := TJ22) (N := 6) (ci := 8) in_J22 ce2 rfl 0 (by decide) q800 (Or.inl rfl) rfl dJ4_putVal_177 ?_
          refine lv_iload_n (pc := 180) hx hb dJ4_putVal_180 rfl (lv_at hl 4 rfl) ?_
          refine lv_icmp_ne (pc := 181) (tgt := 212) hx hb dJ4_putVal_181 (by decide) (fun _ => ?_) (fun c => absurd (hq_of (hlt r4v hnxt) hh c) (hab r4v hnxt))
          refine lv_aload (pc := 212) hx hb dJ4_putVal_212 (lv_at hl 0 rfl) ?_
          refine lv_astore (pc := 214) (lv' := [(7, .ref r4v), (10, .ref r4v), (12, .int (nI pre.length)), (0, .ref mp), (1, .int (nI h)), (2, .ref key), (3, .ref v), (5, .int 1), (6, .ref t)]) hx hb dJ4_putVal_214 hl (by decide) rfl (fun ls hl => ?_)
          refine lv_iinc (pc := 216) (v := ((nI pre.length) + 1)) (lv' := [(12, .int ((nI pre.length) + 1)), (7, .ref r4v), (10, .ref r4v), (0, .ref mp), (1, .int (nI h)), (2, .ref key), (3, .ref v), (5, .int 1), (6, .ref t)]) hx hb dJ4_putVal_216 hl (k := 2) rfl (by first | rfl | decide) (by decide) rfl (fun ls hl => ?_)
          rw [← len1 pre cur] at hl
          refine lv_goto (pc := 219) (tgt := 134) hx hb dJ4_putVal_219 (by decide) ?_
          exact ih (pre ++ [cur]) l3 r4v H locs ls (by rw [hl3] at hfu; simp only [List.length_cons] at hfu; omega) (by rw [hlp, hl3]; simp) hsg3 G (lv_sub hl [1, 0, 3, 4, 5, 6, 7, 8] rfl)
        · have hlx_h5 := hl
          have Gx_h5 := G
          subst h5
          have hl := hlx_h5
          have G : gS D K w s H locs := Gx_h5
          have hl : lv_has ls 13 [(10, .null), (7, .ref cur), (12, .int (nI pre.length)), (0, .ref mp), (1, .int (nI h)), (2, .ref key), (3, .ref v), (5, .int 1), (6, .ref t)] := hl
          refine W.eq (g2 := F0 m 145 ls []) rfl ?_
          have hnil := Sg.nil1 er4 hsg
          have hlc : ch (h % n) = pre ++ [cur] := by rw [hlp, hnil]
          refine lv_aload (pc := 145) hx hb dJ4_putVal_145 (lv_at hl 1 rfl) ?_
          refine lv_aload_n (pc := 147) hx hb dJ4_putVal_147 rfl (lv_at hl 3 rfl) ?_
          refine lv_iload_n (pc := 148) hx hb dJ4_putVal_148 rfl (lv_at hl 4 rfl) ?_
          refine lv_aload_n (pc := 149) hx hb dJ4_putVal_149 rfl (lv_at hl 5 rfl) ?_
          refine lv_aload_n (pc := 150) hx hb dJ4_putVal_150 rfl (lv_at hl 6 rfl) ?_
          refine lv_null (pc := 151) hx hb dJ4_putVal_151 ?_
          refine g_callU (pc := 152) (owner := "java/util/HashMap") S M G hl.1 [.int (nI h), .ref key, .ref v, .null] [.ref cur] (metJ5_newNode (np := 0) l D K w ho hbm hE hbe hD hnd h key v) 4 (g_recv M G ho (q := (RJ5, TJ5, 12)) rfl) q885 q880 q882 (va_Decl.abs (M.1.2.2.1 _ q890 rfl)) q884 q883 q25 (by decide) rfl ⟨Nat.le_of_ble_eq_true rfl, Nat.le_of_ble_eq_true rfl⟩ rfl (Nat.le_of_ble_eq_true rfl) dJ4_putVal_152 ⟨Nat.le_of_ble_eq_true rfl, Nat.le_of_ble_eq_true rfl⟩ (fun r w1 H locs hp G => ?_)
          refine W.widen (k := 1) (n := 6) (Nat.le_of_ble_eq_true rfl) (Nat.le_of_ble_eq_true rfl) ?_
          obtain ⟨np, bf', af', hd', rfl, hwn1, hbn, hD1, ho1, hE1, hMK⟩ := hp
          have hwn : w np = none := hwn1
          have hqn : np ∉ es := hE.non hwn1
          have ht1 : w1 t = some (.inl (D.1 103, n, .inr (.inr (.inr (.inr f))))) := hMK t _ ht (gne_ao ht ho) (hE.noa ht)
          have cnp : w1 np = some (.inr (8, nfl (nI (va_up hN np h np)) (va_up ky np key np) (va_up vl np v np) (va_up nx np none np) (bf' np) (af' np))) := hE1 np (by simp)
          have hF1 : FRM D w w1 := FRM.rf.tr (FRM.mk hMK ho hE)
          have ccur : w1 cur = some (.inr (8, nfl (nI (va_up hN np h cur)) (va_up ky np key cur) (va_up vl np v cur) (va_up nx np none cur) (bf' cur) (af' cur))) := hE1 cur (List.mem_append_left _ hcur)
          refine W.eq (g2 := F0 m 155 ls [.ref np, .ref cur]) rfl ?_
          refine g_put (pc := 155) (v := .ref np) S M G (C := RJ22) (T := TJ22) (N := 6) (ci := 8) in_J22 tyJ22 tyJ22_ok nmJ22 ccur (hbe cur hcur) rfl 3 (by decide) q816 (Or.inl rfl) rfl rfl rfl (Nat.le_of_ble_eq_true rfl) dJ4_putVal_155 (fun H locs G => ?_)
          obtain ⟨w3_, hw3_⟩ : ∃ z9, z9 = gu w1 cur (.inr (8, nfl (nI (va_up hN np h cur)) (va_up ky np key cur) (va_up vl np v cur) (some np) (bf' cur) (af' cur))) := ⟨_, rfl⟩
          replace G : gS D K w3_ s H locs := by rw [hw3_]; exact G
          have c3_mp : w3_ mp = some (.inr (7, mfl (some t) (nI es.length) md (nI (n / 4 * 3)) lf ks hd' (some np))) := by rw [hw3_, gu_n (gne_c ho1 ccur (by decide))]; exact ho1
          have c3_t : w3_ t = some (.inl (D.1 103, n, .inr (.inr (.inr (.inr f))))) := by rw [hw3_, gu_n (gne_ao ht1 ccur)]; exact ht1
          have c3_cur : w3_ cur = some (.inr (8, nfl (nI (va_up hN np h cur)) (va_up ky np key cur) (va_up vl np v cur) (some np) (bf' cur) (af' cur))) := by rw [hw3_]; exact gu_s
          have hEw3_ : EN w3_ (es ++ [np]) (va_up hN np h) (va_up ky np key) (va_up vl np v) (va_up (va_up nx np none) cur (some np)) bf' af' := by rw [hw3_]; exact hE1.nx (some np) rfl
          have hFw3_ : FRM D w w3_ := by rw [hw3_]; exact hF1.tr (FRM.up ccur nm_8)
          have hCH1 : CHn (es ++ [np]) (va_up hN np h) n f (va_up (va_up nx np none) cur (some np)) := CHn.add hch1 hch2 hch3 (p2_pos hn) hqn (by rw [hlc] at hl0 ⊢; exact hl0.snoc (by rw [← hlc]; exact hch3 _ hmod) (fun z => hqn (hle np (by rw [hlc]; exact z)))) (fun i hi => rfl) (fun a ha hq => by rw [va_up_ne _ _ (fun z => ha (by rw [hlc, z]; simp)), va_up_ne _ _ hq])
          refine lv_iload (pc := 158) hx hb dJ4_putVal_158 (lv_at hl 2 rfl) ?_
          refine lv_bipush (pc := 160) (v := 7) hx hb dJ4_putVal_160 (by decide) ?_
          refine lv_icmp_lt (pc := 162) (tgt := 222) hx hb dJ4_putVal_162 (by decide) (fun c6 => ?_) (fun c6 => ?_)
          · refine lv_aloadN (pc := 222) hx hb dJ4_putVal_222 (lv_at hl 0 rfl) ?_
            refine lv_ifnullN (pc := 224) (tgt := 259) hx hb dJ4_putVal_224 (by decide) ?_
            refine W.widen (k := 2) (n := 134) (Nat.le_of_ble_eq_true rfl) (Nat.le_of_ble_eq_true rfl) ?_
            exact J259 np bf' af' hd' n t f (va_up (va_up nx np none) cur (some np)) w3_ H locs ls hwn hbn hqn hFw3_ c3_mp c3_t hbt hn hsz hEw3_ hD1 hCH1 G (lv_sub hl [3, 7] rfl)
          · refine lv_aload_n (pc := 165) hx hb dJ4_putVal_165 rfl (lv_at hl 3 rfl) ?_
            refine lv_aload (pc := 166) hx hb dJ4_putVal_166 (lv_at hl 8 rfl) ?_
            refine lv_iload_n (pc := 168) hx hb dJ4_putVal_168 rfl (lv_at hl 4 rfl) ?_
            have hlp7 : 7 ≤ pre.length := by
              have hpl : pre.length < 2 ^ 31 := by
                have := nd_len 300 (pre.map hN) (nd_map (List.nodup_append.mp (hlc ▸ hch3 _ hmod)).1 (fun a ha b hb => hinj a (hle a (by rw [hlc]; exact List.mem_append_left _ ha)) b (hle b (by rw [hlc]; exact List.mem_append_left _ hb)))) (fun x hx => by
                  obtain ⟨a, ha, rfl⟩ := List.mem_map.mp hx
                  exact hlt a (hle a (by rw [hlc]; exact List.mem_append_left _ ha)))
                rw [List.length_map] at this
                omega
              exact Nat.not_lt.mp (fun z => c6 (nI_lt (b := 7) z (by decide)))
            have hn2 := p2_32 hn (fun z => by
              have := ch_len z (hlc ▸ hch3 _ hmod) (fun a ha => hlt a (hle a (hlc.symm ▸ ha))) (fun a ha => ((hch2 _ hmod a).mp (hlc.symm ▸ ha)).2) (fun a ha b hb => hinj a (hle a (hlc.symm ▸ ha)) b (hle b (hlc.symm ▸ hb)))
              rw [List.length_append] at this
              simp only [List.length_cons, List.length_nil] at this
              omega)
            refine g_callU (pc := 169) (owner := "java/util/HashMap") S M G hl.1 [.ref t, .int (nI h)] [] (metJ4_treeifyBin l D K w3_ c3_mp hbm c3_t hbt hn2.1 hEw3_ (be_add hbe hbn) (lt_add hlt hqn hh) hCH1 hn2.2 _) 2 (g_recv M G c3_mp (q := (RJ5, TJ5, 12)) rfl) q969 q965 q967 (va_Decl.of (hts _ q966) (hts _ q969)) q966 q968 q24 (by decide) rfl ⟨Nat.le_of_ble_eq_true rfl, Nat.le_of_ble_eq_true rfl⟩ rfl (Nat.le_of_ble_eq_true rfl) dJ4_putVal_169 ⟨Nat.le_of_ble_eq_true rfl, Nat.le_of_ble_eq_true rfl⟩ (fun r w4 H locs hp G => ?_)
            refine W.widen (k := 2) (n := 134) (Nat.le_of_ble_eq_true rfl) (Nat.le_of_ble_eq_true rfl) ?_
            obtain ⟨rfl, t4, f4, nx4, hwt4, hbt4, ho4, ht4, hE4, hCH4, hMT4⟩ := hp
            have hF4 : FRM D w w4 := hFw3_.tr (FRM.mt hMT4 c3_mp c3_t hEw3_)
            refine W.eq (g2 := F0 m 172 ls []) rfl ?_
            refine lv_goto (pc := 172) (tgt := 222) hx hb dJ4_putVal_172 (by decide) ?_
            refine lv_aloadN (pc := 222) hx hb dJ4_putVal_222 (lv_at hl 0 rfl) ?_
            refine lv_ifnullN (pc := 224) (tgt := 259) hx hb dJ4_putVal_224 (by decide) ?_
            refine W.widen (k := 2) (n := 134) (Nat.le_of_ble_eq_true rfl) (Nat.le_of_ble_eq_true rfl) ?_
            exact J259 np bf' af' hd' (2 * n) t4 f4 nx4 w4 H locs ls hwn hbn hqn hF4 ho4 ht4 hbt4 (p3_22 hn2.1) (Nat.le_trans (Nat.le_succ _) (p3_sz hn2.1 hsz)) hE4 hD1 hCH4 G (lv_sub hl [3, 7] rfl)
    exact Lc (l1.length + 1) [] l1 r2v H locs ls (Nat.lt_succ_self _) hl1 hsg1 G (lv_sub hl [1, 0, 5, 6, 7, 8, 10, 4] rfl)
  · have hlx_h3 := hl
    have Gx_h3 := G
    subst h3
    have hl := hlx_h3
    have G : gS D K w s H locs := Gx_h3
    have hl : lv_has ls 13 [(7, .null), (9, .int (nI (h % n))), (8, .int (nI n)), (6, .ref t), (0, .ref mp), (1, .int (nI h)), (2, .ref key), (3, .ref v), (4, .int 0), (5, .int 1)] := hl
    refine W.eq (g2 := F0 m 47 ls []) rfl ?_
    have hnil := Sg.nil1 er2 hl0
    refine lv_aload (pc := 47) hx hb dJ4_putVal_47 (lv_at hl 3 rfl) ?_
    refine lv_iload (pc := 49) hx hb dJ4_putVal_49 (lv_at hl 1 rfl) ?_
    refine lv_aload_n (pc := 51) hx hb dJ4_putVal_51 rfl (lv_at hl 4 rfl) ?_
    refine lv_iload_n (pc := 52) hx hb dJ4_putVal_52 rfl (lv_at hl 5 rfl) ?_
    refine lv_aload_n (pc := 53) hx hb dJ4_putVal_53 rfl (lv_at hl 6 rfl) ?_
    refine lv_aload_n (pc := 54) hx hb dJ4_putVal_54 rfl (lv_at hl 7 rfl) ?_
    refine lv_null (pc := 55) hx hb dJ4_putVal_55 ?_
    refine g_callU (pc := 56) (owner := "java/util/HashMap") S M G hl.1 [.int (nI h), .ref key, .ref v, .null] [.int (nI (h % n)), .ref t] (metJ5_newNode (np := 0) l D K w ho hbm hE hbe hD hnd h key v) 4 (g_recv M G ho (q := (RJ5, TJ5, 12)) rfl) q885 q880 q882 (va_Decl.abs (M.1.2.2.1 _ q890 rfl)) q884 q883 q25 (by decide) rfl ⟨Nat.le_of_ble_eq_true rfl, Nat.le_of_ble_eq_true rfl⟩ rfl (Nat.le_of_ble_eq_true rfl) dJ4_putVal_56 ⟨Nat.le_of_ble_eq_true rfl, Nat.le_of_ble_eq_true rfl⟩ (fun r w1 H locs hp G => ?_)
    refine W.widen (k := 1) (n := 6) (Nat.le_of_ble_eq_true rfl) (Nat.le_of_ble_eq_true rfl) ?_
    obtain ⟨np, bf', af', hd', rfl, hwn1, hbn, hD1, ho1, hE1, hMK⟩ := hp
    have hwn : w np = none := hwn1
    have hqn : np ∉ es := hE.non hwn1
    have ht1 : w1 t = some (.inl (D.1 103, n, .inr (.inr (.inr (.inr f))))) := hMK t _ ht (gne_ao ht ho) (hE.noa ht)
    have cnp : w1 np = some (.inr (8, nfl (nI (va_up hN np h np)) (va_up ky np key np) (va_up vl np v np) (va_up nx np none np) (bf' np) (af' np))) := hE1 np (by simp)
    have hF1 : FRM D w w1 := FRM.rf.tr (FRM.mk hMK ho hE)
    refine W.eq (g2 := F0 m 59 ls [.ref np, .int (nI (h % n)), .ref t]) rfl ?_
    refine g_aast (pc := 59) S M G 3 rfl ht1 hbt (g_recv M G cnp (q := (RJ22, TJ22, 6)) rfl) q1591 (p2_in hn) dJ4_putVal_59 (fun H locs G => ?_)
    rw [p2_cl hn] at G
    obtain ⟨w4_, hw4_⟩ : ∃ z9, z9 = gu w1 t (.inl (D.1 103, n, .inr (.inr (.inr (.inr (va_up f (h % n) (some np))))))) := ⟨_, rfl⟩
    replace G : gS D K w4_ s H locs := by rw [hw4_]; exact G
    have c4_mp : w4_ mp = some (.inr (7, mfl (some t) (nI es.length) md (nI (n / 4 * 3)) lf ks hd' (some np))) := by rw [hw4_, gu_n (Ne.symm (gne_ao ht1 ho1))]; exact ho1
    have c4_np : w4_ np = some (.inr (8, nfl (nI (va_up hN np h np)) (va_up ky np key np) (va_up vl np v np) (va_up nx np none np) (bf' np) (af' np))) := by rw [hw4_, gu_n (Ne.symm (gne_ao ht1 cnp))]; exact cnp
    have c4_t : w4_ t = some (.inl (D.1 103, n, .inr (.inr (.inr (.inr (va_up f (h % n) (some np))))))) := by rw [hw4_]; exact gu_s
    have hEw4_ : EN w4_ (es ++ [np]) (va_up hN np h) (va_up ky np key) (va_up vl np v) (va_up nx np none) bf' af' := by rw [hw4_]; exact hE1.off (hE1.noa ht1)
    have hFw4_ : FRM D w w4_ := by rw [hw4_]; exact hF1.tr (FRM.up ht1 nm_a)
    refine lv_goto (pc := 60) (tgt := 259) hx hb dJ4_putVal_60 (by decide) ?_
    have hCH1 : CHn (es ++ [np]) (va_up hN np h) n (va_up f (h % n) (some np)) (va_up nx np none) := CHn.add hch1 hch2 hch3 (p2_pos hn) hqn (by rw [va_up_self, hnil]; exact ⟨rfl, va_up_self _ _ _⟩) (fun i hi => va_up_ne _ _ hi) (fun a _ hq => va_up_ne _ _ hq)
    refine W.widen (k := 2) (n := 134) (Nat.le_of_ble_eq_true rfl) (Nat.le_of_ble_eq_true rfl) ?_
    exact J259 np bf' af' hd' n t (va_up f (h % n) (some np)) (va_up nx np none) w4_ H locs ls hwn hbn hqn hFw4_ c4_mp c4_t hbt hn hsz hEw4_ hD1 hCH1 G (lv_sub hl [4, 9] rfl)
