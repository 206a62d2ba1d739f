/-! HashMap.putVal of the empty map and of a key that is there; put -/
theorem wn_back {w w0 : Gh} {mp q : Nat} {y : va_E} (hfr : ∀ a x, w a = some x → a ≠ mp → w0 a = some x) (ho : w0 mp = some y) (h : w0 q = none) : w q = none := by
  cases e : w q with
  | none => rfl
  | some x =>
    rw [hfr q x e (fun z => by rw [z, ho] at h; cases h)] at h
    cases h
abbrev rmJ4_putValA : Room := ({ frames := 4, cells := 3, slots := 262, locals := 93 } : Room)
set_option maxHeartbeats 4000000 in
theorem metJ4_putValA (l : Launch) (D : va_G) (K : Nat → Nat) (w : Gh) {mp : Nat} {lf : UInt32} {nx bf af : Nat → Option Nat} {md : Int32} {ks : Option Nat} {es : List Nat} {hN ky vl : Nat → Nat} {key h v : Nat} (hk : KY w key h) (hh : h < 300) (hes : es = []) (ho : w mp = some (.inr (7, mfl none (nI es.length) md 0 lf ks none none))) (hbm : K 0 ≤ mp) : gMet l yJ4_putVal (ws_ yJ4_putVal cJ4_putVal 13 (some (.object "java/lang/Object"))) rmJ4_putValA D K [.ref mp, .int (nI h), .ref key, .ref v, .int 0, .int 1] w (fun r' w' => r' = some .null ∧ ∃ np, w np = none ∧ MPF D K w' mp (md + 1) ks (es ++ [np]) (va_up hN np h) (va_up ky np key) (va_up vl np v) ∧ FRM D w w') := by
  refine gMet.of (by decide) (Nat.le_of_ble_eq_true rfl) ?_
  intro p e s m args below meth c H locs ls S M hr hlocks hname G hl
  have hx := S.1
  have hb := S.2.1
  have hown := S.2.2.2.1
  have hts := S.2.2.2.2
  have hl : lv_has ls 13 [(0, .ref mp), (1, .int (nI h)), (2, .ref key), (3, .ref v), (4, .int 0), (5, .int 1)] := hl
  obtain ⟨Q, hQ⟩ : ∃ Q, Q = gE below D K (fun r' w' => r' = some .null ∧ ∃ np, w np = none ∧ MPF D K w' mp (md + 1) ks (es ++ [np]) (va_up hN np h) (va_up ky np key) (va_up vl np v) ∧ FRM D w w') args s rmJ4_putValA.cells rmJ4_putValA.slots := ⟨_, rfl⟩
  rw [← hQ]
  have hbe : ∀ a ∈ es, K 0 ≤ a := by rw [hes]; intro a ha; cases ha
  have hnd : es.Nodup := by rw [hes]; exact List.nodup_nil
  have hKy : ∀ a ∈ es, KY w (ky a) (hN a) := by rw [hes]; intro a ha; cases ha
  have hlt : ∀ a ∈ es, hN a < 300 := by rw [hes]; intro a ha; cases ha
  have hinj : ∀ a ∈ es, ∀ b ∈ es, hN a = hN b → a = b := by rw [hes]; intro a ha; cases ha
  have hab : ∀ a ∈ es, hN a ≠ h := by rw [hes]; intro a ha; cases ha
  have h96 : es.length < 96 := by rw [hes]; decide
  have hD : DL es bf af none none := by rw [hes]; exact DL.nil _ _
  have J259 : ∀ (np : Nat) (bf9 af9 : Nat → Option Nat) (hd9 : Option Nat) (n1 t1 : Nat) (f1 nx1 : Nat → Option Nat) (w9 : Gh) (H : Heap) (locs : List Loc) (ls : Array Slot), w np = none → K 0 ≤ np → np ∉ es → FRM D w w9 → w9 mp = some (.inr (7, mfl (some t1) (nI es.length) md (nI (n1 / 4 * 3)) lf ks hd9 (some np))) → w9 t1 = some (.inl (D.1 103, n1, gra f1)) → K 0 ≤ t1 → p2 n1 → es.length ≤ n1 / 4 * 3 → EN w9 (es ++ [np]) (va_up hN np h) (va_up ky np key) (va_up vl np v) nx1 bf9 af9 → DL (es ++ [np]) bf9 af9 hd9 (some np) → CHn (es ++ [np]) (va_up hN np h) n1 f1 nx1 → gS D K w9 s H locs → lv_has ls 13 [(0, .ref mp), (5, .int 1)] → W p l e rmJ4_putValA s m args below meth c H locs 2 134 Q (F0 m 259 ls []) := by
    intro np bf9 af9 hd9 n1 t1 f1 nx1 w9 H locs ls hwn hbn hqn hF9 ho9 ht9 hbt9 hn9 hs9 hE9 hD9 hCH9 G hl
    refine lv_aload_n (pc := 259) hx hb dJ4_putVal_259 rfl (lv_at hl 0 rfl) ?_
    refine lv_dup (pc := 260) hx hb dJ4_putVal_260 rfl ?_
    refine g_get (pc := 261) (v := .int md) S M G (C := RJ5) (T := TJ5) (N := 12) (ci := 7) in_J5 ho9 rfl 3 (by decide) q135 (Or.inl rfl) rfl dJ4_putVal_261 ?_
    refine lv_iconst (pc := 264) (v := 1) hx hb dJ4_putVal_264 (by decide) ?_
    refine lv_iadd (pc := 265) hx hb dJ4_putVal_265 ?_
    refine g_put (pc := 266) (v := .int (md + 1)) S M G (C := RJ5) (T := TJ5) (N := 12) (ci := 7) in_J5 tyJ5 tyJ5_ok nmJ5 ho9 hbm rfl 3 (by decide) q135 (Or.inl rfl) rfl rfl rfl (Nat.le_of_ble_eq_true rfl) dJ4_putVal_266 (fun H locs G => ?_)
    obtain ⟨w1_, hw1_⟩ : ∃ z9, z9 = gu w9 mp (.inr (7, mfl (some t1) (nI es.length) (md + 1) (nI (n1 / 4 * 3)) lf ks hd9 (some np))) := ⟨_, rfl⟩
    replace G : gS D K w1_ s H locs := by rw [hw1_]; exact G
    have c1_t1 : w1_ t1 = some (.inl (D.1 103, n1, .inr (.inr (.inr (.inr f1))))) := by rw [hw1_, gu_n (gne_ao ht9 ho9)]; exact ht9
    have c1_mp : w1_ mp = some (.inr (7, mfl (some t1) (nI es.length) (md + 1) (nI (n1 / 4 * 3)) lf ks hd9 (some np))) := by rw [hw1_]; exact gu_s
    have hEw1_ : EN w1_ (es ++ [np]) (va_up hN np h) (va_up ky np key) (va_up vl np v) nx1 bf9 af9 := by rw [hw1_]; exact hE9.off (hE9.no ho9 (by decide))
    have hFw1_ : FRM D w w1_ := by rw [hw1_]; exact hF9.tr (FRM.up ho9 nm_7)
    refine lv_aload_n (pc := 269) hx hb dJ4_putVal_269 rfl (lv_at hl 0 rfl) ?_
    refine lv_dup (pc := 270) hx hb dJ4_putVal_270 rfl ?_
    refine g_get (pc := 271) (v := .int (nI es.length)) S M G (C := RJ5) (T := TJ5) (N := 12) (ci := 7) in_J5 c1_mp rfl 2 (by decide) q131 (Or.inl rfl) rfl dJ4_putVal_271 ?_
    refine lv_iconst (pc := 274) (v := 1) hx hb dJ4_putVal_274 (by decide) ?_
    refine lv_iadd (pc := 275) hx hb dJ4_putVal_275 ?_
    rw [← len1 es np]
    refine lv_dup_x1 (pc := 276) hx hb dJ4_putVal_276 rfl rfl ?_
    refine g_put (pc := 277) (v := .int (nI (es ++ [np]).length)) S M G (C := RJ5) (T := TJ5) (N := 12) (ci := 7) in_J5 tyJ5 tyJ5_ok nmJ5 c1_mp hbm rfl 2 (by decide) q131 (Or.inl rfl) rfl rfl rfl (Nat.le_of_ble_eq_true rfl) dJ4_putVal_277 (fun H locs G => ?_)
    obtain ⟨w2_, hw2_⟩ : ∃ z9, z9 = gu w1_ mp (.inr (7, mfl (some t1) (nI (es ++ [np]).length) (md + 1) (nI (n1 / 4 * 3)) lf ks hd9 (some np))) := ⟨_, rfl⟩
    replace G : gS D K w2_ s H locs := by rw [hw2_]; exact G
    have c2_t1 : w2_ t1 = some (.inl (D.1 103, n1, .inr (.inr (.inr (.inr f1))))) := by rw [hw2_, gu_n (gne_ao c1_t1 c1_mp)]; exact c1_t1
    have c2_mp : w2_ mp = some (.inr (7, mfl (some t1) (nI (es ++ [np]).length) (md + 1) (nI (n1 / 4 * 3)) lf ks hd9 (some np))) := by rw [hw2_]; exact gu_s
    have hEw2_ : EN w2_ (es ++ [np]) (va_up hN np h) (va_up ky np key) (va_up vl np v) nx1 bf9 af9 := by rw [hw2_]; exact hEw1_.off (hEw1_.no c1_mp (by decide))
    have hFw2_ : FRM D w w2_ := by rw [hw2_]; exact hFw1_.tr (FRM.up c1_mp nm_7)
    refine lv_aload_n (pc := 280) hx hb dJ4_putVal_280 rfl (lv_at hl 0 rfl) ?_
    refine g_get (pc := 281) (v := .int (nI (n1 / 4 * 3))) S M G (C := RJ5) (T := TJ5) (N := 12) (ci := 7) in_J5 c2_mp rfl 4 (by decide) q136 (Or.inl rfl) rfl dJ4_putVal_281 ?_
    refine lv_icmp_le (pc := 284) (tgt := 292) hx hb dJ4_putVal_284 (by decide) (fun c1 => ?_) (fun c1 => ?_)
    · refine lv_aload_n (pc := 292) hx hb dJ4_putVal_292 rfl (lv_at hl 0 rfl) ?_
      refine lv_iload (pc := 293) hx hb dJ4_putVal_293 (lv_at hl 1 rfl) ?_
      refine g_callU (pc := 295) (owner := "java/util/HashMap") S M G hl.1 [.int 1] [] (metJ5_afterNodeInsertion l D K w2_ c2_mp) 1 (g_recv M G c2_mp (q := (RJ5, TJ5, 12)) rfl) q990 q985 q987 (va_Decl.abs (M.1.2.2.1 _ q995 rfl)) q989 q988 q25 (by decide) rfl ⟨Nat.le_of_ble_eq_true rfl, Nat.le_of_ble_eq_true rfl⟩ rfl (Nat.le_of_ble_eq_true rfl) dJ4_putVal_295 ⟨Nat.le_of_ble_eq_true rfl, Nat.le_of_ble_eq_true rfl⟩ (fun r w6 H locs hp G => ?_)
      obtain ⟨rfl, hw2⟩ := hp
      rw [hw2] at G
      refine W.eq (g2 := F0 m 298 ls []) rfl ?_
      refine lv_null (pc := 298) hx hb dJ4_putVal_298 ?_
      rw [hQ]
      refine g_aret S G (rt := (.object "java/lang/Object")) (r := none) hr (Or.inl ⟨_, rfl⟩) hlocks (hdg := dJ4_putVal_299) ?_ ?_ ?_
      · exact Nat.le_of_ble_eq_true rfl
      · exact Nat.le_of_ble_eq_true rfl
      · have hsz9 : (es ++ [np]).length ≤ n1 / 4 * 3 := (nI_leI (by rw [List.length_append]; show es.length + 1 < _; omega) (by have := p2_q hn9; omega)).mp c1
        exact ⟨rfl, np, hwn, ⟨n1, t1, f1, lf, hd9, some np, nx1, bf9, af9, ⟨c2_mp, hbm, c2_t1, hbt9, hn9, hEw2_, be_add hbe hbn, hD9, nd_add hnd hqn, hCH9, ky_add hFw2_ hKy hqn hk, lt_add hlt hqn hh, inj_add hinj hqn hab⟩, hsz9⟩, hFw2_⟩
    · refine lv_aload_n (pc := 287) hx hb dJ4_putVal_287 rfl (lv_at hl 0 rfl) ?_
      have hlen : ¬ (es ++ [np]).length ≤ n1 / 4 * 3 := fun z => c1 (nI_le z (by have := p2_q hn9; omega))
      have hn3 : p3 n1 := p3_of hn9 hlen (by rw [List.length_append]; exact h96)
      refine g_callU (pc := 288) (owner := "java/util/HashMap") S M G hl.1 [] [] (metJ4_resizeN l D K w2_ c2_mp hbm c2_t1 hbt9 hn3 hEw2_ (be_add hbe hbn) (lt_add hlt hqn hh) hCH9) 0 (g_recv M G c2_mp (q := (RJ5, TJ5, 12)) rfl) q760 q756 q758 (va_Decl.of (hts _ q757) (hts _ q760)) q757 q759 q24 (by decide) rfl ⟨Nat.le_of_ble_eq_true rfl, Nat.le_of_ble_eq_true rfl⟩ rfl (Nat.le_of_ble_eq_true rfl) dJ4_putVal_288 ⟨Nat.le_of_ble_eq_true rfl, Nat.le_of_ble_eq_true rfl⟩ (fun r w5 H locs hp G => ?_)
      refine W.widen (k := 3) (n := 262) (Nat.le_of_ble_eq_true rfl) (Nat.le_of_ble_eq_true rfl) ?_
      obtain ⟨t5, f5, nx5, rfl, hwt5, hbt5, ho5, ht5, hE5, hCH5, hMT5⟩ := hp
      have hF5 : FRM D w w5 := hFw2_.tr (FRM.mt hMT5 c2_mp c2_t1 hEw2_)
      refine W.eq (g2 := F0 m 291 ls [.ref t5]) rfl ?_
      refine lv_pop (pc := 291) hx hb dJ4_putVal_291 rfl ?_
      refine lv_aload_n (pc := 292) hx hb dJ4_putVal_292 rfl (lv_at hl 0 rfl) ?_
      refine lv_iload (pc := 293) hx hb dJ4_putVal_293 (lv_at hl 1 rfl) ?_
      refine g_callU (pc := 295) (owner := "java/util/HashMap") S M G hl.1 [.int 1] [] (metJ5_afterNodeInsertion l D K w5 ho5) 1 (g_recv M G ho5 (q := (RJ5, TJ5, 12)) rfl) q990 q985 q987 (va_Decl.abs (M.1.2.2.1 _ q995 rfl)) q989 q988 q25 (by decide) rfl ⟨Nat.le_of_ble_eq_true rfl, Nat.le_of_ble_eq_true rfl⟩ rfl (Nat.le_of_ble_eq_true rfl) dJ4_putVal_295 ⟨Nat.le_of_ble_eq_true rfl, Nat.le_of_ble_eq_true rfl⟩ (fun r w6 H locs hp G => ?_)
      obtain ⟨rfl, hw2⟩ := hp
      rw [hw2] at G
      refine W.eq (g2 := F0 m 298 ls []) rfl ?_
      refine lv_null (pc := 298) hx hb dJ4_putVal_298 ?_
      rw [hQ]
      refine g_aret S G (rt := (.object "java/lang/Object")) (r := none) hr (Or.inl ⟨_, rfl⟩) hlocks (hdg := dJ4_putVal_299) ?_ ?_ ?_
      · exact Nat.le_of_ble_eq_true rfl
      · exact Nat.le_of_ble_eq_true rfl
      · have hsz9 : (es ++ [np]).length ≤ (2 * n1) / 4 * 3 := by rw [List.length_append]; exact p3_sz hn3 hs9
        exact ⟨rfl, np, hwn, ⟨(2 * n1), t5, f5, lf, hd9, some np, nx5, bf9, af9, ⟨ho5, hbm, ht5, hbt5, (p3_22 hn3), hE5, be_add hbe hbn, hD9, nd_add hnd hqn, hCH5, ky_add hF5 hKy hqn hk, lt_add hlt hqn hh, inj_add hinj hqn hab⟩, hsz9⟩, hF5⟩
  refine lv_aload_n (pc := 0) hx hb dJ4_putVal_0 rfl (lv_at hl 0 rfl) ?_
  refine g_get (pc := 1) (v := .null) S M G (C := RJ5) (T := TJ5) (N := 12) (ci := 7) in_J5 ho rfl 0 (by decide) q130 (Or.inl rfl) rfl dJ4_putVal_1 ?_
  refine lv_dup (pc := 4) hx hb dJ4_putVal_4 rfl ?_
  refine lv_astoreN (pc := 5) (lv' := [(6, .null), (0, .ref mp), (1, .int (nI h)), (2, .ref key), (3, .ref v), (4, .int 0), (5, .int 1)]) hx hb dJ4_putVal_5 hl (by decide) rfl (fun ls hl => ?_)
  refine lv_ifnullN (pc := 7) (tgt := 19) hx hb dJ4_putVal_7 (by decide) ?_
  refine lv_aload_n (pc := 19) hx hb dJ4_putVal_19 rfl (lv_at hl 1 rfl) ?_
  refine g_callU (pc := 20) (owner := "java/util/HashMap") S M G hl.1 [] [] (metJ4_resize0 l D K w ho hbm) 0 (g_recv M G ho (q := (RJ5, TJ5, 12)) rfl) q760 q756 q758 (va_Decl.of (hts _ q757) (hts _ q760)) q757 q759 q24 (by decide) rfl ⟨Nat.le_of_ble_eq_true rfl, Nat.le_of_ble_eq_true rfl⟩ rfl (Nat.le_of_ble_eq_true rfl) dJ4_putVal_20 ⟨Nat.le_of_ble_eq_true rfl, Nat.le_of_ble_eq_true rfl⟩ (fun r w0 H locs hp G => ?_)
  refine W.widen (k := 1) (n := 16) (Nat.le_of_ble_eq_true rfl) (Nat.le_of_ble_eq_true rfl) ?_
  obtain ⟨t', rfl, hwt, hbt0, ho0, ht0, hfr⟩ := hp
  obtain ⟨f0, hf0⟩ : ∃ z, z = (fun _ : Nat => (none : Option Nat)) := ⟨_, rfl⟩
  rw [← hf0] at ht0
  have hF0 : FRM D w w0 := fun a x h1 h2 => hfr a x h1 (fun q => by rw [q, ho] at h1; cases h1; exact nm_7 h2)
  have hk0 := hF0.ky hk
  have hE0 : EN w0 es hN ky vl nx bf af := by rw [hes]; intro a ha; cases ha
  obtain ⟨ch, hch⟩ : ∃ ch : Nat → List Nat, ch = fun _ => [] := ⟨_, rfl⟩
  have hch1 : ∀ i, i < 16 → Sg nx (f0 i) (ch i) none := fun i _ => by rw [hf0, hch]; rfl
  have hch2 : ∀ i, i < 16 → ∀ a, a ∈ ch i ↔ a ∈ es ∧ hN a % 16 = i := fun i _ a => by rw [hch, hes]; simp
  have hch3 : ∀ i, i < 16 → (ch i).Nodup := fun i _ => by rw [hch]; exact List.nodup_nil
  have hnil : ch (h % 16) = [] := by rw [hch]
  have hn : p2 16 := Or.inl rfl
  refine W.eq (g2 := F0 m 23 ls [.ref t']) rfl ?_
  refine lv_dup (pc := 23) hx hb dJ4_putVal_23 rfl ?_
  refine lv_astore (pc := 24) (lv' := [(6, .ref t'), (0, .ref mp), (1, .int (nI h)), (2, .ref key), (3, .ref v), (4, .int 0), (5, .int 1)]) hx hb dJ4_putVal_24 hl (by decide) rfl (fun ls hl => ?_)
  refine g_alen (pc := 26) (v := 16) S M G 3 rfl ht0 rfl dJ4_putVal_26 ?_
  refine lv_istore (pc := 27) (lv' := [(8, .int 16), (6, .ref t'), (0, .ref mp), (1, .int (nI h)), (2, .ref key), (3, .ref v), (4, .int 0), (5, .int 1)]) hx hb dJ4_putVal_27 hl (by decide) rfl (fun ls hl => ?_)
  refine lv_aload (pc := 29) hx hb dJ4_putVal_29 (lv_at hl 1 rfl) ?_
  refine lv_iload (pc := 31) hx hb dJ4_putVal_31 (lv_at hl 0 rfl) ?_
  refine lv_iconst (pc := 33) (v := 1) hx hb dJ4_putVal_33 (by decide) ?_
  refine lv_isub (pc := 34) hx hb dJ4_putVal_34 ?_
  refine lv_iload_n (pc := 35) hx hb dJ4_putVal_35 rfl (lv_at hl 3 rfl) ?_
  refine lv_iand (pc := 36) hx hb dJ4_putVal_36 ?_
  rw [show ((16 : Int32) - 1) &&& nI h = nI (h % 16) from p2_and hn hh]
  refine lv_dup (pc := 37) hx hb dJ4_putVal_37 rfl ?_
  refine lv_istore (pc := 38) (lv' := [(9, .int (nI (h % 16))), (8, .int 16), (6, .ref t'), (0, .ref mp), (1, .int (nI h)), (2, .ref key), (3, .ref v), (4, .int 0), (5, .int 1)]) hx hb dJ4_putVal_38 hl (by decide) rfl (fun ls hl => ?_)
  refine g_aald (pc := 40) S M G 3 rfl ht0 (p2_in hn) dJ4_putVal_40 ?_
  obtain ⟨r2, er2⟩ : ∃ z9, z9 = f0 (nI (h % 16)).toNatClampNeg := ⟨_, rfl⟩
  rw [← er2]
  refine W.eq (g2 := F0 m 41 ls [va_rf r2]) rfl ?_
  rw [p2_cl hn] at er2
  refine lv_dup (pc := 41) hx hb dJ4_putVal_41 (cat_rf _) ?_
  refine gv_astore (pc := 42) (lv' := [(7, va_rf r2), (9, .int (nI (h % 16))), (8, .int 16), (6, .ref t'), (0, .ref mp), (1, .int (nI h)), (2, .ref key), (3, .ref v), (4, .int 0), (5, .int 1)]) S dJ4_putVal_42 hl (by decide) rfl (fun ls hl => ?_)
  refine gv_ifnonnull (pc := 44) (tgt := 63) S dJ4_putVal_44 (by decide) (fun r2v h3 => ?_) (fun h3 => ?_)
  · have hlx_h3 := hl
    have Gx_h3 := G
    subst h3
    have hl := hlx_h3
    have G : gS D K w0 s H locs := Gx_h3
    have hl : lv_has ls 13 [(7, .ref r2v), (9, .int (nI (h % 16))), (8, .int 16), (6, .ref t'), (0, .ref mp), (1, .int (nI h)), (2, .ref key), (3, .ref v), (4, .int 0), (5, .int 1)] := hl
    refine W.eq (g2 := F0 m 63 ls []) rfl ?_
    rw [hf0] at er2
    cases er2
  · have hlx_h3 := hl
    have Gx_h3 := G
    subst h3
    have hl := hlx_h3
    have G : gS D K w0 s H locs := Gx_h3
    have hl : lv_has ls 13 [(7, .null), (9, .int (nI (h % 16))), (8, .int 16), (6, .ref t'), (0, .ref mp), (1, .int (nI h)), (2, .ref key), (3, .ref v), (4, .int 0), (5, .int 1)] := hl
    refine W.eq (g2 := F0 m 47 ls []) rfl ?_
    refine lv_aload (pc := 47) hx hb dJ4_putVal_47 (lv_at hl 3 rfl) ?_
    refine lv_iload (pc := 49) hx hb dJ4_putVal_49 (lv_at hl 1 rfl) ?_
    refine lv_aload_n (pc := 51) hx hb dJ4_putVal_51 rfl (lv_at hl 4 rfl) ?_
    refine lv_iload_n (pc := 52) hx hb dJ4_putVal_52 rfl (lv_at hl 5 rfl) ?_
    refine lv_aload_n (pc := 53) hx hb dJ4_putVal_53 rfl (lv_at hl 6 rfl) ?_
    refine lv_aload_n (pc := 54) hx hb dJ4_putVal_54 rfl (lv_at hl 7 rfl) ?_
    refine lv_null (pc := 55) hx hb dJ4_putVal_55 ?_
    refine g_callU (pc := 56) (owner := "java/util/HashMap") S M G hl.1 [.int (nI h), .ref key, .ref v, .null] [.int (nI (h % 16)), .ref t'] (metJ5_newNode (np := 0) l D K w0 ho0 hbm hE0 hbe hD hnd h key v) 4 (g_recv M G ho0 (q := (RJ5, TJ5, 12)) rfl) q885 q880 q882 (va_Decl.abs (M.1.2.2.1 _ q890 rfl)) q884 q883 q25 (by decide) rfl ⟨Nat.le_of_ble_eq_true rfl, Nat.le_of_ble_eq_true rfl⟩ rfl (Nat.le_of_ble_eq_true rfl) dJ4_putVal_56 ⟨Nat.le_of_ble_eq_true rfl, Nat.le_of_ble_eq_true rfl⟩ (fun r w1 H locs hp G => ?_)
    refine W.widen (k := 2) (n := 22) (Nat.le_of_ble_eq_true rfl) (Nat.le_of_ble_eq_true rfl) ?_
    obtain ⟨np, bf', af', hd', rfl, hwn1, hbn, hD1, ho1, hE1, hMK⟩ := hp
    have hwn : w np = none := (wn_back hfr ho0 hwn1)
    have hqn : np ∉ es := hE0.non hwn1
    have ht1 : w1 t' = some (.inl (D.1 103, 16, .inr (.inr (.inr (.inr f0))))) := hMK t' _ ht0 (gne_ao ht0 ho0) (hE0.noa ht0)
    have cnp : w1 np = some (.inr (8, nfl (nI (va_up hN np h np)) (va_up ky np key np) (va_up vl np v np) (va_up nx np none np) (bf' np) (af' np))) := hE1 np (by simp)
    have hF1 : FRM D w w1 := hF0.tr (FRM.mk hMK ho0 hE0)
    refine W.eq (g2 := F0 m 59 ls [.ref np, .int (nI (h % 16)), .ref t']) rfl ?_
    refine g_aast (pc := 59) S M G 3 rfl ht1 hbt0 (g_recv M G cnp (q := (RJ22, TJ22, 6)) rfl) q1591 (p2_in hn) dJ4_putVal_59 (fun H locs G => ?_)
    rw [p2_cl hn] at G
    obtain ⟨w3_, hw3_⟩ : ∃ z9, z9 = gu w1 t' (.inl (D.1 103, 16, .inr (.inr (.inr (.inr (va_up f0 (h % 16) (some np))))))) := ⟨_, rfl⟩
    replace G : gS D K w3_ s H locs := by rw [hw3_]; exact G
    have c3_mp : w3_ mp = some (.inr (7, mfl (some t') (nI es.length) md 12 lf ks hd' (some np))) := by rw [hw3_, gu_n (Ne.symm (gne_ao ht1 ho1))]; exact ho1
    have c3_np : w3_ np = some (.inr (8, nfl (nI (va_up hN np h np)) (va_up ky np key np) (va_up vl np v np) (va_up nx np none np) (bf' np) (af' np))) := by rw [hw3_, gu_n (Ne.symm (gne_ao ht1 cnp))]; exact cnp
    have c3_t_ : w3_ t' = some (.inl (D.1 103, 16, .inr (.inr (.inr (.inr (va_up f0 (h % 16) (some np))))))) := by rw [hw3_]; exact gu_s
    have hEw3_ : EN w3_ (es ++ [np]) (va_up hN np h) (va_up ky np key) (va_up vl np v) (va_up nx np none) bf' af' := by rw [hw3_]; exact hE1.off (hE1.noa ht1)
    have hFw3_ : FRM D w w3_ := by rw [hw3_]; exact hF1.tr (FRM.up ht1 nm_a)
    refine lv_goto (pc := 60) (tgt := 259) hx hb dJ4_putVal_60 (by decide) ?_
    have hCH1 : CHn (es ++ [np]) (va_up hN np h) 16 (va_up f0 (h % 16) (some np)) (va_up nx np none) := CHn.add hch1 hch2 hch3 (p2_pos hn) hqn (by rw [va_up_self, hnil]; exact ⟨rfl, va_up_self _ _ _⟩) (fun i hi => va_up_ne _ _ hi) (fun a _ hq => va_up_ne _ _ hq)
    refine W.widen (k := 2) (n := 134) (Nat.le_of_ble_eq_true rfl) (Nat.le_of_ble_eq_true rfl) ?_
    exact J259 np bf' af' hd' 16 t' (va_up f0 (h % 16) (some np)) (va_up nx np none) w3_ H locs ls hwn hbn hqn hFw3_ c3_mp c3_t_ hbt0 hn (by rw [hes]; decide) hEw3_ hD1 hCH1 G (lv_sub hl [4, 9] rfl)
abbrev rmJ4_putValB : Room := ({ frames := 1, cells := 0, slots := 0, locals := 26 } : Room)
set_option maxHeartbeats 4000000 in
theorem metJ4_putValB (l : Launch) (D : va_G) (K : Nat → Nat) (w : Gh) {mp n t : Nat} {f : Nat → Option Nat} {lf : UInt32} {hd tl : Option Nat} {nx bf af : Nat → Option Nat} {md : Int32} {ks : Option Nat} {es : List Nat} {hN ky vl : Nat → Nat} {key h v : Nat} (hk : KY w key h) (hh : h < 300) {sz : Int32} (hM : MPQ D K w mp sz md ks es hN ky vl n t f lf hd tl nx bf af) {a0 : Nat} (ha0 : a0 ∈ es) (hh0 : hN a0 = h) : gMet l yJ4_putVal (ws_ yJ4_putVal cJ4_putVal 13 (some (.object "java/lang/Object"))) rmJ4_putValB D K [.ref mp, .int (nI h), .ref key, .ref v, .int 0, .int 1] w (fun r' w' => r' = some (.ref (vl a0)) ∧ MPQ D K w' mp sz md ks es hN ky (va_up vl a0 v) n t f lf hd tl nx bf af ∧ FRM D w w') := by
  refine gMet.of (by decide) (Nat.le_of_ble_eq_true rfl) ?_
  intro p e s m args below meth c H locs ls S M hr hlocks hname G hl
  have hx := S.1
  have hb := S.2.1
  have hown := S.2.2.2.1
  have hts := S.2.2.2.2
  have hl : lv_has ls 13 [(0, .ref mp), (1, .int (nI h)), (2, .ref key), (3, .ref v), (4, .int 0), (5, .int 1)] := hl
  obtain ⟨Q, hQ⟩ : ∃ Q, Q = gE below D K (fun r' w' => r' = some (.ref (vl a0)) ∧ MPQ D K w' mp sz md ks es hN ky (va_up vl a0 v) n t f lf hd tl nx bf af ∧ FRM D w w') args s rmJ4_putValB.cells rmJ4_putValB.slots := ⟨_, rfl⟩
  rw [← hQ]
  obtain ⟨ho, hbm, ht, hbt, hn, hE, hbe, hD, hnd, hCH, hKy, hlt, hinj⟩ := hM
  have hCH2 := hCH
  obtain ⟨ch, hch1, hch2, hch3⟩ := hCH2
  have hmod := p2_mod (h := h) hn
  have hl0 : Sg nx (f (h % n)) (ch (h % n)) none := hch1 _ hmod
  have hle : ∀ a ∈ ch (h % n), a ∈ es := fun a ha => ((hch2 _ hmod a).mp ha).1
  have hin0 : a0 ∈ ch (h % n) := (hch2 _ hmod a0).mpr ⟨ha0, by rw [hh0]⟩
  refine lv_aload_n (pc := 0) hx hb dJ4_putVal_0 rfl (lv_at hl 0 rfl) ?_
  refine g_get (pc := 1) (v := .ref t) S M G (C := RJ5) (T := TJ5) (N := 12) (ci := 7) in_J5 ho rfl 0 (by decide) q130 (Or.inl rfl) rfl dJ4_putVal_1 ?_
  refine lv_dup (pc := 4) hx hb dJ4_putVal_4 rfl ?_
  refine lv_astore (pc := 5) (lv' := [(6, .ref t), (0, .ref mp), (1, .int (nI h)), (2, .ref key), (3, .ref v), (4, .int 0), (5, .int 1)]) hx hb dJ4_putVal_5 hl (by decide) rfl (fun ls hl => ?_)
  refine lv_ifnull (pc := 7) hx hb dJ4_putVal_7 ?_
  refine lv_aload (pc := 10) hx hb dJ4_putVal_10 (lv_at hl 0 rfl) ?_
  refine g_alen (pc := 12) (v := (nI n)) S M G 3 rfl ht rfl dJ4_putVal_12 ?_
  refine lv_dup (pc := 13) hx hb dJ4_putVal_13 rfl ?_
  refine lv_istore (pc := 14) (lv' := [(8, .int (nI n)), (6, .ref t), (0, .ref mp), (1, .int (nI h)), (2, .ref key), (3, .ref v), (4, .int 0), (5, .int 1)]) hx hb dJ4_putVal_14 hl (by decide) rfl (fun ls hl => ?_)
  refine lv_if_ne (pc := 16) (tgt := 29) hx hb dJ4_putVal_16 (by decide) (fun _ => ?_) (fun c => absurd c (fun e => p2_nle hn (by rw [e]; decide)))
  refine lv_aload (pc := 29) hx hb dJ4_putVal_29 (lv_at hl 1 rfl) ?_
  refine lv_iload (pc := 31) hx hb dJ4_putVal_31 (lv_at hl 0 rfl) ?_
  refine lv_iconst (pc := 33) (v := 1) hx hb dJ4_putVal_33 (by decide) ?_
  refine lv_isub (pc := 34) hx hb dJ4_putVal_34 ?_
  refine lv_iload_n (pc := 35) hx hb dJ4_putVal_35 rfl (lv_at hl 3 rfl) ?_
  refine lv_iand (pc := 36) hx hb dJ4_putVal_36 ?_
  rw [p2_and hn hh]
  refine lv_dup (pc := 37) hx hb dJ4_putVal_37 rfl ?_
  refine lv_istore (pc := 38) (lv' := [(9, .int (nI (h % n))), (8, .int (nI n)), (6, .ref t), (0, .ref mp), (1, .int (nI h)), (2, .ref key), (3, .ref v), (4, .int 0), (5, .int 1)]) hx hb dJ4_putVal_38 hl (by decide) rfl (fun ls hl => ?_)
  refine g_aald (pc := 40) S M G 3 rfl ht (p2_in hn) dJ4_putVal_40 ?_
  obtain ⟨r1, er1⟩ : ∃ z9, z9 = f (nI (h % n)).toNatClampNeg := ⟨_, rfl⟩
  rw [← er1]
  refine W.eq (g2 := F0 m 41 ls [va_rf r1]) rfl ?_
  rw [p2_cl hn] at er1
  refine lv_dup (pc := 41) hx hb dJ4_putVal_41 (cat_rf _) ?_
  refine gv_astore (pc := 42) (lv' := [(7, va_rf r1), (9, .int (nI (h % n))), (8, .int (nI n)), (6, .ref t), (0, .ref mp), (1, .int (nI h)), (2, .ref key), (3, .ref v), (4, .int 0), (5, .int 1)]) S dJ4_putVal_42 hl (by decide) rfl (fun ls hl => ?_)
  refine gv_ifnonnull (pc := 44) (tgt := 63) S dJ4_putVal_44 (by decide) (fun r1v h2 => ?_) (fun h2 => ?_)
  · have hlx_h2 := hl
    have Gx_h2 := G
    subst h2
    have hl := hlx_h2
    have G : gS D K w s H locs := Gx_h2
    have hl : lv_has ls 13 [(7, .ref r1v), (9, .int (nI (h % n))), (8, .int (nI n)), (6, .ref t), (0, .ref mp), (1, .int (nI h)), (2, .ref key), (3, .ref v), (4, .int 0), (5, .int 1)] := hl
    refine W.eq (g2 := F0 m 63 ls []) rfl ?_
    obtain ⟨l1, hl1, hsg1⟩ := Sg.cons1 er1 hl0
    have hcur : r1v ∈ es := hle r1v (by rw [hl1]; exact List.mem_cons_self)
    have ce1 := hE r1v hcur
    refine lv_aload (pc := 63) hx hb dJ4_putVal_63 (lv_at hl 0 rfl) ?_
    refine g_get (pc := 65) (v := .int (nI (hN r1v))) S M G (C := RJ22) (T := TJ22) (N := 6) (ci := 8) in_J22 ce1 rfl 0 (by decide) q800 (Or.inl rfl) rfl dJ4_putVal_65 ?_
    refine lv_iload_n (pc := 68) hx hb dJ4_putVal_68 rfl (lv_at hl 5 rfl) ?_
    refine lv_icmp_ne (pc := 69) (tgt := 104) hx hb dJ4_putVal_69 (by decide) (fun c3 => ?_) (fun c3 => ?_)
    · refine lv_aload (pc := 104) hx hb dJ4_putVal_104 (lv_at hl 0 rfl) ?_
      refine va_instNo (pc := 106) hx hb hown (hts _ q766) (M.1.2.2.2.2.1 ("java/util/LinkedHashMap$Entry", "java/util/HashMap$TreeNode") (by decide)) (g_recv M G ce1 (q := (RJ22, TJ22, 6)) rfl) dJ4_putVal_106 ?_
      refine lv_if_eq (pc := 109) (tgt := 131) hx hb dJ4_putVal_109 (by decide) (fun _ => ?_) (fun c => absurd c (by decide))
      refine lv_iconst (pc := 131) (v := 0) hx hb dJ4_putVal_131 (by decide) ?_
      refine lv_istore (pc := 132) (lv' := [(12, .int 0), (7, .ref r1v), (9, .int (nI (h % n))), (8, .int (nI n)), (6, .ref t), (0, .ref mp), (1, .int (nI h)), (2, .ref key), (3, .ref v), (4, .int 0), (5, .int 1)]) hx hb dJ4_putVal_132 hl (by decide) rfl (fun ls hl => ?_)
      have Lb : ∀ (fuel : Nat) (rest : List Nat) (cur : Nat) (bc : Int32) (H : Heap) (locs : List Loc) (ls : Array Slot), rest.length < fuel → a0 ∈ rest → Sg nx (nx cur) rest none → (∀ a ∈ cur :: rest, a ∈ es) → gS D K w s H locs → lv_has ls 13 [(7, .ref cur), (12, .int bc), (0, .ref mp), (1, .int (nI h)), (2, .ref key), (3, .ref v), (4, .int 0)] → W p l e rmJ4_putValB s m args below meth c H locs 0 0 Q (F0 m 134 ls []) := by
        intro fuel
        induction fuel with
        | zero => intro rest cur bc H locs ls h0; exact absurd h0 (Nat.not_lt_zero _)
        | succ fuel ih =>
          intro rest cur bc H locs ls hfu hin hsg hle2 G hl
          have hcur : cur ∈ es := hle2 cur List.mem_cons_self
          have cec := hE cur hcur
          refine lv_aload (pc := 134) hx hb dJ4_putVal_134 (lv_at hl 0 rfl) ?_
          refine g_get (pc := 136) (v := va_rf (nx cur)) S M G (C := RJ22) (T := TJ22) (N := 6) (ci := 8) in_J22 cec rfl 3 (by decide) q816 (Or.inl rfl) rfl dJ4_putVal_136 ?_
          obtain ⟨r4, er4⟩ : ∃ z9, z9 = nx cur := ⟨_, rfl⟩
          rw [← er4]
          refine lv_dup (pc := 139) hx hb dJ4_putVal_139 (cat_rf _) ?_
          refine gv_astore (pc := 140) (lv' := [(10, va_rf r4), (7, .ref cur), (12, .int bc), (0, .ref mp), (1, .int (nI h)), (2, .ref key), (3, .ref v), (4, .int 0)]) S dJ4_putVal_140 hl (by decide) rfl (fun ls hl => ?_)
          refine gv_ifnonnull (pc := 142) (tgt := 175) S dJ4_putVal_142 (by decide) (fun r4v h5 => ?_) (fun h5 => ?_)
          · have hlx_h5 := hl
            have Gx_h5 := G
            subst h5
            have hl := hlx_h5
            have G : gS D K w s H locs := Gx_h5
            have hl : lv_has ls 13 [(10, .ref r4v), (7, .ref cur), (12, .int bc), (0, .ref mp), (1, .int (nI h)), (2, .ref key), (3, .ref v), (4, .int 0)] := hl
            refine W.eq (g2 := F0 m 175 ls []) rfl ?_
            obtain ⟨l3, hl3, hsg3⟩ := Sg.cons1 er4 hsg
            have hnxt : r4v ∈ es := hle2 r4v (by rw [hl3]; exact List.mem_cons_of_mem _ List.mem_cons_self)
            have ce2 := hE r4v hnxt
            refine lv_aload (pc := 175) hx hb dJ4_putVal_175 (lv_at hl 0 rfl) ?_
            refine g_get (pc := 177) (v := .int (nI (hN r4v))) S M G (C := RJ22) (T := TJ22) (N := 6) (ci := 8) in_J22 ce2 rfl 0 (by decide) q800 (Or.inl rfl) rfl dJ4_putVal_177 ?_
            refine lv_iload_n (pc := 180) hx hb dJ4_putVal_180 rfl (lv_at hl 4 rfl) ?_
            refine lv_icmp_ne (pc := 181) (tgt := 212) hx hb dJ4_putVal_181 (by decide) (fun c6 => ?_) (fun c6 => ?_)
            · refine lv_aload (pc := 212) hx hb dJ4_putVal_212 (lv_at hl 0 rfl) ?_
              refine lv_astore (pc := 214) (lv' := [(7, .ref r4v), (10, .ref r4v), (12, .int bc), (0, .ref mp), (1, .int (nI h)), (2, .ref key), (3, .ref v), (4, .int 0)]) hx hb dJ4_putVal_214 hl (by decide) rfl (fun ls hl => ?_)
              refine lv_iinc (pc := 216) (v := (bc + 1)) (lv' := [(12, .int (bc + 1)), (7, .ref r4v), (10, .ref r4v), (0, .ref mp), (1, .int (nI h)), (2, .ref key), (3, .ref v), (4, .int 0)]) hx hb dJ4_putVal_216 hl (k := 2) rfl (by first | rfl | decide) (by decide) rfl (fun ls hl => ?_)
              refine lv_goto (pc := 219) (tgt := 134) hx hb dJ4_putVal_219 (by decide) ?_
              exact ih l3 r4v _ H locs ls (by rw [hl3] at hfu; simp only [List.length_cons] at hfu; omega) ((List.mem_cons.mp (hl3 ▸ hin)).resolve_left (fun z => c6 (by rw [← z, hh0]))) hsg3 (fun a ha => hle2 a (by rw [hl3]; exact List.mem_cons_of_mem _ ha)) G (lv_sub hl [1, 0, 3, 4, 5, 6, 7] rfl)
            · have hqc : hN r4v = h := hq_of (hlt r4v hnxt) hh c6
              have hra : a0 = r4v := hinj a0 ha0 r4v hnxt (hh0.trans hqc.symm)
              refine lv_aload (pc := 184) hx hb dJ4_putVal_184 (lv_at hl 0 rfl) ?_
              refine g_get (pc := 186) (v := .ref (ky r4v)) S M G (C := RJ22) (T := TJ22) (N := 6) (ci := 8) in_J22 ce2 rfl 1 (by decide) q806 (Or.inl rfl) rfl dJ4_putVal_186 ?_
              refine lv_dup (pc := 189) hx hb dJ4_putVal_189 rfl ?_
              refine lv_astore (pc := 190) (lv' := [(11, .ref (ky r4v)), (10, .ref r4v), (7, .ref cur), (12, .int bc), (0, .ref mp), (1, .int (nI h)), (2, .ref key), (3, .ref v), (4, .int 0)]) hx hb dJ4_putVal_190 hl (by decide) rfl (fun ls hl => ?_)
              refine lv_aload_n (pc := 192) hx hb dJ4_putVal_192 rfl (lv_at hl 6 rfl) ?_
              refine lv_acmp_eq (pc := 193) (tgt := 222) (rx := (some (ky r4v))) (ry := (some key)) hx hb dJ4_putVal_193 (by decide) (fun c7 => ?_) (fun c7 => ?_)
              · refine lv_aload (pc := 222) hx hb dJ4_putVal_222 (lv_at hl 1 rfl) ?_
                refine lv_ifnull (pc := 224) hx hb dJ4_putVal_224 ?_
                refine lv_aload (pc := 227) hx hb dJ4_putVal_227 (lv_at hl 1 rfl) ?_
                refine g_get (pc := 229) (v := .ref (vl r4v)) S M G (C := RJ22) (T := TJ22) (N := 6) (ci := 8) in_J22 ce2 rfl 2 (by decide) q810 (Or.inl rfl) rfl dJ4_putVal_229 ?_
                refine lv_astore (pc := 232) (lv' := [(12, .ref (vl r4v)), (11, .ref (ky r4v)), (10, .ref r4v), (7, .ref cur), (0, .ref mp), (1, .int (nI h)), (2, .ref key), (3, .ref v), (4, .int 0)]) hx hb dJ4_putVal_232 hl (by decide) rfl (fun ls hl => ?_)
                refine lv_iload (pc := 234) hx hb dJ4_putVal_234 (lv_at hl 8 rfl) ?_
                refine lv_if_eq (pc := 236) (tgt := 244) hx hb dJ4_putVal_236 (by decide) (fun _ => ?_) (fun c => absurd c (by decide))
                refine lv_aload (pc := 244) hx hb dJ4_putVal_244 (lv_at hl 2 rfl) ?_
                refine lv_aload_n (pc := 246) hx hb dJ4_putVal_246 rfl (lv_at hl 7 rfl) ?_
                refine g_put (pc := 247) (v := .ref v) S M G (C := RJ22) (T := TJ22) (N := 6) (ci := 8) in_J22 tyJ22 tyJ22_ok nmJ22 ce2 (hbe r4v hnxt) rfl 2 (by decide) q810 (Or.inl rfl) rfl rfl rfl (Nat.le_of_ble_eq_true rfl) dJ4_putVal_247 (fun H locs G => ?_)
                obtain ⟨w1_, hw1_⟩ : ∃ z9, z9 = gu w r4v (.inr (8, nfl (nI (hN r4v)) (ky r4v) v (nx r4v) (bf r4v) (af r4v))) := ⟨_, rfl⟩
                replace G : gS D K w1_ s H locs := by rw [hw1_]; exact G
                have c1_mp : w1_ mp = some (.inr (7, mfl (some t) sz md (nI (n / 4 * 3)) lf ks hd tl)) := by rw [hw1_, gu_n (gne_c ho ce2 (by decide))]; exact ho
                have c1_t : w1_ t = some (.inl (D.1 103, n, .inr (.inr (.inr (.inr f))))) := by rw [hw1_, gu_n (gne_ao ht ce2)]; exact ht
                have c1_key : w1_ key = some (.inr (4, [.int (nI (h / 10)), .int (nI (h % 10))])) := by rw [hw1_, gu_n (gne_c hk ce2 (by decide))]; exact hk
                have c1_r4v : w1_ r4v = some (.inr (8, nfl (nI (hN r4v)) (ky r4v) v (nx r4v) (bf r4v) (af r4v))) := by rw [hw1_]; exact gu_s
                have hEw1_ : EN w1_ es hN ky (va_up vl r4v v) nx bf af := by rw [hw1_]; exact hE.vl v rfl
                have hFw1_ : FRM D w w1_ := by rw [hw1_]; exact (FRM.rf (w := w)).tr (FRM.up ce2 nm_8)
                refine lv_aload_n (pc := 250) hx hb dJ4_putVal_250 rfl (lv_at hl 4 rfl) ?_
                refine lv_aload (pc := 251) hx hb dJ4_putVal_251 (lv_at hl 2 rfl) ?_
                refine g_callU (pc := 253) (owner := "java/util/HashMap") S M G hl.1 [.ref r4v] [] (metJ5_afterNodeAccess l D K w1_ c1_mp r4v) 1 (g_recv M G c1_mp (q := (RJ5, TJ5, 12)) rfl) q983 q978 q980 (va_Decl.abs (M.1.2.2.1 _ q984 rfl)) q982 q981 q25 (by decide) rfl ⟨Nat.le_of_ble_eq_true rfl, Nat.le_of_ble_eq_true rfl⟩ rfl (Nat.le_of_ble_eq_true rfl) dJ4_putVal_253 ⟨Nat.le_of_ble_eq_true rfl, Nat.le_of_ble_eq_true rfl⟩ (fun r w6 H locs hp G => ?_)
                obtain ⟨rfl, hw2⟩ := hp
                rw [hw2] at G
                refine W.eq (g2 := F0 m 256 ls []) rfl ?_
                refine lv_aload (pc := 256) hx hb dJ4_putVal_256 (lv_at hl 0 rfl) ?_
                rw [hQ]
                refine g_aret S G (rt := (.object "java/lang/Object")) (r := some (vl r4v)) hr (Or.inl ⟨_, rfl⟩) hlocks (hdg := dJ4_putVal_258) ?_ ?_ ?_
                · exact Nat.le_of_ble_eq_true rfl
                · exact Nat.le_of_ble_eq_true rfl
                · rw [hra]
                  exact ⟨rfl, ⟨c1_mp, hbm, c1_t, hbt, hn, hEw1_, hbe, hD, hnd, hCH, hFw1_.ent hKy, hlt, hinj⟩, hFw1_⟩
              · refine lv_aload_n (pc := 196) hx hb dJ4_putVal_196 rfl (lv_at hl 6 rfl) ?_
                refine lv_ifnull (pc := 197) hx hb dJ4_putVal_197 ?_
                refine lv_aload_n (pc := 200) hx hb dJ4_putVal_200 rfl (lv_at hl 6 rfl) ?_
                refine lv_aload (pc := 201) hx hb dJ4_putVal_201 (lv_at hl 0 rfl) ?_
                refine g_callU (pc := 203) (owner := "java/lang/Object") S M G hl.1 [.ref (ky r4v)] [] (metX5_equals l D K w hk (hKy r4v hnxt) hh (hlt r4v hnxt)) 1 (g_recv M G hk (q := (RX5, TX5, 2)) rfl) q899 q892 q894 (va_Decl.abs (M.1.2.2.1 _ q891 rfl)) q898 q897 q42 (by decide) rfl ⟨Nat.le_of_ble_eq_true rfl, Nat.le_of_ble_eq_true rfl⟩ rfl (Nat.le_of_ble_eq_true rfl) dJ4_putVal_203 ⟨Nat.le_of_ble_eq_true rfl, Nat.le_of_ble_eq_true rfl⟩ (fun r w2 H locs hp G => ?_)
                obtain ⟨rfl, hw2⟩ := hp
                rw [hw2] at G
                rw [if_pos hqc.symm]
                refine W.eq (g2 := F0 m 206 ls [.int 1]) rfl ?_
                refine lv_if_eq (pc := 206) (tgt := 212) hx hb dJ4_putVal_206 (by decide) (fun c => absurd c (by decide)) (fun _ => ?_)
                refine lv_goto (pc := 209) (tgt := 222) hx hb dJ4_putVal_209 (by decide) ?_
                refine lv_aload (pc := 222) hx hb dJ4_putVal_222 (lv_at hl 1 rfl) ?_
                refine lv_ifnull (pc := 224) hx hb dJ4_putVal_224 ?_
                refine lv_aload (pc := 227) hx hb dJ4_putVal_227 (lv_at hl 1 rfl) ?_
                refine g_get (pc := 229) (v := .ref (vl r4v)) S M G (C := RJ22) (T := TJ22) (N := 6) (ci := 8) in_J22 ce2 rfl 2 (by decide) q810 (Or.inl rfl) rfl dJ4_putVal_229 ?_
                refine lv_astore (pc := 232) (lv' := [(12, .ref (vl r4v)), (11, .ref (ky r4v)), (10, .ref r4v), (7, .ref cur), (0, .ref mp), (1, .int (nI h)), (2, .ref key), (3, .ref v), (4, .int 0)]) hx hb dJ4_putVal_232 hl (by decide) rfl (fun ls hl => ?_)
                refine lv_iload (pc := 234) hx hb dJ4_putVal_234 (lv_at hl 8 rfl) ?_
                refine lv_if_eq (pc := 236) (tgt := 244) hx hb dJ4_putVal_236 (by decide) (fun _ => ?_) (fun c => absurd c (by decide))
                refine lv_aload (pc := 244) hx hb dJ4_putVal_244 (lv_at hl 2 rfl) ?_
                refine lv_aload_n (pc := 246) hx hb dJ4_putVal_246 rfl (lv_at hl 7 rfl) ?_
                refine g_put (pc := 247) (v := .ref v) S M G (C := RJ22) (T := TJ22) (N := 6) (ci := 8) in_J22 tyJ22 tyJ22_ok nmJ22 ce2 (hbe r4v hnxt) rfl 2 (by decide) q810 (Or.inl rfl) rfl rfl rfl (Nat.le_of_ble_eq_true rfl) dJ4_putVal_247 (fun H locs G => ?_)
                obtain ⟨w2_, hw2_⟩ : ∃ z9, z9 = gu w r4v (.inr (8, nfl (nI (hN r4v)) (ky r4v) v (nx r4v) (bf r4v) (af r4v))) := ⟨_, rfl⟩
                replace G : gS D K w2_ s H locs := by rw [hw2_]; exact G
                have c2_mp : w2_ mp = some (.inr (7, mfl (some t) sz md (nI (n / 4 * 3)) lf ks hd tl)) := by rw [hw2_, gu_n (gne_c ho ce2 (by decide))]; exact ho
                have c2_t : w2_ t = some (.inl (D.1 103, n, .inr (.inr (.inr (.inr f))))) := by rw [hw2_, gu_n (gne_ao ht ce2)]; exact ht
                have c2_key : w2_ key = some (.inr (4, [.int (nI (h / 10)), .int (nI (h % 10))])) := by rw [hw2_, gu_n (gne_c hk ce2 (by decide))]; exact hk
                have c2_r4v : w2_ r4v = some (.inr (8, nfl (nI (hN r4v)) (ky r4v) v (nx r4v) (bf r4v) (af r4v))) := by rw [hw2_]; exact gu_s
                have hEw2_ : EN w2_ es hN ky (va_up vl r4v v) nx bf af := by rw [hw2_]; exact hE.vl v rfl
                have hFw2_ : FRM D w w2_ := by rw [hw2_]; exact (FRM.rf (w := w)).tr (FRM.up ce2 nm_8)
                refine lv_aload_n (pc := 250) hx hb dJ4_putVal_250 rfl (lv_at hl 4 rfl) ?_
                refine lv_aload (pc := 251) hx hb dJ4_putVal_251 (lv_at hl 2 rfl) ?_
                refine g_callU (pc := 253) (owner := "java/util/HashMap") S M G hl.1 [.ref r4v] [] (metJ5_afterNodeAccess l D K w2_ c2_mp r4v) 1 (g_recv M G c2_mp (q := (RJ5, TJ5, 12)) rfl) q983 q978 q980 (va_Decl.abs (M.1.2.2.1 _ q984 rfl)) q982 q981 q25 (by decide) rfl ⟨Nat.le_of_ble_eq_true rfl, Nat.le_of_ble_eq_true rfl⟩ rfl (Nat.le_of_ble_eq_true rfl) dJ4_putVal_253 ⟨Nat.le_of_ble_eq_true rfl, Nat.le_of_ble_eq_true rfl⟩ (fun r w6 H locs hp G => ?_)
                obtain ⟨rfl, hw2⟩ := hp
                rw [hw2] at G
                refine W.eq (g2 := F0 m 256 ls []) rfl ?_
                refine lv_aload (pc := 256) hx hb dJ4_putVal_256 (lv_at hl 0 rfl) ?_
                rw [hQ]
                refine g_aret S G (rt := (.object "java/lang/Object")) (r := some (vl r4v)) hr (Or.inl ⟨_, rfl⟩) hlocks (hdg := dJ4_putVal_258) ?_ ?_ ?_
                · exact Nat.le_of_ble_eq_true rfl
                · exact Nat.le_of_ble_eq_true rfl
                · rw [hra]
                  exact ⟨rfl, ⟨c2_mp, hbm, c2_t, hbt, hn, hEw2_, hbe, hD, hnd, hCH, hFw2_.ent hKy, hlt, hinj⟩, hFw2_⟩
          · have hlx_h5 := hl
            have Gx_h5 := G
            subst h5
            have hl := hlx_h5
            have G : gS D K w s H locs := Gx_h5
            have hl : lv_has ls 13 [(10, .null), (7, .ref cur), (12, .int bc), (0, .ref mp), (1, .int (nI h)), (2, .ref key), (3, .ref v), (4, .int 0)] := hl
            refine W.eq (g2 := F0 m 145 ls []) rfl ?_
            have hnil := Sg.nil1 er4 hsg
            rw [hnil] at hin
            cases hin
      exact Lb (l1.length + 1) l1 r1v _ H locs ls (Nat.lt_succ_self _) ((List.mem_cons.mp (hl1 ▸ hin0)).resolve_left (fun z => c3 (by rw [← z, hh0]))) hsg1 (fun a ha => hle a (by rw [hl1]; exact ha)) G (lv_sub hl [1, 0, 5, 6, 7, 8, 9] rfl)
    · have hqc : hN r1v = h := hq_of (hlt r1v hcur) hh c3
      have hra : a0 = r1v := hinj a0 ha0 r1v hcur (hh0.trans hqc.symm)
      refine lv_aload (pc := 72) hx hb dJ4_putVal_72 (lv_at hl 0 rfl) ?_
      refine g_get (pc := 74) (v := .ref (ky r1v)) S M G (C := RJ22) (T := TJ22) (N := 6) (ci := 8) in_J22 ce1 rfl 1 (by decide) q806 (Or.inl rfl) rfl dJ4_putVal_74 ?_
      refine lv_dup (pc := 77) hx hb dJ4_putVal_77 rfl ?_
      refine lv_astore (pc := 78) (lv' := [(11, .ref (ky r1v)), (7, .ref r1v), (9, .int (nI (h % n))), (8, .int (nI n)), (6, .ref t), (0, .ref mp), (1, .int (nI h)), (2, .ref key), (3, .ref v), (4, .int 0), (5, .int 1)]) hx hb dJ4_putVal_78 hl (by decide) rfl (fun ls hl => ?_)
      refine lv_aload_n (pc := 80) hx hb dJ4_putVal_80 rfl (lv_at hl 7 rfl) ?_
      refine lv_acmp_eq (pc := 81) (tgt := 97) (rx := (some (ky r1v))) (ry := (some key)) hx hb dJ4_putVal_81 (by decide) (fun c8 => ?_) (fun c8 => ?_)
      · refine lv_aload (pc := 97) hx hb dJ4_putVal_97 (lv_at hl 1 rfl) ?_
        refine lv_astore (pc := 99) (lv' := [(10, .ref r1v), (11, .ref (ky r1v)), (7, .ref r1v), (9, .int (nI (h % n))), (8, .int (nI n)), (6, .ref t), (0, .ref mp), (1, .int (nI h)), (2, .ref key), (3, .ref v), (4, .int 0), (5, .int 1)]) hx hb dJ4_putVal_99 hl (by decide) rfl (fun ls hl => ?_)
        refine lv_goto (pc := 101) (tgt := 222) hx hb dJ4_putVal_101 (by decide) ?_
        refine lv_aload (pc := 222) hx hb dJ4_putVal_222 (lv_at hl 0 rfl) ?_
        refine lv_ifnull (pc := 224) hx hb dJ4_putVal_224 ?_
        refine lv_aload (pc := 227) hx hb dJ4_putVal_227 (lv_at hl 0 rfl) ?_
        refine g_get (pc := 229) (v := .ref (vl r1v)) S M G (C := RJ22) (T := TJ22) (N := 6) (ci := 8) in_J22 ce1 rfl 2 (by decide) q810 (Or.inl rfl) rfl dJ4_putVal_229 ?_
        refine lv_astore (pc := 232) (lv' := [(12, .ref (vl r1v)), (10, .ref r1v), (11, .ref (ky r1v)), (7, .ref r1v), (9, .int (nI (h % n))), (8, .int (nI n)), (6, .ref t), (0, .ref mp), (1, .int (nI h)), (2, .ref key), (3, .ref v), (4, .int 0), (5, .int 1)]) hx hb dJ4_putVal_232 hl (by decide) rfl (fun ls hl => ?_)
        refine lv_iload (pc := 234) hx hb dJ4_putVal_234 (lv_at hl 11 rfl) ?_
        refine lv_if_eq (pc := 236) (tgt := 244) hx hb dJ4_putVal_236 (by decide) (fun _ => ?_) (fun c => absurd c (by decide))
        refine lv_aload (pc := 244) hx hb dJ4_putVal_244 (lv_at hl 1 rfl) ?_
        refine lv_aload_n (pc := 246) hx hb dJ4_putVal_246 rfl (lv_at hl 10 rfl) ?_
        refine g_put (pc := 247) (v := .ref v) S M G (C := RJ22) (T := TJ22) (N := 6) (ci := 8) in_J22 tyJ22 tyJ22_ok nmJ22 ce1 (hbe r1v hcur) rfl 2 (by decide) q810 (Or.inl rfl) rfl rfl rfl (Nat.le_of_ble_eq_true rfl) dJ4_putVal_247 (fun H locs G => ?_)
        obtain ⟨w3_, hw3_⟩ : ∃ z9, z9 = gu w r1v (.inr (8, nfl (nI (hN r1v)) (ky r1v) v (nx r1v) (bf r1v) (af r1v))) := ⟨_, rfl⟩
        replace G : gS D K w3_ s H locs := by rw [hw3_]; exact G
        have c3_mp : w3_ mp = some (.inr (7, mfl (some t) sz md (nI (n / 4 * 3)) lf ks hd tl)) := by rw [hw3_, gu_n (gne_c ho ce1 (by decide))]; exact ho
        have c3_t : w3_ t = some (.inl (D.1 103, n, .inr (.inr (.inr (.inr f))))) := by rw [hw3_, gu_n (gne_ao ht ce1)]; exact ht
        have c3_key : w3_ key = some (.inr (4, [.int (nI (h / 10)), .int (nI (h % 10))])) := by rw [hw3_, gu_n (gne_c hk ce1 (by decide))]; exact hk
        have c3_r1v : w3_ r1v = some (.inr (8, nfl (nI (hN r1v)) (ky r1v) v (nx r1v) (bf r1v) (af r1v))) := by rw [hw3_]; exact gu_s
        have hEw3_ : EN w3_ es hN ky (va_up vl r1v v) nx bf af := by rw [hw3_]; exact hE.vl v rfl
        have hFw3_ : FRM D w w3_ := by rw [hw3_]; exact (FRM.rf (w := w)).tr (FRM.up ce1 nm_8)
        refine lv_aload_n (pc := 250) hx hb dJ4_putVal_250 rfl (lv_at hl 7 rfl) ?_
        refine lv_aload (pc := 251) hx hb dJ4_putVal_251 (lv_at hl 1 rfl) ?_
        refine g_callU (pc := 253) (owner := "java/util/HashMap") S M G hl.1 [.ref r1v] [] (metJ5_afterNodeAccess l D K w3_ c3_mp r1v) 1 (g_recv M G c3_mp (q := (RJ5, TJ5, 12)) rfl) q983 q978 q980 (va_Decl.abs (M.1.2.2.1 _ q984 rfl)) q982 q981 q25 (by decide) rfl ⟨Nat.le_of_ble_eq_true rfl, Nat.le_of_ble_eq_true rfl⟩ rfl (Nat.le_of_ble_eq_true rfl) dJ4_putVal_253 ⟨Nat.le_of_ble_eq_true rfl, Nat.le_of_ble_eq_true rfl⟩ (fun r w6 H locs hp G => ?_)
        obtain ⟨rfl, hw2⟩ := hp
        rw [hw2] at G
        refine W.eq (g2 := F0 m 256 ls []) rfl ?_
        refine lv_aload (pc := 256) hx hb dJ4_putVal_256 (lv_at hl 0 rfl) ?_
        rw [hQ]
        refine g_aret S G (rt := (.object "java/lang/Object")) (r := some (vl r1v)) hr (Or.inl ⟨_, rfl⟩) hlocks (hdg := dJ4_putVal_258) ?_ ?_ ?_
        · exact Nat.le_of_ble_eq_true rfl
        · exact Nat.le_of_ble_eq_true rfl
        · rw [hra]
          exact ⟨rfl, ⟨c3_mp, hbm, c3_t, hbt, hn, hEw3_, hbe, hD, hnd, hCH, hFw3_.ent hKy, hlt, hinj⟩, hFw3_⟩
      · refine lv_aload_n (pc := 84) hx hb dJ4_putVal_84 rfl (lv_at hl 7 rfl) ?_
        refine lv_ifnull (pc := 85) hx hb dJ4_putVal_85 ?_
        refine lv_aload_n (pc := 88) hx hb dJ4_putVal_88 rfl (lv_at hl 7 rfl) ?_
        refine lv_aload (pc := 89) hx hb dJ4_putVal_89 (lv_at hl 0 rfl) ?_
        refine g_callU (pc := 91) (owner := "java/lang/Object") S M G hl.1 [.ref (ky r1v)] [] (metX5_equals l D K w hk (hKy r1v hcur) hh (hlt r1v hcur)) 1 (g_recv M G hk (q := (RX5, TX5, 2)) rfl) q899 q892 q894 (va_Decl.abs (M.1.2.2.1 _ q891 rfl)) q898 q897 q42 (by decide) rfl ⟨Nat.le_of_ble_eq_true rfl, Nat.le_of_ble_eq_true rfl⟩ rfl (Nat.le_of_ble_eq_true rfl) dJ4_putVal_91 ⟨Nat.le_of_ble_eq_true rfl, Nat.le_of_ble_eq_true rfl⟩ (fun r w2 H locs hp G => ?_)
        obtain ⟨rfl, hw2⟩ := hp
        rw [hw2] at G
        rw [if_pos hqc.symm]
        refine W.eq (g2 := F0 m 94 ls [.int 1]) rfl ?_
        refine lv_if_eq (pc := 94) (tgt := 104) hx hb dJ4_putVal_94 (by decide) (fun c => absurd c (by decide)) (fun _ => ?_)
        refine lv_aload (pc := 97) hx hb dJ4_putVal_97 (lv_at hl 1 rfl) ?_
        refine lv_astore (pc := 99) (lv' := [(10, .ref r1v), (11, .ref (ky r1v)), (7, .ref r1v), (9, .int (nI (h % n))), (8, .int (nI n)), (6, .ref t), (0, .ref mp), (1, .int (nI h)), (2, .ref key), (3, .ref v), (4, .int 0), (5, .int 1)]) hx hb dJ4_putVal_99 hl (by decide) rfl (fun ls hl => ?_)
        refine lv_goto (pc := 101) (tgt := 222) hx hb dJ4_putVal_101 (by decide) ?_
        refine lv_aload (pc := 222) hx hb dJ4_putVal_222 (lv_at hl 0 rfl) ?_
        refine lv_ifnull (pc := 224) hx hb dJ4_putVal_224 ?_
        refine lv_aload (pc := 227) hx hb dJ4_putVal_227 (lv_at hl 0 rfl) ?_
        refine g_get (pc := 229) (v := .ref (vl r1v)) S M G (C := RJ22) (T := TJ22) (N := 6) (ci := 8) in_J22 ce1 rfl 2 (by decide) q810 (Or.inl rfl) rfl dJ4_putVal_229 ?_
        refine lv_astore (pc := 232) (lv' := [(12, .ref (vl r1v)), (10, .ref r1v), (11, .ref (ky r1v)), (7, .ref r1v), (9, .int (nI (h % n))), (8, .int (nI n)), (6, .ref t), (0, .ref mp), (1, .int (nI h)), (2, .ref key), (3, .ref v), (4, .int 0), (5, .int 1)]) hx hb dJ4_putVal_232 hl (by decide) rfl (fun ls hl => ?_)
        refine lv_iload (pc := 234) hx hb dJ4_putVal_234 (lv_at hl 11 rfl) ?_
        refine lv_if_eq (pc := 236) (tgt := 244) hx hb dJ4_putVal_236 (by decide) (fun _ => ?_) (fun c => absurd c (by decide))
        refine lv_aload (pc := 244) hx hb dJ4_putVal_244 (lv_at hl 1 rfl) ?_
        refine lv_aload_n (pc := 246) hx hb dJ4_putVal_246 rfl (lv_at hl 10 rfl) ?_
        refine g_put (pc := 247) (v := .ref v) S M G (C := RJ22) (T := TJ22) (N := 6) (ci := 8) in_J22 tyJ22 tyJ22_ok nmJ22 ce1 (hbe r1v hcur) rfl 2 (by decide) q810 (Or.inl rfl) rfl rfl rfl (Nat.le_of_ble_eq_true rfl) dJ4_putVal_247 (fun H locs G => ?_)
        obtain ⟨w4_, hw4_⟩ : ∃ z9, z9 = gu w r1v (.inr (8, nfl (nI (hN r1v)) (ky r1v) v (nx r1v) (bf r1v) (af r1v))) := ⟨_, rfl⟩
        replace G : gS D K w4_ s H locs := by rw [hw4_]; exact G
        have c4_mp : w4_ mp = some (.inr (7, mfl (some t) sz md (nI (n / 4 * 3)) lf ks hd tl)) := by rw [hw4_, gu_n (gne_c ho ce1 (by decide))]; exact ho
        have c4_t : w4_ t = some (.inl (D.1 103, n, .inr (.inr (.inr (.inr f))))) := by rw [hw4_, gu_n (gne_ao ht ce1)]; exact ht
        have c4_key : w4_ key = some (.inr (4, [.int (nI (h / 10)), .int (nI (h % 10))])) := by rw [hw4_, gu_n (gne_c hk ce1 (by decide))]; exact hk
        have c4_r1v : w4_ r1v = some (.inr (8, nfl (nI (hN r1v)) (ky r1v) v (nx r1v) (bf r1v) (af r1v))) := by rw [hw4_]; exact gu_s
        have hEw4_ : EN w4_ es hN ky (va_up vl r1v v) nx bf af := by rw [hw4_]; exact hE.vl v rfl
        have hFw4_ : FRM D w w4_ := by rw [hw4_]; exact (FRM.rf (w := w)).tr (FRM.up ce1 nm_8)
        refine lv_aload_n (pc := 250) hx hb dJ4_putVal_250 rfl (lv_at hl 7 rfl) ?_
        refine lv_aload (pc := 251) hx hb dJ4_putVal_251 (lv_at hl 1 rfl) ?_
        refine g_callU (pc := 253) (owner := "java/util/HashMap") S M G hl.1 [.ref r1v] [] (metJ5_afterNodeAccess l D K w4_ c4_mp r1v) 1 (g_recv M G c4_mp (q := (RJ5, TJ5, 12)) rfl) q983 q978 q980 (va_Decl.abs (M.1.2.2.1 _ q984 rfl)) q982 q981 q25 (by decide) rfl ⟨Nat.le_of_ble_eq_true rfl, Nat.le_of_ble_eq_true rfl⟩ rfl (Nat.le_of_ble_eq_true rfl) dJ4_putVal_253 ⟨Nat.le_of_ble_eq_true rfl, Nat.le_of_ble_eq_true rfl⟩ (fun r w6 H locs hp G => ?_)
        obtain ⟨rfl, hw2⟩ := hp
        rw [hw2] at G
        refine W.eq (g2 := F0 m 256 ls []) rfl ?_
        refine lv_aload (pc := 256) hx hb dJ4_putVal_256 (lv_at hl 0 rfl) ?_
        rw [hQ]
        refine g_aret S G (rt := (.object "java/lang/Object")) (r := some (vl r1v)) hr (Or.inl ⟨_, rfl⟩) hlocks (hdg := dJ4_putVal_258) ?_ ?_ ?_
        · exact Nat.le_of_ble_eq_true rfl
        · exact Nat.le_of_ble_eq_true rfl
        · rw [hra]
          exact ⟨rfl, ⟨c4_mp, hbm, c4_t, hbt, hn, hEw4_, hbe, hD, hnd, hCH, hFw4_.ent hKy, hlt, hinj⟩, hFw4_⟩
  · have hlx_h2 := hl
    have Gx_h2 := G
    subst h2
    have hl := hlx_h2
    have G : gS D K w s H locs := Gx_h2
    have hl : lv_has ls 13 [(7, .null), (9, .int (nI (h % n))), (8, .int (nI n)), (6, .ref t), (0, .ref mp), (1, .int (nI h)), (2, .ref key), (3, .ref v), (4, .int 0), (5, .int 1)] := hl
    refine W.eq (g2 := F0 m 47 ls []) rfl ?_
    have hnil := Sg.nil1 er1 hl0
    rw [hnil] at hin0
    cases hin0
