/-! HashMap.put: over the whole state -/
abbrev rmJ4_putA : Room := ({ frames := 5, cells := 3, slots := 262, locals := 125 } : Room)
set_option maxHeartbeats 4000000 in
theorem metJ4_putA (l : Launch) (D : va_G) (K : Nat → Nat) (w : Gh) {mp : Nat} {lf : UInt32} {md : Int32} {ks : Option Nat} {es : List Nat} {hN ky vl : Nat → Nat} {key h v : Nat} (hk : KY w key h) (hh : h < 300) (hes : es = []) (ho : w mp = some (.inr (7, mfl none (nI es.length) md 0 lf ks none none))) (hbm : K 0 ≤ mp) : gMet l yJ4_put (ws_ yJ4_put cJ4_put 3 (some (.object "java/lang/Object"))) rmJ4_putA D K [.ref mp, .ref key, .ref v] w (fun r' w' => r' = some .null ∧ ∃ np, w np = none ∧ MPF D K w' mp (md + 1) ks (es ++ [np]) (va_up hN np h) (va_up ky np key) (va_up vl np v) ∧ FRM D w w') := by
  refine gMet.of (by decide) (Nat.le_of_ble_eq_true rfl) ?_
  intro p e s m args below meth c H locs ls S M hr hlocks hname G hl
  have hx := S.1
  have hb := S.2.1
  have hown := S.2.2.2.1
  have hts := S.2.2.2.2
  have hl : lv_has ls 3 [(0, .ref mp), (1, .ref key), (2, .ref v)] := hl
  obtain ⟨Q, hQ⟩ : ∃ Q, Q = gE below D K (fun r' w' => r' = some .null ∧ ∃ np, w np = none ∧ MPF D K w' mp (md + 1) ks (es ++ [np]) (va_up hN np h) (va_up ky np key) (va_up vl np v) ∧ FRM D w w') args s rmJ4_putA.cells rmJ4_putA.slots := ⟨_, rfl⟩
  rw [← hQ]
  refine lv_aload_n (pc := 0) hx hb dJ4_put_0 rfl (lv_at hl 0 rfl) ?_
  refine lv_aload_n (pc := 1) hx hb dJ4_put_1 rfl (lv_at hl 1 rfl) ?_
  refine g_callS (pc := 2) S M G hl.1 [.ref key] [.ref mp] (metJ4_hash l D K w hk hh) 1 q727 q725 q726 q24 (by decide) rfl ⟨Nat.le_of_ble_eq_true rfl, Nat.le_of_ble_eq_true rfl⟩ rfl (Nat.le_of_ble_eq_true rfl) dJ4_put_2 ⟨Nat.le_of_ble_eq_true rfl, Nat.le_of_ble_eq_true rfl⟩ (fun r w2 H locs hp G => ?_)
  obtain ⟨rfl, hw2⟩ := hp
  rw [hw2] at G
  refine W.eq (g2 := F0 m 5 ls [.int (nI h), .ref mp]) rfl ?_
  refine lv_aload_n (pc := 5) hx hb dJ4_put_5 rfl (lv_at hl 1 rfl) ?_
  refine lv_aload_n (pc := 6) hx hb dJ4_put_6 rfl (lv_at hl 2 rfl) ?_
  refine lv_iconst (pc := 7) (v := 0) hx hb dJ4_put_7 (by decide) ?_
  refine lv_iconst (pc := 8) (v := 1) hx hb dJ4_put_8 (by decide) ?_
  refine g_callU (pc := 9) (owner := "java/util/HashMap") S M G hl.1 [.int (nI h), .ref key, .ref v, .int 0, .int 1] [] (metJ4_putValA (hN := hN) (ky := ky) (vl := vl) (nx := fun _ => none) (bf := fun _ => none) (af := fun _ => none) l D K w hk hh hes ho hbm) 5 (g_recv M G ho (q := (RJ5, TJ5, 12)) rfl) q755 q751 q753 (va_Decl.of (hts _ q752) (hts _ q755)) q752 q754 q24 (by decide) rfl ⟨Nat.le_of_ble_eq_true rfl, Nat.le_of_ble_eq_true rfl⟩ rfl (Nat.le_of_ble_eq_true rfl) dJ4_put_9 ⟨Nat.le_of_ble_eq_true rfl, Nat.le_of_ble_eq_true rfl⟩ (fun r w3 H locs hp G => ?_)
  refine W.widen (k := 3) (n := 262) (Nat.le_of_ble_eq_true rfl) (Nat.le_of_ble_eq_true rfl) ?_
  obtain ⟨rfl, hP⟩ := hp
  refine W.eq (g2 := F0 m 12 ls [.null]) rfl ?_
  rw [hQ]
  refine g_aret S G (rt := (.object "java/lang/Object")) (r := none) hr (Or.inl ⟨_, rfl⟩) hlocks (hdg := dJ4_put_12) ?_ ?_ ?_
  · exact Nat.le_of_ble_eq_true rfl
  · exact Nat.le_of_ble_eq_true rfl
  · exact ⟨rfl, hP⟩
abbrev rmJ4_putC : Room := ({ frames := 5, cells := 3, slots := 262, locals := 125 } : Room)
set_option maxHeartbeats 4000000 in
theorem metJ4_putC (l : Launch) (D : va_G) (K : Nat → Nat) (w : Gh) {mp n t : Nat} {f : Nat → Option Nat} {lf : UInt32} {hd tl : Option Nat} {nx bf af : Nat → Option Nat} {md : Int32} {ks : Option Nat} {es : List Nat} {hN ky vl : Nat → Nat} {key h v : Nat} (hk : KY w key h) (hh : h < 300) (hM : MPQ D K w mp (nI es.length) md ks es hN ky vl n t f lf hd tl nx bf af) (hsz : es.length ≤ n / 4 * 3) (h96 : es.length < 96) (hab : ∀ a ∈ es, hN a ≠ h) : gMet l yJ4_put (ws_ yJ4_put cJ4_put 3 (some (.object "java/lang/Object"))) rmJ4_putC D K [.ref mp, .ref key, .ref v] w (fun r' w' => r' = some .null ∧ ∃ np, w np = none ∧ MPF D K w' mp (md + 1) ks (es ++ [np]) (va_up hN np h) (va_up ky np key) (va_up vl np v) ∧ FRM D w w') := by
  refine gMet.of (by decide) (Nat.le_of_ble_eq_true rfl) ?_
  intro p e s m args below meth c H locs ls S M hr hlocks hname G hl
  have hx := S.1
  have hb := S.2.1
  have hown := S.2.2.2.1
  have hts := S.2.2.2.2
  have hl : lv_has ls 3 [(0, .ref mp), (1, .ref key), (2, .ref v)] := hl
  obtain ⟨Q, hQ⟩ : ∃ Q, Q = gE below D K (fun r' w' => r' = some .null ∧ ∃ np, w np = none ∧ MPF D K w' mp (md + 1) ks (es ++ [np]) (va_up hN np h) (va_up ky np key) (va_up vl np v) ∧ FRM D w w') args s rmJ4_putC.cells rmJ4_putC.slots := ⟨_, rfl⟩
  rw [← hQ]
  have hM0 := hM
  obtain ⟨ho, hbm, ht, hbt, hn, hE, hbe, hD, hnd, hCH, hKy, hlt, hinj⟩ := hM
  refine lv_aload_n (pc := 0) hx hb dJ4_put_0 rfl (lv_at hl 0 rfl) ?_
  refine lv_aload_n (pc := 1) hx hb dJ4_put_1 rfl (lv_at hl 1 rfl) ?_
  refine g_callS (pc := 2) S M G hl.1 [.ref key] [.ref mp] (metJ4_hash l D K w hk hh) 1 q727 q725 q726 q24 (by decide) rfl ⟨Nat.le_of_ble_eq_true rfl, Nat.le_of_ble_eq_true rfl⟩ rfl (Nat.le_of_ble_eq_true rfl) dJ4_put_2 ⟨Nat.le_of_ble_eq_true rfl, Nat.le_of_ble_eq_true rfl⟩ (fun r w2 H locs hp G => ?_)
  obtain ⟨rfl, hw2⟩ := hp
  rw [hw2] at G
  refine W.eq (g2 := F0 m 5 ls [.int (nI h), .ref mp]) rfl ?_
  refine lv_aload_n (pc := 5) hx hb dJ4_put_5 rfl (lv_at hl 1 rfl) ?_
  refine lv_aload_n (pc := 6) hx hb dJ4_put_6 rfl (lv_at hl 2 rfl) ?_
  refine lv_iconst (pc := 7) (v := 0) hx hb dJ4_put_7 (by decide) ?_
  refine lv_iconst (pc := 8) (v := 1) hx hb dJ4_put_8 (by decide) ?_
  refine g_callU (pc := 9) (owner := "java/util/HashMap") S M G hl.1 [.int (nI h), .ref key, .ref v, .int 0, .int 1] [] (metJ4_putValC l D K w hk hh hM0 hsz h96 hab) 5 (g_recv M G ho (q := (RJ5, TJ5, 12)) rfl) q755 q751 q753 (va_Decl.of (hts _ q752) (hts _ q755)) q752 q754 q24 (by decide) rfl ⟨Nat.le_of_ble_eq_true rfl, Nat.le_of_ble_eq_true rfl⟩ rfl (Nat.le_of_ble_eq_true rfl) dJ4_put_9 ⟨Nat.le_of_ble_eq_true rfl, Nat.le_of_ble_eq_true rfl⟩ (fun r w3 H locs hp G => ?_)
  refine W.widen (k := 3) (n := 262) (Nat.le_of_ble_eq_true rfl) (Nat.le_of_ble_eq_true rfl) ?_
  obtain ⟨rfl, hP⟩ := hp
  refine W.eq (g2 := F0 m 12 ls [.null]) rfl ?_
  rw [hQ]
  refine g_aret S G (rt := (.object "java/lang/Object")) (r := none) hr (Or.inl ⟨_, rfl⟩) hlocks (hdg := dJ4_put_12) ?_ ?_ ?_
  · exact Nat.le_of_ble_eq_true rfl
  · exact Nat.le_of_ble_eq_true rfl
  · exact ⟨rfl, hP⟩
abbrev rmJ4_putB : Room := ({ frames := 5, cells := 3, slots := 262, locals := 125 } : Room)
set_option maxHeartbeats 4000000 in
theorem metJ4_putB (l : Launch) (D : va_G) (K : Nat → Nat) (w : Gh) {mp n t : Nat} {f : Nat → Option Nat} {lf : UInt32} {hd tl : Option Nat} {nx bf af : Nat → Option Nat} {md : Int32} {ks : Option Nat} {es : List Nat} {hN ky vl : Nat → Nat} {key h v : Nat} (hk : KY w key h) (hh : h < 300) {sz : Int32} (hM : MPQ D K w mp sz md ks es hN ky vl n t f lf hd tl nx bf af) {a0 : Nat} (ha0 : a0 ∈ es) (hh0 : hN a0 = h) : gMet l yJ4_put (ws_ yJ4_put cJ4_put 3 (some (.object "java/lang/Object"))) rmJ4_putB D K [.ref mp, .ref key, .ref v] w (fun r' w' => r' = some (.ref (vl a0)) ∧ MPQ D K w' mp sz md ks es hN ky (va_up vl a0 v) n t f lf hd tl nx bf af ∧ FRM D w w') := by
  refine gMet.of (by decide) (Nat.le_of_ble_eq_true rfl) ?_
  intro p e s m args below meth c H locs ls S M hr hlocks hname G hl
  have hx := S.1
  have hb := S.2.1
  have hown := S.2.2.2.1
  have hts := S.2.2.2.2
  have hl : lv_has ls 3 [(0, .ref mp), (1, .ref key), (2, .ref v)] := hl
  obtain ⟨Q, hQ⟩ : ∃ Q, Q = gE below D K (fun r' w' => r' = some (.ref (vl a0)) ∧ MPQ D K w' mp sz md ks es hN ky (va_up vl a0 v) n t f lf hd tl nx bf af ∧ FRM D w w') args s rmJ4_putB.cells rmJ4_putB.slots := ⟨_, rfl⟩
  rw [← hQ]
  have hM0 := hM
  obtain ⟨ho, hbm, ht, hbt, hn, hE, hbe, hD, hnd, hCH, hKy, hlt, hinj⟩ := hM
  refine lv_aload_n (pc := 0) hx hb dJ4_put_0 rfl (lv_at hl 0 rfl) ?_
  refine lv_aload_n (pc := 1) hx hb dJ4_put_1 rfl (lv_at hl 1 rfl) ?_
  refine g_callS (pc := 2) S M G hl.1 [.ref key] [.ref mp] (metJ4_hash l D K w hk hh) 1 q727 q725 q726 q24 (by decide) rfl ⟨Nat.le_of_ble_eq_true rfl, Nat.le_of_ble_eq_true rfl⟩ rfl (Nat.le_of_ble_eq_true rfl) dJ4_put_2 ⟨Nat.le_of_ble_eq_true rfl, Nat.le_of_ble_eq_true rfl⟩ (fun r w2 H locs hp G => ?_)
  obtain ⟨rfl, hw2⟩ := hp
  rw [hw2] at G
  refine W.eq (g2 := F0 m 5 ls [.int (nI h), .ref mp]) rfl ?_
  refine lv_aload_n (pc := 5) hx hb dJ4_put_5 rfl (lv_at hl 1 rfl) ?_
  refine lv_aload_n (pc := 6) hx hb dJ4_put_6 rfl (lv_at hl 2 rfl) ?_
  refine lv_iconst (pc := 7) (v := 0) hx hb dJ4_put_7 (by decide) ?_
  refine lv_iconst (pc := 8) (v := 1) hx hb dJ4_put_8 (by decide) ?_
  refine g_callU (pc := 9) (owner := "java/util/HashMap") S M G hl.1 [.int (nI h), .ref key, .ref v, .int 0, .int 1] [] (metJ4_putValB l D K w hk hh hM0 ha0 hh0) 5 (g_recv M G ho (q := (RJ5, TJ5, 12)) rfl) q755 q751 q753 (va_Decl.of (hts _ q752) (hts _ q755)) q752 q754 q24 (by decide) rfl ⟨Nat.le_of_ble_eq_true rfl, Nat.le_of_ble_eq_true rfl⟩ rfl (Nat.le_of_ble_eq_true rfl) dJ4_put_9 ⟨Nat.le_of_ble_eq_true rfl, Nat.le_of_ble_eq_true rfl⟩ (fun r w3 H locs hp G => ?_)
  obtain ⟨rfl, hP⟩ := hp
  refine W.eq (g2 := F0 m 12 ls [.ref (vl a0)]) rfl ?_
  rw [hQ]
  refine g_aret S G (rt := (.object "java/lang/Object")) (r := some (vl a0)) hr (Or.inl ⟨_, rfl⟩) hlocks (hdg := dJ4_put_12) ?_ ?_ ?_
  · exact Nat.le_of_ble_eq_true rfl
  · exact Nat.le_of_ble_eq_true rfl
  · exact ⟨rfl, hP⟩
/-- the map's state: of no table yet, or of one -/
def MS (D : va_G) (K : Nat → Nat) (w : Gh) (mp : Nat) (md : Int32) (ks : Option Nat) (es : List Nat) (hN ky vl : Nat → Nat) : Prop := MPF D K w mp md ks es hN ky vl ∨ (es = [] ∧ (∃ lf, w mp = some (.inr (7, mfl none (nI es.length) md 0 lf ks none none))) ∧ K 0 ≤ mp)
theorem gMet.imp {l : Launch} {y : MethodName} {ws : List Cond} {rm : Room} {av : List Value} {D : va_G} {K : Nat → Nat} {w : Gh} {P1 P2 : Option Value → Gh → Prop} (h : gMet l y ws rm D K av w P1) (hP : ∀ r w', P1 r w' → P2 r w') : gMet l y ws rm D K av w P2 := by
  intro p e ha hc hk s m args below hf happ hPre hK
  obtain ⟨n, o, h1, h2, h3, ⟨r, w', e1, e2, e3⟩, e4⟩ := h p e ha hc hk s m args below hf happ hPre hK
  exact ⟨n, o, h1, h2, h3, ⟨r, w', e1, hP _ _ e2, e3⟩, e4⟩
theorem MPQ.len {D : va_G} {K : Nat → Nat} {w : Gh} {mp n t : Nat} {sz md : Int32} {ks hd tl : Option Nat} {es : List Nat} {hN ky vl : Nat → Nat} {f nx bf af : Nat → Option Nat} {lf : UInt32} (_ : MPQ D K w mp sz md ks es hN ky vl n t f lf hd tl nx bf af) : True := trivial
theorem metJ4_putNew (l : Launch) (D : va_G) (K : Nat → Nat) (w : Gh) {mp : Nat} {md : Int32} {ks : Option Nat} {es : List Nat} {hN ky vl : Nat → Nat} {key h v : Nat} (hk : KY w key h) (hh : h < 300) (hM : MS D K w mp md ks es hN ky vl) (h96 : es.length < 96) (hab : ∀ a ∈ es, hN a ≠ h) : gMet l yJ4_put (ws_ yJ4_put cJ4_put 3 (some (.object "java/lang/Object"))) rmJ4_putC D K [.ref mp, .ref key, .ref v] w (fun r' w' => r' = some .null ∧ ∃ np, w np = none ∧ MPF D K w' mp (md + 1) ks (es ++ [np]) (va_up hN np h) (va_up ky np key) (va_up vl np v) ∧ FRM D w w') := by
  rcases hM with ⟨n, t, f, lf, hd, tl, nx, bf, af, hM, hsz⟩ | ⟨hes, ⟨lf, ho⟩, hbm⟩
  · exact metJ4_putC l D K w hk hh hM hsz h96 hab
  · exact metJ4_putA l D K w hk hh hes ho hbm
theorem metJ4_putOld (l : Launch) (D : va_G) (K : Nat → Nat) (w : Gh) {mp : Nat} {md : Int32} {ks : Option Nat} {es : List Nat} {hN ky vl : Nat → Nat} {key h v : Nat} (hk : KY w key h) (hh : h < 300) (hM : MS D K w mp md ks es hN ky vl) {a0 : Nat} (ha0 : a0 ∈ es) (hh0 : hN a0 = h) : gMet l yJ4_put (ws_ yJ4_put cJ4_put 3 (some (.object "java/lang/Object"))) rmJ4_putC D K [.ref mp, .ref key, .ref v] w (fun r' w' => r' = some (.ref (vl a0)) ∧ MPF D K w' mp md ks es hN ky (va_up vl a0 v) ∧ FRM D w w') := by
  rcases hM with ⟨n, t, f, lf, hd, tl, nx, bf, af, hM, hsz⟩ | ⟨hes, -⟩
  · exact (metJ4_putB l D K w hk hh hM ha0 hh0).imp (fun r w' h => ⟨h.1, ⟨n, t, f, lf, hd, tl, nx, bf, af, h.2.1, hsz⟩, h.2.2⟩)
  · rw [hes] at ha0; cases ha0
