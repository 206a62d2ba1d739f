/-! the map's contracts over its whole state -/
/-- cells on which the map's state rests -/
def mapc (D : va_G) (x : va_E) : Prop := ¬ nomap D x ∨ ∃ y, x = .inr (4, y)
/-- the map's cells are kept -/
def FRQ (D : va_G) (w w' : Gh) : Prop := ∀ a x, w a = some x → mapc D x → w' a = some x
theorem FRQ.rf {D : va_G} {w : Gh} : FRQ D w w := fun _ _ h _ => h
theorem FRQ.tr {D : va_G} {w w1 w2 : Gh} (h : FRQ D w w1) (h2 : FRQ D w1 w2) : FRQ D w w2 := fun a x q1 q2 => h2 a x (h a x q1 q2) q2
theorem FRQ.all {D : va_G} {w w' : Gh} (h : ∀ a x, w a = some x → w' a = some x) : FRQ D w w' := fun a x q _ => h a x q
theorem FRQ.up {D : va_G} {w : Gh} {b : Nat} {c : Nat} {fs : List Value} {x : va_E} (hb : w b = some (.inr (c, fs))) (hc : c ≠ 7 ∧ c ≠ 8 ∧ c ≠ 4) : FRQ D w (gu w b x) := fun a z h1 h2 => by
  rw [gu_n ?_]
  · exact h1
  · rintro rfl
    rw [hb] at h1
    cases h1
    rcases h2 with h2 | ⟨y, h2⟩
    · exact h2 ⟨hc.1, hc.2.1⟩
    · cases h2; exact hc.2.2 rfl
theorem FRQ.upa {D : va_G} {w : Gh} {b : Nat} {y : ClassId × vp_A} {x : va_E} (hb : w b = some (.inl y)) (hc : y.1 ≠ D.1 103) : FRQ D w (gu w b x) := fun a z h1 h2 => by
  rw [gu_n ?_]
  · exact h1
  · rintro rfl
    rw [hb] at h1
    cases h1
    rcases h2 with h2 | ⟨y, h2⟩
    · exact h2 hc
    · cases h2
theorem FRQ.new {D : va_G} {w : Gh} {b : Nat} {x : va_E} (hb : w b = none) : FRQ D w (gu w b x) := fun a z h1 _ => by
  rw [gu_n (gne_f h1 hb)]; exact h1
theorem mc_a {D : va_G} {y : vp_A} : mapc D (.inl (D.1 103, y)) := Or.inl nm_a
theorem mc_7 {D : va_G} {y : List Value} : mapc D (.inr (7, y)) := Or.inl nm_7
theorem mc_8 {D : va_G} {y : List Value} : mapc D (.inr (8, y)) := Or.inl nm_8
theorem mc_4 {D : va_G} {y : List Value} : mapc D (.inr (4, y)) := Or.inr ⟨_, rfl⟩
theorem MPQ.kp {D : va_G} {K : Nat → Nat} {w w' : Gh} {mp n t : Nat} {sz md : Int32} {ks hd tl : Option Nat} {es : List Nat} {hN ky vl : Nat → Nat} {f nx bf af : Nat → Option Nat} {lf : UInt32} (hF : FRQ D w w') (h : MPQ D K w mp sz md ks es hN ky vl n t f lf hd tl nx bf af) : MPQ D K w' mp sz md ks es hN ky vl n t f lf hd tl nx bf af := by
  obtain ⟨ho, hbm, ht, hbt, hn, hE, hbe, hD, hnd, hCH, hKy, hlt, hinj⟩ := h
  exact ⟨hF _ _ ho mc_7, hbm, hF _ _ ht mc_a, hbt, hn, fun a ha => hF _ _ (hE a ha) mc_8, hbe, hD, hnd, hCH, fun a ha => hF _ _ (hKy a ha) mc_4, hlt, hinj⟩
theorem MPF.kp {D : va_G} {K : Nat → Nat} {w w' : Gh} {mp : Nat} {md : Int32} {ks : Option Nat} {es : List Nat} {hN ky vl : Nat → Nat} (hF : FRQ D w w') (h : MPF D K w mp md ks es hN ky vl) : MPF D K w' mp md ks es hN ky vl := by
  obtain ⟨n, t, f, lf, hd, tl, nx, bf, af, h, hs⟩ := h
  exact ⟨n, t, f, lf, hd, tl, nx, bf, af, h.kp hF, hs⟩
theorem MS.kp {D : va_G} {K : Nat → Nat} {w w' : Gh} {mp : Nat} {md : Int32} {ks : Option Nat} {es : List Nat} {hN ky vl : Nat → Nat} (hF : FRQ D w w') (h : MS D K w mp md ks es hN ky vl) : MS D K w' mp md ks es hN ky vl := by
  rcases h with h | ⟨h1, ⟨lf, h2⟩, h3⟩
  · exact Or.inl (h.kp hF)
  · exact Or.inr ⟨h1, ⟨lf, hF _ _ h2 mc_7⟩, h3⟩
theorem MS.cg {D : va_G} {K : Nat → Nat} {w : Gh} {mp : Nat} {md : Int32} {ks : Option Nat} {es : List Nat} {hN ky vl : Nat → Nat} (h : MS D K w mp md ks es hN ky vl) : (∀ a ∈ es, KY w (ky a) (hN a)) ∧ (∀ a ∈ es, hN a < 300) ∧ es.Nodup ∧ ∀ a ∈ es, ∀ b ∈ es, hN a = hN b → a = b := by
  rcases h with ⟨n, t, f, lf, hd, tl, nx, bf, af, ⟨-, -, -, -, -, -, -, -, hnd, -, hKy, hlt, hinj⟩, -⟩ | ⟨rfl, -⟩
  · exact ⟨hKy, hlt, hnd, hinj⟩
  · exact ⟨fun a ha => (nomatch ha), fun a ha => (nomatch ha), List.nodup_nil, fun a ha => (nomatch ha)⟩
theorem MS.base {D : va_G} {K : Nat → Nat} {w : Gh} {mp : Nat} {md : Int32} {ks : Option Nat} {es : List Nat} {hN ky vl : Nat → Nat} (h : MS D K w mp md ks es hN ky vl) : ∃ tb sz th lf hd tl, w mp = some (.inr (7, mfl tb sz md th lf ks hd tl)) ∧ K 0 ≤ mp ∧ hd = es.head? := by
  rcases h with ⟨n, t, f, lf, hd, tl, nx, bf, af, ⟨ho, hbm, -, -, -, -, -, hD, -⟩, -⟩ | ⟨rfl, ⟨lf, ho⟩, hbm⟩
  · exact ⟨_, _, _, _, _, _, ho, hbm, hD.1.head⟩
  · exact ⟨_, _, _, _, _, _, ho, hbm, rfl⟩
/-- the key set -/
theorem metJ5_keySetW (l : Launch) (D : va_G) (K : Nat → Nat) (w : Gh) {mp : Nat} {md : Int32} {ks : Option Nat} {es : List Nat} {hN ky vl : Nat → Nat} (hM : MS D K w mp md ks es hN ky vl) (hks : ∀ k, ks = some k → w k = some (.inr (9, [.int 0, .ref mp]))) :
    gMet l yJ5_keySet (ws_ yJ5_keySet cJ5_keySet 1 (some (.object "java/util/Set"))) rmJ5_keySet D K [.ref mp] w (fun r' w' => ∃ k, r' = some (.ref k) ∧ w' k = some (.inr (9, [.int 0, .ref mp])) ∧ MS D K w' mp md (some k) es hN ky vl ∧ FRM D w w') := by
  have step : ∀ {w w' : Gh} {tb : Option Nat} {sz th : Int32} {lf : UInt32} {hd tl : Option Nat}, w mp = some (.inr (7, mfl tb sz md th lf ks hd tl)) → MK w w' mp [] → FRM D w w' := fun ho hMK a x h1 h2 => hMK a x h1 (fun q => by rw [q, ho] at h1; cases h1; exact nm_7 h2) (by simp)
  rcases hM with ⟨n, t, f, lf, hd, tl, nx, bf, af, hM, hs⟩ | ⟨hes, ⟨lf, ho⟩, hbm⟩
  · have hM0 := hM
    obtain ⟨ho, hbm, ht, hbt, hn, hE, hbe, hD, hnd, hCH, hKy, hlt, hinj⟩ := hM
    refine (metJ5_keySet l D K w ho hbm hks).imp (fun r w' h => ?_)
    obtain ⟨k, rfl, ⟨h1, rfl⟩ | ⟨h1, h2, h3, h4, h5, h6⟩⟩ := h
    · exact ⟨k, rfl, hks k h1, by subst h1; exact Or.inl ⟨n, t, f, lf, hd, tl, nx, bf, af, hM0, hs⟩, FRM.rf⟩
    · have hF := step ho h6
      have hkp : ∀ a x, w a = some x → a ≠ mp → w' a = some x := fun a x q1 q2 => h6 a x q1 q2 (by simp)
      exact ⟨k, rfl, h4, Or.inl ⟨n, t, f, lf, hd, tl, nx, bf, af, ⟨h5, hbm, hkp _ _ ht (gne_ao ht ho), hbt, hn, fun a ha => hkp _ _ (hE a ha) (fun q => hE.no ho (by decide) (by rw [← q]; exact ha)), hbe, hD, hnd, hCH, fun a ha => hF.ky (hKy a ha), hlt, hinj⟩, hs⟩, hF⟩
  · refine (metJ5_keySet l D K w ho hbm hks).imp (fun r w' h => ?_)
    obtain ⟨k, rfl, ⟨h1, rfl⟩ | ⟨h1, h2, h3, h4, h5, h6⟩⟩ := h
    · exact ⟨k, rfl, hks k h1, by subst h1; exact Or.inr ⟨hes, ⟨lf, ho⟩, hbm⟩, FRM.rf⟩
    · exact ⟨k, rfl, h4, Or.inr ⟨hes, ⟨lf, h5⟩, hbm⟩, step ho h6⟩
theorem metJ25_iteratorW (l : Launch) (D : va_G) (K : Nat → Nat) (w : Gh) {mp k : Nat} {md : Int32} {ks : Option Nat} {es : List Nat} {hN ky vl : Nat → Nat} (hM : MS D K w mp md ks es hN ky vl) (hk : w k = some (.inr (9, [.int 0, .ref mp]))) :
    gMet l yJ25_iterator (ws_ yJ25_iterator cJ25_iterator 1 (some (.object "java/util/Iterator"))) rmJ25_iterator D K [.ref k] w (fun r' w' => ∃ it, r' = some (.ref it) ∧ w it = none ∧ K 0 ≤ it ∧ w' it = some (.inr (10, [va_rf es.head?, .null, .int md, .int 0, .ref mp])) ∧ ∀ a x, w a = some x → w' a = some x) := by
  obtain ⟨tb, sz, th, lf, hd, tl, ho, hbm, rfl⟩ := hM.base
  exact metJ25_iterator l D K w hk ho
theorem Sg.at {nx : Nat → Option Nat} {l1 l2 : List Nat} {x : Nat} {o : Option Nat} (h : Sg nx o (l1 ++ x :: l2) none) : nx x = l2.head? := by
  obtain ⟨y, -, h2⟩ := h.cut
  exact h2.2.head
theorem metJ27_nextW (l : Launch) (D : va_G) (K : Nat → Nat) (w : Gh) {mp it x : Nat} {md : Int32} {ks cur : Option Nat} {l1 l2 : List Nat} {hN ky vl : Nat → Nat} (hM : MS D K w mp md ks (l1 ++ x :: l2) hN ky vl) (hi : w it = some (.inr (10, [.ref x, va_rf cur, .int md, .int 0, .ref mp]))) (hbi : K 0 ≤ it) :
    gMet l yJ27_next (ws_ yJ27_next cJ27_next 1 (some (.object "java/lang/Object"))) rmJ27_next D K [.ref it] w (fun r' w' => r' = some (.ref (ky x)) ∧ w' = gu w it (.inr (10, [va_rf l2.head?, .ref x, .int md, .int 0, .ref mp]))) := by
  rcases hM with ⟨n, t, f, lf, hd, tl, nx, bf, af, ⟨ho, hbm, -, -, -, hE, -, hD, -⟩, -⟩ | ⟨h, -⟩
  · have h1 := hD.1.at
    rw [← h1]
    exact metJ27_next l D K w hi hbi ho (hE x (by simp))
  · exact absurd h (by simp)
theorem metJ5_getW (l : Launch) (D : va_G) (K : Nat → Nat) (w : Gh) {mp : Nat} {md : Int32} {ks : Option Nat} {es : List Nat} {hN ky vl : Nat → Nat} {key h : Nat} (hk : KY w key h) (hh : h < 300) (hM : MS D K w mp md ks es hN ky vl) {a0 : Nat} (ha0 : a0 ∈ es) (hh0 : hN a0 = h) :
    gMet l yJ5_get (ws_ yJ5_get cJ5_get 3 (some (.object "java/lang/Object"))) rmJ5_get D K [.ref mp, .ref key] w (fun r' w' => r' = some (.ref (vl a0)) ∧ w' = w) := by
  rcases hM with ⟨n, t, f, lf, hd, tl, nx, bf, af, ⟨ho, hbm, ht, hbt, hn, hE, hbe, hD, hnd, hCH, hKy, hlt, hinj⟩, -⟩ | ⟨h, -⟩
  · obtain ⟨ch, hch1, hch2, hch3⟩ := hCH
    have hmod := p2_mod (h := h) hn
    refine metJ5_get l D K w ho ht hn hE hKy hlt hk hh (hch1 _ hmod) (fun a ha => ((hch2 _ hmod a).mp ha).1) (a := a0) ?_
    have hin : a0 ∈ ch (h % n) := (hch2 _ hmod a0).mpr ⟨ha0, by rw [hh0]⟩
    cases e : (ch (h % n)).find? (fun a => hN a == h) with
    | none => exact absurd (List.find?_eq_none.mp e a0 hin) (by simp [hh0])
    | some b =>
      have h1 := List.mem_of_find?_eq_some e
      have h2 := List.find?_some e
      rw [hinj b ((hch2 _ hmod b).mp h1).1 a0 ha0 (by rw [hh0]; exact beq_iff_eq.mp h2)]
  · rw [h] at ha0; cases ha0
