/-! Lot's iterator, over what is still to come -/
theorem LI.it {K : Nat → Nat} {w : Gh} {q lo mp i : Nat} {md : Int32} {es : List Nat} {hN ky : Nat → Nat} {ms : List Nat} (h : LI K w q lo mp i md es hN ky ms) : ∃ it, w q = some (.inr (5, [va_rf (ms.head?.map ky), .ref it, .ref lo])) := by
  obtain ⟨it, -, -, -, -, h, -⟩ := h
  exact ⟨it, h⟩
theorem metX6_hasNextL (l : Launch) (D : va_G) (K : Nat → Nat) (w : Gh) {q lo mp i : Nat} {md : Int32} {es : List Nat} {hN ky : Nat → Nat} {ms : List Nat} (h : LI K w q lo mp i md es hN ky ms) :
    gMet l yX6_hasNext (ws_ yX6_hasNext cX6_hasNext 1 (some .boolean)) rmX6_hasNext D K [.ref q] w (fun r' w' => r' = some (.int (hasN ms.head?)) ∧ w' = w) := by
  obtain ⟨it, h⟩ := h.it
  refine (metX6_hasNext l D K w h).imp (fun r w' hp => ⟨?_, hp.2⟩)
  rw [hp.1]
  cases ms <;> rfl
theorem FRI.two {w w' : Gh} {q it : Nat} {f5 f10 : List Value} (hq : w q = some (.inr (5, f5))) (hit : w it = some (.inr (10, f10))) (h : ∀ a y, w a = some y → a ≠ q → a ≠ it → w' a = some y) : FRI w w' := fun a y h1 h2 => h a y h1
  (fun e => by rw [e, hq] at h1; cases h1; exact (h2 _).1 rfl) (fun e => by rw [e, hit] at h1; cases h1; exact (h2 _).2 rfl)
theorem metX6_nextL (l : Launch) (D : va_G) (K : Nat → Nat) (w : Gh) {q lo mp i x : Nat} {md : Int32} {ks : Option Nat} {es : List Nat} {hN ky vl : Nat → Nat} {ms : List Nat} {fl : List Value} (hM : MS D K w mp md ks es hN ky vl) (hlo : w lo = some (.inr (3, .int (nI i) :: fl))) (hi30 : i < 30) (h : LI K w q lo mp i md es hN ky (x :: ms)) :
    gMet l yX6_next (ws_ yX6_next cX6_next 1 (some (.object "java/lang/Object"))) rmX6_next D K [.ref q] w (fun r' w' => r' = some (.ref (ky x)) ∧ LI K w' q lo mp i md es hN ky ms ∧ FRI w w') := by
  obtain ⟨it, done, rem, cur, hes, hq, hbq, hit, hbi, hms⟩ := h
  refine (metX6_next l D K w hM hlo hi30 hes hit hbi (k := ky x) hq hbq).imp (fun r w' hp => ?_)
  obtain ⟨h1, cur', h2, h3, h4⟩ := hp
  obtain ⟨g1, g2, d, g3⟩ := onl_skp (hN := hN) (i := i) rem
  have hms : ms = onl hN i rem := hms
  refine ⟨h1, ⟨it, done ++ d ++ (skp hN i rem).take 1, (skp hN i rem).tail, cur', ?_, ?_, hbq, h3, hbi, ?_⟩, FRI.two hq hit h4⟩
  · rw [hes]
    conv => lhs; rw [g3]
    rw [List.append_assoc, List.append_assoc]
    congr 2
    cases skp hN i rem <;> rfl
  · rw [hms, g1]; exact h2
  · rw [hms, g2]
