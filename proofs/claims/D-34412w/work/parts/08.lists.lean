/-! LINKED CELLS, the plain part: Sg nx o l z: from the pointer o, by nx, through the cells l, to the pointer z -/
def Sg (nx : Nat → Option Nat) : Option Nat → List Nat → Option Nat → Prop
  | o, [], z => o = z
  | o, a :: l, z => o = some a ∧ Sg nx (nx a) l z
theorem Sg.cg {nx nx' : Nat → Option Nat} : ∀ {l : List Nat} {o z : Option Nat}, (∀ a ∈ l, nx' a = nx a) → Sg nx o l z → Sg nx' o l z
  | [], _, _, _, h => h
  | a :: l, _, _, hc, h => ⟨h.1, by rw [hc a List.mem_cons_self]; exact Sg.cg (fun b hb => hc b (List.mem_cons_of_mem _ hb)) h.2⟩
theorem Sg.app {nx : Nat → Option Nat} : ∀ {l1 l2 : List Nat} {o y z : Option Nat}, Sg nx o l1 y → Sg nx y l2 z → Sg nx o (l1 ++ l2) z
  | [], _, _, _, _, h, h2 => by rw [show _ = _ from h]; exact h2
  | _ :: _, _, _, _, _, h, h2 => ⟨h.1, Sg.app h.2 h2⟩
theorem Sg.cut {nx : Nat → Option Nat} : ∀ {l1 l2 : List Nat} {o z : Option Nat}, Sg nx o (l1 ++ l2) z → ∃ y, Sg nx o l1 y ∧ Sg nx y l2 z
  | [], _, _, _, h => ⟨_, rfl, h⟩
  | _ :: _, _, _, _, h => by
    obtain ⟨y, h1, h2⟩ := Sg.cut h.2
    exact ⟨y, ⟨h.1, h1⟩, h2⟩
theorem Sg.up {nx : Nat → Option Nat} {l : List Nat} {o z : Option Nat} {t : Nat} {v : Option Nat} (ht : t ∉ l) (h : Sg nx o l z) : Sg (va_up nx t v) o l z :=
  Sg.cg (fun a ha => va_up_ne nx v (fun e => ht (e ▸ ha))) h
/-- the last cell's pointer is changed -/
theorem Sg.last {nx : Nat → Option Nat} {l : List Nat} {o z : Option Nat} {t : Nat} (v : Option Nat) (ht : t ∉ l) (h : Sg nx o (l ++ [t]) z) : Sg (va_up nx t v) o (l ++ [t]) v := by
  obtain ⟨y, h1, h2⟩ := h.cut
  exact (h1.up ht).app ⟨h2.1, va_up_self nx t v⟩
/-- .. to the next but one: a is left out -/
theorem Sg.skip {nx : Nat → Option Nat} {l1 l2 : List Nat} {o z : Option Nat} {q a : Nat} (h1 : q ∉ l1) (h2 : q ∉ l2) (h : Sg nx o (l1 ++ q :: a :: l2) z) : Sg (va_up nx q (nx a)) o (l1 ++ q :: l2) z := by
  obtain ⟨y, h3, h4, h5, h6⟩ := h.cut
  refine (h3.up h1).app ⟨h4, ?_⟩
  rw [va_up_self]
  exact h6.up h2
theorem Sg.head {nx : Nat → Option Nat} {l : List Nat} {o : Option Nat} (h : Sg nx o l none) : o = l.head? := by
  cases l with
  | nil => exact h
  | cons a l => exact h.1
/-- both ways -/
def DL (es : List Nat) (bf af : Nat → Option Nat) (hd tl : Option Nat) : Prop := Sg af hd es none ∧ Sg bf tl es.reverse none
theorem DL.nil (bf af : Nat → Option Nat) : DL [] bf af none none := ⟨rfl, rfl⟩
theorem DL.tl {es : List Nat} {bf af : Nat → Option Nat} {hd tl : Option Nat} (h : DL es bf af hd tl) : tl = es.getLast? := by
  rw [Sg.head h.2, List.head?_reverse]
theorem DL.cg {es : List Nat} {bf af bf' af' : Nat → Option Nat} {hd tl : Option Nat} (h : DL es bf af hd tl) (hb : ∀ a ∈ es, bf' a = bf a) (ha : ∀ a ∈ es, af' a = af a) : DL es bf' af' hd tl :=
  ⟨Sg.cg ha h.1, Sg.cg (fun a q => hb a (List.mem_reverse.mp q)) h.2⟩
/-- a new cell q at the end of an empty list -/
theorem DL.push0 {bf af : Nat → Option Nat} {q : Nat} (hb : bf q = none) (ha : af q = none) : DL [q] bf af (some q) (some q) := ⟨⟨rfl, ha⟩, ⟨rfl, hb⟩⟩
/-- .. of a list whose last is t -/
theorem DL.push {es : List Nat} {bf af : Nat → Option Nat} {hd : Option Nat} {t q : Nat} (h : DL es bf af hd (some t)) (hn : es.Nodup) (hq : q ∉ es) : DL (es ++ [q]) (va_up bf q (some t)) (va_up (va_up af q none) t (some q)) hd (some q) := by
  have hl := h.tl
  obtain ⟨l, rfl⟩ : ∃ l, es = l ++ [t] := by
    have h1 := List.getLast?_eq_some_iff.mp hl.symm
    obtain ⟨l, h1⟩ := h1
    exact ⟨l, h1⟩
  have ht : t ∉ l := fun q => by
    have := (List.nodup_append.mp hn).2.2 t q t List.mem_cons_self
    exact this rfl
  have hqt : q ≠ t := fun e => hq (by rw [e]; simp)
  refine ⟨?_, ?_⟩
  · have h1 : Sg (va_up af q none) hd (l ++ [t]) none := h.1.up hq
    have h2 := h1.last (some q) ht
    refine h2.app ⟨rfl, ?_⟩
    rw [va_up_ne _ _ hqt, va_up_self]
    rfl
  · rw [List.reverse_append]
    refine ⟨rfl, ?_⟩
    rw [va_up_self]
    exact h.2.up (fun e => hq (List.mem_reverse.mp e))
/-- the cell a is taken out -/
theorem DL.pull {l1 l2 : List Nat} {bf af : Nat → Option Nat} {hd tl : Option Nat} {a : Nat} (h : DL (l1 ++ a :: l2) bf af hd tl) (hn : (l1 ++ a :: l2).Nodup) :
    bf a = l1.getLast? ∧ af a = l2.head? ∧
    DL (l1 ++ l2) (match l2.head? with | none => bf | some z => va_up bf z (bf a)) (match l1.getLast? with | none => af | some y => va_up af y (af a)) (match l1.getLast? with | none => af a | some _ => hd) (match l2.head? with | none => bf a | some _ => tl) := by
  obtain ⟨h1, h2⟩ := h
  have hn' := List.nodup_append.mp hn
  have hn2 := List.nodup_cons.mp hn'.2.1
  have hdis : ∀ x ∈ l1, x ∉ l2 := fun x hx hx2 => hn'.2.2 x hx x (List.mem_cons_of_mem _ hx2) rfl
  rw [List.reverse_append, List.reverse_cons, List.append_assoc] at h2
  obtain ⟨y, f1, f2, f3⟩ := h1.cut
  obtain ⟨z, b1, b2⟩ := h2.cut
  obtain ⟨b2, b3⟩ := b2
  have b3 : Sg bf (bf a) l1.reverse none := b3
  have ebf : bf a = l1.getLast? := by rw [Sg.head b3, List.head?_reverse]
  have eaf : af a = l2.head? := Sg.head f3
  subst f2; subst b2
  refine ⟨ebf, eaf, ?_, ?_⟩
  · cases hl : l1.getLast? with
    | none =>
      have : l1 = [] := List.getLast?_eq_none_iff.mp hl
      subst this
      exact f3
    | some t =>
      obtain ⟨l, rfl⟩ := List.getLast?_eq_some_iff.mp hl
      have ht : t ∉ l := fun q => (List.nodup_append.mp hn'.1).2.2 t q t List.mem_cons_self rfl
      have ht2 : t ∉ l2 := hdis t (by simp)
      exact (f1.last (af a) ht).app (f3.up ht2)
  · rw [List.reverse_append]
    cases hl : l2.head? with
    | none =>
      have : l2 = [] := List.head?_eq_none_iff.mp hl
      subst this
      exact b3
    | some t =>
      obtain ⟨l, rfl⟩ : ∃ l, l2 = t :: l := by
        cases l2 with
        | nil => cases hl
        | cons x l => cases hl; exact ⟨l, rfl⟩
      have ht : t ∉ l := (List.nodup_cons.mp hn2.2).1
      have ht1 : t ∉ l1 := fun q => hdis t q List.mem_cons_self
      rw [List.reverse_cons] at b1 ⊢
      exact (b1.last (bf a) (fun q => ht (List.mem_reverse.mp q))).app (b3.up (fun q => ht1 (List.mem_reverse.mp q)))
