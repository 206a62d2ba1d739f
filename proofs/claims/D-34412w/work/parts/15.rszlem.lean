/-! HashMap.resize, the plain part -/
/-- a list under way: head hd, last cell tl; the last one's pointer is not yet set -/
def Lh (nx : Nat → Option Nat) (hd tl : Option Nat) (l : List Nat) : Prop := (l = [] ∧ hd = none ∧ tl = none) ∨ ∃ l' t, l = l' ++ [t] ∧ tl = some t ∧ Sg nx hd l' (some t)
theorem Lh.nil {nx : Nat → Option Nat} : Lh nx none none [] := Or.inl ⟨rfl, rfl, rfl⟩
theorem Lh.none' {nx : Nat → Option Nat} {hd : Option Nat} {l : List Nat} (h : Lh nx hd none l) : l = [] ∧ hd = none := by
  rcases h with ⟨h1, h2, -⟩ | ⟨l', t, -, h2, -⟩
  · exact ⟨h1, h2⟩
  · cases h2
theorem Lh.mem {nx : Nat → Option Nat} {hd : Option Nat} {t : Nat} {l : List Nat} (h : Lh nx hd (some t) l) : t ∈ l := by
  rcases h with ⟨-, -, h⟩ | ⟨l', t', rfl, h2, -⟩
  · cases h
  · cases h2; simp
theorem Lh.push0 {nx : Nat → Option Nat} {hd : Option Nat} {l : List Nat} (e : Nat) (h : Lh nx hd none l) : Lh nx (some e) (some e) (l ++ [e]) := by
  obtain ⟨rfl, -⟩ := h.none'
  exact Or.inr ⟨[], e, rfl, rfl, rfl⟩
theorem Lh.push {nx : Nat → Option Nat} {hd : Option Nat} {t : Nat} {l : List Nat} (e : Nat) (h : Lh nx hd (some t) l) (hn : l.Nodup) : Lh (va_up nx t (some e)) hd (some e) (l ++ [e]) := by
  rcases h with ⟨-, -, h⟩ | ⟨l', t', rfl, h2, h3⟩
  · cases h
  · cases h2
    have ht : t ∉ l' := fun q => (List.nodup_append.mp hn).2.2 t q t List.mem_cons_self rfl
    exact Or.inr ⟨l' ++ [t], e, rfl, rfl, (h3.up ht).app ⟨rfl, va_up_self _ _ _⟩⟩
theorem Lh.off {nx : Nat → Option Nat} {hd tl : Option Nat} {t : Nat} {v : Option Nat} {l : List Nat} (h : Lh nx hd tl l) (ht : t ∉ l) : Lh (va_up nx t v) hd tl l := by
  rcases h with h | ⟨l', t', rfl, h2, h3⟩
  · exact Or.inl h
  · exact Or.inr ⟨l', t', rfl, h2, h3.up (fun q => ht (by simp [q]))⟩
theorem Lh.fin {nx : Nat → Option Nat} {hd : Option Nat} {t : Nat} {l : List Nat} (h : Lh nx hd (some t) l) (hn : l.Nodup) : Sg (va_up nx t none) hd l none := by
  rcases h with ⟨-, -, h⟩ | ⟨l', t', rfl, h2, h3⟩
  · cases h
  · cases h2
    have ht : t ∉ l' := fun q => (List.nodup_append.mp hn).2.2 t q t List.mem_cons_self rfl
    exact (h3.up ht).app ⟨rfl, va_up_self _ _ _⟩
theorem Lh.hd {nx : Nat → Option Nat} {hd : Option Nat} {t : Nat} {l : List Nat} (h : Lh nx hd (some t) l) : ∃ z, hd = some z ∧ z ∈ l := by
  rcases h with ⟨-, -, h⟩ | ⟨l', t', rfl, h2, h3⟩
  · cases h
  · cases l' with
    | nil => exact ⟨t', h3, by simp⟩
    | cons z l' => exact ⟨z, h3.1, by simp⟩
/-- the buckets below j are done -/
def RS (hN : Nat → Nat) (n : Nat) (f : Nat → Option Nat) (ch : Nat → List Nat) (j : Nat) (g nx : Nat → Option Nat) : Prop :=
  (∀ i, j ≤ i → i < n → Sg nx (f i) (ch i) none) ∧ (∀ i, i < 2 * n → i % n < j → Sg nx (g i) ((ch (i % n)).filter (fun a => hN a % (2 * n) == i)) none) ∧ ∀ i, i < 2 * n → j ≤ i % n → g i = none
/-- what the old chains hold -/
def CO (es : List Nat) (hN : Nat → Nat) (n : Nat) (ch : Nat → List Nat) : Prop := (∀ i, i < n → ∀ a, a ∈ ch i ↔ a ∈ es ∧ hN a % n = i) ∧ ∀ i, i < n → (ch i).Nodup
theorem RS.start {hN : Nat → Nat} {n : Nat} {f : Nat → Option Nat} {ch : Nat → List Nat} {nx : Nat → Option Nat} (h : ∀ i, i < n → Sg nx (f i) (ch i) none) : RS hN n f ch 0 (fun _ => none) nx :=
  ⟨fun i _ h2 => h i h2, fun i _ h2 => absurd h2 (Nat.not_lt_zero _), fun _ _ _ => rfl⟩
theorem RS.put {es : List Nat} {hN : Nat → Nat} {n : Nat} {f : Nat → Option Nat} {ch : Nat → List Nat} {j : Nat} {g g1 nx nx1 : Nat → Option Nat} (h : RS hN n f ch j g nx) (hC : CO es hN n ch) (hj : j < n) (hx : ∀ a, a ∉ ch j → nx1 a = nx a)
    (hg : ∀ i, i ≠ j → i ≠ j + n → g1 i = g i) (h1 : Sg nx1 (g1 j) ((ch j).filter (fun a => hN a % (2 * n) == j)) none) (h2 : Sg nx1 (g1 (j + n)) ((ch j).filter (fun a => hN a % (2 * n) == j + n)) none) : RS hN n f ch (j + 1) g1 nx1 := by
  have hdis : ∀ i, i < n → i ≠ j → ∀ a ∈ ch i, nx1 a = nx a := fun i hi hij a ha => hx a (fun q => hij (by rw [← ((hC.1 i hi a).mp ha).2, ((hC.1 j hj a).mp q).2]))
  refine ⟨fun i hi hn => (h.1 i (by omega) hn).cg (hdis i hn (by omega)), fun i hi hm => ?_, fun i hi hm => ?_⟩
  · by_cases e1 : i = j
    · subst e1; rw [Nat.mod_eq_of_lt hj]; exact h1
    · by_cases e2 : i = j + n
      · subst e2; rw [Nat.add_mod_right, Nat.mod_eq_of_lt hj]; exact h2
      · have e3 : i % n ≠ j := by
          intro q
          have h5 : i = n * (i / n) + i % n := (Nat.div_add_mod i n).symm
          have h6 : i / n < 2 := Nat.div_lt_of_lt_mul (by omega)
          rcases (by generalize i / n = d at h6; omega : i / n = 0 ∨ i / n = 1) with h7 | h7 <;> rw [h7] at h5 <;> omega
        rw [hg i e1 e2]
        exact (h.2.1 i hi (by omega)).cg (fun a ha => hdis (i % n) (Nat.mod_lt _ (by omega)) e3 a (List.mem_filter.mp ha).1)
  · have e1 : i ≠ j := fun q => by subst q; rw [Nat.mod_eq_of_lt hj] at hm; omega
    have e2 : i ≠ j + n := fun q => by subst q; rw [Nat.add_mod_right, Nat.mod_eq_of_lt hj] at hm; omega
    rw [hg i e1 e2]
    exact h.2.2 i hi (by omega)
theorem RS.gj {hN : Nat → Nat} {n : Nat} {f : Nat → Option Nat} {ch : Nat → List Nat} {j : Nat} {g nx : Nat → Option Nat} (h : RS hN n f ch j g nx) (hj : j < n) : g j = none ∧ g (j + n) = none :=
  ⟨h.2.2 j (by omega) (by rw [Nat.mod_eq_of_lt hj]; exact Nat.le_refl _), h.2.2 (j + n) (by omega) (by rw [Nat.add_mod_right, Nat.mod_eq_of_lt hj]; exact Nat.le_refl _)⟩
theorem RS.none' {es : List Nat} {hN : Nat → Nat} {n : Nat} {f : Nat → Option Nat} {ch : Nat → List Nat} {j : Nat} {g nx : Nat → Option Nat} (h : RS hN n f ch j g nx) (hC : CO es hN n ch) (hj : j < n) (hf : none = f j) : RS hN n f ch (j + 1) g nx := by
  have h0 := h.1 j (Nat.le_refl _) hj
  have e : ch j = [] := Sg.nil1 hf h0
  refine h.put hC hj (fun _ _ => rfl) (fun _ _ _ => rfl) ?_ ?_
  · rw [e, (h.gj hj).1]; rfl
  · rw [e, (h.gj hj).2]; rfl
/-- of a hash number, in the doubled table: the same place, or that much further -/
theorem mod_two {h n j : Nat} (hn : 0 < n) (hj : h % n = j) : h % (2 * n) = j ∨ h % (2 * n) = j + n := by
  have h1 : h % (2 * n) % n = j := by rw [Nat.mod_mod_of_dvd h (by exact ⟨2, by omega⟩)]; exact hj
  have h2 : h % (2 * n) < 2 * n := Nat.mod_lt _ (by omega)
  have h5 := (Nat.div_add_mod (h % (2 * n)) n).symm
  have h6 : h % (2 * n) / n < 2 := Nat.div_lt_of_lt_mul (by omega)
  rcases (by generalize h % (2 * n) / n = d at h6; omega : h % (2 * n) / n = 0 ∨ h % (2 * n) / n = 1) with h7 | h7 <;> rw [h7, h1] at h5 <;> omega
theorem RS.one {es : List Nat} {hN : Nat → Nat} {n : Nat} {f : Nat → Option Nat} {ch : Nat → List Nat} {j : Nat} {g nx : Nat → Option Nat} {e : Nat} (h : RS hN n f ch j g nx) (hC : CO es hN n ch) (hj : j < n) (hf : some e = f j) (he : none = nx e) : e ∈ es ∧ hN e % n = j ∧ RS hN n f ch (j + 1) (va_up g (hN e % (2 * n)) (some e)) nx := by
  have h0 := h.1 j (Nat.le_refl _) hj
  obtain ⟨l, hl, h1⟩ := Sg.cons1 hf h0
  have hl0 := Sg.nil1 he h1
  subst hl0
  have hm := (hC.1 j hj e).mp (by rw [hl]; exact List.mem_cons_self)
  refine ⟨hm.1, hm.2, ?_⟩
  have hs : Sg nx (some e) [e] none := ⟨rfl, he.symm⟩
  refine h.put hC hj (fun _ _ => rfl) (fun i h1 h2 => va_up_ne _ _ (fun q => ?_)) ?_ ?_
  · rcases mod_two (by omega) hm.2 with q2 | q2 <;> omega
  · rw [hl]
    by_cases q : hN e % (2 * n) = j
    · rw [q, va_up_self]; simp only [List.filter, q, beq_self_eq_true]; exact hs
    · rw [va_up_ne _ _ (Ne.symm q), (h.gj hj).1]; simp only [List.filter, beq_eq_false_iff_ne.mpr q]; rfl
  · rw [hl]
    by_cases q : hN e % (2 * n) = j + n
    · rw [q, va_up_self]; simp only [List.filter, q, beq_self_eq_true]; exact hs
    · rw [va_up_ne _ _ (Ne.symm q), (h.gj hj).2]; simp only [List.filter, beq_eq_false_iff_ne.mpr q]; rfl
/-- at the end the new chains stand -/
theorem RS.done {es : List Nat} {hN : Nat → Nat} {n : Nat} {f : Nat → Option Nat} {ch : Nat → List Nat} {g nx : Nat → Option Nat} (h : RS hN n f ch n g nx) (hC : CO es hN n ch) (hn : 0 < n) : CHn es hN (2 * n) g nx := by
  refine ⟨fun i => (ch (i % n)).filter (fun a => hN a % (2 * n) == i), fun i hi => h.2.1 i hi (Nat.mod_lt _ hn), fun i hi a => ?_, fun i _ => (hC.2 _ (Nat.mod_lt _ hn)).filter _⟩
  rw [List.mem_filter, hC.1 _ (Nat.mod_lt _ hn), beq_iff_eq]
  constructor
  · rintro ⟨⟨h1, -⟩, h3⟩; exact ⟨h1, h3⟩
  · rintro ⟨h1, h3⟩
    refine ⟨⟨h1, ?_⟩, h3⟩
    rw [← h3, Nat.mod_mod_of_dvd _ (by exact ⟨2, by omega⟩)]
/-- the split of bucket j, pre done, e :: rest to come -/
def SP (hN : Nat → Nat) (n j : Nat) (c : List Nat) (nx0 nx : Nat → Option Nat) (pre rest : List Nat) (e : Nat) (lh lt hh ht : Option Nat) : Prop :=
  c = pre ++ e :: rest ∧ Lh nx lh lt (pre.filter (fun a => hN a % (2 * n) == j)) ∧ Lh nx hh ht (pre.filter (fun a => hN a % (2 * n) == j + n)) ∧ Sg nx (some e) (e :: rest) none ∧ ∀ a, a ∉ c → nx a = nx0 a
/-- .. behind its last step -/
def SE (hN : Nat → Nat) (n j : Nat) (c : List Nat) (nx0 nx : Nat → Option Nat) (lh lt hh ht : Option Nat) : Prop :=
  Lh nx lh lt (c.filter (fun a => hN a % (2 * n) == j)) ∧ Lh nx hh ht (c.filter (fun a => hN a % (2 * n) == j + n)) ∧ ∀ a, a ∉ c → nx a = nx0 a
/-- between: e is linked, what follows it is the list r from the pointer o on -/
def SM (hN : Nat → Nat) (n j : Nat) (c : List Nat) (nx0 nx : Nat → Option Nat) (pre r : List Nat) (o lh lt hh ht : Option Nat) : Prop :=
  c = pre ++ r ∧ Lh nx lh lt (pre.filter (fun a => hN a % (2 * n) == j)) ∧ Lh nx hh ht (pre.filter (fun a => hN a % (2 * n) == j + n)) ∧ Sg nx o r none ∧ ∀ a, a ∉ c → nx a = nx0 a
theorem SP.lo0 {hN : Nat → Nat} {n j : Nat} {c : List Nat} {nx0 nx : Nat → Option Nat} {pre rest : List Nat} {e : Nat} {lh hh ht : Option Nat} (h : SP hN n j c nx0 nx pre rest e lh none hh ht) (hn : 0 < n) (he : hN e % (2 * n) = j) : SM hN n j c nx0 nx (pre ++ [e]) rest (nx e) (some e) (some e) hh ht := by
  obtain ⟨h1, h2, h3, h4, h5⟩ := h
  refine ⟨by rw [h1]; simp, ?_, ?_, h4.2, h5⟩
  · rw [List.filter_append]; simp only [List.filter, he, beq_self_eq_true]; exact h2.push0 e
  · rw [List.filter_append]; simp only [List.filter, beq_eq_false_iff_ne.mpr (show hN e % (2 * n) ≠ j + n by omega), List.append_nil]; exact h3
theorem SP.hi0 {hN : Nat → Nat} {n j : Nat} {c : List Nat} {nx0 nx : Nat → Option Nat} {pre rest : List Nat} {e : Nat} {lh lt hh : Option Nat} (h : SP hN n j c nx0 nx pre rest e lh lt hh none) (hn : 0 < n) (he : hN e % (2 * n) = j + n) : SM hN n j c nx0 nx (pre ++ [e]) rest (nx e) lh lt (some e) (some e) := by
  obtain ⟨h1, h2, h3, h4, h5⟩ := h
  refine ⟨by rw [h1]; simp, ?_, ?_, h4.2, h5⟩
  · rw [List.filter_append]; simp only [List.filter, beq_eq_false_iff_ne.mpr (show hN e % (2 * n) ≠ j by omega), List.append_nil]; exact h2
  · rw [List.filter_append]; simp only [List.filter, he, beq_self_eq_true]; exact h3.push0 e
theorem SP.lo1 {hN : Nat → Nat} {n j : Nat} {c : List Nat} {nx0 nx : Nat → Option Nat} {pre rest : List Nat} {e t : Nat} {lh hh ht : Option Nat} (h : SP hN n j c nx0 nx pre rest e lh (some t) hh ht) (hc : c.Nodup) (hn : 0 < n) (he : hN e % (2 * n) = j) : SM hN n j c nx0 (va_up nx t (some e)) (pre ++ [e]) rest (nx e) lh (some e) hh ht := by
  obtain ⟨h1, h2, h3, h4, h5⟩ := h
  have ht := List.mem_filter.mp h2.mem
  have hc' := hc
  rw [h1] at hc'
  have hd := List.nodup_append.mp hc'
  have htr : t ∉ rest := fun q => hd.2.2 t ht.1 t (List.mem_cons_of_mem _ q) rfl
  refine ⟨by rw [h1]; simp, ?_, ?_, h4.2.up htr, fun a ha => ?_⟩
  · rw [List.filter_append]; simp only [List.filter, he, beq_self_eq_true]; exact h2.push e (hd.1.filter _)
  · rw [List.filter_append]; simp only [List.filter, beq_eq_false_iff_ne.mpr (show hN e % (2 * n) ≠ j + n by omega), List.append_nil]
    refine h3.off (fun q => ?_)
    have q1 := beq_iff_eq.mp (List.mem_filter.mp q).2
    have q2 := beq_iff_eq.mp ht.2
    omega
  · rw [va_up_ne _ _ (fun q => ha (by rw [q, h1]; exact List.mem_append_left _ ht.1))]; exact h5 a ha
theorem SP.hi1 {hN : Nat → Nat} {n j : Nat} {c : List Nat} {nx0 nx : Nat → Option Nat} {pre rest : List Nat} {e t : Nat} {lh lt hh : Option Nat} (h : SP hN n j c nx0 nx pre rest e lh lt hh (some t)) (hc : c.Nodup) (hn : 0 < n) (he : hN e % (2 * n) = j + n) : SM hN n j c nx0 (va_up nx t (some e)) (pre ++ [e]) rest (nx e) lh lt hh (some e) := by
  obtain ⟨h1, h2, h3, h4, h5⟩ := h
  have ht := List.mem_filter.mp h3.mem
  have hc' := hc
  rw [h1] at hc'
  have hd := List.nodup_append.mp hc'
  have htr : t ∉ rest := fun q => hd.2.2 t ht.1 t (List.mem_cons_of_mem _ q) rfl
  refine ⟨by rw [h1]; simp, ?_, ?_, h4.2.up htr, fun a ha => ?_⟩
  · rw [List.filter_append]; simp only [List.filter, beq_eq_false_iff_ne.mpr (show hN e % (2 * n) ≠ j by omega), List.append_nil]
    refine h2.off (fun q => ?_)
    have q1 := beq_iff_eq.mp (List.mem_filter.mp q).2
    have q2 := beq_iff_eq.mp ht.2
    omega
  · rw [List.filter_append]; simp only [List.filter, he, beq_self_eq_true]; exact h3.push e (hd.1.filter _)
  · rw [va_up_ne _ _ (fun q => ha (by rw [q, h1]; exact List.mem_append_left _ ht.1))]; exact h5 a ha
theorem SM.more {hN : Nat → Nat} {n j : Nat} {c : List Nat} {nx0 nx : Nat → Option Nat} {pre r : List Nat} {a : Nat} {o lh lt hh ht : Option Nat} (h : SM hN n j c nx0 nx pre r o lh lt hh ht) (ho : some a = o) : ∃ r', r = a :: r' ∧ SP hN n j c nx0 nx pre r' a lh lt hh ht := by
  obtain ⟨h1, h2, h3, h4, h5⟩ := h
  subst ho
  obtain ⟨r', rfl, h6⟩ := h4.cons0
  exact ⟨r', rfl, h1, h2, h3, h4, h5⟩
theorem SM.fin {hN : Nat → Nat} {n j : Nat} {c : List Nat} {nx0 nx : Nat → Option Nat} {pre r : List Nat} {o lh lt hh ht : Option Nat} (h : SM hN n j c nx0 nx pre r o lh lt hh ht) (ho : none = o) : SE hN n j c nx0 nx lh lt hh ht := by
  obtain ⟨h1, h2, h3, h4, h5⟩ := h
  subst ho
  have := h4.nil0
  subst this
  rw [List.append_nil] at h1
  subst h1
  exact ⟨h2, h3, h5⟩
theorem SE.lo {hN : Nat → Nat} {n j : Nat} {c : List Nat} {nx0 nx : Nat → Option Nat} {t : Nat} {lh hh ht : Option Nat} (h : SE hN n j c nx0 nx lh (some t) hh ht) (hc : c.Nodup) (hn : 0 < n) : Sg (va_up nx t none) lh (c.filter (fun a => hN a % (2 * n) == j)) none ∧ Lh (va_up nx t none) hh ht (c.filter (fun a => hN a % (2 * n) == j + n)) ∧ ∀ a, a ∉ c → va_up nx t none a = nx0 a := by
  obtain ⟨h2, h3, h5⟩ := h
  have ht := List.mem_filter.mp h2.mem
  refine ⟨h2.fin (hc.filter _), h3.off (fun q => ?_), fun a ha => ?_⟩
  · have q1 := beq_iff_eq.mp (List.mem_filter.mp q).2
    have q2 := beq_iff_eq.mp ht.2
    omega
  · rw [va_up_ne _ _ (fun q => ha (by rw [q]; exact ht.1))]; exact h5 a ha
theorem p2_lo {h n : Nat} (hn : n = 16 ∨ n = 32 ∨ n = 64) (hh : h < 300) : (nI h &&& nI n) = 0 ↔ h % (2 * n) = h % n := by
  have key : ∀ n, n = 16 ∨ n = 32 ∨ n = 64 → ∀ h, h < 300 → ((nI h &&& nI n) = 0 ↔ h % (2 * n) = h % n) := by
    intro n hn
    rcases hn with rfl | rfl | rfl
    · exact fun h hh => co_dec (N := 300) (P := fun h => (nI h &&& nI 16) = 0 ↔ h % (2 * 16) = h % 16) (by decide +kernel) hh
    · exact fun h hh => co_dec (N := 300) (P := fun h => (nI h &&& nI 32) = 0 ↔ h % (2 * 32) = h % 32) (by decide +kernel) hh
    · exact fun h hh => co_dec (N := 300) (P := fun h => (nI h &&& nI 64) = 0 ↔ h % (2 * 64) = h % 64) (by decide +kernel) hh
  exact key n hn h hh
theorem gu_none {w : Gh} {a q : Nat} {e : va_E} (h : gu w a e q = none) : w q = none ∧ q ≠ a := by
  by_cases e1 : q = a
  · subst e1; rw [gu_s] at h; cases h
  · rw [gu_n e1] at h; exact ⟨h, e1⟩
/-- what resize leaves alone -/
def MT (w w' : Gh) (mp t : Nat) (es : List Nat) : Prop := ∀ a e, w a = some e → a ≠ mp → a ≠ t → a ∉ es → w' a = some e
theorem MT.rf {w : Gh} {mp t : Nat} {es : List Nat} : MT w w mp t es := fun _ _ h _ _ _ => h
theorem MT.up {w w1 : Gh} {mp t b : Nat} {es : List Nat} {x : va_E} (h : MT w w1 mp t es) (hb : b = mp ∨ b = t ∨ b ∈ es ∨ w b = none) : MT w (gu w1 b x) mp t es := fun a e h1 h2 h3 h4 => by
  rw [gu_n ?_]
  · exact h a e h1 h2 h3 h4
  · rintro rfl
    rcases hb with hb | hb | hb | hb
    · exact h2 hb
    · exact h3 hb
    · exact h4 hb
    · rw [hb] at h1; cases h1
