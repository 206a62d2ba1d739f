/-! the map's whole state -/
/-- no cell of the map: neither table nor map nor entry -/
def nomap (D : va_G) (x : va_E) : Prop := match x with
  | .inl y => y.1 ≠ D.1 103
  | .inr y => y.1 ≠ 7 ∧ y.1 ≠ 8
def FRM (D : va_G) (w w' : Gh) : Prop := ∀ a x, w a = some x → nomap D x → w' a = some x
theorem FRM.rf {D : va_G} {w : Gh} : FRM D w w := fun _ _ h _ => h
theorem FRM.tr {D : va_G} {w w1 w2 : Gh} (h : FRM D w w1) (h2 : FRM D w1 w2) : FRM D w w2 := fun a x q1 q2 => h2 a x (h a x q1 q2) q2
theorem FRM.up {D : va_G} {w : Gh} {b : Nat} {y x : va_E} (hb : w b = some y) (hy : ¬ nomap D y) : FRM D w (gu w b x) := fun a z h1 h2 => by
  rw [gu_n ?_]
  · exact h1
  · rintro rfl
    rw [hb] at h1
    cases h1
    exact hy h2
theorem nm_a {D : va_G} {y : vp_A} : ¬ nomap D (.inl (D.1 103, y)) := fun h => h rfl
theorem nm_7 {D : va_G} {y : List Value} : ¬ nomap D (.inr (7, y)) := fun h => h.1 rfl
theorem nm_8 {D : va_G} {y : List Value} : ¬ nomap D (.inr (8, y)) := fun h => h.2 rfl
theorem FRM.mk {D : va_G} {w w' : Gh} {mp : Nat} {es : List Nat} {hN ky vl : Nat → Nat} {nx bf af : Nat → Option Nat} {fs : List Value} (h : MK w w' mp es) (ho : w mp = some (.inr (7, fs))) (hE : EN w es hN ky vl nx bf af) : FRM D w w' := fun a x h1 h2 => h a x h1
  (fun q => by rw [q, ho] at h1; cases h1; exact nm_7 h2) (fun q => by rw [hE a q] at h1; cases h1; exact nm_8 h2)
theorem FRM.mt {D : va_G} {w w' : Gh} {mp t : Nat} {es : List Nat} {hN ky vl : Nat → Nat} {nx bf af : Nat → Option Nat} {fs : List Value} {y : vp_A} (h : MT w w' mp t es) (ho : w mp = some (.inr (7, fs))) (ht : w t = some (.inl (D.1 103, y))) (hE : EN w es hN ky vl nx bf af) : FRM D w w' := fun a x h1 h2 => h a x h1
  (fun q => by rw [q, ho] at h1; cases h1; exact nm_7 h2) (fun q => by rw [q, ht] at h1; cases h1; exact nm_a h2) (fun q => by rw [hE a q] at h1; cases h1; exact nm_8 h2)
theorem FRM.ky {D : va_G} {w w' : Gh} {k h : Nat} (hF : FRM D w w') (hk : KY w k h) : KY w' k h := hF k _ hk ⟨fun z => absurd (show (4 : Nat) = 7 from z) (by decide), fun z => absurd (show (4 : Nat) = 8 from z) (by decide)⟩
/-- the map mp of the entries es, the table t of n places -/
def MPQ (D : va_G) (K : Nat → Nat) (w : Gh) (mp : Nat) (sz md : Int32) (ks : Option Nat) (es : List Nat) (hN ky vl : Nat → Nat) (n t : Nat) (f : Nat → Option Nat) (lf : UInt32) (hd tl : Option Nat) (nx bf af : Nat → Option Nat) : Prop :=
  w mp = some (.inr (7, mfl (some t) sz md (nI (n / 4 * 3)) lf ks hd tl)) ∧ K 0 ≤ mp ∧ w t = some (.inl (D.1 103, n, gra f)) ∧ K 0 ≤ t ∧ p2 n ∧ EN w es hN ky vl nx bf af ∧ (∀ a ∈ es, K 0 ≤ a) ∧ DL es bf af hd tl ∧ es.Nodup ∧ CHn es hN n f nx ∧ (∀ a ∈ es, KY w (ky a) (hN a)) ∧ (∀ a ∈ es, hN a < 300) ∧ ∀ a ∈ es, ∀ b ∈ es, hN a = hN b → a = b
def MPF (D : va_G) (K : Nat → Nat) (w : Gh) (mp : Nat) (md : Int32) (ks : Option Nat) (es : List Nat) (hN ky vl : Nat → Nat) : Prop :=
  ∃ n t f lf hd tl nx bf af, MPQ D K w mp (nI es.length) md ks es hN ky vl n t f lf hd tl nx bf af ∧ es.length ≤ n / 4 * 3
theorem FRM.ent {D : va_G} {w w' : Gh} {es : List Nat} {hN ky : Nat → Nat} (hF : FRM D w w') (h : ∀ a ∈ es, KY w (ky a) (hN a)) : ∀ a ∈ es, KY w' (ky a) (hN a) := fun a ha => hF.ky (h a ha)
/-- few numbers below N -/
theorem nd_len : ∀ (N : Nat) (l : List Nat), l.Nodup → (∀ x ∈ l, x < N) → l.length ≤ N
  | 0, l, _, h => by
    cases l with
    | nil => exact Nat.le_refl _
    | cons a l => exact absurd (h a List.mem_cons_self) (Nat.not_lt_zero _)
  | N + 1, l, hn, h => by
    have h1 := nd_len N (l.erase N) (hn.erase N) (fun x hx => by
      have h2 := (hn.mem_erase_iff).mp hx
      have h3 := h x h2.2
      have h4 := h2.1
      omega)
    by_cases q : N ∈ l
    · rw [List.length_erase_of_mem q] at h1; omega
    · rw [List.erase_of_not_mem q] at h1; omega
theorem ch_len {hN : Nat → Nat} {n i : Nat} {l : List Nat} (hn : 64 ≤ n) (hl : l.Nodup) (h1 : ∀ a ∈ l, hN a < 300) (h2 : ∀ a ∈ l, hN a % n = i) (h3 : ∀ a ∈ l, ∀ b ∈ l, hN a = hN b → a = b) : l.length ≤ 5 := by
  have h4 : (l.map (fun a => hN a / n)).Nodup := by
    refine List.Pairwise.map _ (R := fun a b => a ≠ b ∧ a ∈ l ∧ b ∈ l) ?_ ?_
    · intro a b ⟨hab, ha, hb⟩ q
      apply hab
      apply h3 a ha b hb
      rw [← Nat.div_add_mod (hN a) n, ← Nat.div_add_mod (hN b) n, h2 a ha, h2 b hb, q]
    · have : List.Pairwise (fun a b => a ∈ l ∧ b ∈ l) l := by
        rw [List.pairwise_iff_forall_sublist]
        intro a b hs
        exact ⟨hs.subset (by simp), hs.subset (by simp)⟩
      exact List.Pairwise.and hl this |>.imp (fun h => ⟨h.1, h.2.1, h.2.2⟩)
  have h5 := nd_len 5 _ h4 (fun x hx => by
    obtain ⟨a, ha, rfl⟩ := List.mem_map.mp hx
    have := h1 a ha
    exact (Nat.div_lt_iff_lt_mul (by omega)).mpr (by omega))
  rw [List.length_map] at h5
  exact h5
/-- a new entry at a chain's end -/
theorem CHn.add {es : List Nat} {hN : Nat → Nat} {n h q : Nat} {f f' nx nx' : Nat → Option Nat} {ch : Nat → List Nat} (h1 : ∀ i, i < n → Sg nx (f i) (ch i) none) (h2 : ∀ i, i < n → ∀ a, a ∈ ch i ↔ a ∈ es ∧ hN a % n = i) (h3 : ∀ i, i < n → (ch i).Nodup) (hn : 0 < n) (hq : q ∉ es)
    (hS : Sg nx' (f' (h % n)) (ch (h % n) ++ [q]) none) (hf : ∀ i, i ≠ h % n → f' i = f i) (hx : ∀ a, a ∉ ch (h % n) → a ≠ q → nx' a = nx a) : CHn (es ++ [q]) (va_up hN q h) n f' nx' := by
  have hlt := Nat.mod_lt h hn
  have hqi : ∀ i, i < n → q ∉ ch i := fun i hi z => hq ((h2 i hi q).mp z).1
  refine ⟨fun i => if i = h % n then ch i ++ [q] else ch i, fun i hi => ?_, fun i hi a => ?_, fun i hi => ?_⟩
  · show Sg nx' (f' i) (if i = h % n then ch i ++ [q] else ch i) none
    by_cases e : i = h % n
    · rw [if_pos e, e]; exact hS
    · rw [if_neg e, hf i e]
      refine (h1 i hi).cg (fun a ha => hx a (fun z => ?_) (fun z => hqi i hi (by rw [← z]; exact ha)))
      exact e (by rw [← ((h2 i hi a).mp ha).2, ((h2 _ hlt a).mp z).2])
  · show a ∈ (if i = h % n then ch i ++ [q] else ch i) ↔ _
    by_cases ea : a = q
    · subst ea
      rw [va_up_self]
      by_cases e : i = h % n
      · rw [if_pos e]; simp [e]
      · rw [if_neg e]
        exact ⟨fun z => absurd z (hqi i hi), fun z => absurd z.2.symm e⟩
    · rw [va_up_ne _ _ ea]
      have : a ∈ ch i ↔ a ∈ es ++ [q] ∧ hN a % n = i := by rw [h2 i hi a]; simp [ea]
      by_cases e : i = h % n
      · rw [if_pos e, ← this]; simp [ea]
      · rw [if_neg e]; exact this
  · show (if i = h % n then ch i ++ [q] else ch i).Nodup
    by_cases e : i = h % n
    · rw [if_pos e]
      exact List.nodup_append.mpr ⟨h3 i hi, by simp, fun a ha b hb z => hqi i hi (by rw [← List.mem_singleton.mp hb, ← z]; exact ha)⟩
    · rw [if_neg e]; exact h3 i hi
/-- the keys of the grown list -/
theorem ky_add {w w' : Gh} {D : va_G} {es : List Nat} {hN ky : Nat → Nat} {q k h : Nat} (hF : FRM D w w') (hk : ∀ a ∈ es, KY w (ky a) (hN a)) (hq : q ∉ es) (hk2 : KY w k h) : ∀ a ∈ es ++ [q], KY w' (va_up ky q k a) (va_up hN q h a) := fun a ha => by
  rcases List.mem_append.mp ha with z | z
  · rw [va_up_ne _ _ (fun e => hq (by rw [← e]; exact z)), va_up_ne _ _ (fun e => hq (by rw [← e]; exact z))]; exact hF.ky (hk a z)
  · rw [List.mem_singleton.mp z, va_up_self, va_up_self]; exact hF.ky hk2
theorem lt_add {es : List Nat} {hN : Nat → Nat} {q h : Nat} (hl : ∀ a ∈ es, hN a < 300) (hq : q ∉ es) (hh : h < 300) : ∀ a ∈ es ++ [q], va_up hN q h a < 300 := fun a ha => by
  rcases List.mem_append.mp ha with z | z
  · rw [va_up_ne _ _ (fun e => hq (by rw [← e]; exact z))]; exact hl a z
  · rw [List.mem_singleton.mp z, va_up_self]; exact hh
theorem inj_add {es : List Nat} {hN : Nat → Nat} {q h : Nat} (hi : ∀ a ∈ es, ∀ b ∈ es, hN a = hN b → a = b) (hq : q ∉ es) (hn : ∀ a ∈ es, hN a ≠ h) : ∀ a ∈ es ++ [q], ∀ b ∈ es ++ [q], va_up hN q h a = va_up hN q h b → a = b := fun a ha b hb e => by
  have hu : ∀ a, a ∈ es → va_up hN q h a = hN a := fun a z => va_up_ne _ _ (fun e => hq (by rw [← e]; exact z))
  rcases List.mem_append.mp ha with za | za <;> rcases List.mem_append.mp hb with zb | zb
  · rw [hu a za, hu b zb] at e; exact hi a za b zb e
  · rw [hu a za, List.mem_singleton.mp zb, va_up_self] at e; exact absurd e (hn a za)
  · rw [hu b zb, List.mem_singleton.mp za, va_up_self] at e; exact absurd e.symm (hn b zb)
  · rw [List.mem_singleton.mp za, List.mem_singleton.mp zb]
theorem nd_add {es : List Nat} {q : Nat} (h : es.Nodup) (hq : q ∉ es) : (es ++ [q]).Nodup := List.nodup_append.mpr ⟨h, by simp, fun a ha b hb z => hq (by rw [← List.mem_singleton.mp hb, ← z]; exact ha)⟩
theorem be_add {K : Nat → Nat} {es : List Nat} {q : Nat} (h : ∀ a ∈ es, K 0 ≤ a) (hq : K 0 ≤ q) : ∀ a ∈ es ++ [q], K 0 ≤ a := fun a ha => by
  rcases List.mem_append.mp ha with z | z
  · exact h a z
  · rw [List.mem_singleton.mp z]; exact hq
