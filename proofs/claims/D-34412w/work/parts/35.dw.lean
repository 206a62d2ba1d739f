/-! DroitLine's data and its world -/
abbrev DQ : Type := Nat × (Nat → Nat) × (Nat → Nat → Int32) × List (Nat × Int32) × (Nat → Nat → Int32) × (Nat → Int32) × (Nat → Int64)
def dN (X : DQ) : Nat := X.1
def dL (X : DQ) : Nat → Nat := X.2.1
def dF (X : DQ) : Nat → Nat → Int32 := X.2.2.1
def dB (X : DQ) : List (Nat × Int32) := X.2.2.2.1
def dA (X : DQ) : Nat → Nat → Int32 := X.2.2.2.2.1
def dC (X : DQ) : Nat → Int32 := X.2.2.2.2.2.1
def dM (X : DQ) : Nat → Int64 := X.2.2.2.2.2.2
def sF (X : DQ) (i k : Nat) (x : Int32) : DQ := (dN X, dL X, updA (dF X) i k x, dB X, dA X, dC X, dM X)
def sB (X : DQ) (b : List (Nat × Int32)) : DQ := (dN X, dL X, dF X, b, dA X, dC X, dM X)
def sA (X : DQ) (k i : Nat) (x : Int32) : DQ := (dN X, dL X, dF X, dB X, updA (dA X) k i x, dC X, dM X)
def sC (X : DQ) (k : Nat) (x : Int32) : DQ := (dN X, dL X, dF X, dB X, dA X, upd (dC X) k x, dM X)
def sM (X : DQ) (k : Nat) (x : Int64) : DQ := (dN X, dL X, dF X, dB X, dA X, dC X, vp_updL (dM X) k x)
/-- one more lot: its address and its fields -/
def sN (X : DQ) (q : Nat) (f : Nat → Int32) : DQ := (dN X + 1, va_up (dL X) (dN X) q, va_up (dF X) (dN X) f, dB X, dA X, dC X, dM X)
abbrev BDs : List (Int32 × Int32) := [(1000, 50), (5000, 100), (20000, 500), (0, 1000)]
abbrev BDf : List (Int32 × Int32) := [(10000, 25), (50000, 20), (0, 12)]
abbrev BDh : List (Int32 × Int32) := [(50000, 4), (200000, 3), (0, 1)]
abbrev n4 (n : Nat) : Prop := n = 10 ∨ n = 15 ∨ n = 22 ∨ n = 33
abbrev lga (N : Nat) (el : Nat → Nat) : Nat → Option Nat := fun j => if j < N then some (el j) else none
def LTB (D : va_G) (K : Nat → Nat) (w : Gh) (t cap N : Nat) (el : Nat → Nat) : Prop := (N = 0 ∧ t = K 1) ∨ (n4 cap ∧ 0 < N ∧ N ≤ cap ∧ K 0 ≤ t ∧ w t = some (.inl (D.1 102, cap, gra (lga N el))))
abbrev DD (D : va_G) : Prop := D.1 100 ≠ D.1 102 ∧ D.1 100 ≠ D.1 103 ∧ D.1 101 ≠ D.1 102 ∧ D.1 101 ≠ D.1 103 ∧ D.1 102 ≠ D.1 103
abbrev WKc (K : Nat → Nat) (w : Gh) : Prop := ∀ j, j < 256 → w (K (10 + j)) = some (.inr (12, [.int (vb_c j)]))
def DV (D : va_G) (K : Nat → Nat) (w : Gh) (dl ca oa : Nat) (X : DQ) (sb fb hb lq mp : Nat) (md lmd : Int32) (ks : Option Nat) (es : List Nat) (hN ky vl : Nat → Nat) (bv : Nat → Int32) (t cap : Nat) : Prop :=
  (w dl = some (.inr (0, dfs sb fb hb lq mp ca oa (dC X 0) (dC X 1) (dM X 0) (dM X 1) (dM X 2))) ∧ K 0 ≤ dl) ∧
  (BD w sb BDs ∧ BD w fb BDf ∧ BD w hb BDh) ∧
  (w lq = some (.inr (6, [.int lmd, .ref t, .int (nI (dN X))])) ∧ K 0 ≤ lq ∧ dN X ≤ 30 ∧ LTB D K w t cap (dN X) (dL X)) ∧
  (∀ i, i < dN X → w (dL X i) = some (.inr (3, lfs i (dF X i) dl)) ∧ K 0 ≤ dL X i) ∧
  (MS D K w mp md ks es hN ky vl ∧ (∀ k, ks = some k → w k = some (.inr (9, [.int 0, .ref mp]))) ∧ (∀ a ∈ es, w (vl a) = some (.inr (12, [.int (bv a)]))) ∧ dB X = es.map (fun a => (hN a, bv a))) ∧
  (w ca = some (.inl (D.1 100, 6, .inl (dA X 0))) ∧ K 0 ≤ ca) ∧ (w oa = some (.inl (D.1 100, 10, .inl (dA X 1))) ∧ K 0 ≤ oa) ∧ ca ≠ oa ∧ WKc K w ∧ DD D
def DW (D : va_G) (K : Nat → Nat) (w : Gh) (dl ca oa : Nat) (X : DQ) : Prop := ∃ sb fb hb lq mp md lmd ks es hN ky vl bv t cap, DV D K w dl ca oa X sb fb hb lq mp md lmd ks es hN ky vl bv t cap
theorem DV.W {D : va_G} {K : Nat → Nat} {w : Gh} {dl ca oa : Nat} {X : DQ} {sb fb hb lq mp : Nat} {md lmd : Int32} {ks : Option Nat} {es : List Nat} {hN ky vl : Nat → Nat} {bv : Nat → Int32} {t cap : Nat} (h : DV D K w dl ca oa X sb fb hb lq mp md lmd ks es hN ky vl bv t cap) : DW D K w dl ca oa X := ⟨_, _, _, _, _, _, _, _, _, _, _, _, _, _, _, h⟩
/-- cells that the data rest on -/
def dk (D : va_G) (ca oa lq t a : Nat) (x : va_E) : Prop := match x with
  | .inl (c, _) => (c = D.1 102 ∧ a = t) ∨ c = D.1 103 ∨ a = ca ∨ a = oa
  | .inr (c, _) => c ≠ 2 ∧ c ≠ 5 ∧ c ≠ 10 ∧ c ≠ 11 ∧ (c = 6 → a = lq)
theorem BD.kp {w w' : Gh} (hk : ∀ a fs, w a = some (.inr (1, fs)) → w' a = some (.inr (1, fs))) : ∀ (l : List (Int32 × Int32)) (b : Nat), BD w b l → BD w' b l
  | [], _, h => h
  | [_], _, h => hk _ _ h
  | _ :: q2 :: r, _, h => by
    obtain ⟨b2, h1, h2⟩ := h
    exact ⟨b2, hk _ _ h1, BD.kp hk (q2 :: r) b2 h2⟩
section DVs
variable {D : va_G} {K : Nat → Nat} {w w' : Gh} {dl ca oa : Nat} {X : DQ} {sb fb hb lq mp : Nat} {md lmd : Int32} {ks : Option Nat} {es : List Nat} {hN ky vl : Nat → Nat} {bv : Nat → Int32} {t cap : Nat}
theorem LTB.kp {N : Nat} {el : Nat → Nat} (h : LTB D K w t cap N el) (hk : ∀ x, w t = some x → (∃ y, x = .inl (D.1 102, y)) → w' t = some x) : LTB D K w' t cap N el := by
  rcases h with h | ⟨h1, h0, h2, h3, h4⟩
  · exact Or.inl h
  · exact Or.inr ⟨h1, h0, h2, h3, hk _ h4 ⟨_, rfl⟩⟩
theorem DV.kp (h : DV D K w dl ca oa X sb fb hb lq mp md lmd ks es hN ky vl bv t cap) (hk : ∀ a x, w a = some x → dk D ca oa lq t a x → w' a = some x) : DV D K w' dl ca oa X sb fb hb lq mp md lmd ks es hN ky vl bv t cap := by
  obtain ⟨⟨a1, a2⟩, ⟨b1, b2, b3⟩, ⟨c1, c2, c3, c4⟩, d1, ⟨e1, e2, e3, e4⟩, ⟨f1, f2⟩, ⟨g1, g2⟩, i1, j1, k1⟩ := h
  have ko : ∀ (a c : Nat) (fs : List Value), w a = some (.inr (c, fs)) → (c ≠ 2 ∧ c ≠ 5 ∧ c ≠ 10 ∧ c ≠ 11 ∧ c ≠ 6) → w' a = some (.inr (c, fs)) := fun a c fs q1 q2 => hk a _ q1 ⟨q2.1, q2.2.1, q2.2.2.1, q2.2.2.2.1, fun e => absurd e q2.2.2.2.2⟩
  have kB : ∀ a fs, w a = some (.inr (1, fs)) → w' a = some (.inr (1, fs)) := fun a fs q => ko a 1 fs q (by decide)
  refine ⟨⟨ko _ _ _ a1 (by decide), a2⟩, ⟨b1.kp kB, b2.kp kB, b3.kp kB⟩, ⟨hk _ _ c1 ⟨by decide, by decide, by decide, by decide, fun _ => rfl⟩, c2, c3, c4.kp (fun x q1 q2 => ?_)⟩, fun i hi => ⟨ko _ _ _ (d1 i hi).1 (by decide), (d1 i hi).2⟩, ⟨e1.kp (fun a x q1 q2 => ?_), fun k hk2 => ko _ _ _ (e2 k hk2) (by decide), fun a ha => ko _ _ _ (e3 a ha) (by decide), e4⟩, ⟨hk _ _ f1 (Or.inr (Or.inr (Or.inl rfl))), f2⟩, ⟨hk _ _ g1 (Or.inr (Or.inr (Or.inr rfl))), g2⟩, i1, fun j hj => ko _ _ _ (j1 j hj) (by decide), k1⟩
  · obtain ⟨y, rfl⟩ := q2
    exact hk _ _ q1 (Or.inl ⟨rfl, rfl⟩)
  · rcases x with ⟨c, y⟩ | ⟨c, fs⟩
    · refine hk _ _ q1 (Or.inr (Or.inl ?_))
      rcases q2 with q2 | ⟨y, q2⟩
      · exact Decidable.byContradiction fun z => q2 z
      · cases q2
    · have := mapc_o q2
      refine ko _ _ _ q1 ?_
      omega
theorem DV.map (h : DV D K w dl ca oa X sb fb hb lq mp md lmd ks es hN ky vl bv t cap) {md' : Int32} {ks' : Option Nat} {es' : List Nat} {hN' ky' vl' : Nat → Nat} {bv' : Nat → Int32} {b' : List (Nat × Int32)} (hF : FRM D w w') (hM : MS D K w' mp md' ks' es' hN' ky' vl') (hks : ∀ k, ks' = some k → w' k = some (.inr (9, [.int 0, .ref mp]))) (hv : ∀ a ∈ es', w' (vl' a) = some (.inr (12, [.int (bv' a)]))) (hbl : b' = es'.map (fun a => (hN' a, bv' a))) :
    DV D K w' dl ca oa (sB X b') sb fb hb lq mp md' lmd ks' es' hN' ky' vl' bv' t cap := by
  obtain ⟨⟨a1, a2⟩, ⟨b1, b2, b3⟩, ⟨c1, c2, c3, c4⟩, d1, ⟨e1, e2, e3, e4⟩, ⟨f1, f2⟩, ⟨g1, g2⟩, i1, j1, k1⟩ := h
  have ko : ∀ (a c : Nat) (fs : List Value), w a = some (.inr (c, fs)) → (c ≠ 7 ∧ c ≠ 8) → w' a = some (.inr (c, fs)) := fun a c fs q1 q2 => hF a _ q1 q2
  have kB : ∀ a fs, w a = some (.inr (1, fs)) → w' a = some (.inr (1, fs)) := fun a fs q => ko a 1 fs q (by decide)
  exact ⟨⟨ko _ _ _ a1 (by decide), a2⟩, ⟨b1.kp kB, b2.kp kB, b3.kp kB⟩, ⟨ko _ _ _ c1 (by decide), c2, c3, c4.kp (fun x q1 q2 => by obtain ⟨y, rfl⟩ := q2; exact hF _ _ q1 k1.2.2.2.2)⟩, fun i hi => ⟨ko _ _ _ (d1 i hi).1 (by decide), (d1 i hi).2⟩, ⟨hM, hks, hv, hbl⟩, ⟨hF _ _ f1 k1.2.1, f2⟩, ⟨hF _ _ g1 k1.2.1, g2⟩, i1, fun j hj => ko _ _ _ (j1 j hj) (by decide), k1⟩
theorem DV.putD (h : DV D K w dl ca oa X sb fb hb lq mp md lmd ks es hN ky vl bv t cap) {X' : DQ} {fs : List Value} (e : fs = dfs sb fb hb lq mp ca oa (dC X' 0) (dC X' 1) (dM X' 0) (dM X' 1) (dM X' 2)) (eX : dN X' = dN X ∧ dL X' = dL X ∧ dF X' = dF X ∧ dB X' = dB X ∧ dA X' = dA X) : DV D K (gu w dl (.inr (0, fs))) dl ca oa X' sb fb hb lq mp md lmd ks es hN ky vl bv t cap := by
  obtain ⟨⟨a1, a2⟩, ⟨b1, b2, b3⟩, ⟨c1, c2, c3, c4⟩, d1, ⟨e1, e2, e3, e4⟩, ⟨f1, f2⟩, ⟨g1, g2⟩, i1, j1, k1⟩ := h
  obtain ⟨x1, x2, x3, x4, x5⟩ := eX
  have ko : ∀ (a c : Nat) (f : List Value), w a = some (.inr (c, f)) → c ≠ 0 → gu w dl (.inr (0, fs)) a = some (.inr (c, f)) := fun a c f q1 q2 => by rw [gu_n (gne_c q1 a1 q2)]; exact q1
  have ka : ∀ (a : Nat) (y : ClassId × vp_A), w a = some (.inl y) → gu w dl (.inr (0, fs)) a = some (.inl y) := fun a y q1 => by rw [gu_n (gne_ao q1 a1)]; exact q1
  have kB : ∀ a f, w a = some (.inr (1, f)) → gu w dl (.inr (0, fs)) a = some (.inr (1, f)) := fun a f q => ko a 1 f q (by decide)
  unfold DV
  rw [x1, x2, x3, x4, x5]
  exact ⟨⟨by rw [gu_s, e], a2⟩, ⟨b1.kp kB, b2.kp kB, b3.kp kB⟩, ⟨ko _ _ _ c1 (by decide), c2, c3, c4.kp (fun x q1 q2 => by obtain ⟨y, rfl⟩ := q2; exact ka _ _ q1)⟩, fun i hi => ⟨ko _ _ _ (d1 i hi).1 (by decide), (d1 i hi).2⟩, ⟨e1.kp (FRQ.up a1 (by decide)), fun k hk2 => ko _ _ _ (e2 k hk2) (by decide), fun a ha => ko _ _ _ (e3 a ha) (by decide), e4⟩, ⟨ka _ _ f1, f2⟩, ⟨ka _ _ g1, g2⟩, i1, fun j hj => ko _ _ _ (j1 j hj) (by decide), k1⟩
theorem DV.putL (h : DV D K w dl ca oa X sb fb hb lq mp md lmd ks es hN ky vl bv t cap) {i k : Nat} {x : Int32} (hi : i < dN X) {fs : List Value} (e : fs = lfs i (upd (dF X i) k x) dl) : DV D K (gu w (dL X i) (.inr (3, fs))) dl ca oa (sF X i k x) sb fb hb lq mp md lmd ks es hN ky vl bv t cap := by
  obtain ⟨⟨a1, a2⟩, ⟨b1, b2, b3⟩, ⟨c1, c2, c3, c4⟩, d1, ⟨e1, e2, e3, e4⟩, ⟨f1, f2⟩, ⟨g1, g2⟩, i1, j1, k1⟩ := h
  have l1 := (d1 i hi).1
  have ko : ∀ (a c : Nat) (f : List Value), w a = some (.inr (c, f)) → c ≠ 3 → gu w (dL X i) (.inr (3, fs)) a = some (.inr (c, f)) := fun a c f q1 q2 => by rw [gu_n (gne_c q1 l1 q2)]; exact q1
  have ka : ∀ (a : Nat) (y : ClassId × vp_A), w a = some (.inl y) → gu w (dL X i) (.inr (3, fs)) a = some (.inl y) := fun a y q1 => by rw [gu_n (gne_ao q1 l1)]; exact q1
  have kB : ∀ a f, w a = some (.inr (1, f)) → gu w (dL X i) (.inr (3, fs)) a = some (.inr (1, f)) := fun a f q => ko a 1 f q (by decide)
  refine ⟨⟨ko _ _ _ a1 (by decide), a2⟩, ⟨b1.kp kB, b2.kp kB, b3.kp kB⟩, ⟨ko _ _ _ c1 (by decide), c2, c3, c4.kp (fun x q1 q2 => by obtain ⟨y, rfl⟩ := q2; exact ka _ _ q1)⟩, fun j hj => ⟨?_, (d1 j hj).2⟩, ⟨e1.kp (FRQ.up l1 (by decide)), fun k hk2 => ko _ _ _ (e2 k hk2) (by decide), fun a ha => ko _ _ _ (e3 a ha) (by decide), e4⟩, ⟨ka _ _ f1, f2⟩, ⟨ka _ _ g1, g2⟩, i1, fun j hj => ko _ _ _ (j1 j hj) (by decide), k1⟩
  have hj' : j < dN X := hj
  show gu w (dL X i) (.inr (3, fs)) (dL X j) = some (.inr (3, lfs j (updA (dF X) i k x j) dl))
  by_cases q : j = i
  · subst q
    rw [gu_s, e]
    unfold updA
    rw [if_pos rfl]
  · rw [gu_n ?_, (d1 j hj').1]
    · unfold updA
      rw [if_neg q]
    · intro z
      have h9 := (d1 j hj').1
      rw [z, l1] at h9
      have h8 : (Value.int (nI i)) = Value.int (nI j) := by injection h9 with h9; injection h9 with h9; injection h9 with _ h9; injection h9
      injection h8 with h8
      exact q ((nI_eq (by omega) (by omega)).mp h8).symm
theorem DV.putA0 (h : DV D K w dl ca oa X sb fb hb lq mp md lmd ks es hN ky vl bv t cap) {i : Nat} {x : Int32} : DV D K (gu w ca (.inl (D.1 100, 6, .inl (upd (dA X 0) i x)))) dl ca oa (sA X 0 i x) sb fb hb lq mp md lmd ks es hN ky vl bv t cap := by
  obtain ⟨⟨a1, a2⟩, ⟨b1, b2, b3⟩, ⟨c1, c2, c3, c4⟩, d1, ⟨e1, e2, e3, e4⟩, ⟨f1, f2⟩, ⟨g1, g2⟩, i1, j1, k1⟩ := h
  have ko : ∀ (a c : Nat) (f : List Value), w a = some (.inr (c, f)) → gu w ca (.inl (D.1 100, 6, .inl (upd (dA X 0) i x))) a = some (.inr (c, f)) := fun a c f q1 => by rw [gu_n (Ne.symm (gne_ao f1 q1))]; exact q1
  exact ⟨⟨ko _ _ _ a1, a2⟩, ⟨b1.kp (fun a f q => ko a 1 f q), b2.kp (fun a f q => ko a 1 f q), b3.kp (fun a f q => ko a 1 f q)⟩, ⟨ko _ _ _ c1, c2, c3, c4.kp (fun x q1 q2 => by
    obtain ⟨y, rfl⟩ := q2
    rw [gu_n (fun z => by rw [z, f1] at q1; injection q1 with q1; injection q1 with q1; injection q1 with q1; exact k1.1 q1)]; exact q1)⟩, fun i hi => ⟨ko _ _ _ (d1 i hi).1, (d1 i hi).2⟩, ⟨e1.kp (FRQ.upa f1 k1.2.1), fun k hk2 => ko _ _ _ (e2 k hk2), fun a ha => ko _ _ _ (e3 a ha), e4⟩, ⟨gu_s, f2⟩, ⟨by rw [gu_n (Ne.symm i1)]; exact g1, g2⟩, i1, fun j hj => ko _ _ _ (j1 j hj), k1⟩
theorem DV.putA1 (h : DV D K w dl ca oa X sb fb hb lq mp md lmd ks es hN ky vl bv t cap) {i : Nat} {x : Int32} : DV D K (gu w oa (.inl (D.1 100, 10, .inl (upd (dA X 1) i x)))) dl ca oa (sA X 1 i x) sb fb hb lq mp md lmd ks es hN ky vl bv t cap := by
  obtain ⟨⟨a1, a2⟩, ⟨b1, b2, b3⟩, ⟨c1, c2, c3, c4⟩, d1, ⟨e1, e2, e3, e4⟩, ⟨f1, f2⟩, ⟨g1, g2⟩, i1, j1, k1⟩ := h
  have ko : ∀ (a c : Nat) (f : List Value), w a = some (.inr (c, f)) → gu w oa (.inl (D.1 100, 10, .inl (upd (dA X 1) i x))) a = some (.inr (c, f)) := fun a c f q1 => by rw [gu_n (Ne.symm (gne_ao g1 q1))]; exact q1
  exact ⟨⟨ko _ _ _ a1, a2⟩, ⟨b1.kp (fun a f q => ko a 1 f q), b2.kp (fun a f q => ko a 1 f q), b3.kp (fun a f q => ko a 1 f q)⟩, ⟨ko _ _ _ c1, c2, c3, c4.kp (fun x q1 q2 => by
    obtain ⟨y, rfl⟩ := q2
    rw [gu_n (fun z => by rw [z, g1] at q1; injection q1 with q1; injection q1 with q1; injection q1 with q1; exact k1.1 q1)]; exact q1)⟩, fun i hi => ⟨ko _ _ _ (d1 i hi).1, (d1 i hi).2⟩, ⟨e1.kp (FRQ.upa g1 k1.2.1), fun k hk2 => ko _ _ _ (e2 k hk2), fun a ha => ko _ _ _ (e3 a ha), e4⟩, ⟨by rw [gu_n i1]; exact f1, f2⟩, ⟨gu_s, g2⟩, i1, fun j hj => ko _ _ _ (j1 j hj), k1⟩
/-! the frame: what belongs to others is kept -/
def fo (D : va_G) (ca oa a : Nat) (x : va_E) : Prop := match x with
  | .inl (c, _) => (c = D.1 100 ∨ c = D.1 101) ∧ a ≠ ca ∧ a ≠ oa
  | .inr (c, _) => c = 2
def FD (D : va_G) (ca oa : Nat) (w w' : Gh) : Prop := ∀ a x, w a = some x → fo D ca oa a x → w' a = some x
theorem FD.rf : FD D ca oa w w := fun _ _ h _ => h
theorem FD.tr {w2 : Gh} (h : FD D ca oa w w') (h2 : FD D ca oa w' w2) : FD D ca oa w w2 := fun a x q1 q2 => h2 a x (h a x q1 q2) q2
theorem FD.all (h : ∀ a x, w a = some x → w' a = some x) : FD D ca oa w w' := fun a x q _ => h a x q
theorem FD.up {b c : Nat} {fs : List Value} {x : va_E} (hb : w b = some (.inr (c, fs))) (hc : c ≠ 2) : FD D ca oa w (gu w b x) := fun a z h1 h2 => by
  rw [gu_n ?_]
  · exact h1
  · rintro rfl
    rw [hb] at h1
    cases h1
    exact hc h2
theorem FD.new {b : Nat} {x : va_E} (hb : w b = none) : FD D ca oa w (gu w b x) := fun a z h1 _ => by rw [gu_n (gne_f h1 hb)]; exact h1
theorem FD.upc {x : va_E} {y : ClassId × vp_A} (hc : w ca = some (.inl y)) : FD D ca oa w (gu w ca x) := fun a z h1 h2 => by
  rw [gu_n ?_]
  · exact h1
  · rintro rfl
    rw [hc] at h1
    cases h1
    exact h2.2.1 rfl
theorem FD.upo {x : va_E} {y : ClassId × vp_A} (hc : w oa = some (.inl y)) : FD D ca oa w (gu w oa x) := fun a z h1 h2 => by
  rw [gu_n ?_]
  · exact h1
  · rintro rfl
    rw [hc] at h1
    cases h1
    exact h2.2.2 rfl
theorem fo_m {a : Nat} {x : va_E} (hD : DD D) (h : fo D ca oa a x) : nomap D x := by
  rcases x with ⟨c, y⟩ | ⟨c, fs⟩
  · obtain ⟨h | h, -⟩ := h
    · exact fun z => hD.2.1 (h.symm.trans z)
    · exact fun z => hD.2.2.2.1 (h.symm.trans z)
  · have h : c = 2 := h
    exact ⟨by omega, by omega⟩
theorem FD.m (hD : DD D) (h : FRM D w w') : FD D ca oa w w' := fun a x q1 q2 => h a x q1 (fo_m hD q2)
theorem FD.i (h : FRI w w') : FD D ca oa w w' := fun a x q1 q2 => h a x q1 fun fs => ⟨fun e => by subst e; exact absurd (show (5 : Nat) = 2 from q2) (by decide), fun e => by subst e; exact absurd (show (10 : Nat) = 2 from q2) (by decide)⟩
end DVs
