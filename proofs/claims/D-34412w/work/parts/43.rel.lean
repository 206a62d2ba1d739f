/-! the two sides: DroitLine's data against the reference's state -/
def bGet (h : Nat) : List (Nat × Int32) → Int32
  | [] => -1
  | q :: r => if q.1 = h then q.2 else bGet h r
def i2 (x : Int32) (a b : Int) : Prop := a ≤ x.toInt ∧ x.toInt ≤ b
/-- one lot -/
def RLot (f : Nat → Int32) (A : Nat → Nat → Int32) (i : Nat) : Prop :=
  (f 1 = A 1 i ∧ f 2 = A 3 i ∧ f 3 = A 2 i ∧ f 4 = A 4 i ∧ f 7 = A 7 i ∧ f 8 = A 13 i ∧ f 9 = A 14 i ∧ f 10 = A 15 i ∧ f 11 = A 11 i ∧ f 12 = A 12 i) ∧
  (((f 4 = 0 ∨ f 4 = 1) ∧ f 5 = -1 ∧ f 6 = -1) ∨ ((f 4 = 2 ∨ f 4 = 3 ∨ f 4 = 4) ∧ f 5 = A 5 i ∧ f 6 = A 6 i ∧ i2 (f 5) 0 9 ∧ i2 (f 6) 0 1000000)) ∧
  (i2 (f 1) 0 5 ∧ (f 2 = -1 ∨ i2 (f 2) 0 2000) ∧ i2 (f 3) 0 1000000 ∧ i2 (f 8) 0 1000000 ∧ (f 11 = -1 ∨ i2 (f 11) 0 9) ∧ i2 (f 12) 0 1000000)
/-- the bids, in the order in which they were left -/
def RB (T N : Nat) (bl : List (Nat × Int32)) (A : Nat → Nat → Int32) (c10 : Int32) : Prop :=
  (bl.map (fun q => q.1)).Nodup ∧ (∀ q ∈ bl, q.1 < 10 * N ∧ i2 q.2 0 1000000) ∧ (∀ h, h < 10 * N → A 8 h = bGet h bl) ∧ bl.Pairwise (fun a b => (A 9 a.1).toInt < (A 9 b.1).toInt) ∧ (∀ q ∈ bl, (A 9 q.1).toInt < c10.toInt) ∧ ∃ M, M ≤ T ∧ c10 = nI M ∧ bl.length ≤ M
def zk (k : Nat) : Prop := k = 1 ∨ k = 7 ∨ k = 11 ∨ k = 12 ∨ k = 13 ∨ k = 14 ∨ k = 15
def RL (T : Nat) (X : DQ) (C : Nat → Int32) (A : Nat → Nat → Int32) (B : Nat → Int64) : Prop :=
  (C 0 = nI (dN X) ∧ dN X ≤ 30) ∧ (∀ i, i < dN X → RLot (dF X i) A i) ∧ (∀ i, dN X ≤ i → ∀ k, zk k → A k i = 0) ∧
  (dA X 0 = A 17 ∧ dA X 1 = A 16 ∧ dC X 0 = C 18 ∧ dC X 1 = C 19 ∧ dM X 0 = B 20 ∧ dM X 1 = B 21 ∧ dM X 2 = B 22) ∧
  ((∀ j, j < 6 → i2 (A 17 j) 0 50) ∧ (∀ j, j < 10 → i2 (A 16 j) 0 (1000000 * T))) ∧ RB T (dN X) (dB X) A (C 10)
theorem RB.mono {T T' N : Nat} {bl : List (Nat × Int32)} {A : Nat → Nat → Int32} {c : Int32} (h : RB T N bl A c) (hT : T ≤ T') : RB T' N bl A c := by
  obtain ⟨h1, h2, h3, h4, h5, M, h6, h7⟩ := h
  exact ⟨h1, h2, h3, h4, h5, M, by omega, h7⟩
theorem RB.cg {T N : Nat} {bl : List (Nat × Int32)} {A A' : Nat → Nat → Int32} {c : Int32} (h : RB T N bl A c) (h8 : A' 8 = A 8) (h9 : A' 9 = A 9) : RB T N bl A' c := by
  unfold RB at h ⊢
  rw [h8, h9]
  exact h
theorem RL.mono {T T' : Nat} {X : DQ} {C : Nat → Int32} {A : Nat → Nat → Int32} {B : Nat → Int64} (h : RL T X C A B) (hT : T ≤ T') : RL T' X C A B := by
  obtain ⟨h1, h2, h3, h4, ⟨h5, h6⟩, h7⟩ := h
  exact ⟨h1, h2, h3, h4, ⟨h5, fun j hj => ⟨(h6 j hj).1, by have := (h6 j hj).2; omega⟩⟩, h7.mono hT⟩
/-- what the methods leave: the reference's thrown, its answer, the states -/
def LQ (T : Nat) (xk : Nat → Int32) (d : Nat × Int32 × DQ) (r : mSp Int32) : Prop := r.2.1 23 = xk d.1 ∧ (d.1 = 0 → d.2.1 = r.1) ∧ d.1 ≤ 3 ∧ RL (T + 1) d.2.2 r.2.1 r.2.2.1 r.2.2.2
abbrev xk123 : Nat → Int32 := fun k => nI k
abbrev xk13 : Nat → Int32 := fun k => if k = 0 then 0 else if k = 1 then 1 else 2
abbrev xk2 : Nat → Int32 := fun k => if k = 0 then 0 else 1
abbrev xk23 : Nat → Int32 := fun k => if k = 0 then 0 else if k = 2 then 1 else 2
theorem RL.c23 {T : Nat} {X : DQ} {C : Nat → Int32} {A : Nat → Nat → Int32} {B : Nat → Int64} {x : Int32} (h : RL T X C A B) : RL (T + 1) X (upd C 23 x) A B := (show RL T X (upd C 23 x) A B from h).mono (by omega)
theorem mW_bI (x a b : Int32) : mWithin x a b = bI x a b := by
  unfold mWithin bI
  by_cases h1 : x < a
  · rw [if_pos h1, if_neg (fun z => absurd h1 (Int32.not_lt.mpr z.1))]
  · rw [if_neg h1]
    by_cases h2 : b < x
    · rw [if_pos h2, if_neg (fun z => absurd h2 (Int32.not_lt.mpr z.2))]
    · rw [if_neg h2, if_pos ⟨Int32.not_lt.mp h1, Int32.not_lt.mp h2⟩]
theorem bI_0 {x a b : Int32} : bI x a b = 0 ↔ ¬ (a ≤ x ∧ x ≤ b) := by
  unfold bI
  by_cases h : a ≤ x ∧ x ≤ b
  · rw [if_pos h]; exact ⟨fun z => absurd z (by decide), fun z => absurd h z⟩
  · rw [if_neg h]; exact ⟨fun _ => h, fun _ => rfl⟩
theorem isLot_0 {C : Nat → Int32} {A : Nat → Nat → Int32} {B : Nat → Int64} {i : Int32} {N : Nat} (hC : C 0 = nI N) (hN : N ≤ 30) : (mF_isLot C A B i = 0) ↔ ¬ (¬ i < 0 ∧ i < nI N) := by
  unfold mF_isLot
  rw [mW_bI, bI_0, hC]
  have h1 : (nI N - 1).toInt = (N : Int) - 1 := by rw [show (1 : Int32) = nI 1 from rfl]; exact pk_sub_toInt (by omega) (by decide)
  have h2 : (nI N).toInt = N := nI_toInt (by omega)
  have h0 : (0 : Int32).toInt = 0 := rfl
  rw [Int32.le_iff_toInt_le, Int32.le_iff_toInt_le, Int32.lt_iff_toInt_lt, Int32.lt_iff_toInt_lt, h1, h2, h0]
  omega
theorem buyer_0 {i : Int32} : (mBuyer i = 0) ↔ ¬ (¬ i < 0 ∧ i < 10) := by
  unfold mBuyer
  rw [mW_bI, bI_0]
  have h0 : (0 : Int32).toInt = 0 := rfl
  have h1 : (9 : Int32).toInt = 9 := rfl
  have h2 : (10 : Int32).toInt = 10 := rfl
  rw [Int32.le_iff_toInt_le, Int32.le_iff_toInt_le, Int32.lt_iff_toInt_lt, Int32.lt_iff_toInt_lt, h1, h2, h0]
  omega
theorem seller_0 {i : Int32} : (mWithin i 0 5 = 0) ↔ ¬ (¬ i < 0 ∧ i < 6) := by
  rw [mW_bI, bI_0]
  have h0 : (0 : Int32).toInt = 0 := rfl
  have h1 : (5 : Int32).toInt = 5 := rfl
  have h2 : (6 : Int32).toInt = 6 := rfl
  rw [Int32.le_iff_toInt_le, Int32.le_iff_toInt_le, Int32.lt_iff_toInt_lt, Int32.lt_iff_toInt_lt, h1, h2, h0]
  omega
theorem i2_of {x : Int32} {a b : Int32} (h : a ≤ x ∧ x ≤ b) : i2 x a.toInt b.toInt := ⟨Int32.le_iff_toInt_le.mp h.1, Int32.le_iff_toInt_le.mp h.2⟩
theorem i2_ix {i : Int32} {n : Nat} (h : ¬ i < 0 ∧ i < nI n) (hn : n < 2 ^ 31) : i2 i 0 ((n : Int) - 1) := by
  have h1 := h.1
  have h2 := h.2
  rw [Int32.lt_iff_toInt_lt] at h1 h2
  rw [nI_toInt hn] at h2
  rw [show (0 : Int32).toInt = 0 from rfl] at h1
  exact ⟨by omega, by omega⟩
theorem vin_i2 {x : Int32} {n : Nat} (h : i2 x 0 ((n : Int) - 1)) : vp_in x n := by
  refine vp_in_iff.mpr ?_
  have h1 := h.1
  have h2 := h.2
  omega
/-! the steps, the called amounts -/
theorem step_eq (x : Int32) : bAt BDs x = mStep x := by
  unfold bAt bAt bAt bAt mStep
  by_cases h1 : x < 1000
  · rw [if_pos h1, if_neg (Int32.not_le.mpr h1)]
  · rw [if_neg h1, if_pos (Int32.not_lt.mp h1)]
    by_cases h2 : x < 5000
    · rw [if_pos h2, if_neg (Int32.not_le.mpr h2)]
    · rw [if_neg h2, if_pos (Int32.not_lt.mp h2)]
      by_cases h3 : x < 20000
      · rw [if_pos h3, if_neg (Int32.not_le.mpr h3)]
      · rw [if_neg h3, if_pos (Int32.not_lt.mp h3)]
theorem call_eq (x : Int32) : dCall x = mCall x := by
  unfold dCall mCall
  rw [step_eq]
theorem call_i2 {x : Int32} (h : i2 x 0 1000000) : i2 (mCall x) 0 1000000 := by
  obtain ⟨j, hj, rfl⟩ : ∃ j : Nat, j ≤ 1000000 ∧ x = nI j := by
    refine nI_of2 (M := 1000000) rfl ?_ ?_
    · rw [Int32.lt_iff_toInt_lt, show (0 : Int32).toInt = 0 from rfl]; have := h.1; omega
    · rw [Int32.le_iff_toInt_le, show (1000000 : Int32).toInt = 1000000 from rfl]; exact h.2
  obtain ⟨d, hd, h1, h2⟩ : ∃ d : Nat, mStep (nI j) = nI d ∧ 0 < d ∧ d < 2 ^ 31 := by
    unfold mStep
    split
    · split
      · split
        · exact ⟨1000, rfl, by decide, by decide⟩
        · exact ⟨500, rfl, by decide, by decide⟩
      · exact ⟨100, rfl, by decide, by decide⟩
    · exact ⟨50, rfl, by decide, by decide⟩
  unfold mCall
  rw [hd, pk_rem (by omega) h1 h2, pk_sub (Nat.mod_le _ _)]
  unfold i2
  rw [nI_toInt (by omega)]
  omega
