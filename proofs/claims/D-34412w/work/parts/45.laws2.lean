/-! fees, shares; pay, advance, settle -/
theorem posN {a : Nat} (h : a < 2 ^ 31) : (if 0 < nI a then nI a else 0) = nI a := by
  by_cases q : a = 0
  · subst q; decide
  · rw [if_pos (show (0 : Int32) < nI a from (nI_ltI (a := 0) (by decide) h).mpr (by omega))]
theorem pct {a k : Nat} (ha : a ≤ 1000000) (hk : k ≤ 100) : nI a * nI k / 100 = nI (a * k / 100) := by
  rw [pk_mul, show (100 : Int32) = nI 100 from rfl, pk_div ?_ (by decide) (by decide)]
  have : a * k ≤ 1000000 * 100 := Nat.mul_le_mul ha hk
  omega
theorem sub0 (x : Int32) : x - 0 = x := Int32.sub_zero x
theorem fee_eqN {n : Nat} (hn : n ≤ 1000000) : bOf BDf (nI n) 0 = mFee (nI n) := by
  have k25 : (25 : Int32) = nI 25 := rfl
  have k20 : (20 : Int32) = nI 20 := rfl
  have k12 : (12 : Int32) = nI 12 := rfl
  have kA : (10000 : Int32) = nI 10000 := rfl
  have kB : (50000 : Int32) = nI 50000 := rfl
  have kC : (40000 : Int32) = nI 40000 := rfl
  have hn31 : n < 2 ^ 31 := by omega
  unfold mFee mFe1 mFe2 bOf bOf bOf
  dsimp only
  rw [kA, kB, kC, k25, k20, k12, sub0]
  by_cases h1 : n ≤ 10000
  · rw [if_pos (nI_le (a := n) (b := 10000) h1 (by decide)), if_neg (nI_nlt (a := 10000) (b := n) h1 (by decide)), posN hn31, pct hn (by decide)]
    rw [show (if nI 10000 ≤ nI n then nI 10000 else nI n) = nI n from by
      by_cases h2 : n = 10000
      · subst h2; exact ite_self _
      · rw [if_neg (nI_ge (a := n) (b := 10000) (by omega) (by decide))]]
    rw [if_neg (nI_ge (a := n) (b := 50000) (by omega) (by decide)), pct hn (by decide), pk_sub (Nat.le_refl n), Nat.sub_self, pk_sub (Nat.le_refl 0), pct (by decide) (by decide), pct (by decide) (by decide), nI_add, nI_add]
    congr 1
  · rw [if_neg (nI_ge (a := 10000) (b := n) (by omega) hn31), if_pos (nI_lt (a := 10000) (b := n) (by omega) hn31), if_pos (nI_le (a := 10000) (b := n) (by omega) hn31)]
    rw [posN (by decide), pct (by decide) (by decide)]
    by_cases h2 : n ≤ 50000
    · rw [if_pos (nI_le (a := n) (b := 50000) h2 (by decide)), if_neg (nI_nlt (a := 50000) (b := n) h2 (by decide)), pk_sub (by omega), posN (by omega), pct (by omega) (by decide), nI_add]
      rw [show (if nI 50000 ≤ nI n then nI 40000 else nI (n - 10000)) = nI (n - 10000) from by
        by_cases h3 : n = 50000
        · subst h3; rw [if_pos (nI_le (Nat.le_refl _) (by decide))]
        · rw [if_neg (nI_ge (a := n) (b := 50000) (by omega) (by decide))]]
      rw [pct (by omega) (by decide), pk_sub (Nat.le_refl _), Nat.sub_self, pct (by decide) (by decide), nI_add, nI_add]
      congr 1
    · rw [if_neg (nI_ge (a := 50000) (b := n) (by omega) hn31), if_pos (nI_lt (a := 50000) (b := n) (by omega) hn31), if_pos (nI_le (a := 50000) (b := n) (by omega) hn31)]
      rw [pk_sub (a := 50000) (b := 10000) (by decide), posN (by decide), pct (a := 50000 - 10000) (by decide) (by decide), pk_sub (a := n) (b := 50000) (by omega), posN (by omega), pct (a := n - 50000) (by omega) (by decide), pk_sub (a := n) (b := 10000) (by omega), pk_sub (a := n - 10000) (b := 40000) (by omega), pct (a := n - 10000 - 40000) (by omega) (by decide), nI_add, nI_add, nI_add, nI_add]
      congr 1
      omega
theorem share_eqN {n : Nat} (hn : n ≤ 1000000) : bOf BDh (nI n) 0 = (((mSh1 (nI n)) * 4) / 100 + ((mSh2 (nI n) (mSh1 (nI n))) * 3) / 100) + ((nI n - mSh1 (nI n)) - mSh2 (nI n) (mSh1 (nI n))) / 100 := by
  have k4 : (4 : Int32) = nI 4 := rfl
  have k3 : (3 : Int32) = nI 3 := rfl
  have k1 : (1 : Int32) = nI 1 := rfl
  have kD : ∀ a : Nat, a ≤ 1000000 → nI a / 100 = nI (a / 100) := fun a ha => by rw [show (100 : Int32) = nI 100 from rfl, pk_div (by omega) (by decide) (by decide)]
  have kA : (50000 : Int32) = nI 50000 := rfl
  have kB : (200000 : Int32) = nI 200000 := rfl
  have kC : (150000 : Int32) = nI 150000 := rfl
  have hn31 : n < 2 ^ 31 := by omega
  unfold mSh1 mSh2 bOf bOf bOf
  dsimp only
  rw [kA, kB, kC, k4, k3, k1, sub0]
  by_cases h1 : n ≤ 50000
  · rw [if_pos (nI_le (a := n) (b := 50000) h1 (by decide)), if_neg (nI_nlt (a := 50000) (b := n) h1 (by decide)), posN hn31, pct hn (by decide)]
    rw [show (if nI 50000 ≤ nI n then nI 50000 else nI n) = nI n from by
      by_cases h2 : n = 50000
      · subst h2; exact ite_self _
      · rw [if_neg (nI_ge (a := n) (b := 50000) (by omega) (by decide))]]
    rw [if_neg (nI_ge (a := n) (b := 200000) (by omega) (by decide)), pct hn (by decide), pk_sub (Nat.le_refl n), Nat.sub_self, pk_sub (Nat.le_refl 0), pct (by decide) (by decide), kD _ (by decide), nI_add, nI_add]
    congr 1
  · rw [if_neg (nI_ge (a := 50000) (b := n) (by omega) hn31), if_pos (nI_lt (a := 50000) (b := n) (by omega) hn31), if_pos (nI_le (a := 50000) (b := n) (by omega) hn31)]
    rw [posN (by decide), pct (by decide) (by decide)]
    by_cases h2 : n ≤ 200000
    · rw [if_pos (nI_le (a := n) (b := 200000) h2 (by decide)), if_neg (nI_nlt (a := 200000) (b := n) h2 (by decide)), pk_sub (by omega), posN (by omega), pct (by omega) (by decide), nI_add]
      rw [show (if nI 200000 ≤ nI n then nI 150000 else nI (n - 50000)) = nI (n - 50000) from by
        by_cases h3 : n = 200000
        · subst h3; rw [if_pos (nI_le (Nat.le_refl _) (by decide))]
        · rw [if_neg (nI_ge (a := n) (b := 200000) (by omega) (by decide))]]
      rw [pct (by omega) (by decide), pk_sub (Nat.le_refl _), Nat.sub_self, kD _ (by decide), nI_add, nI_add]
      congr 1
    · rw [if_neg (nI_ge (a := 200000) (b := n) (by omega) hn31), if_pos (nI_lt (a := 200000) (b := n) (by omega) hn31), if_pos (nI_le (a := 200000) (b := n) (by omega) hn31)]
      rw [pk_sub (a := 200000) (b := 50000) (by decide), posN (by decide), pct (a := 200000 - 50000) (by decide) (by decide), pk_sub (a := n) (b := 200000) (by omega), posN (by omega), pct (a := n - 200000) (by omega) (by decide), pk_sub (a := n) (b := 50000) (by omega), pk_sub (a := n - 50000) (b := 150000) (by omega), kD (n - 50000 - 150000) (by omega), nI_add, nI_add, nI_add, nI_add]
      congr 1
      omega
theorem i2_N {x : Int32} {b : Nat} (h : i2 x 0 b) (hb : b < 2 ^ 31) : ∃ n : Nat, n ≤ b ∧ x = nI n := by
  obtain ⟨j, hj, rfl⟩ := nI_of (x := x) (by rw [Int32.lt_iff_toInt_lt, show (0 : Int32).toInt = 0 from rfl]; have := h.1; omega)
  have := h.2
  rw [nI_toInt hj] at this
  exact ⟨j, by omega, rfl⟩
theorem fee_eq {x : Int32} (h : i2 x 0 1000000) : bOf BDf x 0 = mFee x := by
  obtain ⟨n, hn, rfl⟩ := i2_N (b := 1000000) h (by decide)
  exact fee_eqN hn
def shM (a x y : Int32) : Int32 := if a = (-1) then 0 else (if x < 1000 then 0 else (if a = 0 then (if bOf BDh x 0 < 12500 then bOf BDh x 0 else 12500) else (if 70 < ((2000 + (y / 365)) - a) then 0 else (if bOf BDh x 0 < 12500 then bOf BDh x 0 else 12500))))
theorem dShare_eq (X : DQ) (i : Nat) : dShare X i = if hS X i = 0 then 0 else shM (dF X i 2) (dF X i 6) (dF X i 7) := rfl
theorem sh3_eq (x : Int32) : (if x < 12500 then x else 12500) = mSh3 x := by
  unfold mSh3
  by_cases h : x < 12500
  · rw [if_pos h, if_pos (Int32.le_of_lt h)]
  · rw [if_neg h]
    by_cases h2 : x ≤ 12500
    · rw [if_pos h2]; exact Int32.le_antisymm (Int32.not_lt.mp h) h2
    · rw [if_neg h2]
theorem shareFor_eq {C : Nat → Int32} {A : Nat → Nat → Int32} {B : Nat → Int64} {p : Int32} (h3 : A 3 p.toNatClampNeg = -1 ∨ i2 (A 3 p.toNatClampNeg) 0 2000) (h6 : i2 (A 6 p.toNatClampNeg) 0 1000000) : mF_shareFor C A B p = shM (A 3 p.toNatClampNeg) (A 6 p.toNatClampNeg) (A 7 p.toNatClampNeg) := by
  unfold mF_shareFor shM
  obtain ⟨n, hn, e6⟩ := i2_N (b := 1000000) h6 (by decide)
  rw [e6, share_eqN hn, sh3_eq]
  by_cases q1 : A 3 p.toNatClampNeg = -1
  · rw [if_pos q1, if_pos q1]
  · rw [if_neg q1, if_neg q1]
    by_cases q2 : nI n < 1000
    · rw [if_pos q2, if_pos q2]
    · rw [if_neg q2, if_neg q2]
      have h3 := (h3.resolve_left q1).1
      by_cases q3 : A 3 p.toNatClampNeg = 0
      · rw [if_pos q3, if_pos (by rw [q3]; decide)]
      · rw [if_neg q3, if_neg (fun z => q3 (by
          rw [Int32.le_iff_toInt_le, show (0 : Int32).toInt = 0 from rfl] at z
          exact Int32.toInt_inj.mp (by rw [show (0 : Int32).toInt = 0 from rfl]; omega)))]
        by_cases q4 : 70 < (2000 + A 7 p.toNatClampNeg / 365) - A 3 p.toNatClampNeg
        · rw [if_pos q4, if_neg (Int32.not_le.mpr q4)]
        · rw [if_neg q4, if_pos (Int32.not_lt.mp q4)]
section L2
variable {T : Nat} {X : DQ} {C : Nat → Int32} {A : Nat → Nat → Int32} {B : Nat → Int64}
theorem L_fee (h : RL T X C A B) (x : Int32) : LQ T xk2 (dS_fee X x) (mS_fee C A B x) := by
  unfold dS_fee mS_fee
  rw [mW_bI]
  by_cases q : bI x 0 1000000 = 0
  · simp only [if_pos q]
    exact ⟨rfl, fun z => (nomatch z), (by decide : 2 ≤ 3), h.c23⟩
  · simp only [if_neg q]
    have := (not_congr bI_0).mp q
    exact ⟨rfl, fun _ => fee_eq (i2_of (Decidable.not_not.mp this)), Nat.zero_le _, h.c23⟩
theorem hS_1 {X : DQ} {i : Nat} (h : dF X i 4 = 2 ∨ dF X i 4 = 3 ∨ dF X i 4 = 4) : ¬ hS X i = 0 := by
  unfold hS
  rcases h with h | h | h <;> rw [h] <;> decide
theorem hS_0 {X : DQ} {i : Nat} (h : dF X i 4 = 0 ∨ dF X i 4 = 1) : hS X i = 0 := by
  unfold hS
  rcases h with h | h <;> rw [h] <;> decide
theorem L_share (h : RL T X C A B) (i : Int32) : LQ T xk13 (dS_share X i) (mS_share C A B i) := by
  have c0 := isLot_0 (A := A) (B := B) (i := i) h.1.1 h.1.2
  unfold dS_share mS_share mAskR mAskT
  by_cases q : ¬ i < 0 ∧ i < nI (dN X)
  · have c1 : ¬ mF_isLot C A B i = 0 := fun z => c0.mp z q
    simp only [if_pos q, if_neg c1, if_neg one0]
    obtain ⟨e1, e2, e3⟩ := (h.lot q).2
    rw [dShare_eq]
    rcases e2 with ⟨s, e5, e6⟩ | ⟨s, e5, e6, -, e7⟩
    · rw [if_pos (by rw [← e1.2.2.2.1]; exact st_lt s), if_pos (hS_0 s)]
      exact ⟨rfl, fun _ => rfl, Nat.zero_le _, h.c23⟩
    · rw [if_neg (by rw [← e1.2.2.2.1]; exact st_ge s), if_neg (hS_1 s), shareFor_eq (by rw [← e1.2.1]; exact e3.2.1) (by rw [← e6]; exact e7), e1.2.1, e6, e1.2.2.2.2.1]
      exact ⟨rfl, fun _ => rfl, Nat.zero_le _, h.c23⟩
  · have c1 : mF_isLot C A B i = 0 := c0.mpr q
    simp only [if_neg q, if_pos c1, if_true]
    exact ⟨rfl, fun z => (nomatch z), (by decide : 1 ≤ 3), h.c23⟩
/-- one lot is changed, the bids are not -/
theorem RL.upL (h : RL T X C A B) {i : Nat} {X' : DQ} {C' : Nat → Int32} {A' : Nat → Nat → Int32} {B' : Nat → Int64} (hi : i < dN X) (eN : dN X' = dN X) (eB : RB (T + 1) (dN X) (dB X') A' (C' 10)) (eC : C' 0 = C 0) (eF : ∀ j, j ≠ i → dF X' j = dF X j) (eA : ∀ k, k ≤ 7 ∨ 11 ≤ k ∧ k ≤ 15 → ∀ j, j ≠ i → A' k j = A k j) (hL : RLot (dF X' i) A' i)
    (eq : dA X' 0 = A' 17 ∧ dA X' 1 = A' 16 ∧ dC X' 0 = C' 18 ∧ dC X' 1 = C' 19 ∧ dM X' 0 = B' 20 ∧ dM X' 1 = B' 21 ∧ dM X' 2 = B' 22) (hR : (∀ j, j < 6 → i2 (A' 17 j) 0 50) ∧ (∀ j, j < 10 → i2 (A' 16 j) 0 (1000000 * ↑(T + 1)))) : RL (T + 1) X' C' A' B' := by
  unfold RL
  rw [eN, eC]
  refine ⟨h.1, fun j hj => ?_, fun j hj k hk => ?_, eq, hR, eB⟩
  · by_cases z : j = i
    · rw [z]; exact hL
    · rw [eF j z]
      exact (h.2.1 j hj).cg fun k hk => eA k hk j z
  · rw [eA k (zk_n hk) j (by omega)]
    exact h.2.2.1 j hj k hk
theorem RL.rng (h : RL T X C A B) : (∀ j, j < 6 → i2 (A 17 j) 0 50) ∧ (∀ j, j < 10 → i2 (A 16 j) 0 (1000000 * ↑(T + 1))) := ⟨h.2.2.2.2.1.1, fun j hj => ⟨(h.2.2.2.2.1.2 j hj).1, by have := (h.2.2.2.2.1.2 j hj).2; omega⟩⟩
theorem RL.b1 (h : RL T X C A B) : RB (T + 1) (dN X) (dB X) A (C 10) := h.2.2.2.2.2.mono (by omega)
theorem pk_uu {f : Nat → Int32} {k j : Nat} {x : Int32} : upd f k x j = if j = k then x else f j := rfl
theorem i2_pos {x : Int32} {b : Int} (h : i2 x 0 b) (h0 : ¬ x = 0) : ¬ x ≤ 0 := fun z => h0 (by
  rw [Int32.le_iff_toInt_le, show (0 : Int32).toInt = 0 from rfl] at z
  exact Int32.toInt_inj.mp (by rw [show (0 : Int32).toInt = 0 from rfl]; have := h.1; omega))
theorem L_advance (h : RL T X C A B) (i x : Int32) : LQ T xk123 (dS_advance X i x) (mS_advance C A B i x) := by
  have c0 := isLot_0 (A := A) (B := B) (i := i) h.1.1 h.1.2
  unfold dS_advance mS_advance
  rw [mW_bI]
  by_cases q : ¬ i < 0 ∧ i < nI (dN X)
  · have c1 : ¬ mF_isLot C A B i = 0 := fun z => c0.mp z q
    obtain ⟨hi, hl⟩ := h.lot q
    obtain ⟨e1, e2, e3⟩ := hl
    obtain ⟨g1, g2, g3, g4, g5, g6, g7⟩ := h.2.2.2.1
    rw [if_pos q, if_neg c1, ← e1.2.2.1, ← e1.2.2.2.1, ← e1.2.2.2.2.2.1]
    obtain ⟨n, hn, er⟩ := i2_N (b := 1000000) e3.2.2.1 (by decide)
    have hr2 : (dF X i.toNatClampNeg 3 / 2).toInt ≤ 500000 := by
      rw [er, show (2 : Int32) = nI 2 from rfl, pk_div (by omega) (by decide) (by decide), nI_toInt (by omega)]
      omega
    have k0 : (1 : Int32).toInt = 1 := rfl
    have k1 : (1000000 : Int32).toInt = 1000000 := rfl
    by_cases q2 : bI x 1 (dF X i.toNatClampNeg 3 / 2) = 0
    · rw [if_pos q2]
      have q3 := bI_0.mp q2
      by_cases q4 : bI x 1 1000000 = 0
      · rw [if_pos q4]
        exact ⟨rfl, fun z => (nomatch z), (by decide : 2 ≤ 3), h.c23⟩
      · rw [if_neg q4]
        have q5 := Decidable.not_not.mp ((not_congr bI_0).mp q4)
        rw [if_pos (Int32.not_le.mp fun z => q3 ⟨q5.1, z⟩)]
        exact ⟨rfl, fun z => (nomatch z), (by decide : 2 ≤ 3), h.c23⟩
    · rw [if_neg q2]
      have q3 := Decidable.not_not.mp ((not_congr bI_0).mp q2)
      have q4 : ¬ bI x 1 1000000 = 0 := fun z => bI_0.mp z ⟨q3.1, by
        have h8 := q3.2
        rw [Int32.le_iff_toInt_le] at h8 ⊢
        rw [k1]; omega⟩
      rw [if_neg q4, if_neg (Int32.not_lt.mpr q3.2)]
      have hx : i2 x 0 1000000 := by
        have h8 := q3
        rw [Int32.le_iff_toInt_le, Int32.le_iff_toInt_le, k0] at h8
        exact ⟨by omega, by omega⟩
      have bad : ∀ y, LQ T xk123 (3, 0, X) (y, upd C 23 3, A, B) := fun y => ⟨rfl, fun z => (nomatch z), (by decide : 3 ≤ 3), h.c23⟩
      by_cases s3 : 3 ≤ dF X i.toNatClampNeg 4
      · rw [if_pos s3]
        have s4 : dF X i.toNatClampNeg 4 = 3 ∨ dF X i.toNatClampNeg 4 = 4 := by
          rcases e2 with ⟨s | s, -⟩ | ⟨s | s | s, -⟩
          · rw [s] at s3; exact absurd s3 (by decide)
          · rw [s] at s3; exact absurd s3 (by decide)
          · rw [s] at s3; exact absurd s3 (by decide)
          · exact Or.inl s
          · exact Or.inr s
        rcases s4 with s4 | s4
        · rw [if_pos s4]; exact bad _
        · rw [if_neg (by rw [s4]; decide), if_pos s4]; exact bad _
      · rw [if_neg s3, if_neg (fun z => s3 (by rw [z]; decide)), if_neg (fun z => s3 (by rw [z]; decide))]
        by_cases a0 : dF X i.toNatClampNeg 8 = 0
        · rw [if_pos a0, if_pos (by rw [a0]; decide)]
          refine ⟨rfl, fun _ => rfl, Nat.zero_le _, h.upL hi rfl ?_ rfl (fun j hj => ?_) (fun k hk j hj => ?_) ?_ ⟨?_, ?_, g3, g4, g5, ?_, g7⟩ ⟨fun j hj => ?_, fun j hj => ?_⟩⟩
          · exact h.b1.cg (by rw [uA_n (by decide), uA_n (by decide)]) (by rw [uA_n (by decide), uA_n (by decide)])
          · show updA (updA (dF X) _ 8 x) _ 9 _ j = _
            rw [uA_n hj, uA_n hj]
          · unfold updA
            split
            · rw [pk_un hj]
              split
              · rename_i z1 z2; rw [pk_un hj, z1]
              · rename_i z1 z2; rw [z1]
            · split
              · rename_i z1 z2; rw [pk_un hj, z2]
              · rfl
          · show RLot (updA (updA (dF X) i.toNatClampNeg 8 x) i.toNatClampNeg 9 (dC X 1) i.toNatClampNeg) _ _
            rw [uA_s, uA_s, g4]
            refine ⟨⟨e1.1, e1.2.1, e1.2.2.1, e1.2.2.2.1, e1.2.2.2.2.1, ?_, ?_, e1.2.2.2.2.2.2.2.1, e1.2.2.2.2.2.2.2.2.1, e1.2.2.2.2.2.2.2.2.2⟩, e2, e3.1, e3.2.1, e3.2.2.1, hx, e3.2.2.2.2⟩
            · rw [uA_n (by decide), uA_s, pk_us]; rfl
            · rw [uA_s, pk_us]; rfl
          · rw [uA_n (by decide), uA_n (by decide)]; exact g1
          · rw [uA_n (by decide), uA_n (by decide)]; exact g2
          · show dM X 1 + _ = B 21 + _
            rw [g6]
          · rw [uA_n (by decide), uA_n (by decide)]; exact h.rng.1 j hj
          · rw [uA_n (by decide), uA_n (by decide)]; exact h.rng.2 j hj
        · rw [if_neg a0, if_neg (i2_pos e3.2.2.2.1 a0)]
          exact bad _
  · rw [if_neg q, if_pos (c0.mpr q)]
    exact ⟨rfl, fun z => (nomatch z), (by decide : 1 ≤ 3), h.c23⟩
end L2
