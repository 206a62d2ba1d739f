/-! the methods that only ask, and the small ones -/
theorem one0 : ¬ (1 : Int32) = 0 := by decide
theorem RL.lot {T : Nat} {X : DQ} {C : Nat → Int32} {A : Nat → Nat → Int32} {B : Nat → Int64} (h : RL T X C A B) {i : Int32} (q : ¬ i < 0 ∧ i < nI (dN X)) : i.toNatClampNeg < dN X ∧ RLot (dF X i.toNatClampNeg) A i.toNatClampNeg := by
  have h1 := (at_ix q (by have := h.1.2; omega)).1
  exact ⟨h1, h.2.1 _ h1⟩
section L1
variable {T : Nat} {X : DQ} {C : Nat → Int32} {A : Nat → Nat → Int32} {B : Nat → Int64}
theorem ltN {z : Int32} {n : Nat} (h : z = nI n) (hn : n < 2 ^ 31) : z.toInt = n := by rw [h, nI_toInt hn]
theorem st_lt {f4 : Int32} (h : f4 = 0 ∨ f4 = 1) : f4 < 2 := by rcases h with rfl | rfl <;> decide
theorem st_ge {f4 : Int32} (h : f4 = 2 ∨ f4 = 3 ∨ f4 = 4) : ¬ f4 < 2 := by rcases h with rfl | rfl | rfl <;> decide
theorem L_state (h : RL T X C A B) (i : Int32) : LQ T xk13 (dS_state X i) (mS_state C A B i) := by
  have c0 := isLot_0 (A := A) (B := B) (i := i) h.1.1 h.1.2
  unfold dS_state mS_state mAskR mAskT
  by_cases q : ¬ i < 0 ∧ i < nI (dN X)
  · have c1 : ¬ mF_isLot C A B i = 0 := fun z => c0.mp z q
    simp only [if_pos q, if_neg c1, if_neg one0]
    exact ⟨rfl, fun _ => (h.lot q).2.1.2.2.2.1, Nat.zero_le _, h.c23⟩
  · have c1 : mF_isLot C A B i = 0 := c0.mpr q
    simp only [if_neg q, if_pos c1, if_true]
    exact ⟨rfl, fun z => (nomatch z), (by decide : 1 ≤ 3), h.c23⟩
theorem L_buyerOf (h : RL T X C A B) (i : Int32) : LQ T xk13 (dS_buyerOf X i) (mS_buyerOf C A B i) := by
  have c0 := isLot_0 (A := A) (B := B) (i := i) h.1.1 h.1.2
  unfold dS_buyerOf mS_buyerOf mAskR mAskT
  by_cases q : ¬ i < 0 ∧ i < nI (dN X)
  · have c1 : ¬ mF_isLot C A B i = 0 := fun z => c0.mp z q
    simp only [if_pos q, if_neg c1, if_neg one0]
    obtain ⟨e1, e2, -⟩ := (h.lot q).2
    rcases e2 with ⟨s, e5, e6⟩ | ⟨s, e5, e6, -⟩
    · rw [if_pos (by rw [← e1.2.2.2.1]; exact st_lt s)]
      exact ⟨rfl, fun _ => e5, Nat.zero_le _, h.c23⟩
    · rw [if_neg (by rw [← e1.2.2.2.1]; exact st_ge s)]
      exact ⟨rfl, fun _ => e5, Nat.zero_le _, h.c23⟩
  · have c1 : mF_isLot C A B i = 0 := c0.mpr q
    simp only [if_neg q, if_pos c1, if_true]
    exact ⟨rfl, fun z => (nomatch z), (by decide : 1 ≤ 3), h.c23⟩
theorem L_price (h : RL T X C A B) (i : Int32) : LQ T xk13 (dS_price X i) (mS_price C A B i) := by
  have c0 := isLot_0 (A := A) (B := B) (i := i) h.1.1 h.1.2
  unfold dS_price mS_price mAskR mAskT
  by_cases q : ¬ i < 0 ∧ i < nI (dN X)
  · have c1 : ¬ mF_isLot C A B i = 0 := fun z => c0.mp z q
    simp only [if_pos q, if_neg c1, if_neg one0]
    obtain ⟨e1, e2, -⟩ := (h.lot q).2
    rcases e2 with ⟨s, e5, e6⟩ | ⟨s, e5, e6, -⟩
    · rw [if_pos (by rw [← e1.2.2.2.1]; exact st_lt s)]
      exact ⟨rfl, fun _ => e6, Nat.zero_le _, h.c23⟩
    · rw [if_neg (by rw [← e1.2.2.2.1]; exact st_ge s)]
      exact ⟨rfl, fun _ => e6, Nat.zero_le _, h.c23⟩
  · have c1 : mF_isLot C A B i = 0 := c0.mpr q
    simp only [if_neg q, if_pos c1, if_true]
    exact ⟨rfl, fun z => (nomatch z), (by decide : 1 ≤ 3), h.c23⟩
theorem int_eq (h : RL T X C A B) {i : Nat} (hi : i < dN X) (C' : Nat → Int32) (hC : C' 18 = C 18 ∧ C' 19 = C 19) {p : Int32} (hp : p.toNatClampNeg = i) : dInt X i = mF_interestFor C' A B p := by
  obtain ⟨e1, -⟩ := h.2.1 i hi
  obtain ⟨g1, g2, g3, g4, g5, g6, g7⟩ := h.2.2.2.1
  unfold dInt mF_interestFor
  rw [hp, e1.2.2.2.1, e1.2.2.2.2.2.1, e1.2.2.2.2.2.2.1, e1.2.2.2.2.2.2.2.1, g3, g4, hC.1, hC.2]
theorem L_interest (h : RL T X C A B) (i : Int32) : LQ T xk13 (dS_interest X i) (mS_interest C A B i) := by
  have c0 := isLot_0 (A := A) (B := B) (i := i) h.1.1 h.1.2
  unfold dS_interest mS_interest mAskR mAskT
  by_cases q : ¬ i < 0 ∧ i < nI (dN X)
  · have c1 : ¬ mF_isLot C A B i = 0 := fun z => c0.mp z q
    simp only [if_pos q, if_neg c1, if_neg one0]
    exact ⟨rfl, fun _ => int_eq h (h.lot q).1 _ ⟨rfl, rfl⟩ rfl, Nat.zero_le _, h.c23⟩
  · have c1 : mF_isLot C A B i = 0 := c0.mpr q
    simp only [if_neg q, if_pos c1, if_true]
    exact ⟨rfl, fun z => (nomatch z), (by decide : 1 ≤ 3), h.c23⟩
theorem L_callOf (h : RL T X C A B) (x : Int32) : LQ T xk2 (dS_callOf X x) (mS_callOf C A B x) := by
  unfold dS_callOf mS_callOf
  rw [mW_bI]
  by_cases q : bI x 0 1000000 = 0
  · simp only [if_pos q]
    exact ⟨rfl, fun z => (nomatch z), (by decide : 2 ≤ 3), h.c23⟩
  · simp only [if_neg q]
    exact ⟨rfl, fun _ => call_eq x, Nat.zero_le _, h.c23⟩
theorem L_rate (h : RL T X C A B) (x : Int32) : LQ T xk2 (dS_rate X x) (mS_rate C A B x) := by
  unfold dS_rate mS_rate
  rw [mW_bI]
  obtain ⟨g1, g2, g3, g4, g5, g6, g7⟩ := h.2.2.2.1
  by_cases q : bI x 0 100 = 0
  · simp only [if_pos q]
    exact ⟨rfl, fun z => (nomatch z), (by decide : 2 ≤ 3), h.c23⟩
  · simp only [if_neg q]
    refine ⟨rfl, fun _ => g3, Nat.zero_le _, RL.mono (T := T) ⟨h.1, h.2.1, h.2.2.1, ⟨g1, g2, rfl, g4, g5, g6, g7⟩, h.2.2.2.2.1, h.2.2.2.2.2⟩ (by omega)⟩
theorem L_days (h : RL T X C A B) (x : Int32) : LQ T xk23 (dS_days X x) (mS_days C A B x) := by
  unfold dS_days mS_days
  rw [mW_bI]
  obtain ⟨g1, g2, g3, g4, g5, g6, g7⟩ := h.2.2.2.1
  have hz : ∀ y, RL (T + 1) X (upd (upd C 23 y) 19 (C 19 + 0)) A B := fun y => RL.mono (T := T) ⟨h.1, h.2.1, h.2.2.1, ⟨g1, g2, g3, by show dC X 1 = C 19 + 0; rw [Int32.add_zero]; exact g4, g5, g6, g7⟩, h.2.2.2.2.1, h.2.2.2.2.2⟩ (by omega)
  by_cases q : bI x 1 200 = 0
  · simp only [if_pos q]
    exact ⟨rfl, fun z => (nomatch z), (by decide : 2 ≤ 3), hz 1⟩
  · simp only [if_neg q]
    rw [← g4] at *
    by_cases q2 : 7300 < dC X 1 + x
    · rw [if_pos q2, if_neg (Int32.not_le.mpr q2)]
      exact ⟨rfl, fun z => (nomatch z), (by decide : 3 ≤ 3), hz 2⟩
    · rw [if_neg q2, if_pos (Int32.not_lt.mp q2)]
      exact ⟨rfl, fun _ => rfl, Nat.zero_le _, RL.mono (T := T) ⟨h.1, h.2.1, h.2.2.1, ⟨g1, g2, g3, rfl, g5, g6, g7⟩, h.2.2.2.2.1, h.2.2.2.2.2⟩ (by omega)⟩
theorem L_owes (h : RL T X C A B) (i : Int32) : LQ T xk13 (dS_owes X i) (mS_owes C A B i) := by
  unfold dS_owes mS_owes
  obtain ⟨g1, g2, g3, g4, g5, g6, g7⟩ := h.2.2.2.1
  by_cases q : ¬ i < 0 ∧ i < 10
  · have c1 : ¬ mBuyer i = 0 := fun z => buyer_0.mp z q
    simp only [if_pos q, if_neg c1]
    exact ⟨rfl, fun _ => by show dA X 1 _ = A 16 _; rw [g2], Nat.zero_le _, h.c23⟩
  · simp only [if_neg q, if_pos (buyer_0.mpr q)]
    exact ⟨rfl, fun z => (nomatch z), (by decide : 1 ≤ 3), h.c23⟩
theorem RLot.cg {f : Nat → Int32} {A A' : Nat → Nat → Int32} {i : Nat} (h : RLot f A i) (e : ∀ k, k ≤ 7 ∨ 11 ≤ k ∧ k ≤ 15 → A' k i = A k i) : RLot f A' i := by
  unfold RLot at h ⊢
  rw [e 1 (by omega), e 3 (by omega), e 2 (by omega), e 4 (by omega), e 7 (by omega), e 13 (by omega), e 14 (by omega), e 15 (by omega), e 11 (by omega), e 12 (by omega), e 5 (by omega), e 6 (by omega)]
  exact h
theorem uA_n {A : Nat → Nat → Int32} {k j i : Nat} {x : Int32} (h : j ≠ k) : updA A k i x j = A j := if_neg h
theorem uA_s {A : Nat → Nat → Int32} {k i : Nat} {x : Int32} : updA A k i x k = upd (A k) i x := if_pos rfl
theorem zk_n {k : Nat} (h : zk k) : k ≤ 7 ∨ 11 ≤ k ∧ k ≤ 15 := by unfold zk at h; omega
/-- only debts or commissions are changed -/
theorem RL.arr (h : RL T X C A B) {X' : DQ} {A' : Nat → Nat → Int32} {B' : Nat → Int64} {C' : Nat → Int32} (e1 : dN X' = dN X ∧ dF X' = dF X ∧ dB X' = dB X) (eC : C' 0 = C 0 ∧ C' 10 = C 10) (eA : ∀ k, k ≤ 15 → A' k = A k)
    (eq : dA X' 0 = A' 17 ∧ dA X' 1 = A' 16 ∧ dC X' 0 = C' 18 ∧ dC X' 1 = C' 19 ∧ dM X' 0 = B' 20 ∧ dM X' 1 = B' 21 ∧ dM X' 2 = B' 22) (hR : (∀ j, j < 6 → i2 (A' 17 j) 0 50) ∧ (∀ j, j < 10 → i2 (A' 16 j) 0 (1000000 * ↑(T + 1)))) : RL (T + 1) X' C' A' B' := by
  obtain ⟨e1, e2, e3⟩ := e1
  unfold RL
  rw [e1, e2, e3, eC.1, eC.2]
  exact ⟨h.1, fun i hi => (h.2.1 i hi).cg fun k hk => by rw [eA k (by omega)], fun i hi k hk => by rw [eA k (by have := zk_n hk; omega)]; exact h.2.2.1 i hi k hk, eq, hR, (h.2.2.2.2.2.mono (by omega)).cg (eA 8 (by omega)) (eA 9 (by omega))⟩
theorem L_commission (h : RL T X C A B) (i x : Int32) : LQ T xk123 (dS_commission X i x) (mS_commission C A B i x) := by
  unfold dS_commission mS_commission
  obtain ⟨g1, g2, g3, g4, g5, g6, g7⟩ := h.2.2.2.1
  by_cases q : ¬ i < 0 ∧ i < 6
  · have c1 : ¬ mWithin i 0 5 = 0 := fun z => seller_0.mp z q
    simp only [if_pos q, if_neg c1]
    rw [mW_bI]
    by_cases q2 : bI x 0 50 = 0
    · simp only [if_pos q2]
      exact ⟨rfl, fun z => (nomatch z), (by decide : 2 ≤ 3), h.c23⟩
    · simp only [if_neg q2]
      have hx : i2 x 0 50 := by
        have := (not_congr bI_0).mp q2
        exact i2_of (Decidable.not_not.mp this)
      refine ⟨rfl, fun _ => by show dA X 0 _ = A 17 _; rw [g1], Nat.zero_le _, h.arr ⟨rfl, rfl, rfl⟩ ⟨rfl, rfl⟩ (fun k hk => uA_n (by omega)) ⟨?_, ?_, g3, g4, g5, g6, g7⟩ ⟨fun j hj => ?_, fun j hj => ?_⟩⟩
      · show updA (dA X) 0 i.toNatClampNeg x 0 = updA A 17 i.toNatClampNeg x 17
        rw [uA_s, uA_s, g1]
      · show updA (dA X) 0 i.toNatClampNeg x 1 = updA A 17 i.toNatClampNeg x 16
        rw [uA_n (by decide), uA_n (by decide), g2]
      · show i2 (updA A 17 i.toNatClampNeg x 17 j) 0 50
        rw [uA_s]
        by_cases z : j = i.toNatClampNeg
        · rw [z, pk_us]; exact hx
        · rw [pk_un z]; exact h.2.2.2.2.1.1 j hj
      · show i2 (updA A 17 i.toNatClampNeg x 16 j) 0 _
        rw [uA_n (by decide)]
        exact ⟨(h.2.2.2.2.1.2 j hj).1, by have := (h.2.2.2.2.1.2 j hj).2; omega⟩
  · simp only [if_neg q, if_pos (seller_0.mpr q)]
    exact ⟨rfl, fun z => (nomatch z), (by decide : 1 ≤ 3), h.c23⟩
theorem L_payGaps (h : RL T X C A B) (i : Int32) : LQ T xk13 (dS_payGaps X i) (mS_payGaps C A B i) := by
  unfold dS_payGaps mS_payGaps
  obtain ⟨g1, g2, g3, g4, g5, g6, g7⟩ := h.2.2.2.1
  by_cases q : ¬ i < 0 ∧ i < 10
  · have c1 : ¬ mBuyer i = 0 := fun z => buyer_0.mp z q
    simp only [if_pos q, if_neg c1]
    have hlt := (at_ix (n := 10) q (by decide)).1
    have hr := h.2.2.2.2.1.2 _ hlt
    rw [g2]
    by_cases q2 : A 16 i.toNatClampNeg = 0
    · rw [if_pos q2, if_pos (by rw [q2]; decide)]
      exact ⟨rfl, fun z => (nomatch z), (by decide : 3 ≤ 3), h.c23⟩
    · have q3 : ¬ A 16 i.toNatClampNeg ≤ 0 := by
        intro z
        rw [Int32.le_iff_toInt_le, show (0 : Int32).toInt = 0 from rfl] at z
        refine q2 (Int32.toInt_inj.mp ?_)
        rw [show (0 : Int32).toInt = 0 from rfl]
        have := hr.1
        omega
      rw [if_neg q2, if_neg q3]
      refine ⟨rfl, fun _ => rfl, Nat.zero_le _, h.arr ⟨rfl, rfl, rfl⟩ ⟨rfl, rfl⟩ (fun k hk => uA_n (by omega)) ⟨?_, ?_, g3, g4, ?_, g6, ?_⟩ ⟨fun j hj => ?_, fun j hj => ?_⟩⟩
      · show updA (dA X) 1 i.toNatClampNeg 0 0 = updA A 16 i.toNatClampNeg 0 17
        rw [uA_n (by decide), uA_n (by decide), g1]
      · show updA (dA X) 1 i.toNatClampNeg 0 1 = updA A 16 i.toNatClampNeg 0 16
        rw [uA_s, uA_s, g2]
      · show dM X 0 + _ = B 20 + _
        rw [g5]
      · show dM X 2 + _ = B 22 + _
        rw [g7]
      · show i2 (updA A 16 i.toNatClampNeg 0 17 j) 0 50
        rw [uA_n (by decide)]
        exact h.2.2.2.2.1.1 j hj
      · show i2 (updA A 16 i.toNatClampNeg 0 16 j) 0 _
        rw [uA_s]
        by_cases z : j = i.toNatClampNeg
        · rw [z, pk_us]; exact ⟨by decide, by rw [show (0 : Int32).toInt = 0 from rfl]; omega⟩
        · rw [pk_un z]; exact ⟨(h.2.2.2.2.1.2 j hj).1, by have := (h.2.2.2.2.1.2 j hj).2; omega⟩
  · simp only [if_neg q, if_pos (buyer_0.mpr q)]
    exact ⟨rfl, fun z => (nomatch z), (by decide : 1 ≤ 3), h.c23⟩
end L1
