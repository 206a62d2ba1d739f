/-! small laws of worlds -/
theorem gne_c {w : Gh} {a b c1 c2 : Nat} {f1 f2 : List Value} (h1 : w a = some (.inr (c1, f1))) (h2 : w b = some (.inr (c2, f2))) (h : c1 ≠ c2) : a ≠ b := by
  intro e
  subst e
  rw [h1] at h2
  exact h (congrArg Prod.fst (Sum.inr.inj (Option.some.inj h2)))
theorem gne_ao {w : Gh} {a b : Nat} {x : ClassId × vp_A} {y : Nat × List Value} (h1 : w a = some (.inl x)) (h2 : w b = some (.inr y)) : a ≠ b := by
  intro e
  subst e
  rw [h1] at h2
  cases h2
theorem gne_f {w : Gh} {a b : Nat} {e : va_E} (h1 : w a = some e) (h2 : w b = none) : a ≠ b := by
  intro q
  subst q
  rw [h1] at h2
  cases h2
theorem gne_e {w : Gh} {a b : Nat} {e1 e2 : va_E} (h1 : w a = some e1) (h2 : w b = some e2) (h : e1 ≠ e2) : a ≠ b := by
  intro q
  subst q
  rw [h1] at h2
  exact h (Option.some.inj h2)
theorem nar_rf {ty : FieldType} (r : Option Nat) (h : (∃ n, ty = .object n) ∨ ∃ t, ty = .array t) : narrow ty (va_rf r) = va_rf r := by
  rcases h with ⟨n, rfl⟩ | ⟨t, rfl⟩ <;> cases r <;> rfl
theorem fit_rf {ty : FieldType} (r : Option Nat) (h : (∃ n, ty = .object n) ∨ ∃ t, ty = .array t) : fits ty (va_rf r) = true := by
  rcases h with ⟨n, rfl⟩ | ⟨t, rfl⟩ <;> cases r <;> rfl
theorem g_cls {D : va_G} {K : Nat → Nat} {s : State} (M : Amb D K s) {ci : Nat} {q : vw_C} (hc : gcl[ci]? = some q) : ClassAt s q.1 (D.1 ci) := (M.1.1.1 ci q hc).2
theorem g_nw {D : va_G} {K : Nat → Nat} {s : State} (M : Amb D K s) {w : Cond} (h : w ∈ lw_tbl) (hk : spOK w = true) : va_Nw w s := M.1.2.2.1 w h hk
theorem g_ne23 {D : va_G} {K : Nat → Nat} {s : State} (M : Amb D K s) : D.1 102 ≠ D.1 103 := by
  intro e
  obtain ⟨k1, c1, a1, a2, a3, -⟩ := (M.1.1.2 2 _ rfl).2
  obtain ⟨k2, c2, b1, b2, b3, -⟩ := (M.1.1.2 3 _ rfl).2
  rw [show D.1 102 = D.1 103 from e] at a1
  cases a1.symm.trans b1
  rw [a2] at b2
  injection b2 with e1 e2
  injection e2 with e3
  exact absurd e3 (by decide)
theorem df_X1 : ∀ j, j < 12 → defaultValue (tyX1 j) = vp_V [.null, .null, .null, .null, .null, .null, .null, .int 0, .int 0, .long 0, .long 0, .long 0] j := by
  intro j hj
  match j, hj with
  | 0, _ => rfl | 1, _ => rfl | 2, _ => rfl | 3, _ => rfl | 4, _ => rfl | 5, _ => rfl | 6, _ => rfl | 7, _ => rfl | 8, _ => rfl | 9, _ => rfl | 10, _ => rfl | 11, _ => rfl
theorem df_X2 : ∀ j, j < 3 → defaultValue (tyX2 j) = vp_V [.int 0, .int 0, .null] j := by
  intro j hj
  match j, hj with
  | 0, _ => rfl | 1, _ => rfl | 2, _ => rfl
theorem df_X3 : ∀ j, j < 24 → defaultValue (tyX3 j) = vp_V [.int 0, .null, .null, .null, .null, .null, .null, .null, .null, .null, .int 0, .null, .null, .null, .null, .null, .null, .null, .int 0, .int 0, .long 0, .long 0, .long 0, .int 0] j := by
  intro j hj
  match j, hj with
  | 0, _ => rfl | 1, _ => rfl | 2, _ => rfl | 3, _ => rfl | 4, _ => rfl | 5, _ => rfl | 6, _ => rfl | 7, _ => rfl | 8, _ => rfl | 9, _ => rfl | 10, _ => rfl | 11, _ => rfl | 12, _ => rfl | 13, _ => rfl | 14, _ => rfl | 15, _ => rfl | 16, _ => rfl | 17, _ => rfl | 18, _ => rfl | 19, _ => rfl | 20, _ => rfl | 21, _ => rfl | 22, _ => rfl | 23, _ => rfl | j + 24, h => exact absurd h (by omega)
theorem df_X4 : ∀ j, j < 14 → defaultValue (tyX4 j) = vp_V [.int 0, .int 0, .int 0, .int 0, .int 0, .int 0, .int 0, .int 0, .int 0, .int 0, .int 0, .int 0, .int 0, .null] j := by
  intro j hj
  match j, hj with
  | 0, _ => rfl | 1, _ => rfl | 2, _ => rfl | 3, _ => rfl | 4, _ => rfl | 5, _ => rfl | 6, _ => rfl | 7, _ => rfl | 8, _ => rfl | 9, _ => rfl | 10, _ => rfl | 11, _ => rfl | 12, _ => rfl | 13, _ => rfl
theorem df_X5 : ∀ j, j < 2 → defaultValue (tyX5 j) = vp_V [.int 0, .int 0] j := by
  intro j hj
  match j, hj with
  | 0, _ => rfl | 1, _ => rfl
theorem df_X6 : ∀ j, j < 3 → defaultValue (tyX6 j) = vp_V [.null, .null, .null] j := by
  intro j hj
  match j, hj with
  | 0, _ => rfl | 1, _ => rfl | 2, _ => rfl
theorem df_J2 : ∀ j, j < 3 → defaultValue (tyJ2 j) = vp_V [.int 0, .null, .int 0] j := by
  intro j hj
  match j, hj with
  | 0, _ => rfl | 1, _ => rfl | 2, _ => rfl
theorem df_J5 : ∀ j, j < 12 → defaultValue (tyJ5 j) = vp_V [.null, .null, .int 0, .int 0, .int 0, .float 0, .null, .null, .null, .null, .int 0, .int 0] j := by
  intro j hj
  match j, hj with
  | 0, _ => rfl | 1, _ => rfl | 2, _ => rfl | 3, _ => rfl | 4, _ => rfl | 5, _ => rfl | 6, _ => rfl | 7, _ => rfl | 8, _ => rfl | 9, _ => rfl | 10, _ => rfl | 11, _ => rfl
theorem df_J22 : ∀ j, j < 6 → defaultValue (tyJ22 j) = vp_V [.int 0, .null, .null, .null, .null, .null] j := by
  intro j hj
  match j, hj with
  | 0, _ => rfl | 1, _ => rfl | 2, _ => rfl | 3, _ => rfl | 4, _ => rfl | 5, _ => rfl
theorem df_J25 : ∀ j, j < 2 → defaultValue (tyJ25 j) = vp_V [.int 0, .null] j := by
  intro j hj
  match j, hj with
  | 0, _ => rfl | 1, _ => rfl
theorem df_J27 : ∀ j, j < 5 → defaultValue (tyJ27 j) = vp_V [.null, .null, .int 0, .int 0, .null] j := by
  intro j hj
  match j, hj with
  | 0, _ => rfl | 1, _ => rfl | 2, _ => rfl | 3, _ => rfl | 4, _ => rfl
theorem df_J29 : ∀ j, j < 4 → defaultValue (tyJ29 j) = vp_V [.int 0, .int 0, .int 0, .null] j := by
  intro j hj
  match j, hj with
  | 0, _ => rfl | 1, _ => rfl | 2, _ => rfl | 3, _ => rfl
theorem df_J20 : ∀ j, j < 1 → defaultValue (tyJ20 j) = vp_V [.int 0] j := by
  intro j hj
  match j, hj with
  | 0, _ => rfl
/-! ## the map's pictures -/
abbrev gra (f : Nat → Option Nat) : (Nat → Int32) ⊕ (Nat → Int64) ⊕ (Nat → UInt32) ⊕ (Nat → UInt64) ⊕ (Nat → Option Nat) := .inr (.inr (.inr (.inr f)))
abbrev mfl (tb : Option Nat) (sz md th : Int32) (lf : UInt32) (ks hd tl : Option Nat) : List Value := [va_rf tb, .null, .int sz, .int md, .int th, .float lf, va_rf ks, .null, va_rf hd, va_rf tl, .int 0, .int 0]
abbrev nfl (h : Int32) (k v : Nat) (nx bf af : Option Nat) : List Value := [.int h, .ref k, .ref v, va_rf nx, va_rf bf, va_rf af]
/-- the entries es: hash numbers, keys, values, next of the chain, before and after of the list -/
def EN (w : Gh) (es : List Nat) (hN ky vl : Nat → Nat) (nx bf af : Nat → Option Nat) : Prop := ∀ a ∈ es, w a = some (.inr (8, nfl (nI (hN a)) (ky a) (vl a) (nx a) (bf a) (af a)))
/-- a key: a Bidder of hash number h -/
def KY (w : Gh) (k h : Nat) : Prop := w k = some (.inr (4, [.int (nI (h / 10)), .int (nI (h % 10))]))
def CHn (es : List Nat) (hN : Nat → Nat) (n : Nat) (f nx : Nat → Option Nat) : Prop := ∃ ch : Nat → List Nat, (∀ i, i < n → Sg nx (f i) (ch i) none) ∧ (∀ i, i < n → ∀ a, a ∈ ch i ↔ a ∈ es ∧ hN a % n = i) ∧ ∀ i, i < n → (ch i).Nodup
abbrev p2 (n : Nat) : Prop := n = 16 ∨ n = 32 ∨ n = 64 ∨ n = 128
theorem xor_sh {h : Nat} (hh : h < 300) : nI h ^^^ ((nI h).toUInt32 >>> ((16 : Int32).toUInt32 &&& Int32.toUInt32 31)).toInt32 = nI h := by
  rw [pk_ushrN (n := h) (by omega) 16 16 (by decide), show h / 2 ^ 16 = 0 by omega]
  exact Int32.xor_zero
theorem p2_and {n h : Nat} (hn : p2 n) (hh : h < 300) : (nI n - 1) &&& nI h = nI (h % n) := by
  rw [show (nI n - 1) &&& nI h = nI h &&& (nI n - 1) from Int32.and_comm _ _]
  rcases hn with rfl | rfl | rfl | rfl
  · exact pk_andN (by omega) 4 (by decide)
  · exact pk_andN (by omega) 5 (by decide)
  · exact pk_andN (by omega) 6 (by decide)
  · exact pk_andN (by omega) 7 (by decide)
theorem p2_pos {n : Nat} (hn : p2 n) : 0 < n := by rcases hn with rfl | rfl | rfl | rfl <;> decide
theorem p2_le {n : Nat} (hn : p2 n) : n ≤ 128 := by rcases hn with rfl | rfl | rfl | rfl <;> decide
theorem p2_mod {n h : Nat} (hn : p2 n) : h % n < n := Nat.mod_lt _ (p2_pos hn)
