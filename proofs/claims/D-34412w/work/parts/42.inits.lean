/-! constructors of Bands, DroitLine, DroitLineModel -/
abbrev rmX2_init : Room := ({ frames := 1, cells := 0, slots := 0, locals := 20 } : Room)
set_option maxHeartbeats 4000000 in
theorem metX2_init (l : Launch) (D : va_G) (K : Nat → Nat) (w : Gh) {q : Nat} {a b : Int32} {nx : Option Nat} (hq : w q = some (.inr (1, [.int 0, .int 0, .null]))) (hbq : K 0 ≤ q) : gMet l yX2_init (ws_ yX2_init cX2_init 4 none) rmX2_init D K [.ref q, .int a, .int b, va_rf nx] w (fun r' w' => r' = none ∧ w' = gu w q (.inr (1, [.int a, .int b, va_rf nx]))) := by
  refine gMet.of (by decide) (Nat.le_of_ble_eq_true rfl) ?_
  intro p e s m args below meth c H locs ls S M hr hlocks hname G hl
  have hx := S.1
  have hb := S.2.1
  have hown := S.2.2.2.1
  have hts := S.2.2.2.2
  have hl : lv_has ls 4 [(0, .ref q), (1, .int a), (2, .int b), (3, va_rf nx)] := hl
  obtain ⟨Q, hQ⟩ : ∃ Q, Q = gE below D K (fun r' w' => r' = none ∧ w' = gu w q (.inr (1, [.int a, .int b, va_rf nx]))) args s rmX2_init.cells rmX2_init.slots := ⟨_, rfl⟩
  rw [← hQ]
  refine lv_aload_n (pc := 0) hx hb dX2_init_0 rfl (lv_at hl 0 rfl) ?_
  refine W.objInit hx hb hown (hts _ q69) (hts _ q62) (hts _ q63) rfl (by rw [S.2.2.1]; exact hl.1) rfl dX2_init_1 (Nat.le_of_ble_eq_true rfl) (Nat.le_of_ble_eq_true rfl) ?_
  refine W.eq (g2 := F0 m 4 ls []) rfl ?_
  refine lv_aload_n (pc := 4) hx hb dX2_init_4 rfl (lv_at hl 0 rfl) ?_
  refine lv_iload_n (pc := 5) hx hb dX2_init_5 rfl (lv_at hl 1 rfl) ?_
  refine g_putF (pc := 6) (v := .int a) S M G (C := RX2) (T := TX2) (N := 3) (ci := 1) in_X2 tyX2 tyX2_ok nmX2 hq hbq rfl 0 (by decide) q70 (Or.inl rfl) rfl hname rfl rfl rfl (Nat.le_of_ble_eq_true rfl) dX2_init_6 (fun H locs G => ?_)
  obtain ⟨w1_, hw1_⟩ : ∃ z9, z9 = gu w q (.inr (1, [.int a, .int 0, .null])) := ⟨_, rfl⟩
  replace G : gS D K w1_ s H locs := by rw [hw1_]; exact G
  have c1_q : w1_ q = some (.inr (1, [.int a, .int 0, .null])) := by rw [hw1_]; exact gu_s
  refine lv_aload_n (pc := 9) hx hb dX2_init_9 rfl (lv_at hl 0 rfl) ?_
  refine lv_iload_n (pc := 10) hx hb dX2_init_10 rfl (lv_at hl 2 rfl) ?_
  refine g_putF (pc := 11) (v := .int b) S M G (C := RX2) (T := TX2) (N := 3) (ci := 1) in_X2 tyX2 tyX2_ok nmX2 c1_q hbq rfl 1 (by decide) q71 (Or.inl rfl) rfl hname rfl rfl rfl (Nat.le_of_ble_eq_true rfl) dX2_init_11 (fun H locs G => ?_)
  obtain ⟨w2_, hw2_⟩ : ∃ z9, z9 = gu w1_ q (.inr (1, [.int a, .int b, .null])) := ⟨_, rfl⟩
  replace G : gS D K w2_ s H locs := by rw [hw2_]; exact G
  have c2_q : w2_ q = some (.inr (1, [.int a, .int b, .null])) := by rw [hw2_]; exact gu_s
  refine lv_aload_n (pc := 14) hx hb dX2_init_14 rfl (lv_at hl 0 rfl) ?_
  refine gv_aload_n (pc := 15) S dX2_init_15 rfl (lv_at hl 3 rfl) ?_
  refine g_putF (pc := 16) (v := va_rf nx) S M G (C := RX2) (T := TX2) (N := 3) (ci := 1) in_X2 tyX2 tyX2_ok nmX2 c2_q hbq rfl 2 (by decide) q72 (Or.inl rfl) rfl hname rfl (nar_rf _ (by first | exact Or.inl ⟨_, rfl⟩ | exact Or.inr ⟨_, rfl⟩)) (fit_rf _ (by first | exact Or.inl ⟨_, rfl⟩ | exact Or.inr ⟨_, rfl⟩)) (Nat.le_of_ble_eq_true rfl) dX2_init_16 (fun H locs G => ?_)
  obtain ⟨w3_, hw3_⟩ : ∃ z9, z9 = gu w2_ q (.inr (1, [.int a, .int b, va_rf nx])) := ⟨_, rfl⟩
  replace G : gS D K w3_ s H locs := by rw [hw3_]; exact G
  have c3_q : w3_ q = some (.inr (1, [.int a, .int b, va_rf nx])) := by rw [hw3_]; exact gu_s
  rw [hQ]
  refine g_vret S G hr hlocks (hdg := dX2_init_19) ?_ ?_ ?_
  · exact Nat.le_of_ble_eq_true rfl
  · exact Nat.le_of_ble_eq_true rfl
  · refine ⟨rfl, ?_⟩
    rw [hw3_, hw2_, hw1_]
    repeat rw [gu_uu]
def PN (w : Gh) (l : List Nat) : Prop := l.Nodup ∧ ∀ a ∈ l, w a ≠ none
theorem PN.new {w w' : Gh} {l : List Nat} {q : Nat} {x : va_E} (h : PN w l) (e : w' = gu w q x) (hq : w q = none) : PN w' (q :: l) := by
  subst e
  refine ⟨List.nodup_cons.mpr ⟨fun z => h.2 q z hq, h.1⟩, fun a ha => ?_⟩
  by_cases z : a = q
  · rw [z, gu_s]; exact fun y => nomatch y
  · rw [gu_n z]; exact h.2 a ((List.mem_cons.mp ha).resolve_left z)
theorem PN.up {w w' : Gh} {l : List Nat} {q : Nat} {x : va_E} (h : PN w l) (e : w' = gu w q x) : PN w' l := by
  subst e
  refine ⟨h.1, fun a ha => ?_⟩
  by_cases z : a = q
  · rw [z, gu_s]; exact fun y => nomatch y
  · rw [gu_n z]; exact h.2 a ha
theorem nd_inj {l : List Nat} (h : l.Nodup) {i j : Nat} (hi : i < l.length) (hj : j < l.length) (e : l.getD i 0 = l.getD j 0) : i = j := by
  rw [List.getD_eq_getElem?_getD, List.getD_eq_getElem?_getD, List.getElem?_eq_getElem hi, List.getElem?_eq_getElem hj] at e
  have e : l[i] = l[j] := e
  have hp := List.pairwise_iff_getElem.mp h
  rcases Nat.lt_trichotomy i j with z | z | z
  · exact absurd e (hp i j hi hj z)
  · exact z
  · exact absurd e.symm (hp j i hj hi z)
theorem fill10 {j : Nat} : upd (fun k => if k < j then (10 : Int32) else 0) j 10 = fun k => if k < j + 1 then (10 : Int32) else 0 := by
  funext k
  unfold upd
  by_cases h : k = j
  · rw [if_pos h, if_pos (by omega)]
  · rw [if_neg h]
    show (if k < j then (10 : Int32) else 0) = _
    by_cases h2 : k < j
    · rw [if_pos h2, if_pos (by omega)]
    · rw [if_neg h2, if_neg (by omega)]
def dX0 : DQ := (0, fun _ => 0, fun _ _ => 0, [], fun k => if k = 0 then (fun k => if k < 6 then 10 else 0) else fun _ => 0, fun k => if k = 0 then 20 else 0, fun _ => 0)
abbrev rmX1_init : Room := ({ frames := 4, cells := 14, slots := 61, locals := 80 } : Room)
set_option maxHeartbeats 4000000 in
theorem metX1_init (l : Launch) (D : va_G) (K : Nat → Nat) (w : Gh) {dl : Nat} (hDD : DD D) (hWK : WKc K w) (hq : w dl = some (.inr (0, [.null, .null, .null, .null, .null, .null, .null, .int 0, .int 0, .long 0, .long 0, .long 0]))) (hbq : K 0 ≤ dl) : gMet l yX1_init (ws_ yX1_init cX1_init 2 none) rmX1_init D K [.ref dl] w (fun r' w' => r' = none ∧ ∃ ca oa, w ca = none ∧ w oa = none ∧ DW D K w' dl ca oa dX0 ∧ ∀ b y, w b = some y → b ≠ dl → w' b = some y) := by
  refine gMet.of (by decide) (Nat.le_of_ble_eq_true rfl) ?_
  intro p e s m args below meth c H locs ls S M hr hlocks hname G hl
  have hx := S.1
  have hb := S.2.1
  have hown := S.2.2.2.1
  have hts := S.2.2.2.2
  have hl : lv_has ls 2 [(0, .ref dl)] := hl
  obtain ⟨Q, hQ⟩ : ∃ Q, Q = gE below D K (fun r' w' => r' = none ∧ ∃ ca oa, w ca = none ∧ w oa = none ∧ DW D K w' dl ca oa dX0 ∧ ∀ b y, w b = some y → b ≠ dl → w' b = some y) args s rmX1_init.cells rmX1_init.slots := ⟨_, rfl⟩
  rw [← hQ]
  have hkw : ∀ b y, w b = some y → b ≠ dl → w b = some y := fun _ _ h _ => h
  have hPw : PN w [dl] := ⟨by simp, fun a ha => by rw [List.mem_singleton.mp ha, hq]; exact fun z => nomatch z⟩
  refine lv_aload_n (pc := 0) hx hb dX1_init_0 rfl (lv_at hl 0 rfl) ?_
  refine W.objInit hx hb hown (hts _ q61) (hts _ q62) (hts _ q63) rfl (by rw [S.2.2.1]; exact hl.1) rfl dX1_init_1 (Nat.le_of_ble_eq_true rfl) (Nat.le_of_ble_eq_true rfl) ?_
  refine W.eq (g2 := F0 m 4 ls []) rfl ?_
  refine lv_aload_n (pc := 4) hx hb dX1_init_4 rfl (lv_at hl 0 rfl) ?_
  refine g_new (pc := 5) S M G (C := RX2) (T := TX2) (N := 3) (ci := 1) (fs := [.int 0, .int 0, .null]) in_X2 tyX2 tyX2_ok q64 q65 q19 rfl df_X2 (Nat.le_of_ble_eq_true rfl) (Nat.le_of_ble_eq_true rfl) dX1_init_5 (fun q1_ H hnq1_ hbq1_ heq1_ hsq1_ G => ?_)
  refine W.widen (k := 1) (n := 3) (Nat.le_of_ble_eq_true rfl) (Nat.le_of_ble_eq_true rfl) ?_
  obtain ⟨w2_, hw2_⟩ : ∃ z9, z9 = gu w q1_ (.inr (1, [.int 0, .int 0, .null])) := ⟨_, rfl⟩
  replace G : gS D K w2_ s H locs := by rw [hw2_]; exact G
  have c2_dl : w2_ dl = some (.inr (0, [.null, .null, .null, .null, .null, .null, .null, .int 0, .int 0, .long 0, .long 0, .long 0])) := by rw [hw2_, gu_n (gne_f hq hnq1_)]; exact hq
  have c2_q1_ : w2_ q1_ = some (.inr (1, [.int 0, .int 0, .null])) := by rw [hw2_]; exact gu_s
  have hkw2_ : ∀ b y, w b = some y → b ≠ dl → w2_ b = some y := fun b y q1 q2 => by rw [hw2_, gu_n (gne_f (hkw b y q1 q2) hnq1_)]; exact hkw b y q1 q2
  have hPw2_ := hPw.new hw2_ hnq1_
  have hzq1_ : w q1_ = none := by
    cases h8 : w q1_ with
    | none => rfl
    | some y =>
      have h9 := hkw _ _ h8 (fun z => by have h7 := hq; rw [← z, hnq1_] at h7; cases h7)
      rw [hnq1_] at h9
      cases h9
  refine lv_dup (pc := 8) hx hb dX1_init_8 rfl ?_
  refine lv_sipush (pc := 9) (v := 1000) hx hb dX1_init_9 (by decide) ?_
  refine lv_bipush (pc := 12) (v := 50) hx hb dX1_init_12 (by decide) ?_
  refine g_new (pc := 14) S M G (C := RX2) (T := TX2) (N := 3) (ci := 1) (fs := [.int 0, .int 0, .null]) in_X2 tyX2 tyX2_ok q64 q65 q19 rfl df_X2 (Nat.le_of_ble_eq_true rfl) (Nat.le_of_ble_eq_true rfl) dX1_init_14 (fun q3_ H hnq3_ hbq3_ heq3_ hsq3_ G => ?_)
  refine W.widen (k := 2) (n := 6) (Nat.le_of_ble_eq_true rfl) (Nat.le_of_ble_eq_true rfl) ?_
  obtain ⟨w4_, hw4_⟩ : ∃ z9, z9 = gu w2_ q3_ (.inr (1, [.int 0, .int 0, .null])) := ⟨_, rfl⟩
  replace G : gS D K w4_ s H locs := by rw [hw4_]; exact G
  have c4_dl : w4_ dl = some (.inr (0, [.null, .null, .null, .null, .null, .null, .null, .int 0, .int 0, .long 0, .long 0, .long 0])) := by rw [hw4_, gu_n (gne_f c2_dl hnq3_)]; exact c2_dl
  have c4_q1_ : w4_ q1_ = some (.inr (1, [.int 0, .int 0, .null])) := by rw [hw4_, gu_n (gne_f c2_q1_ hnq3_)]; exact c2_q1_
  have c4_q3_ : w4_ q3_ = some (.inr (1, [.int 0, .int 0, .null])) := by rw [hw4_]; exact gu_s
  have hkw4_ : ∀ b y, w b = some y → b ≠ dl → w4_ b = some y := fun b y q1 q2 => by rw [hw4_, gu_n (gne_f (hkw2_ b y q1 q2) hnq3_)]; exact hkw2_ b y q1 q2
  have hPw4_ := hPw2_.new hw4_ hnq3_
  have hzq3_ : w q3_ = none := by
    cases h8 : w q3_ with
    | none => rfl
    | some y =>
      have h9 := hkw2_ _ _ h8 (fun z => by have h7 := c2_dl; rw [← z, hnq3_] at h7; cases h7)
      rw [hnq3_] at h9
      cases h9
  refine lv_dup (pc := 17) hx hb dX1_init_17 rfl ?_
  refine lv_sipush (pc := 18) (v := 5000) hx hb dX1_init_18 (by decide) ?_
  refine lv_bipush (pc := 21) (v := 100) hx hb dX1_init_21 (by decide) ?_
  refine g_new (pc := 23) S M G (C := RX2) (T := TX2) (N := 3) (ci := 1) (fs := [.int 0, .int 0, .null]) in_X2 tyX2 tyX2_ok q64 q65 q19 rfl df_X2 (Nat.le_of_ble_eq_true rfl) (Nat.le_of_ble_eq_true rfl) dX1_init_23 (fun q5_ H hnq5_ hbq5_ heq5_ hsq5_ G => ?_)
  refine W.widen (k := 3) (n := 9) (Nat.le_of_ble_eq_true rfl) (Nat.le_of_ble_eq_true rfl) ?_
  obtain ⟨w6_, hw6_⟩ : ∃ z9, z9 = gu w4_ q5_ (.inr (1, [.int 0, .int 0, .null])) := ⟨_, rfl⟩
  replace G : gS D K w6_ s H locs := by rw [hw6_]; exact G
  have c6_dl : w6_ dl = some (.inr (0, [.null, .null, .null, .null, .null, .null, .null, .int 0, .int 0, .long 0, .long 0, .long 0])) := by rw [hw6_, gu_n (gne_f c4_dl hnq5_)]; exact c4_dl
  have c6_q1_ : w6_ q1_ = some (.inr (1, [.int 0, .int 0, .null])) := by rw [hw6_, gu_n (gne_f c4_q1_ hnq5_)]; exact c4_q1_
  have c6_q3_ : w6_ q3_ = some (.inr (1, [.int 0, .int 0, .null])) := by rw [hw6_, gu_n (gne_f c4_q3_ hnq5_)]; exact c4_q3_
  have c6_q5_ : w6_ q5_ = some (.inr (1, [.int 0, .int 0, .null])) := by rw [hw6_]; exact gu_s
  have hkw6_ : ∀ b y, w b = some y → b ≠ dl → w6_ b = some y := fun b y q1 q2 => by rw [hw6_, gu_n (gne_f (hkw4_ b y q1 q2) hnq5_)]; exact hkw4_ b y q1 q2
  have hPw6_ := hPw4_.new hw6_ hnq5_
  have hzq5_ : w q5_ = none := by
    cases h8 : w q5_ with
    | none => rfl
    | some y =>
      have h9 := hkw4_ _ _ h8 (fun z => by have h7 := c4_dl; rw [← z, hnq5_] at h7; cases h7)
      rw [hnq5_] at h9
      cases h9
  refine lv_dup (pc := 26) hx hb dX1_init_26 rfl ?_
  refine lv_sipush (pc := 27) (v := 20000) hx hb dX1_init_27 (by decide) ?_
  refine lv_sipush (pc := 30) (v := 500) hx hb dX1_init_30 (by decide) ?_
  refine g_new (pc := 33) S M G (C := RX2) (T := TX2) (N := 3) (ci := 1) (fs := [.int 0, .int 0, .null]) in_X2 tyX2 tyX2_ok q64 q65 q19 rfl df_X2 (Nat.le_of_ble_eq_true rfl) (Nat.le_of_ble_eq_true rfl) dX1_init_33 (fun q7_ H hnq7_ hbq7_ heq7_ hsq7_ G => ?_)
  refine W.widen (k := 4) (n := 12) (Nat.le_of_ble_eq_true rfl) (Nat.le_of_ble_eq_true rfl) ?_
  obtain ⟨w8_, hw8_⟩ : ∃ z9, z9 = gu w6_ q7_ (.inr (1, [.int 0, .int 0, .null])) := ⟨_, rfl⟩
  replace G : gS D K w8_ s H locs := by rw [hw8_]; exact G
  have c8_dl : w8_ dl = some (.inr (0, [.null, .null, .null, .null, .null, .null, .null, .int 0, .int 0, .long 0, .long 0, .long 0])) := by rw [hw8_, gu_n (gne_f c6_dl hnq7_)]; exact c6_dl
  have c8_q1_ : w8_ q1_ = some (.inr (1, [.int 0, .int 0, .null])) := by rw [hw8_, gu_n (gne_f c6_q1_ hnq7_)]; exact c6_q1_
  have c8_q3_ : w8_ q3_ = some (.inr (1, [.int 0, .int 0, .null])) := by rw [hw8_, gu_n (gne_f c6_q3_ hnq7_)]; exact c6_q3_
  have c8_q5_ : w8_ q5_ = some (.inr (1, [.int 0, .int 0, .null])) := by rw [hw8_, gu_n (gne_f c6_q5_ hnq7_)]; exact c6_q5_
  have c8_q7_ : w8_ q7_ = some (.inr (1, [.int 0, .int 0, .null])) := by rw [hw8_]; exact gu_s
  have hkw8_ : ∀ b y, w b = some y → b ≠ dl → w8_ b = some y := fun b y q1 q2 => by rw [hw8_, gu_n (gne_f (hkw6_ b y q1 q2) hnq7_)]; exact hkw6_ b y q1 q2
  have hPw8_ := hPw6_.new hw8_ hnq7_
  have hzq7_ : w q7_ = none := by
    cases h8 : w q7_ with
    | none => rfl
    | some y =>
      have h9 := hkw6_ _ _ h8 (fun z => by have h7 := c6_dl; rw [← z, hnq7_] at h7; cases h7)
      rw [hnq7_] at h9
      cases h9
  refine lv_dup (pc := 36) hx hb dX1_init_36 rfl ?_
  refine lv_iconst (pc := 37) (v := 0) hx hb dX1_init_37 (by decide) ?_
  refine lv_sipush (pc := 38) (v := 1000) hx hb dX1_init_38 (by decide) ?_
  refine lv_null (pc := 41) hx hb dX1_init_41 ?_
  refine g_callI (pc := 42) S M G hl.1 [.int 0, .int 1000, .null] [.ref q7_, .int 500, .int 20000, .ref q5_, .ref q5_, .int 100, .int 5000, .ref q3_, .ref q3_, .int 50, .int 1000, .ref q1_, .ref q1_, .ref dl] (metX2_init l D K w8_ (nx := none) c8_q7_ hbq7_) 3 q68 q66 q67 q19 rfl (by decide) rfl ⟨Nat.le_of_ble_eq_true rfl, Nat.le_of_ble_eq_true rfl⟩ rfl (Nat.le_of_ble_eq_true rfl) dX1_init_42 ⟨Nat.le_of_ble_eq_true rfl, Nat.le_of_ble_eq_true rfl⟩ (fun r w2 H locs hp G => ?_)
  obtain ⟨rfl, hw2⟩ := hp
  rw [hw2] at G
  obtain ⟨w9_, hw9_⟩ : ∃ z9, z9 = gu w8_ q7_ (.inr (1, [.int 0, .int 1000, .null])) := ⟨_, rfl⟩
  replace G : gS D K w9_ s H locs := by rw [hw9_]; exact G
  have c9_dl : w9_ dl = some (.inr (0, [.null, .null, .null, .null, .null, .null, .null, .int 0, .int 0, .long 0, .long 0, .long 0])) := by rw [hw9_, gu_n (gne_f c6_dl hnq7_)]; exact c8_dl
  have c9_q1_ : w9_ q1_ = some (.inr (1, [.int 0, .int 0, .null])) := by rw [hw9_, gu_n (gne_f c6_q1_ hnq7_)]; exact c8_q1_
  have c9_q3_ : w9_ q3_ = some (.inr (1, [.int 0, .int 0, .null])) := by rw [hw9_, gu_n (gne_f c6_q3_ hnq7_)]; exact c8_q3_
  have c9_q5_ : w9_ q5_ = some (.inr (1, [.int 0, .int 0, .null])) := by rw [hw9_, gu_n (gne_f c6_q5_ hnq7_)]; exact c8_q5_
  have c9_q7_ : w9_ q7_ = some (.inr (1, [.int 0, .int 1000, .null])) := by rw [hw9_]; exact gu_s
  have hPw9_ := hPw8_.up hw9_
  have hkw9_ : ∀ b y, w b = some y → b ≠ dl → w9_ b = some y := fun b y q1 q2 => by rw [hw9_, gu_n (fun z => by have h8 := q1; rw [z, hzq7_] at h8; cases h8)]; exact hkw8_ b y q1 q2
  refine W.eq (g2 := F0 m 45 ls [.ref q7_, .int 500, .int 20000, .ref q5_, .ref q5_, .int 100, .int 5000, .ref q3_, .ref q3_, .int 50, .int 1000, .ref q1_, .ref q1_, .ref dl]) rfl ?_
  refine g_callI (pc := 45) S M G hl.1 [.int 20000, .int 500, .ref q7_] [.ref q5_, .int 100, .int 5000, .ref q3_, .ref q3_, .int 50, .int 1000, .ref q1_, .ref q1_, .ref dl] (metX2_init l D K w9_ (nx := some q7_) c9_q5_ hbq5_) 3 q68 q66 q67 q19 rfl (by decide) rfl ⟨Nat.le_of_ble_eq_true rfl, Nat.le_of_ble_eq_true rfl⟩ rfl (Nat.le_of_ble_eq_true rfl) dX1_init_45 ⟨Nat.le_of_ble_eq_true rfl, Nat.le_of_ble_eq_true rfl⟩ (fun r w2 H locs hp G => ?_)
  obtain ⟨rfl, hw2⟩ := hp
  rw [hw2] at G
  obtain ⟨w10_, hw10_⟩ : ∃ z9, z9 = gu w9_ q5_ (.inr (1, [.int 20000, .int 500, .ref q7_])) := ⟨_, rfl⟩
  replace G : gS D K w10_ s H locs := by rw [hw10_]; exact G
  have c10_dl : w10_ dl = some (.inr (0, [.null, .null, .null, .null, .null, .null, .null, .int 0, .int 0, .long 0, .long 0, .long 0])) := by rw [hw10_, gu_n (gne_f c4_dl hnq5_)]; exact c9_dl
  have c10_q1_ : w10_ q1_ = some (.inr (1, [.int 0, .int 0, .null])) := by rw [hw10_, gu_n (gne_f c4_q1_ hnq5_)]; exact c9_q1_
  have c10_q3_ : w10_ q3_ = some (.inr (1, [.int 0, .int 0, .null])) := by rw [hw10_, gu_n (gne_f c4_q3_ hnq5_)]; exact c9_q3_
  have c10_q7_ : w10_ q7_ = some (.inr (1, [.int 0, .int 1000, .null])) := by rw [hw10_, gu_n (Ne.symm (gne_f c6_q5_ hnq7_))]; exact c9_q7_
  have c10_q5_ : w10_ q5_ = some (.inr (1, [.int 20000, .int 500, .ref q7_])) := by rw [hw10_]; exact gu_s
  have hPw10_ := hPw9_.up hw10_
  have hkw10_ : ∀ b y, w b = some y → b ≠ dl → w10_ b = some y := fun b y q1 q2 => by rw [hw10_, gu_n (fun z => by have h8 := q1; rw [z, hzq5_] at h8; cases h8)]; exact hkw9_ b y q1 q2
  refine W.eq (g2 := F0 m 48 ls [.ref q5_, .int 100, .int 5000, .ref q3_, .ref q3_, .int 50, .int 1000, .ref q1_, .ref q1_, .ref dl]) rfl ?_
  refine g_callI (pc := 48) S M G hl.1 [.int 5000, .int 100, .ref q5_] [.ref q3_, .int 50, .int 1000, .ref q1_, .ref q1_, .ref dl] (metX2_init l D K w10_ (nx := some q5_) c10_q3_ hbq3_) 3 q68 q66 q67 q19 rfl (by decide) rfl ⟨Nat.le_of_ble_eq_true rfl, Nat.le_of_ble_eq_true rfl⟩ rfl (Nat.le_of_ble_eq_true rfl) dX1_init_48 ⟨Nat.le_of_ble_eq_true rfl, Nat.le_of_ble_eq_true rfl⟩ (fun r w2 H locs hp G => ?_)
  obtain ⟨rfl, hw2⟩ := hp
  rw [hw2] at G
  obtain ⟨w11_, hw11_⟩ : ∃ z9, z9 = gu w10_ q3_ (.inr (1, [.int 5000, .int 100, .ref q5_])) := ⟨_, rfl⟩
  replace G : gS D K w11_ s H locs := by rw [hw11_]; exact G
  have c11_dl : w11_ dl = some (.inr (0, [.null, .null, .null, .null, .null, .null, .null, .int 0, .int 0, .long 0, .long 0, .long 0])) := by rw [hw11_, gu_n (gne_f c2_dl hnq3_)]; exact c10_dl
  have c11_q1_ : w11_ q1_ = some (.inr (1, [.int 0, .int 0, .null])) := by rw [hw11_, gu_n (gne_f c2_q1_ hnq3_)]; exact c10_q1_
  have c11_q5_ : w11_ q5_ = some (.inr (1, [.int 20000, .int 500, .ref q7_])) := by rw [hw11_, gu_n (Ne.symm (gne_f c4_q3_ hnq5_))]; exact c10_q5_
  have c11_q7_ : w11_ q7_ = some (.inr (1, [.int 0, .int 1000, .null])) := by rw [hw11_, gu_n (Ne.symm (gne_f c6_q3_ hnq7_))]; exact c10_q7_
  have c11_q3_ : w11_ q3_ = some (.inr (1, [.int 5000, .int 100, .ref q5_])) := by rw [hw11_]; exact gu_s
  have hPw11_ := hPw10_.up hw11_
  have hkw11_ : ∀ b y, w b = some y → b ≠ dl → w11_ b = some y := fun b y q1 q2 => by rw [hw11_, gu_n (fun z => by have h8 := q1; rw [z, hzq3_] at h8; cases h8)]; exact hkw10_ b y q1 q2
  refine W.eq (g2 := F0 m 51 ls [.ref q3_, .int 50, .int 1000, .ref q1_, .ref q1_, .ref dl]) rfl ?_
  refine g_callI (pc := 51) S M G hl.1 [.int 1000, .int 50, .ref q3_] [.ref q1_, .ref dl] (metX2_init l D K w11_ (nx := some q3_) c11_q1_ hbq1_) 3 q68 q66 q67 q19 rfl (by decide) rfl ⟨Nat.le_of_ble_eq_true rfl, Nat.le_of_ble_eq_true rfl⟩ rfl (Nat.le_of_ble_eq_true rfl) dX1_init_51 ⟨Nat.le_of_ble_eq_true rfl, Nat.le_of_ble_eq_true rfl⟩ (fun r w2 H locs hp G => ?_)
  obtain ⟨rfl, hw2⟩ := hp
  rw [hw2] at G
  obtain ⟨w12_, hw12_⟩ : ∃ z9, z9 = gu w11_ q1_ (.inr (1, [.int 1000, .int 50, .ref q3_])) := ⟨_, rfl⟩
  replace G : gS D K w12_ s H locs := by rw [hw12_]; exact G
  have c12_dl : w12_ dl = some (.inr (0, [.null, .null, .null, .null, .null, .null, .null, .int 0, .int 0, .long 0, .long 0, .long 0])) := by rw [hw12_, gu_n (gne_f hq hnq1_)]; exact c11_dl
  have c12_q3_ : w12_ q3_ = some (.inr (1, [.int 5000, .int 100, .ref q5_])) := by rw [hw12_, gu_n (Ne.symm (gne_f c2_q1_ hnq3_))]; exact c11_q3_
  have c12_q5_ : w12_ q5_ = some (.inr (1, [.int 20000, .int 500, .ref q7_])) := by rw [hw12_, gu_n (Ne.symm (gne_f c4_q1_ hnq5_))]; exact c11_q5_
  have c12_q7_ : w12_ q7_ = some (.inr (1, [.int 0, .int 1000, .null])) := by rw [hw12_, gu_n (Ne.symm (gne_f c6_q1_ hnq7_))]; exact c11_q7_
  have c12_q1_ : w12_ q1_ = some (.inr (1, [.int 1000, .int 50, .ref q3_])) := by rw [hw12_]; exact gu_s
  have hPw12_ := hPw11_.up hw12_
  have hkw12_ : ∀ b y, w b = some y → b ≠ dl → w12_ b = some y := fun b y q1 q2 => by rw [hw12_, gu_n (fun z => by have h8 := q1; rw [z, hzq1_] at h8; cases h8)]; exact hkw11_ b y q1 q2
  refine W.eq (g2 := F0 m 54 ls [.ref q1_, .ref dl]) rfl ?_
  refine g_putF (pc := 54) (v := .ref q1_) S M G (C := RX1) (T := TX1) (N := 12) (ci := 0) in_X1 tyX1 tyX1_ok nmX1 c12_dl hbq rfl 0 (by decide) q165 (Or.inl rfl) rfl hname rfl rfl rfl (Nat.le_of_ble_eq_true rfl) dX1_init_54 (fun H locs G => ?_)
  obtain ⟨w13_, hw13_⟩ : ∃ z9, z9 = gu w12_ dl (.inr (0, [.ref q1_, .null, .null, .null, .null, .null, .null, .int 0, .int 0, .long 0, .long 0, .long 0])) := ⟨_, rfl⟩
  replace G : gS D K w13_ s H locs := by rw [hw13_]; exact G
  have c13_q1_ : w13_ q1_ = some (.inr (1, [.int 1000, .int 50, .ref q3_])) := by rw [hw13_, gu_n (Ne.symm (gne_f hq hnq1_))]; exact c12_q1_
  have c13_q3_ : w13_ q3_ = some (.inr (1, [.int 5000, .int 100, .ref q5_])) := by rw [hw13_, gu_n (Ne.symm (gne_f c2_dl hnq3_))]; exact c12_q3_
  have c13_q5_ : w13_ q5_ = some (.inr (1, [.int 20000, .int 500, .ref q7_])) := by rw [hw13_, gu_n (Ne.symm (gne_f c4_dl hnq5_))]; exact c12_q5_
  have c13_q7_ : w13_ q7_ = some (.inr (1, [.int 0, .int 1000, .null])) := by rw [hw13_, gu_n (Ne.symm (gne_f c6_dl hnq7_))]; exact c12_q7_
  have c13_dl : w13_ dl = some (.inr (0, [.ref q1_, .null, .null, .null, .null, .null, .null, .int 0, .int 0, .long 0, .long 0, .long 0])) := by rw [hw13_]; exact gu_s
  have hPw13_ := hPw12_.up hw13_
  have hkw13_ : ∀ b y, w b = some y → b ≠ dl → w13_ b = some y := fun b y q1 q2 => by rw [hw13_, gu_n q2]; exact hkw12_ b y q1 q2
  refine lv_aload_n (pc := 57) hx hb dX1_init_57 rfl (lv_at hl 0 rfl) ?_
  refine g_new (pc := 58) S M G (C := RX2) (T := TX2) (N := 3) (ci := 1) (fs := [.int 0, .int 0, .null]) in_X2 tyX2 tyX2_ok q64 q65 q19 rfl df_X2 (Nat.le_of_ble_eq_true rfl) (Nat.le_of_ble_eq_true rfl) dX1_init_58 (fun q14_ H hnq14_ hbq14_ heq14_ hsq14_ G => ?_)
  refine W.widen (k := 5) (n := 15) (Nat.le_of_ble_eq_true rfl) (Nat.le_of_ble_eq_true rfl) ?_
  obtain ⟨w15_, hw15_⟩ : ∃ z9, z9 = gu w13_ q14_ (.inr (1, [.int 0, .int 0, .null])) := ⟨_, rfl⟩
  replace G : gS D K w15_ s H locs := by rw [hw15_]; exact G
  have c15_dl : w15_ dl = some (.inr (0, [.ref q1_, .null, .null, .null, .null, .null, .null, .int 0, .int 0, .long 0, .long 0, .long 0])) := by rw [hw15_, gu_n (gne_f c13_dl hnq14_)]; exact c13_dl
  have c15_q1_ : w15_ q1_ = some (.inr (1, [.int 1000, .int 50, .ref q3_])) := by rw [hw15_, gu_n (gne_f c13_q1_ hnq14_)]; exact c13_q1_
  have c15_q3_ : w15_ q3_ = some (.inr (1, [.int 5000, .int 100, .ref q5_])) := by rw [hw15_, gu_n (gne_f c13_q3_ hnq14_)]; exact c13_q3_
  have c15_q5_ : w15_ q5_ = some (.inr (1, [.int 20000, .int 500, .ref q7_])) := by rw [hw15_, gu_n (gne_f c13_q5_ hnq14_)]; exact c13_q5_
  have c15_q7_ : w15_ q7_ = some (.inr (1, [.int 0, .int 1000, .null])) := by rw [hw15_, gu_n (gne_f c13_q7_ hnq14_)]; exact c13_q7_
  have c15_q14_ : w15_ q14_ = some (.inr (1, [.int 0, .int 0, .null])) := by rw [hw15_]; exact gu_s
  have hkw15_ : ∀ b y, w b = some y → b ≠ dl → w15_ b = some y := fun b y q1 q2 => by rw [hw15_, gu_n (gne_f (hkw13_ b y q1 q2) hnq14_)]; exact hkw13_ b y q1 q2
  have hPw15_ := hPw13_.new hw15_ hnq14_
  have hzq14_ : w q14_ = none := by
    cases h8 : w q14_ with
    | none => rfl
    | some y =>
      have h9 := hkw13_ _ _ h8 (fun z => by have h7 := c13_dl; rw [← z, hnq14_] at h7; cases h7)
      rw [hnq14_] at h9
      cases h9
  refine lv_dup (pc := 61) hx hb dX1_init_61 rfl ?_
  refine lv_sipush (pc := 62) (v := 10000) hx hb dX1_init_62 (by decide) ?_
  refine lv_bipush (pc := 65) (v := 25) hx hb dX1_init_65 (by decide) ?_
  refine g_new (pc := 67) S M G (C := RX2) (T := TX2) (N := 3) (ci := 1) (fs := [.int 0, .int 0, .null]) in_X2 tyX2 tyX2_ok q64 q65 q19 rfl df_X2 (Nat.le_of_ble_eq_true rfl) (Nat.le_of_ble_eq_true rfl) dX1_init_67 (fun q16_ H hnq16_ hbq16_ heq16_ hsq16_ G => ?_)
  refine W.widen (k := 6) (n := 18) (Nat.le_of_ble_eq_true rfl) (Nat.le_of_ble_eq_true rfl) ?_
  obtain ⟨w17_, hw17_⟩ : ∃ z9, z9 = gu w15_ q16_ (.inr (1, [.int 0, .int 0, .null])) := ⟨_, rfl⟩
  replace G : gS D K w17_ s H locs := by rw [hw17_]; exact G
  have c17_dl : w17_ dl = some (.inr (0, [.ref q1_, .null, .null, .null, .null, .null, .null, .int 0, .int 0, .long 0, .long 0, .long 0])) := by rw [hw17_, gu_n (gne_f c15_dl hnq16_)]; exact c15_dl
  have c17_q1_ : w17_ q1_ = some (.inr (1, [.int 1000, .int 50, .ref q3_])) := by rw [hw17_, gu_n (gne_f c15_q1_ hnq16_)]; exact c15_q1_
  have c17_q3_ : w17_ q3_ = some (.inr (1, [.int 5000, .int 100, .ref q5_])) := by rw [hw17_, gu_n (gne_f c15_q3_ hnq16_)]; exact c15_q3_
  have c17_q5_ : w17_ q5_ = some (.inr (1, [.int 20000, .int 500, .ref q7_])) := by rw [hw17_, gu_n (gne_f c15_q5_ hnq16_)]; exact c15_q5_
  have c17_q7_ : w17_ q7_ = some (.inr (1, [.int 0, .int 1000, .null])) := by rw [hw17_, gu_n (gne_f c15_q7_ hnq16_)]; exact c15_q7_
  have c17_q14_ : w17_ q14_ = some (.inr (1, [.int 0, .int 0, .null])) := by rw [hw17_, gu_n (gne_f c15_q14_ hnq16_)]; exact c15_q14_
  have c17_q16_ : w17_ q16_ = some (.inr (1, [.int 0, .int 0, .null])) := by rw [hw17_]; exact gu_s
  have hkw17_ : ∀ b y, w b = some y → b ≠ dl → w17_ b = some y := fun b y q1 q2 => by rw [hw17_, gu_n (gne_f (hkw15_ b y q1 q2) hnq16_)]; exact hkw15_ b y q1 q2
  have hPw17_ := hPw15_.new hw17_ hnq16_
  have hzq16_ : w q16_ = none := by
    cases h8 : w q16_ with
    | none => rfl
    | some y =>
      have h9 := hkw15_ _ _ h8 (fun z => by have h7 := c15_dl; rw [← z, hnq16_] at h7; cases h7)
      rw [hnq16_] at h9
      cases h9
  refine lv_dup (pc := 70) hx hb dX1_init_70 rfl ?_
  refine lv_ldc (pc := 71) (v := 50000) hx hb hown (hts _ q80) dX1_init_71 ?_
  refine lv_bipush (pc := 73) (v := 20) hx hb dX1_init_73 (by decide) ?_
  refine g_new (pc := 75) S M G (C := RX2) (T := TX2) (N := 3) (ci := 1) (fs := [.int 0, .int 0, .null]) in_X2 tyX2 tyX2_ok q64 q65 q19 rfl df_X2 (Nat.le_of_ble_eq_true rfl) (Nat.le_of_ble_eq_true rfl) dX1_init_75 (fun q18_ H hnq18_ hbq18_ heq18_ hsq18_ G => ?_)
  refine W.widen (k := 7) (n := 21) (Nat.le_of_ble_eq_true rfl) (Nat.le_of_ble_eq_true rfl) ?_
  obtain ⟨w19_, hw19_⟩ : ∃ z9, z9 = gu w17_ q18_ (.inr (1, [.int 0, .int 0, .null])) := ⟨_, rfl⟩
  replace G : gS D K w19_ s H locs := by rw [hw19_]; exact G
  have c19_dl : w19_ dl = some (.inr (0, [.ref q1_, .null, .null, .null, .null, .null, .null, .int 0, .int 0, .long 0, .long 0, .long 0])) := by rw [hw19_, gu_n (gne_f c17_dl hnq18_)]; exact c17_dl
  have c19_q1_ : w19_ q1_ = some (.inr (1, [.int 1000, .int 50, .ref q3_])) := by rw [hw19_, gu_n (gne_f c17_q1_ hnq18_)]; exact c17_q1_
  have c19_q3_ : w19_ q3_ = some (.inr (1, [.int 5000, .int 100, .ref q5_])) := by rw [hw19_, gu_n (gne_f c17_q3_ hnq18_)]; exact c17_q3_
  have c19_q5_ : w19_ q5_ = some (.inr (1, [.int 20000, .int 500, .ref q7_])) := by rw [hw19_, gu_n (gne_f c17_q5_ hnq18_)]; exact c17_q5_
  have c19_q7_ : w19_ q7_ = some (.inr (1, [.int 0, .int 1000, .null])) := by rw [hw19_, gu_n (gne_f c17_q7_ hnq18_)]; exact c17_q7_
  have c19_q14_ : w19_ q14_ = some (.inr (1, [.int 0, .int 0, .null])) := by rw [hw19_, gu_n (gne_f c17_q14_ hnq18_)]; exact c17_q14_
  have c19_q16_ : w19_ q16_ = some (.inr (1, [.int 0, .int 0, .null])) := by rw [hw19_, gu_n (gne_f c17_q16_ hnq18_)]; exact c17_q16_
  have c19_q18_ : w19_ q18_ = some (.inr (1, [.int 0, .int 0, .null])) := by rw [hw19_]; exact gu_s
  have hkw19_ : ∀ b y, w b = some y → b ≠ dl → w19_ b = some y := fun b y q1 q2 => by rw [hw19_, gu_n (gne_f (hkw17_ b y q1 q2) hnq18_)]; exact hkw17_ b y q1 q2
  have hPw19_ := hPw17_.new hw19_ hnq18_
  have hzq18_ : w q18_ = none := by
    cases h8 : w q18_ with
    | none => rfl
    | some y =>
      have h9 := hkw17_ _ _ h8 (fun z => by have h7 := c17_dl; rw [← z, hnq18_] at h7; cases h7)
      rw [hnq18_] at h9
      cases h9
  refine lv_dup (pc := 78) hx hb dX1_init_78 rfl ?_
  refine lv_iconst (pc := 79) (v := 0) hx hb dX1_init_79 (by decide) ?_
  refine lv_bipush (pc := 80) (v := 12) hx hb dX1_init_80 (by decide) ?_
  refine lv_null (pc := 82) hx hb dX1_init_82 ?_
  refine g_callI (pc := 83) S M G hl.1 [.int 0, .int 12, .null] [.ref q18_, .int 20, .int 50000, .ref q16_, .ref q16_, .int 25, .int 10000, .ref q14_, .ref q14_, .ref dl] (metX2_init l D K w19_ (nx := none) c19_q18_ hbq18_) 3 q68 q66 q67 q19 rfl (by decide) rfl ⟨Nat.le_of_ble_eq_true rfl, Nat.le_of_ble_eq_true rfl⟩ rfl (Nat.le_of_ble_eq_true rfl) dX1_init_83 ⟨Nat.le_of_ble_eq_true rfl, Nat.le_of_ble_eq_true rfl⟩ (fun r w2 H locs hp G => ?_)
  obtain ⟨rfl, hw2⟩ := hp
  rw [hw2] at G
  obtain ⟨w20_, hw20_⟩ : ∃ z9, z9 = gu w19_ q18_ (.inr (1, [.int 0, .int 12, .null])) := ⟨_, rfl⟩
  replace G : gS D K w20_ s H locs := by rw [hw20_]; exact G
  have c20_dl : w20_ dl = some (.inr (0, [.ref q1_, .null, .null, .null, .null, .null, .null, .int 0, .int 0, .long 0, .long 0, .long 0])) := by rw [hw20_, gu_n (gne_f c17_dl hnq18_)]; exact c19_dl
  have c20_q1_ : w20_ q1_ = some (.inr (1, [.int 1000, .int 50, .ref q3_])) := by rw [hw20_, gu_n (gne_f c17_q1_ hnq18_)]; exact c19_q1_
  have c20_q3_ : w20_ q3_ = some (.inr (1, [.int 5000, .int 100, .ref q5_])) := by rw [hw20_, gu_n (gne_f c17_q3_ hnq18_)]; exact c19_q3_
  have c20_q5_ : w20_ q5_ = some (.inr (1, [.int 20000, .int 500, .ref q7_])) := by rw [hw20_, gu_n (gne_f c17_q5_ hnq18_)]; exact c19_q5_
  have c20_q7_ : w20_ q7_ = some (.inr (1, [.int 0, .int 1000, .null])) := by rw [hw20_, gu_n (gne_f c17_q7_ hnq18_)]; exact c19_q7_
  have c20_q14_ : w20_ q14_ = some (.inr (1, [.int 0, .int 0, .null])) := by rw [hw20_, gu_n (gne_f c17_q14_ hnq18_)]; exact c19_q14_
  have c20_q16_ : w20_ q16_ = some (.inr (1, [.int 0, .int 0, .null])) := by rw [hw20_, gu_n (gne_f c17_q16_ hnq18_)]; exact c19_q16_
  have c20_q18_ : w20_ q18_ = some (.inr (1, [.int 0, .int 12, .null])) := by rw [hw20_]; exact gu_s
  have hPw20_ := hPw19_.up hw20_
  have hkw20_ : ∀ b y, w b = some y → b ≠ dl → w20_ b = some y := fun b y q1 q2 => by rw [hw20_, gu_n (fun z => by have h8 := q1; rw [z, hzq18_] at h8; cases h8)]; exact hkw19_ b y q1 q2
  refine W.eq (g2 := F0 m 86 ls [.ref q18_, .int 20, .int 50000, .ref q16_, .ref q16_, .int 25, .int 10000, .ref q14_, .ref q14_, .ref dl]) rfl ?_
  refine g_callI (pc := 86) S M G hl.1 [.int 50000, .int 20, .ref q18_] [.ref q16_, .int 25, .int 10000, .ref q14_, .ref q14_, .ref dl] (metX2_init l D K w20_ (nx := some q18_) c20_q16_ hbq16_) 3 q68 q66 q67 q19 rfl (by decide) rfl ⟨Nat.le_of_ble_eq_true rfl, Nat.le_of_ble_eq_true rfl⟩ rfl (Nat.le_of_ble_eq_true rfl) dX1_init_86 ⟨Nat.le_of_ble_eq_true rfl, Nat.le_of_ble_eq_true rfl⟩ (fun r w2 H locs hp G => ?_)
  obtain ⟨rfl, hw2⟩ := hp
  rw [hw2] at G
  obtain ⟨w21_, hw21_⟩ : ∃ z9, z9 = gu w20_ q16_ (.inr (1, [.int 50000, .int 20, .ref q18_])) := ⟨_, rfl⟩
  replace G : gS D K w21_ s H locs := by rw [hw21_]; exact G
  have c21_dl : w21_ dl = some (.inr (0, [.ref q1_, .null, .null, .null, .null, .null, .null, .int 0, .int 0, .long 0, .long 0, .long 0])) := by rw [hw21_, gu_n (gne_f c15_dl hnq16_)]; exact c20_dl
  have c21_q1_ : w21_ q1_ = some (.inr (1, [.int 1000, .int 50, .ref q3_])) := by rw [hw21_, gu_n (gne_f c15_q1_ hnq16_)]; exact c20_q1_
  have c21_q3_ : w21_ q3_ = some (.inr (1, [.int 5000, .int 100, .ref q5_])) := by rw [hw21_, gu_n (gne_f c15_q3_ hnq16_)]; exact c20_q3_
  have c21_q5_ : w21_ q5_ = some (.inr (1, [.int 20000, .int 500, .ref q7_])) := by rw [hw21_, gu_n (gne_f c15_q5_ hnq16_)]; exact c20_q5_
  have c21_q7_ : w21_ q7_ = some (.inr (1, [.int 0, .int 1000, .null])) := by rw [hw21_, gu_n (gne_f c15_q7_ hnq16_)]; exact c20_q7_
  have c21_q14_ : w21_ q14_ = some (.inr (1, [.int 0, .int 0, .null])) := by rw [hw21_, gu_n (gne_f c15_q14_ hnq16_)]; exact c20_q14_
  have c21_q18_ : w21_ q18_ = some (.inr (1, [.int 0, .int 12, .null])) := by rw [hw21_, gu_n (Ne.symm (gne_f c17_q16_ hnq18_))]; exact c20_q18_
  have c21_q16_ : w21_ q16_ = some (.inr (1, [.int 50000, .int 20, .ref q18_])) := by rw [hw21_]; exact gu_s
  have hPw21_ := hPw20_.up hw21_
  have hkw21_ : ∀ b y, w b = some y → b ≠ dl → w21_ b = some y := fun b y q1 q2 => by rw [hw21_, gu_n (fun z => by have h8 := q1; rw [z, hzq16_] at h8; cases h8)]; exact hkw20_ b y q1 q2
  refine W.eq (g2 := F0 m 89 ls [.ref q16_, .int 25, .int 10000, .ref q14_, .ref q14_, .ref dl]) rfl ?_
  refine g_callI (pc := 89) S M G hl.1 [.int 10000, .int 25, .ref q16_] [.ref q14_, .ref dl] (metX2_init l D K w21_ (nx := some q16_) c21_q14_ hbq14_) 3 q68 q66 q67 q19 rfl (by decide) rfl ⟨Nat.le_of_ble_eq_true rfl, Nat.le_of_ble_eq_true rfl⟩ rfl (Nat.le_of_ble_eq_true rfl) dX1_init_89 ⟨Nat.le_of_ble_eq_true rfl, Nat.le_of_ble_eq_true rfl⟩ (fun r w2 H locs hp G => ?_)
  obtain ⟨rfl, hw2⟩ := hp
  rw [hw2] at G
  obtain ⟨w22_, hw22_⟩ : ∃ z9, z9 = gu w21_ q14_ (.inr (1, [.int 10000, .int 25, .ref q16_])) := ⟨_, rfl⟩
  replace G : gS D K w22_ s H locs := by rw [hw22_]; exact G
  have c22_dl : w22_ dl = some (.inr (0, [.ref q1_, .null, .null, .null, .null, .null, .null, .int 0, .int 0, .long 0, .long 0, .long 0])) := by rw [hw22_, gu_n (gne_f c13_dl hnq14_)]; exact c21_dl
  have c22_q1_ : w22_ q1_ = some (.inr (1, [.int 1000, .int 50, .ref q3_])) := by rw [hw22_, gu_n (gne_f c13_q1_ hnq14_)]; exact c21_q1_
  have c22_q3_ : w22_ q3_ = some (.inr (1, [.int 5000, .int 100, .ref q5_])) := by rw [hw22_, gu_n (gne_f c13_q3_ hnq14_)]; exact c21_q3_
  have c22_q5_ : w22_ q5_ = some (.inr (1, [.int 20000, .int 500, .ref q7_])) := by rw [hw22_, gu_n (gne_f c13_q5_ hnq14_)]; exact c21_q5_
  have c22_q7_ : w22_ q7_ = some (.inr (1, [.int 0, .int 1000, .null])) := by rw [hw22_, gu_n (gne_f c13_q7_ hnq14_)]; exact c21_q7_
  have c22_q16_ : w22_ q16_ = some (.inr (1, [.int 50000, .int 20, .ref q18_])) := by rw [hw22_, gu_n (Ne.symm (gne_f c15_q14_ hnq16_))]; exact c21_q16_
  have c22_q18_ : w22_ q18_ = some (.inr (1, [.int 0, .int 12, .null])) := by rw [hw22_, gu_n (Ne.symm (gne_f c17_q14_ hnq18_))]; exact c21_q18_
  have c22_q14_ : w22_ q14_ = some (.inr (1, [.int 10000, .int 25, .ref q16_])) := by rw [hw22_]; exact gu_s
  have hPw22_ := hPw21_.up hw22_
  have hkw22_ : ∀ b y, w b = some y → b ≠ dl → w22_ b = some y := fun b y q1 q2 => by rw [hw22_, gu_n (fun z => by have h8 := q1; rw [z, hzq14_] at h8; cases h8)]; exact hkw21_ b y q1 q2
  refine W.eq (g2 := F0 m 92 ls [.ref q14_, .ref dl]) rfl ?_
  refine g_putF (pc := 92) (v := .ref q14_) S M G (C := RX1) (T := TX1) (N := 12) (ci := 0) in_X1 tyX1 tyX1_ok nmX1 c22_dl hbq rfl 1 (by decide) q167 (Or.inl rfl) rfl hname rfl rfl rfl (Nat.le_of_ble_eq_true rfl) dX1_init_92 (fun H locs G => ?_)
  obtain ⟨w23_, hw23_⟩ : ∃ z9, z9 = gu w22_ dl (.inr (0, [.ref q1_, .ref q14_, .null, .null, .null, .null, .null, .int 0, .int 0, .long 0, .long 0, .long 0])) := ⟨_, rfl⟩
  replace G : gS D K w23_ s H locs := by rw [hw23_]; exact G
  have c23_q1_ : w23_ q1_ = some (.inr (1, [.int 1000, .int 50, .ref q3_])) := by rw [hw23_, gu_n (Ne.symm (gne_f hq hnq1_))]; exact c22_q1_
  have c23_q3_ : w23_ q3_ = some (.inr (1, [.int 5000, .int 100, .ref q5_])) := by rw [hw23_, gu_n (Ne.symm (gne_f c2_dl hnq3_))]; exact c22_q3_
  have c23_q5_ : w23_ q5_ = some (.inr (1, [.int 20000, .int 500, .ref q7_])) := by rw [hw23_, gu_n (Ne.symm (gne_f c4_dl hnq5_))]; exact c22_q5_
  have c23_q7_ : w23_ q7_ = some (.inr (1, [.int 0, .int 1000, .null])) := by rw [hw23_, gu_n (Ne.symm (gne_f c6_dl hnq7_))]; exact c22_q7_
  have c23_q14_ : w23_ q14_ = some (.inr (1, [.int 10000, .int 25, .ref q16_])) := by rw [hw23_, gu_n (Ne.symm (gne_f c13_dl hnq14_))]; exact c22_q14_
  have c23_q16_ : w23_ q16_ = some (.inr (1, [.int 50000, .int 20, .ref q18_])) := by rw [hw23_, gu_n (Ne.symm (gne_f c15_dl hnq16_))]; exact c22_q16_
  have c23_q18_ : w23_ q18_ = some (.inr (1, [.int 0, .int 12, .null])) := by rw [hw23_, gu_n (Ne.symm (gne_f c17_dl hnq18_))]; exact c22_q18_
  have c23_dl : w23_ dl = some (.inr (0, [.ref q1_, .ref q14_, .null, .null, .null, .null, .null, .int 0, .int 0, .long 0, .long 0, .long 0])) := by rw [hw23_]; exact gu_s
  have hPw23_ := hPw22_.up hw23_
  have hkw23_ : ∀ b y, w b = some y → b ≠ dl → w23_ b = some y := fun b y q1 q2 => by rw [hw23_, gu_n q2]; exact hkw22_ b y q1 q2
  refine lv_aload_n (pc := 95) hx hb dX1_init_95 rfl (lv_at hl 0 rfl) ?_
  refine g_new (pc := 96) S M G (C := RX2) (T := TX2) (N := 3) (ci := 1) (fs := [.int 0, .int 0, .null]) in_X2 tyX2 tyX2_ok q64 q65 q19 rfl df_X2 (Nat.le_of_ble_eq_true rfl) (Nat.le_of_ble_eq_true rfl) dX1_init_96 (fun q24_ H hnq24_ hbq24_ heq24_ hsq24_ G => ?_)
  refine W.widen (k := 8) (n := 24) (Nat.le_of_ble_eq_true rfl) (Nat.le_of_ble_eq_true rfl) ?_
  obtain ⟨w25_, hw25_⟩ : ∃ z9, z9 = gu w23_ q24_ (.inr (1, [.int 0, .int 0, .null])) := ⟨_, rfl⟩
  replace G : gS D K w25_ s H locs := by rw [hw25_]; exact G
  have c25_dl : w25_ dl = some (.inr (0, [.ref q1_, .ref q14_, .null, .null, .null, .null, .null, .int 0, .int 0, .long 0, .long 0, .long 0])) := by rw [hw25_, gu_n (gne_f c23_dl hnq24_)]; exact c23_dl
  have c25_q1_ : w25_ q1_ = some (.inr (1, [.int 1000, .int 50, .ref q3_])) := by rw [hw25_, gu_n (gne_f c23_q1_ hnq24_)]; exact c23_q1_
  have c25_q3_ : w25_ q3_ = some (.inr (1, [.int 5000, .int 100, .ref q5_])) := by rw [hw25_, gu_n (gne_f c23_q3_ hnq24_)]; exact c23_q3_
  have c25_q5_ : w25_ q5_ = some (.inr (1, [.int 20000, .int 500, .ref q7_])) := by rw [hw25_, gu_n (gne_f c23_q5_ hnq24_)]; exact c23_q5_
  have c25_q7_ : w25_ q7_ = some (.inr (1, [.int 0, .int 1000, .null])) := by rw [hw25_, gu_n (gne_f c23_q7_ hnq24_)]; exact c23_q7_
  have c25_q14_ : w25_ q14_ = some (.inr (1, [.int 10000, .int 25, .ref q16_])) := by rw [hw25_, gu_n (gne_f c23_q14_ hnq24_)]; exact c23_q14_
  have c25_q16_ : w25_ q16_ = some (.inr (1, [.int 50000, .int 20, .ref q18_])) := by rw [hw25_, gu_n (gne_f c23_q16_ hnq24_)]; exact c23_q16_
  have c25_q18_ : w25_ q18_ = some (.inr (1, [.int 0, .int 12, .null])) := by rw [hw25_, gu_n (gne_f c23_q18_ hnq24_)]; exact c23_q18_
  have c25_q24_ : w25_ q24_ = some (.inr (1, [.int 0, .int 0, .null])) := by rw [hw25_]; exact gu_s
  have hkw25_ : ∀ b y, w b = some y → b ≠ dl → w25_ b = some y := fun b y q1 q2 => by rw [hw25_, gu_n (gne_f (hkw23_ b y q1 q2) hnq24_)]; exact hkw23_ b y q1 q2
  have hPw25_ := hPw23_.new hw25_ hnq24_
  have hzq24_ : w q24_ = none := by
    cases h8 : w q24_ with
    | none => rfl
    | some y =>
      have h9 := hkw23_ _ _ h8 (fun z => by have h7 := c23_dl; rw [← z, hnq24_] at h7; cases h7)
      rw [hnq24_] at h9
      cases h9
  refine lv_dup (pc := 99) hx hb dX1_init_99 rfl ?_
  refine lv_ldc (pc := 100) (v := 50000) hx hb hown (hts _ q80) dX1_init_100 ?_
  refine lv_iconst (pc := 102) (v := 4) hx hb dX1_init_102 (by decide) ?_
  refine g_new (pc := 103) S M G (C := RX2) (T := TX2) (N := 3) (ci := 1) (fs := [.int 0, .int 0, .null]) in_X2 tyX2 tyX2_ok q64 q65 q19 rfl df_X2 (Nat.le_of_ble_eq_true rfl) (Nat.le_of_ble_eq_true rfl) dX1_init_103 (fun q26_ H hnq26_ hbq26_ heq26_ hsq26_ G => ?_)
  refine W.widen (k := 9) (n := 27) (Nat.le_of_ble_eq_true rfl) (Nat.le_of_ble_eq_true rfl) ?_
  obtain ⟨w27_, hw27_⟩ : ∃ z9, z9 = gu w25_ q26_ (.inr (1, [.int 0, .int 0, .null])) := ⟨_, rfl⟩
  replace G : gS D K w27_ s H locs := by rw [hw27_]; exact G
  have c27_dl : w27_ dl = some (.inr (0, [.ref q1_, .ref q14_, .null, .null, .null, .null, .null, .int 0, .int 0, .long 0, .long 0, .long 0])) := by rw [hw27_, gu_n (gne_f c25_dl hnq26_)]; exact c25_dl
  have c27_q1_ : w27_ q1_ = some (.inr (1, [.int 1000, .int 50, .ref q3_])) := by rw [hw27_, gu_n (gne_f c25_q1_ hnq26_)]; exact c25_q1_
  have c27_q3_ : w27_ q3_ = some (.inr (1, [.int 5000, .int 100, .ref q5_])) := by rw [hw27_, gu_n (gne_f c25_q3_ hnq26_)]; exact c25_q3_
  have c27_q5_ : w27_ q5_ = some (.inr (1, [.int 20000, .int 500, .ref q7_])) := by rw [hw27_, gu_n (gne_f c25_q5_ hnq26_)]; exact c25_q5_
  have c27_q7_ : w27_ q7_ = some (.inr (1, [.int 0, .int 1000, .null])) := by rw [hw27_, gu_n (gne_f c25_q7_ hnq26_)]; exact c25_q7_
  have c27_q14_ : w27_ q14_ = some (.inr (1, [.int 10000, .int 25, .ref q16_])) := by rw [hw27_, gu_n (gne_f c25_q14_ hnq26_)]; exact c25_q14_
  have c27_q16_ : w27_ q16_ = some (.inr (1, [.int 50000, .int 20, .ref q18_])) := by rw [hw27_, gu_n (gne_f c25_q16_ hnq26_)]; exact c25_q16_
  have c27_q18_ : w27_ q18_ = some (.inr (1, [.int 0, .int 12, .null])) := by rw [hw27_, gu_n (gne_f c25_q18_ hnq26_)]; exact c25_q18_
  have c27_q24_ : w27_ q24_ = some (.inr (1, [.int 0, .int 0, .null])) := by rw [hw27_, gu_n (gne_f c25_q24_ hnq26_)]; exact c25_q24_
  have c27_q26_ : w27_ q26_ = some (.inr (1, [.int 0, .int 0, .null])) := by rw [hw27_]; exact gu_s
  have hkw27_ : ∀ b y, w b = some y → b ≠ dl → w27_ b = some y := fun b y q1 q2 => by rw [hw27_, gu_n (gne_f (hkw25_ b y q1 q2) hnq26_)]; exact hkw25_ b y q1 q2
  have hPw27_ := hPw25_.new hw27_ hnq26_
  have hzq26_ : w q26_ = none := by
    cases h8 : w q26_ with
    | none => rfl
    | some y =>
      have h9 := hkw25_ _ _ h8 (fun z => by have h7 := c25_dl; rw [← z, hnq26_] at h7; cases h7)
      rw [hnq26_] at h9
      cases h9
  refine lv_dup (pc := 106) hx hb dX1_init_106 rfl ?_
  refine lv_ldc (pc := 107) (v := 200000) hx hb hown (hts _ q81) dX1_init_107 ?_
  refine lv_iconst (pc := 109) (v := 3) hx hb dX1_init_109 (by decide) ?_
  refine g_new (pc := 110) S M G (C := RX2) (T := TX2) (N := 3) (ci := 1) (fs := [.int 0, .int 0, .null]) in_X2 tyX2 tyX2_ok q64 q65 q19 rfl df_X2 (Nat.le_of_ble_eq_true rfl) (Nat.le_of_ble_eq_true rfl) dX1_init_110 (fun q28_ H hnq28_ hbq28_ heq28_ hsq28_ G => ?_)
  refine W.widen (k := 10) (n := 30) (Nat.le_of_ble_eq_true rfl) (Nat.le_of_ble_eq_true rfl) ?_
  obtain ⟨w29_, hw29_⟩ : ∃ z9, z9 = gu w27_ q28_ (.inr (1, [.int 0, .int 0, .null])) := ⟨_, rfl⟩
  replace G : gS D K w29_ s H locs := by rw [hw29_]; exact G
  have c29_dl : w29_ dl = some (.inr (0, [.ref q1_, .ref q14_, .null, .null, .null, .null, .null, .int 0, .int 0, .long 0, .long 0, .long 0])) := by rw [hw29_, gu_n (gne_f c27_dl hnq28_)]; exact c27_dl
  have c29_q1_ : w29_ q1_ = some (.inr (1, [.int 1000, .int 50, .ref q3_])) := by rw [hw29_, gu_n (gne_f c27_q1_ hnq28_)]; exact c27_q1_
  have c29_q3_ : w29_ q3_ = some (.inr (1, [.int 5000, .int 100, .ref q5_])) := by rw [hw29_, gu_n (gne_f c27_q3_ hnq28_)]; exact c27_q3_
  have c29_q5_ : w29_ q5_ = some (.inr (1, [.int 20000, .int 500, .ref q7_])) := by rw [hw29_, gu_n (gne_f c27_q5_ hnq28_)]; exact c27_q5_
  have c29_q7_ : w29_ q7_ = some (.inr (1, [.int 0, .int 1000, .null])) := by rw [hw29_, gu_n (gne_f c27_q7_ hnq28_)]; exact c27_q7_
  have c29_q14_ : w29_ q14_ = some (.inr (1, [.int 10000, .int 25, .ref q16_])) := by rw [hw29_, gu_n (gne_f c27_q14_ hnq28_)]; exact c27_q14_
  have c29_q16_ : w29_ q16_ = some (.inr (1, [.int 50000, .int 20, .ref q18_])) := by rw [hw29_, gu_n (gne_f c27_q16_ hnq28_)]; exact c27_q16_
  have c29_q18_ : w29_ q18_ = some (.inr (1, [.int 0, .int 12, .null])) := by rw [hw29_, gu_n (gne_f c27_q18_ hnq28_)]; exact c27_q18_
  have c29_q24_ : w29_ q24_ = some (.inr (1, [.int 0, .int 0, .null])) := by rw [hw29_, gu_n (gne_f c27_q24_ hnq28_)]; exact c27_q24_
  have c29_q26_ : w29_ q26_ = some (.inr (1, [.int 0, .int 0, .null])) := by rw [hw29_, gu_n (gne_f c27_q26_ hnq28_)]; exact c27_q26_
  have c29_q28_ : w29_ q28_ = some (.inr (1, [.int 0, .int 0, .null])) := by rw [hw29_]; exact gu_s
  have hkw29_ : ∀ b y, w b = some y → b ≠ dl → w29_ b = some y := fun b y q1 q2 => by rw [hw29_, gu_n (gne_f (hkw27_ b y q1 q2) hnq28_)]; exact hkw27_ b y q1 q2
  have hPw29_ := hPw27_.new hw29_ hnq28_
  have hzq28_ : w q28_ = none := by
    cases h8 : w q28_ with
    | none => rfl
    | some y =>
      have h9 := hkw27_ _ _ h8 (fun z => by have h7 := c27_dl; rw [← z, hnq28_] at h7; cases h7)
      rw [hnq28_] at h9
      cases h9
  refine lv_dup (pc := 113) hx hb dX1_init_113 rfl ?_
  refine lv_iconst (pc := 114) (v := 0) hx hb dX1_init_114 (by decide) ?_
  refine lv_iconst (pc := 115) (v := 1) hx hb dX1_init_115 (by decide) ?_
  refine lv_null (pc := 116) hx hb dX1_init_116 ?_
  refine g_callI (pc := 117) S M G hl.1 [.int 0, .int 1, .null] [.ref q28_, .int 3, .int 200000, .ref q26_, .ref q26_, .int 4, .int 50000, .ref q24_, .ref q24_, .ref dl] (metX2_init l D K w29_ (nx := none) c29_q28_ hbq28_) 3 q68 q66 q67 q19 rfl (by decide) rfl ⟨Nat.le_of_ble_eq_true rfl, Nat.le_of_ble_eq_true rfl⟩ rfl (Nat.le_of_ble_eq_true rfl) dX1_init_117 ⟨Nat.le_of_ble_eq_true rfl, Nat.le_of_ble_eq_true rfl⟩ (fun r w2 H locs hp G => ?_)
  obtain ⟨rfl, hw2⟩ := hp
  rw [hw2] at G
  obtain ⟨w30_, hw30_⟩ : ∃ z9, z9 = gu w29_ q28_ (.inr (1, [.int 0, .int 1, .null])) := ⟨_, rfl⟩
  replace G : gS D K w30_ s H locs := by rw [hw30_]; exact G
  have c30_dl : w30_ dl = some (.inr (0, [.ref q1_, .ref q14_, .null, .null, .null, .null, .null, .int 0, .int 0, .long 0, .long 0, .long 0])) := by rw [hw30_, gu_n (gne_f c27_dl hnq28_)]; exact c29_dl
  have c30_q1_ : w30_ q1_ = some (.inr (1, [.int 1000, .int 50, .ref q3_])) := by rw [hw30_, gu_n (gne_f c27_q1_ hnq28_)]; exact c29_q1_
  have c30_q3_ : w30_ q3_ = some (.inr (1, [.int 5000, .int 100, .ref q5_])) := by rw [hw30_, gu_n (gne_f c27_q3_ hnq28_)]; exact c29_q3_
  have c30_q5_ : w30_ q5_ = some (.inr (1, [.int 20000, .int 500, .ref q7_])) := by rw [hw30_, gu_n (gne_f c27_q5_ hnq28_)]; exact c29_q5_
  have c30_q7_ : w30_ q7_ = some (.inr (1, [.int 0, .int 1000, .null])) := by rw [hw30_, gu_n (gne_f c27_q7_ hnq28_)]; exact c29_q7_
  have c30_q14_ : w30_ q14_ = some (.inr (1, [.int 10000, .int 25, .ref q16_])) := by rw [hw30_, gu_n (gne_f c27_q14_ hnq28_)]; exact c29_q14_
  have c30_q16_ : w30_ q16_ = some (.inr (1, [.int 50000, .int 20, .ref q18_])) := by rw [hw30_, gu_n (gne_f c27_q16_ hnq28_)]; exact c29_q16_
  have c30_q18_ : w30_ q18_ = some (.inr (1, [.int 0, .int 12, .null])) := by rw [hw30_, gu_n (gne_f c27_q18_ hnq28_)]; exact c29_q18_
  have c30_q24_ : w30_ q24_ = some (.inr (1, [.int 0, .int 0, .null])) := by rw [hw30_, gu_n (gne_f c27_q24_ hnq28_)]; exact c29_q24_
  have c30_q26_ : w30_ q26_ = some (.inr (1, [.int 0, .int 0, .null])) := by rw [hw30_, gu_n (gne_f c27_q26_ hnq28_)]; exact c29_q26_
  have c30_q28_ : w30_ q28_ = some (.inr (1, [.int 0, .int 1, .null])) := by rw [hw30_]; exact gu_s
  have hPw30_ := hPw29_.up hw30_
  have hkw30_ : ∀ b y, w b = some y → b ≠ dl → w30_ b = some y := fun b y q1 q2 => by rw [hw30_, gu_n (fun z => by have h8 := q1; rw [z, hzq28_] at h8; cases h8)]; exact hkw29_ b y q1 q2
  refine W.eq (g2 := F0 m 120 ls [.ref q28_, .int 3, .int 200000, .ref q26_, .ref q26_, .int 4, .int 50000, .ref q24_, .ref q24_, .ref dl]) rfl ?_
  refine g_callI (pc := 120) S M G hl.1 [.int 200000, .int 3, .ref q28_] [.ref q26_, .int 4, .int 50000, .ref q24_, .ref q24_, .ref dl] (metX2_init l D K w30_ (nx := some q28_) c30_q26_ hbq26_) 3 q68 q66 q67 q19 rfl (by decide) rfl ⟨Nat.le_of_ble_eq_true rfl, Nat.le_of_ble_eq_true rfl⟩ rfl (Nat.le_of_ble_eq_true rfl) dX1_init_120 ⟨Nat.le_of_ble_eq_true rfl, Nat.le_of_ble_eq_true rfl⟩ (fun r w2 H locs hp G => ?_)
  obtain ⟨rfl, hw2⟩ := hp
  rw [hw2] at G
  obtain ⟨w31_, hw31_⟩ : ∃ z9, z9 = gu w30_ q26_ (.inr (1, [.int 200000, .int 3, .ref q28_])) := ⟨_, rfl⟩
  replace G : gS D K w31_ s H locs := by rw [hw31_]; exact G
  have c31_dl : w31_ dl = some (.inr (0, [.ref q1_, .ref q14_, .null, .null, .null, .null, .null, .int 0, .int 0, .long 0, .long 0, .long 0])) := by rw [hw31_, gu_n (gne_f c25_dl hnq26_)]; exact c30_dl
  have c31_q1_ : w31_ q1_ = some (.inr (1, [.int 1000, .int 50, .ref q3_])) := by rw [hw31_, gu_n (gne_f c25_q1_ hnq26_)]; exact c30_q1_
  have c31_q3_ : w31_ q3_ = some (.inr (1, [.int 5000, .int 100, .ref q5_])) := by rw [hw31_, gu_n (gne_f c25_q3_ hnq26_)]; exact c30_q3_
  have c31_q5_ : w31_ q5_ = some (.inr (1, [.int 20000, .int 500, .ref q7_])) := by rw [hw31_, gu_n (gne_f c25_q5_ hnq26_)]; exact c30_q5_
  have c31_q7_ : w31_ q7_ = some (.inr (1, [.int 0, .int 1000, .null])) := by rw [hw31_, gu_n (gne_f c25_q7_ hnq26_)]; exact c30_q7_
  have c31_q14_ : w31_ q14_ = some (.inr (1, [.int 10000, .int 25, .ref q16_])) := by rw [hw31_, gu_n (gne_f c25_q14_ hnq26_)]; exact c30_q14_
  have c31_q16_ : w31_ q16_ = some (.inr (1, [.int 50000, .int 20, .ref q18_])) := by rw [hw31_, gu_n (gne_f c25_q16_ hnq26_)]; exact c30_q16_
  have c31_q18_ : w31_ q18_ = some (.inr (1, [.int 0, .int 12, .null])) := by rw [hw31_, gu_n (gne_f c25_q18_ hnq26_)]; exact c30_q18_
  have c31_q24_ : w31_ q24_ = some (.inr (1, [.int 0, .int 0, .null])) := by rw [hw31_, gu_n (gne_f c25_q24_ hnq26_)]; exact c30_q24_
  have c31_q28_ : w31_ q28_ = some (.inr (1, [.int 0, .int 1, .null])) := by rw [hw31_, gu_n (Ne.symm (gne_f c27_q26_ hnq28_))]; exact c30_q28_
  have c31_q26_ : w31_ q26_ = some (.inr (1, [.int 200000, .int 3, .ref q28_])) := by rw [hw31_]; exact gu_s
  have hPw31_ := hPw30_.up hw31_
  have hkw31_ : ∀ b y, w b = some y → b ≠ dl → w31_ b = some y := fun b y q1 q2 => by rw [hw31_, gu_n (fun z => by have h8 := q1; rw [z, hzq26_] at h8; cases h8)]; exact hkw30_ b y q1 q2
  refine W.eq (g2 := F0 m 123 ls [.ref q26_, .int 4, .int 50000, .ref q24_, .ref q24_, .ref dl]) rfl ?_
  refine g_callI (pc := 123) S M G hl.1 [.int 50000, .int 4, .ref q26_] [.ref q24_, .ref dl] (metX2_init l D K w31_ (nx := some q26_) c31_q24_ hbq24_) 3 q68 q66 q67 q19 rfl (by decide) rfl ⟨Nat.le_of_ble_eq_true rfl, Nat.le_of_ble_eq_true rfl⟩ rfl (Nat.le_of_ble_eq_true rfl) dX1_init_123 ⟨Nat.le_of_ble_eq_true rfl, Nat.le_of_ble_eq_true rfl⟩ (fun r w2 H locs hp G => ?_)
  obtain ⟨rfl, hw2⟩ := hp
  rw [hw2] at G
  obtain ⟨w32_, hw32_⟩ : ∃ z9, z9 = gu w31_ q24_ (.inr (1, [.int 50000, .int 4, .ref q26_])) := ⟨_, rfl⟩
  replace G : gS D K w32_ s H locs := by rw [hw32_]; exact G
  have c32_dl : w32_ dl = some (.inr (0, [.ref q1_, .ref q14_, .null, .null, .null, .null, .null, .int 0, .int 0, .long 0, .long 0, .long 0])) := by rw [hw32_, gu_n (gne_f c23_dl hnq24_)]; exact c31_dl
  have c32_q1_ : w32_ q1_ = some (.inr (1, [.int 1000, .int 50, .ref q3_])) := by rw [hw32_, gu_n (gne_f c23_q1_ hnq24_)]; exact c31_q1_
  have c32_q3_ : w32_ q3_ = some (.inr (1, [.int 5000, .int 100, .ref q5_])) := by rw [hw32_, gu_n (gne_f c23_q3_ hnq24_)]; exact c31_q3_
  have c32_q5_ : w32_ q5_ = some (.inr (1, [.int 20000, .int 500, .ref q7_])) := by rw [hw32_, gu_n (gne_f c23_q5_ hnq24_)]; exact c31_q5_
  have c32_q7_ : w32_ q7_ = some (.inr (1, [.int 0, .int 1000, .null])) := by rw [hw32_, gu_n (gne_f c23_q7_ hnq24_)]; exact c31_q7_
  have c32_q14_ : w32_ q14_ = some (.inr (1, [.int 10000, .int 25, .ref q16_])) := by rw [hw32_, gu_n (gne_f c23_q14_ hnq24_)]; exact c31_q14_
  have c32_q16_ : w32_ q16_ = some (.inr (1, [.int 50000, .int 20, .ref q18_])) := by rw [hw32_, gu_n (gne_f c23_q16_ hnq24_)]; exact c31_q16_
  have c32_q18_ : w32_ q18_ = some (.inr (1, [.int 0, .int 12, .null])) := by rw [hw32_, gu_n (gne_f c23_q18_ hnq24_)]; exact c31_q18_
  have c32_q26_ : w32_ q26_ = some (.inr (1, [.int 200000, .int 3, .ref q28_])) := by rw [hw32_, gu_n (Ne.symm (gne_f c25_q24_ hnq26_))]; exact c31_q26_
  have c32_q28_ : w32_ q28_ = some (.inr (1, [.int 0, .int 1, .null])) := by rw [hw32_, gu_n (Ne.symm (gne_f c27_q24_ hnq28_))]; exact c31_q28_
  have c32_q24_ : w32_ q24_ = some (.inr (1, [.int 50000, .int 4, .ref q26_])) := by rw [hw32_]; exact gu_s
  have hPw32_ := hPw31_.up hw32_
  have hkw32_ : ∀ b y, w b = some y → b ≠ dl → w32_ b = some y := fun b y q1 q2 => by rw [hw32_, gu_n (fun z => by have h8 := q1; rw [z, hzq24_] at h8; cases h8)]; exact hkw31_ b y q1 q2
  refine W.eq (g2 := F0 m 126 ls [.ref q24_, .ref dl]) rfl ?_
  refine g_putF (pc := 126) (v := .ref q24_) S M G (C := RX1) (T := TX1) (N := 12) (ci := 0) in_X1 tyX1 tyX1_ok nmX1 c32_dl hbq rfl 2 (by decide) q169 (Or.inl rfl) rfl hname rfl rfl rfl (Nat.le_of_ble_eq_true rfl) dX1_init_126 (fun H locs G => ?_)
  obtain ⟨w33_, hw33_⟩ : ∃ z9, z9 = gu w32_ dl (.inr (0, [.ref q1_, .ref q14_, .ref q24_, .null, .null, .null, .null, .int 0, .int 0, .long 0, .long 0, .long 0])) := ⟨_, rfl⟩
  replace G : gS D K w33_ s H locs := by rw [hw33_]; exact G
  have c33_q1_ : w33_ q1_ = some (.inr (1, [.int 1000, .int 50, .ref q3_])) := by rw [hw33_, gu_n (Ne.symm (gne_f hq hnq1_))]; exact c32_q1_
  have c33_q3_ : w33_ q3_ = some (.inr (1, [.int 5000, .int 100, .ref q5_])) := by rw [hw33_, gu_n (Ne.symm (gne_f c2_dl hnq3_))]; exact c32_q3_
  have c33_q5_ : w33_ q5_ = some (.inr (1, [.int 20000, .int 500, .ref q7_])) := by rw [hw33_, gu_n (Ne.symm (gne_f c4_dl hnq5_))]; exact c32_q5_
  have c33_q7_ : w33_ q7_ = some (.inr (1, [.int 0, .int 1000, .null])) := by rw [hw33_, gu_n (Ne.symm (gne_f c6_dl hnq7_))]; exact c32_q7_
  have c33_q14_ : w33_ q14_ = some (.inr (1, [.int 10000, .int 25, .ref q16_])) := by rw [hw33_, gu_n (Ne.symm (gne_f c13_dl hnq14_))]; exact c32_q14_
  have c33_q16_ : w33_ q16_ = some (.inr (1, [.int 50000, .int 20, .ref q18_])) := by rw [hw33_, gu_n (Ne.symm (gne_f c15_dl hnq16_))]; exact c32_q16_
  have c33_q18_ : w33_ q18_ = some (.inr (1, [.int 0, .int 12, .null])) := by rw [hw33_, gu_n (Ne.symm (gne_f c17_dl hnq18_))]; exact c32_q18_
  have c33_q24_ : w33_ q24_ = some (.inr (1, [.int 50000, .int 4, .ref q26_])) := by rw [hw33_, gu_n (Ne.symm (gne_f c23_dl hnq24_))]; exact c32_q24_
  have c33_q26_ : w33_ q26_ = some (.inr (1, [.int 200000, .int 3, .ref q28_])) := by rw [hw33_, gu_n (Ne.symm (gne_f c25_dl hnq26_))]; exact c32_q26_
  have c33_q28_ : w33_ q28_ = some (.inr (1, [.int 0, .int 1, .null])) := by rw [hw33_, gu_n (Ne.symm (gne_f c27_dl hnq28_))]; exact c32_q28_
  have c33_dl : w33_ dl = some (.inr (0, [.ref q1_, .ref q14_, .ref q24_, .null, .null, .null, .null, .int 0, .int 0, .long 0, .long 0, .long 0])) := by rw [hw33_]; exact gu_s
  have hPw33_ := hPw32_.up hw33_
  have hkw33_ : ∀ b y, w b = some y → b ≠ dl → w33_ b = some y := fun b y q1 q2 => by rw [hw33_, gu_n q2]; exact hkw32_ b y q1 q2
  refine lv_aload_n (pc := 129) hx hb dX1_init_129 rfl (lv_at hl 0 rfl) ?_
  refine g_new (pc := 130) S M G (C := RJ2) (T := TJ2) (N := 3) (ci := 6) (fs := [.int 0, .null, .int 0]) in_J2 tyJ2 tyJ2_ok q82 q83 q22 rfl df_J2 (Nat.le_of_ble_eq_true rfl) (Nat.le_of_ble_eq_true rfl) dX1_init_130 (fun q34_ H hnq34_ hbq34_ heq34_ hsq34_ G => ?_)
  refine W.widen (k := 11) (n := 33) (Nat.le_of_ble_eq_true rfl) (Nat.le_of_ble_eq_true rfl) ?_
  obtain ⟨w35_, hw35_⟩ : ∃ z9, z9 = gu w33_ q34_ (.inr (6, [.int 0, .null, .int 0])) := ⟨_, rfl⟩
  replace G : gS D K w35_ s H locs := by rw [hw35_]; exact G
  have c35_dl : w35_ dl = some (.inr (0, [.ref q1_, .ref q14_, .ref q24_, .null, .null, .null, .null, .int 0, .int 0, .long 0, .long 0, .long 0])) := by rw [hw35_, gu_n (gne_f c33_dl hnq34_)]; exact c33_dl
  have c35_q1_ : w35_ q1_ = some (.inr (1, [.int 1000, .int 50, .ref q3_])) := by rw [hw35_, gu_n (gne_f c33_q1_ hnq34_)]; exact c33_q1_
  have c35_q3_ : w35_ q3_ = some (.inr (1, [.int 5000, .int 100, .ref q5_])) := by rw [hw35_, gu_n (gne_f c33_q3_ hnq34_)]; exact c33_q3_
  have c35_q5_ : w35_ q5_ = some (.inr (1, [.int 20000, .int 500, .ref q7_])) := by rw [hw35_, gu_n (gne_f c33_q5_ hnq34_)]; exact c33_q5_
  have c35_q7_ : w35_ q7_ = some (.inr (1, [.int 0, .int 1000, .null])) := by rw [hw35_, gu_n (gne_f c33_q7_ hnq34_)]; exact c33_q7_
  have c35_q14_ : w35_ q14_ = some (.inr (1, [.int 10000, .int 25, .ref q16_])) := by rw [hw35_, gu_n (gne_f c33_q14_ hnq34_)]; exact c33_q14_
  have c35_q16_ : w35_ q16_ = some (.inr (1, [.int 50000, .int 20, .ref q18_])) := by rw [hw35_, gu_n (gne_f c33_q16_ hnq34_)]; exact c33_q16_
  have c35_q18_ : w35_ q18_ = some (.inr (1, [.int 0, .int 12, .null])) := by rw [hw35_, gu_n (gne_f c33_q18_ hnq34_)]; exact c33_q18_
  have c35_q24_ : w35_ q24_ = some (.inr (1, [.int 50000, .int 4, .ref q26_])) := by rw [hw35_, gu_n (gne_f c33_q24_ hnq34_)]; exact c33_q24_
  have c35_q26_ : w35_ q26_ = some (.inr (1, [.int 200000, .int 3, .ref q28_])) := by rw [hw35_, gu_n (gne_f c33_q26_ hnq34_)]; exact c33_q26_
  have c35_q28_ : w35_ q28_ = some (.inr (1, [.int 0, .int 1, .null])) := by rw [hw35_, gu_n (gne_f c33_q28_ hnq34_)]; exact c33_q28_
  have c35_q34_ : w35_ q34_ = some (.inr (6, [.int 0, .null, .int 0])) := by rw [hw35_]; exact gu_s
  have hkw35_ : ∀ b y, w b = some y → b ≠ dl → w35_ b = some y := fun b y q1 q2 => by rw [hw35_, gu_n (gne_f (hkw33_ b y q1 q2) hnq34_)]; exact hkw33_ b y q1 q2
  have hPw35_ := hPw33_.new hw35_ hnq34_
  have hzq34_ : w q34_ = none := by
    cases h8 : w q34_ with
    | none => rfl
    | some y =>
      have h9 := hkw33_ _ _ h8 (fun z => by have h7 := c33_dl; rw [← z, hnq34_] at h7; cases h7)
      rw [hnq34_] at h9
      cases h9
  refine lv_dup (pc := 133) hx hb dX1_init_133 rfl ?_
  refine g_callI (pc := 134) S M G hl.1 [] [.ref q34_, .ref dl] (metJ2_init l D K w35_ c35_q34_ hbq34_) 0 q86 q84 q85 q22 rfl (by decide) rfl ⟨Nat.le_of_ble_eq_true rfl, Nat.le_of_ble_eq_true rfl⟩ rfl (Nat.le_of_ble_eq_true rfl) dX1_init_134 ⟨Nat.le_of_ble_eq_true rfl, Nat.le_of_ble_eq_true rfl⟩ (fun r w2 H locs hp G => ?_)
  obtain ⟨rfl, hw2⟩ := hp
  rw [hw2] at G
  obtain ⟨w36_, hw36_⟩ : ∃ z9, z9 = gu w35_ q34_ (.inr (6, [.int 0, .ref (K 1), .int 0])) := ⟨_, rfl⟩
  replace G : gS D K w36_ s H locs := by rw [hw36_]; exact G
  have c36_dl : w36_ dl = some (.inr (0, [.ref q1_, .ref q14_, .ref q24_, .null, .null, .null, .null, .int 0, .int 0, .long 0, .long 0, .long 0])) := by rw [hw36_, gu_n (gne_f c33_dl hnq34_)]; exact c35_dl
  have c36_q1_ : w36_ q1_ = some (.inr (1, [.int 1000, .int 50, .ref q3_])) := by rw [hw36_, gu_n (gne_f c33_q1_ hnq34_)]; exact c35_q1_
  have c36_q3_ : w36_ q3_ = some (.inr (1, [.int 5000, .int 100, .ref q5_])) := by rw [hw36_, gu_n (gne_f c33_q3_ hnq34_)]; exact c35_q3_
  have c36_q5_ : w36_ q5_ = some (.inr (1, [.int 20000, .int 500, .ref q7_])) := by rw [hw36_, gu_n (gne_f c33_q5_ hnq34_)]; exact c35_q5_
  have c36_q7_ : w36_ q7_ = some (.inr (1, [.int 0, .int 1000, .null])) := by rw [hw36_, gu_n (gne_f c33_q7_ hnq34_)]; exact c35_q7_
  have c36_q14_ : w36_ q14_ = some (.inr (1, [.int 10000, .int 25, .ref q16_])) := by rw [hw36_, gu_n (gne_f c33_q14_ hnq34_)]; exact c35_q14_
  have c36_q16_ : w36_ q16_ = some (.inr (1, [.int 50000, .int 20, .ref q18_])) := by rw [hw36_, gu_n (gne_f c33_q16_ hnq34_)]; exact c35_q16_
  have c36_q18_ : w36_ q18_ = some (.inr (1, [.int 0, .int 12, .null])) := by rw [hw36_, gu_n (gne_f c33_q18_ hnq34_)]; exact c35_q18_
  have c36_q24_ : w36_ q24_ = some (.inr (1, [.int 50000, .int 4, .ref q26_])) := by rw [hw36_, gu_n (gne_f c33_q24_ hnq34_)]; exact c35_q24_
  have c36_q26_ : w36_ q26_ = some (.inr (1, [.int 200000, .int 3, .ref q28_])) := by rw [hw36_, gu_n (gne_f c33_q26_ hnq34_)]; exact c35_q26_
  have c36_q28_ : w36_ q28_ = some (.inr (1, [.int 0, .int 1, .null])) := by rw [hw36_, gu_n (gne_f c33_q28_ hnq34_)]; exact c35_q28_
  have c36_q34_ : w36_ q34_ = some (.inr (6, [.int 0, .ref (K 1), .int 0])) := by rw [hw36_]; exact gu_s
  have hPw36_ := hPw35_.up hw36_
  have hkw36_ : ∀ b y, w b = some y → b ≠ dl → w36_ b = some y := fun b y q1 q2 => by rw [hw36_, gu_n (fun z => by have h8 := q1; rw [z, hzq34_] at h8; cases h8)]; exact hkw35_ b y q1 q2
  refine W.eq (g2 := F0 m 137 ls [.ref q34_, .ref dl]) rfl ?_
  refine g_putF (pc := 137) (v := .ref q34_) S M G (C := RX1) (T := TX1) (N := 12) (ci := 0) in_X1 tyX1 tyX1_ok nmX1 c36_dl hbq rfl 3 (by decide) q171 (Or.inl rfl) rfl hname rfl rfl rfl (Nat.le_of_ble_eq_true rfl) dX1_init_137 (fun H locs G => ?_)
  obtain ⟨w37_, hw37_⟩ : ∃ z9, z9 = gu w36_ dl (.inr (0, [.ref q1_, .ref q14_, .ref q24_, .ref q34_, .null, .null, .null, .int 0, .int 0, .long 0, .long 0, .long 0])) := ⟨_, rfl⟩
  replace G : gS D K w37_ s H locs := by rw [hw37_]; exact G
  have c37_q1_ : w37_ q1_ = some (.inr (1, [.int 1000, .int 50, .ref q3_])) := by rw [hw37_, gu_n (Ne.symm (gne_f hq hnq1_))]; exact c36_q1_
  have c37_q3_ : w37_ q3_ = some (.inr (1, [.int 5000, .int 100, .ref q5_])) := by rw [hw37_, gu_n (Ne.symm (gne_f c2_dl hnq3_))]; exact c36_q3_
  have c37_q5_ : w37_ q5_ = some (.inr (1, [.int 20000, .int 500, .ref q7_])) := by rw [hw37_, gu_n (Ne.symm (gne_f c4_dl hnq5_))]; exact c36_q5_
  have c37_q7_ : w37_ q7_ = some (.inr (1, [.int 0, .int 1000, .null])) := by rw [hw37_, gu_n (Ne.symm (gne_f c6_dl hnq7_))]; exact c36_q7_
  have c37_q14_ : w37_ q14_ = some (.inr (1, [.int 10000, .int 25, .ref q16_])) := by rw [hw37_, gu_n (Ne.symm (gne_f c13_dl hnq14_))]; exact c36_q14_
  have c37_q16_ : w37_ q16_ = some (.inr (1, [.int 50000, .int 20, .ref q18_])) := by rw [hw37_, gu_n (Ne.symm (gne_f c15_dl hnq16_))]; exact c36_q16_
  have c37_q18_ : w37_ q18_ = some (.inr (1, [.int 0, .int 12, .null])) := by rw [hw37_, gu_n (Ne.symm (gne_f c17_dl hnq18_))]; exact c36_q18_
  have c37_q24_ : w37_ q24_ = some (.inr (1, [.int 50000, .int 4, .ref q26_])) := by rw [hw37_, gu_n (Ne.symm (gne_f c23_dl hnq24_))]; exact c36_q24_
  have c37_q26_ : w37_ q26_ = some (.inr (1, [.int 200000, .int 3, .ref q28_])) := by rw [hw37_, gu_n (Ne.symm (gne_f c25_dl hnq26_))]; exact c36_q26_
  have c37_q28_ : w37_ q28_ = some (.inr (1, [.int 0, .int 1, .null])) := by rw [hw37_, gu_n (Ne.symm (gne_f c27_dl hnq28_))]; exact c36_q28_
  have c37_q34_ : w37_ q34_ = some (.inr (6, [.int 0, .ref (K 1), .int 0])) := by rw [hw37_, gu_n (Ne.symm (gne_f c33_dl hnq34_))]; exact c36_q34_
  have c37_dl : w37_ dl = some (.inr (0, [.ref q1_, .ref q14_, .ref q24_, .ref q34_, .null, .null, .null, .int 0, .int 0, .long 0, .long 0, .long 0])) := by rw [hw37_]; exact gu_s
  have hPw37_ := hPw36_.up hw37_
  have hkw37_ : ∀ b y, w b = some y → b ≠ dl → w37_ b = some y := fun b y q1 q2 => by rw [hw37_, gu_n q2]; exact hkw36_ b y q1 q2
  refine lv_aload_n (pc := 140) hx hb dX1_init_140 rfl (lv_at hl 0 rfl) ?_
  refine g_new (pc := 141) S M G (C := RJ5) (T := TJ5) (N := 12) (ci := 7) (fs := [.null, .null, .int 0, .int 0, .int 0, .float 0, .null, .null, .null, .null, .int 0, .int 0]) in_J5 tyJ5 tyJ5_ok q111 q112 q25 rfl df_J5 (Nat.le_of_ble_eq_true rfl) (Nat.le_of_ble_eq_true rfl) dX1_init_141 (fun q38_ H hnq38_ hbq38_ heq38_ hsq38_ G => ?_)
  refine W.widen (k := 12) (n := 45) (Nat.le_of_ble_eq_true rfl) (Nat.le_of_ble_eq_true rfl) ?_
  obtain ⟨w39_, hw39_⟩ : ∃ z9, z9 = gu w37_ q38_ (.inr (7, mfl none 0 0 0 0 none none none)) := ⟨_, rfl⟩
  replace G : gS D K w39_ s H locs := by rw [hw39_]; exact G
  have c39_dl : w39_ dl = some (.inr (0, [.ref q1_, .ref q14_, .ref q24_, .ref q34_, .null, .null, .null, .int 0, .int 0, .long 0, .long 0, .long 0])) := by rw [hw39_, gu_n (gne_f c37_dl hnq38_)]; exact c37_dl
  have c39_q1_ : w39_ q1_ = some (.inr (1, [.int 1000, .int 50, .ref q3_])) := by rw [hw39_, gu_n (gne_f c37_q1_ hnq38_)]; exact c37_q1_
  have c39_q3_ : w39_ q3_ = some (.inr (1, [.int 5000, .int 100, .ref q5_])) := by rw [hw39_, gu_n (gne_f c37_q3_ hnq38_)]; exact c37_q3_
  have c39_q5_ : w39_ q5_ = some (.inr (1, [.int 20000, .int 500, .ref q7_])) := by rw [hw39_, gu_n (gne_f c37_q5_ hnq38_)]; exact c37_q5_
  have c39_q7_ : w39_ q7_ = some (.inr (1, [.int 0, .int 1000, .null])) := by rw [hw39_, gu_n (gne_f c37_q7_ hnq38_)]; exact c37_q7_
  have c39_q14_ : w39_ q14_ = some (.inr (1, [.int 10000, .int 25, .ref q16_])) := by rw [hw39_, gu_n (gne_f c37_q14_ hnq38_)]; exact c37_q14_
  have c39_q16_ : w39_ q16_ = some (.inr (1, [.int 50000, .int 20, .ref q18_])) := by rw [hw39_, gu_n (gne_f c37_q16_ hnq38_)]; exact c37_q16_
  have c39_q18_ : w39_ q18_ = some (.inr (1, [.int 0, .int 12, .null])) := by rw [hw39_, gu_n (gne_f c37_q18_ hnq38_)]; exact c37_q18_
  have c39_q24_ : w39_ q24_ = some (.inr (1, [.int 50000, .int 4, .ref q26_])) := by rw [hw39_, gu_n (gne_f c37_q24_ hnq38_)]; exact c37_q24_
  have c39_q26_ : w39_ q26_ = some (.inr (1, [.int 200000, .int 3, .ref q28_])) := by rw [hw39_, gu_n (gne_f c37_q26_ hnq38_)]; exact c37_q26_
  have c39_q28_ : w39_ q28_ = some (.inr (1, [.int 0, .int 1, .null])) := by rw [hw39_, gu_n (gne_f c37_q28_ hnq38_)]; exact c37_q28_
  have c39_q34_ : w39_ q34_ = some (.inr (6, [.int 0, .ref (K 1), .int 0])) := by rw [hw39_, gu_n (gne_f c37_q34_ hnq38_)]; exact c37_q34_
  have c39_q38_ : w39_ q38_ = some (.inr (7, mfl none 0 0 0 0 none none none)) := by rw [hw39_]; exact gu_s
  have hkw39_ : ∀ b y, w b = some y → b ≠ dl → w39_ b = some y := fun b y q1 q2 => by rw [hw39_, gu_n (gne_f (hkw37_ b y q1 q2) hnq38_)]; exact hkw37_ b y q1 q2
  have hPw39_ := hPw37_.new hw39_ hnq38_
  have hzq38_ : w q38_ = none := by
    cases h8 : w q38_ with
    | none => rfl
    | some y =>
      have h9 := hkw37_ _ _ h8 (fun z => by have h7 := c37_dl; rw [← z, hnq38_] at h7; cases h7)
      rw [hnq38_] at h9
      cases h9
  refine lv_dup (pc := 144) hx hb dX1_init_144 rfl ?_
  refine g_callI (pc := 145) S M G hl.1 [] [.ref q38_, .ref dl] (metJ5_init l D K w39_ c39_q38_ hbq38_) 0 q115 q113 q114 q25 rfl (by decide) rfl ⟨Nat.le_of_ble_eq_true rfl, Nat.le_of_ble_eq_true rfl⟩ rfl (Nat.le_of_ble_eq_true rfl) dX1_init_145 ⟨Nat.le_of_ble_eq_true rfl, Nat.le_of_ble_eq_true rfl⟩ (fun r w2 H locs hp G => ?_)
  obtain ⟨rfl, hw2⟩ := hp
  rw [hw2] at G
  obtain ⟨w40_, hw40_⟩ : ∃ z9, z9 = gu w39_ q38_ (.inr (7, mfl none 0 0 0 1061158912 none none none)) := ⟨_, rfl⟩
  replace G : gS D K w40_ s H locs := by rw [hw40_]; exact G
  have c40_dl : w40_ dl = some (.inr (0, [.ref q1_, .ref q14_, .ref q24_, .ref q34_, .null, .null, .null, .int 0, .int 0, .long 0, .long 0, .long 0])) := by rw [hw40_, gu_n (gne_f c37_dl hnq38_)]; exact c39_dl
  have c40_q1_ : w40_ q1_ = some (.inr (1, [.int 1000, .int 50, .ref q3_])) := by rw [hw40_, gu_n (gne_f c37_q1_ hnq38_)]; exact c39_q1_
  have c40_q3_ : w40_ q3_ = some (.inr (1, [.int 5000, .int 100, .ref q5_])) := by rw [hw40_, gu_n (gne_f c37_q3_ hnq38_)]; exact c39_q3_
  have c40_q5_ : w40_ q5_ = some (.inr (1, [.int 20000, .int 500, .ref q7_])) := by rw [hw40_, gu_n (gne_f c37_q5_ hnq38_)]; exact c39_q5_
  have c40_q7_ : w40_ q7_ = some (.inr (1, [.int 0, .int 1000, .null])) := by rw [hw40_, gu_n (gne_f c37_q7_ hnq38_)]; exact c39_q7_
  have c40_q14_ : w40_ q14_ = some (.inr (1, [.int 10000, .int 25, .ref q16_])) := by rw [hw40_, gu_n (gne_f c37_q14_ hnq38_)]; exact c39_q14_
  have c40_q16_ : w40_ q16_ = some (.inr (1, [.int 50000, .int 20, .ref q18_])) := by rw [hw40_, gu_n (gne_f c37_q16_ hnq38_)]; exact c39_q16_
  have c40_q18_ : w40_ q18_ = some (.inr (1, [.int 0, .int 12, .null])) := by rw [hw40_, gu_n (gne_f c37_q18_ hnq38_)]; exact c39_q18_
  have c40_q24_ : w40_ q24_ = some (.inr (1, [.int 50000, .int 4, .ref q26_])) := by rw [hw40_, gu_n (gne_f c37_q24_ hnq38_)]; exact c39_q24_
  have c40_q26_ : w40_ q26_ = some (.inr (1, [.int 200000, .int 3, .ref q28_])) := by rw [hw40_, gu_n (gne_f c37_q26_ hnq38_)]; exact c39_q26_
  have c40_q28_ : w40_ q28_ = some (.inr (1, [.int 0, .int 1, .null])) := by rw [hw40_, gu_n (gne_f c37_q28_ hnq38_)]; exact c39_q28_
  have c40_q34_ : w40_ q34_ = some (.inr (6, [.int 0, .ref (K 1), .int 0])) := by rw [hw40_, gu_n (gne_f c37_q34_ hnq38_)]; exact c39_q34_
  have c40_q38_ : w40_ q38_ = some (.inr (7, mfl none 0 0 0 1061158912 none none none)) := by rw [hw40_]; exact gu_s
  have hPw40_ := hPw39_.up hw40_
  have hkw40_ : ∀ b y, w b = some y → b ≠ dl → w40_ b = some y := fun b y q1 q2 => by rw [hw40_, gu_n (fun z => by have h8 := q1; rw [z, hzq38_] at h8; cases h8)]; exact hkw39_ b y q1 q2
  refine W.eq (g2 := F0 m 148 ls [.ref q38_, .ref dl]) rfl ?_
  refine g_putF (pc := 148) (v := .ref q38_) S M G (C := RX1) (T := TX1) (N := 12) (ci := 0) in_X1 tyX1 tyX1_ok nmX1 c40_dl hbq rfl 4 (by decide) q172 (Or.inl rfl) rfl hname rfl rfl rfl (Nat.le_of_ble_eq_true rfl) dX1_init_148 (fun H locs G => ?_)
  obtain ⟨w41_, hw41_⟩ : ∃ z9, z9 = gu w40_ dl (.inr (0, [.ref q1_, .ref q14_, .ref q24_, .ref q34_, .ref q38_, .null, .null, .int 0, .int 0, .long 0, .long 0, .long 0])) := ⟨_, rfl⟩
  replace G : gS D K w41_ s H locs := by rw [hw41_]; exact G
  have c41_q1_ : w41_ q1_ = some (.inr (1, [.int 1000, .int 50, .ref q3_])) := by rw [hw41_, gu_n (Ne.symm (gne_f hq hnq1_))]; exact c40_q1_
  have c41_q3_ : w41_ q3_ = some (.inr (1, [.int 5000, .int 100, .ref q5_])) := by rw [hw41_, gu_n (Ne.symm (gne_f c2_dl hnq3_))]; exact c40_q3_
  have c41_q5_ : w41_ q5_ = some (.inr (1, [.int 20000, .int 500, .ref q7_])) := by rw [hw41_, gu_n (Ne.symm (gne_f c4_dl hnq5_))]; exact c40_q5_
  have c41_q7_ : w41_ q7_ = some (.inr (1, [.int 0, .int 1000, .null])) := by rw [hw41_, gu_n (Ne.symm (gne_f c6_dl hnq7_))]; exact c40_q7_
  have c41_q14_ : w41_ q14_ = some (.inr (1, [.int 10000, .int 25, .ref q16_])) := by rw [hw41_, gu_n (Ne.symm (gne_f c13_dl hnq14_))]; exact c40_q14_
  have c41_q16_ : w41_ q16_ = some (.inr (1, [.int 50000, .int 20, .ref q18_])) := by rw [hw41_, gu_n (Ne.symm (gne_f c15_dl hnq16_))]; exact c40_q16_
  have c41_q18_ : w41_ q18_ = some (.inr (1, [.int 0, .int 12, .null])) := by rw [hw41_, gu_n (Ne.symm (gne_f c17_dl hnq18_))]; exact c40_q18_
  have c41_q24_ : w41_ q24_ = some (.inr (1, [.int 50000, .int 4, .ref q26_])) := by rw [hw41_, gu_n (Ne.symm (gne_f c23_dl hnq24_))]; exact c40_q24_
  have c41_q26_ : w41_ q26_ = some (.inr (1, [.int 200000, .int 3, .ref q28_])) := by rw [hw41_, gu_n (Ne.symm (gne_f c25_dl hnq26_))]; exact c40_q26_
  have c41_q28_ : w41_ q28_ = some (.inr (1, [.int 0, .int 1, .null])) := by rw [hw41_, gu_n (Ne.symm (gne_f c27_dl hnq28_))]; exact c40_q28_
  have c41_q34_ : w41_ q34_ = some (.inr (6, [.int 0, .ref (K 1), .int 0])) := by rw [hw41_, gu_n (Ne.symm (gne_f c33_dl hnq34_))]; exact c40_q34_
  have c41_q38_ : w41_ q38_ = some (.inr (7, mfl none 0 0 0 1061158912 none none none)) := by rw [hw41_, gu_n (Ne.symm (gne_f c37_dl hnq38_))]; exact c40_q38_
  have c41_dl : w41_ dl = some (.inr (0, [.ref q1_, .ref q14_, .ref q24_, .ref q34_, .ref q38_, .null, .null, .int 0, .int 0, .long 0, .long 0, .long 0])) := by rw [hw41_]; exact gu_s
  have hPw41_ := hPw40_.up hw41_
  have hkw41_ : ∀ b y, w b = some y → b ≠ dl → w41_ b = some y := fun b y q1 q2 => by rw [hw41_, gu_n q2]; exact hkw40_ b y q1 q2
  refine lv_aload_n (pc := 151) hx hb dX1_init_151 rfl (lv_at hl 0 rfl) ?_
  refine lv_bipush (pc := 152) (v := 6) hx hb dX1_init_152 (by decide) ?_
  refine g_newi (pc := 154) S M G q208 (n := 6) (N' := 6) (by decide) rfl (by decide) (Nat.le_of_ble_eq_true rfl) (Nat.le_of_ble_eq_true rfl) dX1_init_154 (fun q42_ H hnq42_ hbq42_ heq42_ hsq42_ G => ?_)
  refine W.widen (k := 13) (n := 51) (Nat.le_of_ble_eq_true rfl) (Nat.le_of_ble_eq_true rfl) ?_
  obtain ⟨w43_, hw43_⟩ : ∃ z9, z9 = gu w41_ q42_ (.inl (D.1 100, 6, .inl (fun _ => 0))) := ⟨_, rfl⟩
  replace G : gS D K w43_ s H locs := by rw [hw43_]; exact G
  have c43_dl : w43_ dl = some (.inr (0, [.ref q1_, .ref q14_, .ref q24_, .ref q34_, .ref q38_, .null, .null, .int 0, .int 0, .long 0, .long 0, .long 0])) := by rw [hw43_, gu_n (gne_f c41_dl hnq42_)]; exact c41_dl
  have c43_q1_ : w43_ q1_ = some (.inr (1, [.int 1000, .int 50, .ref q3_])) := by rw [hw43_, gu_n (gne_f c41_q1_ hnq42_)]; exact c41_q1_
  have c43_q3_ : w43_ q3_ = some (.inr (1, [.int 5000, .int 100, .ref q5_])) := by rw [hw43_, gu_n (gne_f c41_q3_ hnq42_)]; exact c41_q3_
  have c43_q5_ : w43_ q5_ = some (.inr (1, [.int 20000, .int 500, .ref q7_])) := by rw [hw43_, gu_n (gne_f c41_q5_ hnq42_)]; exact c41_q5_
  have c43_q7_ : w43_ q7_ = some (.inr (1, [.int 0, .int 1000, .null])) := by rw [hw43_, gu_n (gne_f c41_q7_ hnq42_)]; exact c41_q7_
  have c43_q14_ : w43_ q14_ = some (.inr (1, [.int 10000, .int 25, .ref q16_])) := by rw [hw43_, gu_n (gne_f c41_q14_ hnq42_)]; exact c41_q14_
  have c43_q16_ : w43_ q16_ = some (.inr (1, [.int 50000, .int 20, .ref q18_])) := by rw [hw43_, gu_n (gne_f c41_q16_ hnq42_)]; exact c41_q16_
  have c43_q18_ : w43_ q18_ = some (.inr (1, [.int 0, .int 12, .null])) := by rw [hw43_, gu_n (gne_f c41_q18_ hnq42_)]; exact c41_q18_
  have c43_q24_ : w43_ q24_ = some (.inr (1, [.int 50000, .int 4, .ref q26_])) := by rw [hw43_, gu_n (gne_f c41_q24_ hnq42_)]; exact c41_q24_
  have c43_q26_ : w43_ q26_ = some (.inr (1, [.int 200000, .int 3, .ref q28_])) := by rw [hw43_, gu_n (gne_f c41_q26_ hnq42_)]; exact c41_q26_
  have c43_q28_ : w43_ q28_ = some (.inr (1, [.int 0, .int 1, .null])) := by rw [hw43_, gu_n (gne_f c41_q28_ hnq42_)]; exact c41_q28_
  have c43_q34_ : w43_ q34_ = some (.inr (6, [.int 0, .ref (K 1), .int 0])) := by rw [hw43_, gu_n (gne_f c41_q34_ hnq42_)]; exact c41_q34_
  have c43_q38_ : w43_ q38_ = some (.inr (7, mfl none 0 0 0 1061158912 none none none)) := by rw [hw43_, gu_n (gne_f c41_q38_ hnq42_)]; exact c41_q38_
  have c43_q42_ : w43_ q42_ = some (.inl (D.1 100, 6, .inl (fun _ => 0))) := by rw [hw43_]; exact gu_s
  have hkw43_ : ∀ b y, w b = some y → b ≠ dl → w43_ b = some y := fun b y q1 q2 => by rw [hw43_, gu_n (gne_f (hkw41_ b y q1 q2) hnq42_)]; exact hkw41_ b y q1 q2
  have hPw43_ := hPw41_.new hw43_ hnq42_
  have hzq42_ : w q42_ = none := by
    cases h8 : w q42_ with
    | none => rfl
    | some y =>
      have h9 := hkw41_ _ _ h8 (fun z => by have h7 := c41_dl; rw [← z, hnq42_] at h7; cases h7)
      rw [hnq42_] at h9
      cases h9
  refine g_putF (pc := 156) (v := .ref q42_) S M G (C := RX1) (T := TX1) (N := 12) (ci := 0) in_X1 tyX1 tyX1_ok nmX1 c43_dl hbq rfl 5 (by decide) q174 (Or.inl rfl) rfl hname rfl rfl rfl (Nat.le_of_ble_eq_true rfl) dX1_init_156 (fun H locs G => ?_)
  obtain ⟨w44_, hw44_⟩ : ∃ z9, z9 = gu w43_ dl (.inr (0, [.ref q1_, .ref q14_, .ref q24_, .ref q34_, .ref q38_, .ref q42_, .null, .int 0, .int 0, .long 0, .long 0, .long 0])) := ⟨_, rfl⟩
  replace G : gS D K w44_ s H locs := by rw [hw44_]; exact G
  have c44_q1_ : w44_ q1_ = some (.inr (1, [.int 1000, .int 50, .ref q3_])) := by rw [hw44_, gu_n (Ne.symm (gne_f hq hnq1_))]; exact c43_q1_
  have c44_q3_ : w44_ q3_ = some (.inr (1, [.int 5000, .int 100, .ref q5_])) := by rw [hw44_, gu_n (Ne.symm (gne_f c2_dl hnq3_))]; exact c43_q3_
  have c44_q5_ : w44_ q5_ = some (.inr (1, [.int 20000, .int 500, .ref q7_])) := by rw [hw44_, gu_n (Ne.symm (gne_f c4_dl hnq5_))]; exact c43_q5_
  have c44_q7_ : w44_ q7_ = some (.inr (1, [.int 0, .int 1000, .null])) := by rw [hw44_, gu_n (Ne.symm (gne_f c6_dl hnq7_))]; exact c43_q7_
  have c44_q14_ : w44_ q14_ = some (.inr (1, [.int 10000, .int 25, .ref q16_])) := by rw [hw44_, gu_n (Ne.symm (gne_f c13_dl hnq14_))]; exact c43_q14_
  have c44_q16_ : w44_ q16_ = some (.inr (1, [.int 50000, .int 20, .ref q18_])) := by rw [hw44_, gu_n (Ne.symm (gne_f c15_dl hnq16_))]; exact c43_q16_
  have c44_q18_ : w44_ q18_ = some (.inr (1, [.int 0, .int 12, .null])) := by rw [hw44_, gu_n (Ne.symm (gne_f c17_dl hnq18_))]; exact c43_q18_
  have c44_q24_ : w44_ q24_ = some (.inr (1, [.int 50000, .int 4, .ref q26_])) := by rw [hw44_, gu_n (Ne.symm (gne_f c23_dl hnq24_))]; exact c43_q24_
  have c44_q26_ : w44_ q26_ = some (.inr (1, [.int 200000, .int 3, .ref q28_])) := by rw [hw44_, gu_n (Ne.symm (gne_f c25_dl hnq26_))]; exact c43_q26_
  have c44_q28_ : w44_ q28_ = some (.inr (1, [.int 0, .int 1, .null])) := by rw [hw44_, gu_n (Ne.symm (gne_f c27_dl hnq28_))]; exact c43_q28_
  have c44_q34_ : w44_ q34_ = some (.inr (6, [.int 0, .ref (K 1), .int 0])) := by rw [hw44_, gu_n (Ne.symm (gne_f c33_dl hnq34_))]; exact c43_q34_
  have c44_q38_ : w44_ q38_ = some (.inr (7, mfl none 0 0 0 1061158912 none none none)) := by rw [hw44_, gu_n (Ne.symm (gne_f c37_dl hnq38_))]; exact c43_q38_
  have c44_q42_ : w44_ q42_ = some (.inl (D.1 100, 6, .inl (fun _ => 0))) := by rw [hw44_, gu_n (Ne.symm (gne_f c41_dl hnq42_))]; exact c43_q42_
  have c44_dl : w44_ dl = some (.inr (0, [.ref q1_, .ref q14_, .ref q24_, .ref q34_, .ref q38_, .ref q42_, .null, .int 0, .int 0, .long 0, .long 0, .long 0])) := by rw [hw44_]; exact gu_s
  have hPw44_ := hPw43_.up hw44_
  have hkw44_ : ∀ b y, w b = some y → b ≠ dl → w44_ b = some y := fun b y q1 q2 => by rw [hw44_, gu_n q2]; exact hkw43_ b y q1 q2
  refine lv_aload_n (pc := 159) hx hb dX1_init_159 rfl (lv_at hl 0 rfl) ?_
  refine lv_bipush (pc := 160) (v := 10) hx hb dX1_init_160 (by decide) ?_
  refine g_newi (pc := 162) S M G q208 (n := 10) (N' := 10) (by decide) rfl (by decide) (Nat.le_of_ble_eq_true rfl) (Nat.le_of_ble_eq_true rfl) dX1_init_162 (fun q45_ H hnq45_ hbq45_ heq45_ hsq45_ G => ?_)
  refine W.widen (k := 14) (n := 61) (Nat.le_of_ble_eq_true rfl) (Nat.le_of_ble_eq_true rfl) ?_
  obtain ⟨w46_, hw46_⟩ : ∃ z9, z9 = gu w44_ q45_ (.inl (D.1 100, 10, .inl (fun _ => 0))) := ⟨_, rfl⟩
  replace G : gS D K w46_ s H locs := by rw [hw46_]; exact G
  have c46_dl : w46_ dl = some (.inr (0, [.ref q1_, .ref q14_, .ref q24_, .ref q34_, .ref q38_, .ref q42_, .null, .int 0, .int 0, .long 0, .long 0, .long 0])) := by rw [hw46_, gu_n (gne_f c44_dl hnq45_)]; exact c44_dl
  have c46_q1_ : w46_ q1_ = some (.inr (1, [.int 1000, .int 50, .ref q3_])) := by rw [hw46_, gu_n (gne_f c44_q1_ hnq45_)]; exact c44_q1_
  have c46_q3_ : w46_ q3_ = some (.inr (1, [.int 5000, .int 100, .ref q5_])) := by rw [hw46_, gu_n (gne_f c44_q3_ hnq45_)]; exact c44_q3_
  have c46_q5_ : w46_ q5_ = some (.inr (1, [.int 20000, .int 500, .ref q7_])) := by rw [hw46_, gu_n (gne_f c44_q5_ hnq45_)]; exact c44_q5_
  have c46_q7_ : w46_ q7_ = some (.inr (1, [.int 0, .int 1000, .null])) := by rw [hw46_, gu_n (gne_f c44_q7_ hnq45_)]; exact c44_q7_
  have c46_q14_ : w46_ q14_ = some (.inr (1, [.int 10000, .int 25, .ref q16_])) := by rw [hw46_, gu_n (gne_f c44_q14_ hnq45_)]; exact c44_q14_
  have c46_q16_ : w46_ q16_ = some (.inr (1, [.int 50000, .int 20, .ref q18_])) := by rw [hw46_, gu_n (gne_f c44_q16_ hnq45_)]; exact c44_q16_
  have c46_q18_ : w46_ q18_ = some (.inr (1, [.int 0, .int 12, .null])) := by rw [hw46_, gu_n (gne_f c44_q18_ hnq45_)]; exact c44_q18_
  have c46_q24_ : w46_ q24_ = some (.inr (1, [.int 50000, .int 4, .ref q26_])) := by rw [hw46_, gu_n (gne_f c44_q24_ hnq45_)]; exact c44_q24_
  have c46_q26_ : w46_ q26_ = some (.inr (1, [.int 200000, .int 3, .ref q28_])) := by rw [hw46_, gu_n (gne_f c44_q26_ hnq45_)]; exact c44_q26_
  have c46_q28_ : w46_ q28_ = some (.inr (1, [.int 0, .int 1, .null])) := by rw [hw46_, gu_n (gne_f c44_q28_ hnq45_)]; exact c44_q28_
  have c46_q34_ : w46_ q34_ = some (.inr (6, [.int 0, .ref (K 1), .int 0])) := by rw [hw46_, gu_n (gne_f c44_q34_ hnq45_)]; exact c44_q34_
  have c46_q38_ : w46_ q38_ = some (.inr (7, mfl none 0 0 0 1061158912 none none none)) := by rw [hw46_, gu_n (gne_f c44_q38_ hnq45_)]; exact c44_q38_
  have c46_q42_ : w46_ q42_ = some (.inl (D.1 100, 6, .inl (fun _ => 0))) := by rw [hw46_, gu_n (gne_f c44_q42_ hnq45_)]; exact c44_q42_
  have c46_q45_ : w46_ q45_ = some (.inl (D.1 100, 10, .inl (fun _ => 0))) := by rw [hw46_]; exact gu_s
  have hkw46_ : ∀ b y, w b = some y → b ≠ dl → w46_ b = some y := fun b y q1 q2 => by rw [hw46_, gu_n (gne_f (hkw44_ b y q1 q2) hnq45_)]; exact hkw44_ b y q1 q2
  have hPw46_ := hPw44_.new hw46_ hnq45_
  have hzq45_ : w q45_ = none := by
    cases h8 : w q45_ with
    | none => rfl
    | some y =>
      have h9 := hkw44_ _ _ h8 (fun z => by have h7 := c44_dl; rw [← z, hnq45_] at h7; cases h7)
      rw [hnq45_] at h9
      cases h9
  refine g_putF (pc := 164) (v := .ref q45_) S M G (C := RX1) (T := TX1) (N := 12) (ci := 0) in_X1 tyX1 tyX1_ok nmX1 c46_dl hbq rfl 6 (by decide) q175 (Or.inl rfl) rfl hname rfl rfl rfl (Nat.le_of_ble_eq_true rfl) dX1_init_164 (fun H locs G => ?_)
  obtain ⟨w47_, hw47_⟩ : ∃ z9, z9 = gu w46_ dl (.inr (0, [.ref q1_, .ref q14_, .ref q24_, .ref q34_, .ref q38_, .ref q42_, .ref q45_, .int 0, .int 0, .long 0, .long 0, .long 0])) := ⟨_, rfl⟩
  replace G : gS D K w47_ s H locs := by rw [hw47_]; exact G
  have c47_q1_ : w47_ q1_ = some (.inr (1, [.int 1000, .int 50, .ref q3_])) := by rw [hw47_, gu_n (Ne.symm (gne_f hq hnq1_))]; exact c46_q1_
  have c47_q3_ : w47_ q3_ = some (.inr (1, [.int 5000, .int 100, .ref q5_])) := by rw [hw47_, gu_n (Ne.symm (gne_f c2_dl hnq3_))]; exact c46_q3_
  have c47_q5_ : w47_ q5_ = some (.inr (1, [.int 20000, .int 500, .ref q7_])) := by rw [hw47_, gu_n (Ne.symm (gne_f c4_dl hnq5_))]; exact c46_q5_
  have c47_q7_ : w47_ q7_ = some (.inr (1, [.int 0, .int 1000, .null])) := by rw [hw47_, gu_n (Ne.symm (gne_f c6_dl hnq7_))]; exact c46_q7_
  have c47_q14_ : w47_ q14_ = some (.inr (1, [.int 10000, .int 25, .ref q16_])) := by rw [hw47_, gu_n (Ne.symm (gne_f c13_dl hnq14_))]; exact c46_q14_
  have c47_q16_ : w47_ q16_ = some (.inr (1, [.int 50000, .int 20, .ref q18_])) := by rw [hw47_, gu_n (Ne.symm (gne_f c15_dl hnq16_))]; exact c46_q16_
  have c47_q18_ : w47_ q18_ = some (.inr (1, [.int 0, .int 12, .null])) := by rw [hw47_, gu_n (Ne.symm (gne_f c17_dl hnq18_))]; exact c46_q18_
  have c47_q24_ : w47_ q24_ = some (.inr (1, [.int 50000, .int 4, .ref q26_])) := by rw [hw47_, gu_n (Ne.symm (gne_f c23_dl hnq24_))]; exact c46_q24_
  have c47_q26_ : w47_ q26_ = some (.inr (1, [.int 200000, .int 3, .ref q28_])) := by rw [hw47_, gu_n (Ne.symm (gne_f c25_dl hnq26_))]; exact c46_q26_
  have c47_q28_ : w47_ q28_ = some (.inr (1, [.int 0, .int 1, .null])) := by rw [hw47_, gu_n (Ne.symm (gne_f c27_dl hnq28_))]; exact c46_q28_
  have c47_q34_ : w47_ q34_ = some (.inr (6, [.int 0, .ref (K 1), .int 0])) := by rw [hw47_, gu_n (Ne.symm (gne_f c33_dl hnq34_))]; exact c46_q34_
  have c47_q38_ : w47_ q38_ = some (.inr (7, mfl none 0 0 0 1061158912 none none none)) := by rw [hw47_, gu_n (Ne.symm (gne_f c37_dl hnq38_))]; exact c46_q38_
  have c47_q42_ : w47_ q42_ = some (.inl (D.1 100, 6, .inl (fun _ => 0))) := by rw [hw47_, gu_n (Ne.symm (gne_f c41_dl hnq42_))]; exact c46_q42_
  have c47_q45_ : w47_ q45_ = some (.inl (D.1 100, 10, .inl (fun _ => 0))) := by rw [hw47_, gu_n (Ne.symm (gne_f c44_dl hnq45_))]; exact c46_q45_
  have c47_dl : w47_ dl = some (.inr (0, [.ref q1_, .ref q14_, .ref q24_, .ref q34_, .ref q38_, .ref q42_, .ref q45_, .int 0, .int 0, .long 0, .long 0, .long 0])) := by rw [hw47_]; exact gu_s
  have hPw47_ := hPw46_.up hw47_
  have hkw47_ : ∀ b y, w b = some y → b ≠ dl → w47_ b = some y := fun b y q1 q2 => by rw [hw47_, gu_n q2]; exact hkw46_ b y q1 q2
  refine lv_aload_n (pc := 167) hx hb dX1_init_167 rfl (lv_at hl 0 rfl) ?_
  refine lv_bipush (pc := 168) (v := 20) hx hb dX1_init_168 (by decide) ?_
  refine g_put (pc := 170) (v := .int 20) S M G (C := RX1) (T := TX1) (N := 12) (ci := 0) in_X1 tyX1 tyX1_ok nmX1 c47_dl hbq rfl 7 (by decide) q176 (Or.inl rfl) rfl rfl rfl (Nat.le_of_ble_eq_true rfl) dX1_init_170 (fun H locs G => ?_)
  obtain ⟨w48_, hw48_⟩ : ∃ z9, z9 = gu w47_ dl (.inr (0, [.ref q1_, .ref q14_, .ref q24_, .ref q34_, .ref q38_, .ref q42_, .ref q45_, .int 20, .int 0, .long 0, .long 0, .long 0])) := ⟨_, rfl⟩
  replace G : gS D K w48_ s H locs := by rw [hw48_]; exact G
  have c48_q1_ : w48_ q1_ = some (.inr (1, [.int 1000, .int 50, .ref q3_])) := by rw [hw48_, gu_n (Ne.symm (gne_f hq hnq1_))]; exact c47_q1_
  have c48_q3_ : w48_ q3_ = some (.inr (1, [.int 5000, .int 100, .ref q5_])) := by rw [hw48_, gu_n (Ne.symm (gne_f c2_dl hnq3_))]; exact c47_q3_
  have c48_q5_ : w48_ q5_ = some (.inr (1, [.int 20000, .int 500, .ref q7_])) := by rw [hw48_, gu_n (Ne.symm (gne_f c4_dl hnq5_))]; exact c47_q5_
  have c48_q7_ : w48_ q7_ = some (.inr (1, [.int 0, .int 1000, .null])) := by rw [hw48_, gu_n (Ne.symm (gne_f c6_dl hnq7_))]; exact c47_q7_
  have c48_q14_ : w48_ q14_ = some (.inr (1, [.int 10000, .int 25, .ref q16_])) := by rw [hw48_, gu_n (Ne.symm (gne_f c13_dl hnq14_))]; exact c47_q14_
  have c48_q16_ : w48_ q16_ = some (.inr (1, [.int 50000, .int 20, .ref q18_])) := by rw [hw48_, gu_n (Ne.symm (gne_f c15_dl hnq16_))]; exact c47_q16_
  have c48_q18_ : w48_ q18_ = some (.inr (1, [.int 0, .int 12, .null])) := by rw [hw48_, gu_n (Ne.symm (gne_f c17_dl hnq18_))]; exact c47_q18_
  have c48_q24_ : w48_ q24_ = some (.inr (1, [.int 50000, .int 4, .ref q26_])) := by rw [hw48_, gu_n (Ne.symm (gne_f c23_dl hnq24_))]; exact c47_q24_
  have c48_q26_ : w48_ q26_ = some (.inr (1, [.int 200000, .int 3, .ref q28_])) := by rw [hw48_, gu_n (Ne.symm (gne_f c25_dl hnq26_))]; exact c47_q26_
  have c48_q28_ : w48_ q28_ = some (.inr (1, [.int 0, .int 1, .null])) := by rw [hw48_, gu_n (Ne.symm (gne_f c27_dl hnq28_))]; exact c47_q28_
  have c48_q34_ : w48_ q34_ = some (.inr (6, [.int 0, .ref (K 1), .int 0])) := by rw [hw48_, gu_n (Ne.symm (gne_f c33_dl hnq34_))]; exact c47_q34_
  have c48_q38_ : w48_ q38_ = some (.inr (7, mfl none 0 0 0 1061158912 none none none)) := by rw [hw48_, gu_n (Ne.symm (gne_f c37_dl hnq38_))]; exact c47_q38_
  have c48_q42_ : w48_ q42_ = some (.inl (D.1 100, 6, .inl (fun _ => 0))) := by rw [hw48_, gu_n (Ne.symm (gne_f c41_dl hnq42_))]; exact c47_q42_
  have c48_q45_ : w48_ q45_ = some (.inl (D.1 100, 10, .inl (fun _ => 0))) := by rw [hw48_, gu_n (Ne.symm (gne_f c44_dl hnq45_))]; exact c47_q45_
  have c48_dl : w48_ dl = some (.inr (0, [.ref q1_, .ref q14_, .ref q24_, .ref q34_, .ref q38_, .ref q42_, .ref q45_, .int 20, .int 0, .long 0, .long 0, .long 0])) := by rw [hw48_]; exact gu_s
  have hPw48_ := hPw47_.up hw48_
  have hkw48_ : ∀ b y, w b = some y → b ≠ dl → w48_ b = some y := fun b y q1 q2 => by rw [hw48_, gu_n q2]; exact hkw47_ b y q1 q2
  refine lv_iconst (pc := 173) (v := 0) hx hb dX1_init_173 (by decide) ?_
  refine lv_istore_n (pc := 174) (lv' := [(1, .int 0), (0, .ref dl)]) hx hb dX1_init_174 rfl hl (by decide) rfl (fun ls hl => ?_)
  have Lf : ∀ (n j : Nat) (w8 : Gh) (H : Heap) (locs : List Loc) (ls : Array Slot), j + n = 6 → w8 dl = some (.inr (0, [.ref q1_, .ref q14_, .ref q24_, .ref q34_, .ref q38_, .ref q42_, .ref q45_, .int 20, .int 0, .long 0, .long 0, .long 0])) → w8 q42_ = some (.inl (D.1 100, 6, .inl (fun k => if k < j then (10 : Int32) else 0))) → (∀ b y, w48_ b = some y → b ≠ dl → b ≠ q42_ → w8 b = some y) → gS D K w8 s H locs → lv_has ls 2 [(1, .int (nI j)), (0, .ref dl)] → W p l e rmX1_init s m args below meth c H locs 14 61 Q (F0 m 175 ls []) := by
    intro n
    induction n with
    | zero =>
      intro j w8 H locs ls hj6 hme8 hca8 hk8 G hl
      have hj : j = 6 := by omega
      refine lv_iload_n (pc := 175) hx hb dX1_init_175 rfl (lv_at hl 0 rfl) ?_
      refine lv_bipush (pc := 176) (v := 6) hx hb dX1_init_176 (by decide) ?_
      refine lv_icmp_ge (pc := 178) (tgt := 195) hx hb dX1_init_178 (by decide) (fun _ => ?_) (fun c => absurd ((nI_leI (a := 6) (by decide) (by omega)).mpr (by omega)) c)
      rw [hQ]
      refine g_vret S G hr hlocks (hdg := dX1_init_195) ?_ ?_ ?_
      · exact Nat.le_of_ble_eq_true rfl
      · exact Nat.le_of_ble_eq_true rfl
      · subst hj
        have hco : q42_ ≠ q45_ := Ne.symm (Ne.symm (gne_f c44_q42_ hnq45_))
        have hkk : ∀ b y, w b = some y → b ≠ dl → w8 b = some y := fun b y q1 q2 => hk8 b y (hkw48_ b y q1 q2) q2 (fun z => by rw [z, hzq42_] at q1; cases q1)
        refine ⟨rfl, q42_, q45_, hzq42_, hzq45_, ⟨q1_, q14_, q24_, q34_, q38_, 0, 0, none, [], fun _ => 0, fun _ => 0, fun _ => 0, fun _ => 0, K 1, 0, ?_⟩, hkk⟩
        refine ⟨⟨hme8, hbq⟩, ⟨⟨q3_, (hk8 _ _ c48_q1_ (gne_c c48_q1_ c48_dl (by decide)) (Ne.symm (gne_ao c48_q42_ c48_q1_))), ⟨q5_, (hk8 _ _ c48_q3_ (gne_c c48_q3_ c48_dl (by decide)) (Ne.symm (gne_ao c48_q42_ c48_q3_))), ⟨q7_, (hk8 _ _ c48_q5_ (gne_c c48_q5_ c48_dl (by decide)) (Ne.symm (gne_ao c48_q42_ c48_q5_))), (hk8 _ _ c48_q7_ (gne_c c48_q7_ c48_dl (by decide)) (Ne.symm (gne_ao c48_q42_ c48_q7_)))⟩⟩⟩, ⟨q16_, (hk8 _ _ c48_q14_ (gne_c c48_q14_ c48_dl (by decide)) (Ne.symm (gne_ao c48_q42_ c48_q14_))), ⟨q18_, (hk8 _ _ c48_q16_ (gne_c c48_q16_ c48_dl (by decide)) (Ne.symm (gne_ao c48_q42_ c48_q16_))), (hk8 _ _ c48_q18_ (gne_c c48_q18_ c48_dl (by decide)) (Ne.symm (gne_ao c48_q42_ c48_q18_)))⟩⟩, ⟨q26_, (hk8 _ _ c48_q24_ (gne_c c48_q24_ c48_dl (by decide)) (Ne.symm (gne_ao c48_q42_ c48_q24_))), ⟨q28_, (hk8 _ _ c48_q26_ (gne_c c48_q26_ c48_dl (by decide)) (Ne.symm (gne_ao c48_q42_ c48_q26_))), (hk8 _ _ c48_q28_ (gne_c c48_q28_ c48_dl (by decide)) (Ne.symm (gne_ao c48_q42_ c48_q28_)))⟩⟩⟩, ⟨(hk8 _ _ c48_q34_ (gne_c c48_q34_ c48_dl (by decide)) (Ne.symm (gne_ao c48_q42_ c48_q34_))), hbq34_, by decide, Or.inl ⟨rfl, rfl⟩⟩, fun i hi => absurd hi (Nat.not_lt_zero i), ⟨Or.inr ⟨rfl, ⟨_, (hk8 _ _ c48_q38_ (gne_c c48_q38_ c48_dl (by decide)) (Ne.symm (gne_ao c48_q42_ c48_q38_)))⟩, hbq38_⟩, fun k e => (nomatch e), fun a ha => (nomatch ha), rfl⟩, ⟨hca8, hbq42_⟩, ⟨hk8 _ _ c48_q45_ (gne_ao c48_q45_ c48_dl) (Ne.symm hco), hbq45_⟩, hco, fun j hj => hkk _ _ (hWK j hj) (gne_c (hWK j hj) hq (by decide)), hDD⟩
    | succ n ih =>
      intro j w8 H locs ls hjn hme8 hca8 hk8 G hl
      have hj6 : j < 6 := by omega
      refine lv_iload_n (pc := 175) hx hb dX1_init_175 rfl (lv_at hl 0 rfl) ?_
      refine lv_bipush (pc := 176) (v := 6) hx hb dX1_init_176 (by decide) ?_
      refine lv_icmp_ge (pc := 178) (tgt := 195) hx hb dX1_init_178 (by decide) (fun c => absurd ((nI_leI (a := 6) (by decide) (by omega)).mp c) (by omega)) (fun _ => ?_)
      refine lv_aload_n (pc := 181) hx hb dX1_init_181 rfl (lv_at hl 1 rfl) ?_
      refine g_get (pc := 182) (v := .ref q42_) S M G (C := RX1) (T := TX1) (N := 12) (ci := 0) in_X1 hme8 rfl 5 (by decide) q174 (Or.inl rfl) rfl dX1_init_182 ?_
      refine lv_iload_n (pc := 185) hx hb dX1_init_185 rfl (lv_at hl 0 rfl) ?_
      refine lv_bipush (pc := 186) (v := 10) hx hb dX1_init_186 (by decide) ?_
      refine g_iast (pc := 188) S M G hca8 hbq42_ (vp_in_nI hj6 (by decide)) dX1_init_188 (fun H locs G => ?_)
      obtain ⟨w49_, hw49_⟩ : ∃ z9, z9 = gu w8 q42_ (.inl (D.1 100, 6, .inl (upd (fun k => if k < j then (10 : Int32) else 0) (nI j).toNatClampNeg 10))) := ⟨_, rfl⟩
      replace G : gS D K w49_ s H locs := by rw [hw49_]; exact G
      have c49_dl : w49_ dl = some (.inr (0, [.ref q1_, .ref q14_, .ref q24_, .ref q34_, .ref q38_, .ref q42_, .ref q45_, .int 20, .int 0, .long 0, .long 0, .long 0])) := by rw [hw49_, gu_n (gne_f c41_dl hnq42_)]; exact hme8
      have c49_q42_ : w49_ q42_ = some (.inl (D.1 100, 6, .inl (upd (fun k => if k < j then (10 : Int32) else 0) (nI j).toNatClampNeg 10))) := by rw [hw49_]; exact gu_s
      have hPw49_ := hPw48_.up hw49_
      have hkw49_ : ∀ b y, w b = some y → b ≠ dl → w49_ b = some y := fun b y q1 q2 => by rw [hw49_, gu_n (fun z => by have h8 := q1; rw [z, hzq42_] at h8; cases h8)]; exact hk8 b y q1 q2
      refine lv_iinc (pc := 189) (v := ((nI j) + 1)) (lv' := [(1, .int ((nI j) + 1)), (0, .ref dl)]) hx hb dX1_init_189 hl (k := 0) rfl (by first | rfl | decide) (by decide) rfl (fun ls hl => ?_)
      refine lv_goto (pc := 192) (tgt := 175) hx hb dX1_init_192 (by decide) ?_
      have hl9 : lv_has ls 2 [(1, .int (nI (j + 1))), (0, .ref dl)] := by rw [nI_succ]; exact (lv_sub hl [0, 1] rfl)
      exact ih (j + 1) _ H locs ls (by omega) (by rw [hw49_]; rw [gu_n (Ne.symm (gne_ao hca8 hme8))]; exact hme8) (by rw [hw49_, gu_s, nI_clamp (by omega), fill10]) (fun b y q1 q2 q3 => by rw [hw49_, gu_n q3]; exact hk8 b y q1 q2 q3) G hl9
  exact Lf 6 0 _ H locs ls rfl c48_dl (by rw [c48_q42_]; congr 4) (fun b y q1 _ _ => q1) G (lv_sub hl [0, 1] rfl)
def mA0 : Nat → Nat → Int32 := fun k => if k = 17 then (fun j => if j < 6 then 10 else 0) else fun _ => 0
def mC0 : Nat → Int32 := fun k => if k = 19 then 0 else if k = 18 then 20 else 0
theorem marr_c {k : Nat} (h : marr k = true) : k = 1 ∨ k = 2 ∨ k = 3 ∨ k = 4 ∨ k = 5 ∨ k = 6 ∨ k = 7 ∨ k = 8 ∨ k = 9 ∨ k = 11 ∨ k = 12 ∨ k = 13 ∨ k = 14 ∨ k = 15 ∨ k = 16 ∨ k = 17 := by
  unfold marr at h
  simp only [Bool.or_eq_true, Bool.and_eq_true, decide_eq_true_eq] at h
  omega
def mps (k : Nat) : Nat := if k ≤ 9 then 16 - k else 17 - k
abbrev rmX3_init : Room := ({ frames := 1, cells := 16, slots := 976, locals := 20 } : Room)
set_option maxHeartbeats 4000000 in
theorem metX3_init (l : Launch) (D : va_G) (K : Nat → Nat) (w : Gh) {q : Nat} (hq : w q = some (.inr (2, [.int 0, .null, .null, .null, .null, .null, .null, .null, .null, .null, .int 0, .null, .null, .null, .null, .null, .null, .null, .int 0, .int 0, .long 0, .long 0, .long 0, .int 0]))) (hbq : K 0 ≤ q) : gMet l yX3_init (ws_ yX3_init cX3_init 2 none) rmX3_init D K [.ref q] w (fun r' w' => r' = none ∧ ∃ ad : Nat → Nat, ad 0 = q ∧ MP D K w' ad mC0 mA0 (fun _ => 0) ∧ (∀ k, marr k = true → w (ad k) = none) ∧ ∀ b y, w b = some y → b ≠ q → w' b = some y) := by
  refine gMet.of (by decide) (Nat.le_of_ble_eq_true rfl) ?_
  intro p e s m args below meth c H locs ls S M hr hlocks hname G hl
  have hx := S.1
  have hb := S.2.1
  have hown := S.2.2.2.1
  have hts := S.2.2.2.2
  have hl : lv_has ls 2 [(0, .ref q)] := hl
  obtain ⟨Q, hQ⟩ : ∃ Q, Q = gE below D K (fun r' w' => r' = none ∧ ∃ ad : Nat → Nat, ad 0 = q ∧ MP D K w' ad mC0 mA0 (fun _ => 0) ∧ (∀ k, marr k = true → w (ad k) = none) ∧ ∀ b y, w b = some y → b ≠ q → w' b = some y) args s rmX3_init.cells rmX3_init.slots := ⟨_, rfl⟩
  rw [← hQ]
  have hkw : ∀ b y, w b = some y → b ≠ q → w b = some y := fun _ _ h _ => h
  have hPw : PN w [q] := ⟨by simp, fun a ha => by rw [List.mem_singleton.mp ha, hq]; exact fun z => nomatch z⟩
  refine lv_aload_n (pc := 0) hx hb dX3_init_0 rfl (lv_at hl 0 rfl) ?_
  refine W.objInit hx hb hown (hts _ q1322) (hts _ q62) (hts _ q63) rfl (by rw [S.2.2.1]; exact hl.1) rfl dX3_init_1 (Nat.le_of_ble_eq_true rfl) (Nat.le_of_ble_eq_true rfl) ?_
  refine W.eq (g2 := F0 m 4 ls []) rfl ?_
  refine lv_aload_n (pc := 4) hx hb dX3_init_4 rfl (lv_at hl 0 rfl) ?_
  refine lv_bipush (pc := 5) (v := 30) hx hb dX3_init_5 (by decide) ?_
  refine g_newi (pc := 7) S M G q208 (n := 30) (N' := 30) (by decide) rfl (by decide) (Nat.le_of_ble_eq_true rfl) (Nat.le_of_ble_eq_true rfl) dX3_init_7 (fun q1_ H hnq1_ hbq1_ heq1_ hsq1_ G => ?_)
  refine W.widen (k := 1) (n := 30) (Nat.le_of_ble_eq_true rfl) (Nat.le_of_ble_eq_true rfl) ?_
  obtain ⟨w2_, hw2_⟩ : ∃ z9, z9 = gu w q1_ (.inl (D.1 100, 30, .inl (fun _ => 0))) := ⟨_, rfl⟩
  replace G : gS D K w2_ s H locs := by rw [hw2_]; exact G
  have c2_q : w2_ q = some (.inr (2, [.int 0, .null, .null, .null, .null, .null, .null, .null, .null, .null, .int 0, .null, .null, .null, .null, .null, .null, .null, .int 0, .int 0, .long 0, .long 0, .long 0, .int 0])) := by rw [hw2_, gu_n (gne_f hq hnq1_)]; exact hq
  have c2_q1_ : w2_ q1_ = some (.inl (D.1 100, 30, .inl (fun _ => 0))) := by rw [hw2_]; exact gu_s
  have hkw2_ : ∀ b y, w b = some y → b ≠ q → w2_ b = some y := fun b y q1 q2 => by rw [hw2_, gu_n (gne_f (hkw b y q1 q2) hnq1_)]; exact hkw b y q1 q2
  have hPw2_ := hPw.new hw2_ hnq1_
  have hzq1_ : w q1_ = none := by
    cases h8 : w q1_ with
    | none => rfl
    | some y =>
      have h9 := hkw _ _ h8 (fun z => by have h7 := hq; rw [← z, hnq1_] at h7; cases h7)
      rw [hnq1_] at h9
      cases h9
  refine g_putF (pc := 9) (v := .ref q1_) S M G (C := RX3) (T := TX3) (N := 24) (ci := 2) in_X3 tyX3 tyX3_ok nmX3 c2_q hbq rfl 1 (by decide) q1324 (Or.inl rfl) rfl hname rfl rfl rfl (Nat.le_of_ble_eq_true rfl) dX3_init_9 (fun H locs G => ?_)
  obtain ⟨w3_, hw3_⟩ : ∃ z9, z9 = gu w2_ q (.inr (2, [.int 0, .ref q1_, .null, .null, .null, .null, .null, .null, .null, .null, .int 0, .null, .null, .null, .null, .null, .null, .null, .int 0, .int 0, .long 0, .long 0, .long 0, .int 0])) := ⟨_, rfl⟩
  replace G : gS D K w3_ s H locs := by rw [hw3_]; exact G
  have c3_q1_ : w3_ q1_ = some (.inl (D.1 100, 30, .inl (fun _ => 0))) := by rw [hw3_, gu_n (Ne.symm (gne_f hq hnq1_))]; exact c2_q1_
  have c3_q : w3_ q = some (.inr (2, [.int 0, .ref q1_, .null, .null, .null, .null, .null, .null, .null, .null, .int 0, .null, .null, .null, .null, .null, .null, .null, .int 0, .int 0, .long 0, .long 0, .long 0, .int 0])) := by rw [hw3_]; exact gu_s
  have hPw3_ := hPw2_.up hw3_
  have hkw3_ : ∀ b y, w b = some y → b ≠ q → w3_ b = some y := fun b y q1 q2 => by rw [hw3_, gu_n q2]; exact hkw2_ b y q1 q2
  refine lv_aload_n (pc := 12) hx hb dX3_init_12 rfl (lv_at hl 0 rfl) ?_
  refine lv_bipush (pc := 13) (v := 30) hx hb dX3_init_13 (by decide) ?_
  refine g_newi (pc := 15) S M G q208 (n := 30) (N' := 30) (by decide) rfl (by decide) (Nat.le_of_ble_eq_true rfl) (Nat.le_of_ble_eq_true rfl) dX3_init_15 (fun q4_ H hnq4_ hbq4_ heq4_ hsq4_ G => ?_)
  refine W.widen (k := 2) (n := 60) (Nat.le_of_ble_eq_true rfl) (Nat.le_of_ble_eq_true rfl) ?_
  obtain ⟨w5_, hw5_⟩ : ∃ z9, z9 = gu w3_ q4_ (.inl (D.1 100, 30, .inl (fun _ => 0))) := ⟨_, rfl⟩
  replace G : gS D K w5_ s H locs := by rw [hw5_]; exact G
  have c5_q : w5_ q = some (.inr (2, [.int 0, .ref q1_, .null, .null, .null, .null, .null, .null, .null, .null, .int 0, .null, .null, .null, .null, .null, .null, .null, .int 0, .int 0, .long 0, .long 0, .long 0, .int 0])) := by rw [hw5_, gu_n (gne_f c3_q hnq4_)]; exact c3_q
  have c5_q1_ : w5_ q1_ = some (.inl (D.1 100, 30, .inl (fun _ => 0))) := by rw [hw5_, gu_n (gne_f c3_q1_ hnq4_)]; exact c3_q1_
  have c5_q4_ : w5_ q4_ = some (.inl (D.1 100, 30, .inl (fun _ => 0))) := by rw [hw5_]; exact gu_s
  have hkw5_ : ∀ b y, w b = some y → b ≠ q → w5_ b = some y := fun b y q1 q2 => by rw [hw5_, gu_n (gne_f (hkw3_ b y q1 q2) hnq4_)]; exact hkw3_ b y q1 q2
  have hPw5_ := hPw3_.new hw5_ hnq4_
  have hzq4_ : w q4_ = none := by
    cases h8 : w q4_ with
    | none => rfl
    | some y =>
      have h9 := hkw3_ _ _ h8 (fun z => by have h7 := c3_q; rw [← z, hnq4_] at h7; cases h7)
      rw [hnq4_] at h9
      cases h9
  refine g_putF (pc := 17) (v := .ref q4_) S M G (C := RX3) (T := TX3) (N := 24) (ci := 2) in_X3 tyX3 tyX3_ok nmX3 c5_q hbq rfl 2 (by decide) q1325 (Or.inl rfl) rfl hname rfl rfl rfl (Nat.le_of_ble_eq_true rfl) dX3_init_17 (fun H locs G => ?_)
  obtain ⟨w6_, hw6_⟩ : ∃ z9, z9 = gu w5_ q (.inr (2, [.int 0, .ref q1_, .ref q4_, .null, .null, .null, .null, .null, .null, .null, .int 0, .null, .null, .null, .null, .null, .null, .null, .int 0, .int 0, .long 0, .long 0, .long 0, .int 0])) := ⟨_, rfl⟩
  replace G : gS D K w6_ s H locs := by rw [hw6_]; exact G
  have c6_q1_ : w6_ q1_ = some (.inl (D.1 100, 30, .inl (fun _ => 0))) := by rw [hw6_, gu_n (Ne.symm (gne_f hq hnq1_))]; exact c5_q1_
  have c6_q4_ : w6_ q4_ = some (.inl (D.1 100, 30, .inl (fun _ => 0))) := by rw [hw6_, gu_n (Ne.symm (gne_f c3_q hnq4_))]; exact c5_q4_
  have c6_q : w6_ q = some (.inr (2, [.int 0, .ref q1_, .ref q4_, .null, .null, .null, .null, .null, .null, .null, .int 0, .null, .null, .null, .null, .null, .null, .null, .int 0, .int 0, .long 0, .long 0, .long 0, .int 0])) := by rw [hw6_]; exact gu_s
  have hPw6_ := hPw5_.up hw6_
  have hkw6_ : ∀ b y, w b = some y → b ≠ q → w6_ b = some y := fun b y q1 q2 => by rw [hw6_, gu_n q2]; exact hkw5_ b y q1 q2
  refine lv_aload_n (pc := 20) hx hb dX3_init_20 rfl (lv_at hl 0 rfl) ?_
  refine lv_bipush (pc := 21) (v := 30) hx hb dX3_init_21 (by decide) ?_
  refine g_newi (pc := 23) S M G q208 (n := 30) (N' := 30) (by decide) rfl (by decide) (Nat.le_of_ble_eq_true rfl) (Nat.le_of_ble_eq_true rfl) dX3_init_23 (fun q7_ H hnq7_ hbq7_ heq7_ hsq7_ G => ?_)
  refine W.widen (k := 3) (n := 90) (Nat.le_of_ble_eq_true rfl) (Nat.le_of_ble_eq_true rfl) ?_
  obtain ⟨w8_, hw8_⟩ : ∃ z9, z9 = gu w6_ q7_ (.inl (D.1 100, 30, .inl (fun _ => 0))) := ⟨_, rfl⟩
  replace G : gS D K w8_ s H locs := by rw [hw8_]; exact G
  have c8_q : w8_ q = some (.inr (2, [.int 0, .ref q1_, .ref q4_, .null, .null, .null, .null, .null, .null, .null, .int 0, .null, .null, .null, .null, .null, .null, .null, .int 0, .int 0, .long 0, .long 0, .long 0, .int 0])) := by rw [hw8_, gu_n (gne_f c6_q hnq7_)]; exact c6_q
  have c8_q1_ : w8_ q1_ = some (.inl (D.1 100, 30, .inl (fun _ => 0))) := by rw [hw8_, gu_n (gne_f c6_q1_ hnq7_)]; exact c6_q1_
  have c8_q4_ : w8_ q4_ = some (.inl (D.1 100, 30, .inl (fun _ => 0))) := by rw [hw8_, gu_n (gne_f c6_q4_ hnq7_)]; exact c6_q4_
  have c8_q7_ : w8_ q7_ = some (.inl (D.1 100, 30, .inl (fun _ => 0))) := by rw [hw8_]; exact gu_s
  have hkw8_ : ∀ b y, w b = some y → b ≠ q → w8_ b = some y := fun b y q1 q2 => by rw [hw8_, gu_n (gne_f (hkw6_ b y q1 q2) hnq7_)]; exact hkw6_ b y q1 q2
  have hPw8_ := hPw6_.new hw8_ hnq7_
  have hzq7_ : w q7_ = none := by
    cases h8 : w q7_ with
    | none => rfl
    | some y =>
      have h9 := hkw6_ _ _ h8 (fun z => by have h7 := c6_q; rw [← z, hnq7_] at h7; cases h7)
      rw [hnq7_] at h9
      cases h9
  refine g_putF (pc := 25) (v := .ref q7_) S M G (C := RX3) (T := TX3) (N := 24) (ci := 2) in_X3 tyX3 tyX3_ok nmX3 c8_q hbq rfl 3 (by decide) q1326 (Or.inl rfl) rfl hname rfl rfl rfl (Nat.le_of_ble_eq_true rfl) dX3_init_25 (fun H locs G => ?_)
  obtain ⟨w9_, hw9_⟩ : ∃ z9, z9 = gu w8_ q (.inr (2, [.int 0, .ref q1_, .ref q4_, .ref q7_, .null, .null, .null, .null, .null, .null, .int 0, .null, .null, .null, .null, .null, .null, .null, .int 0, .int 0, .long 0, .long 0, .long 0, .int 0])) := ⟨_, rfl⟩
  replace G : gS D K w9_ s H locs := by rw [hw9_]; exact G
  have c9_q1_ : w9_ q1_ = some (.inl (D.1 100, 30, .inl (fun _ => 0))) := by rw [hw9_, gu_n (Ne.symm (gne_f hq hnq1_))]; exact c8_q1_
  have c9_q4_ : w9_ q4_ = some (.inl (D.1 100, 30, .inl (fun _ => 0))) := by rw [hw9_, gu_n (Ne.symm (gne_f c3_q hnq4_))]; exact c8_q4_
  have c9_q7_ : w9_ q7_ = some (.inl (D.1 100, 30, .inl (fun _ => 0))) := by rw [hw9_, gu_n (Ne.symm (gne_f c6_q hnq7_))]; exact c8_q7_
  have c9_q : w9_ q = some (.inr (2, [.int 0, .ref q1_, .ref q4_, .ref q7_, .null, .null, .null, .null, .null, .null, .int 0, .null, .null, .null, .null, .null, .null, .null, .int 0, .int 0, .long 0, .long 0, .long 0, .int 0])) := by rw [hw9_]; exact gu_s
  have hPw9_ := hPw8_.up hw9_
  have hkw9_ : ∀ b y, w b = some y → b ≠ q → w9_ b = some y := fun b y q1 q2 => by rw [hw9_, gu_n q2]; exact hkw8_ b y q1 q2
  refine lv_aload_n (pc := 28) hx hb dX3_init_28 rfl (lv_at hl 0 rfl) ?_
  refine lv_bipush (pc := 29) (v := 30) hx hb dX3_init_29 (by decide) ?_
  refine g_newi (pc := 31) S M G q208 (n := 30) (N' := 30) (by decide) rfl (by decide) (Nat.le_of_ble_eq_true rfl) (Nat.le_of_ble_eq_true rfl) dX3_init_31 (fun q10_ H hnq10_ hbq10_ heq10_ hsq10_ G => ?_)
  refine W.widen (k := 4) (n := 120) (Nat.le_of_ble_eq_true rfl) (Nat.le_of_ble_eq_true rfl) ?_
  obtain ⟨w11_, hw11_⟩ : ∃ z9, z9 = gu w9_ q10_ (.inl (D.1 100, 30, .inl (fun _ => 0))) := ⟨_, rfl⟩
  replace G : gS D K w11_ s H locs := by rw [hw11_]; exact G
  have c11_q : w11_ q = some (.inr (2, [.int 0, .ref q1_, .ref q4_, .ref q7_, .null, .null, .null, .null, .null, .null, .int 0, .null, .null, .null, .null, .null, .null, .null, .int 0, .int 0, .long 0, .long 0, .long 0, .int 0])) := by rw [hw11_, gu_n (gne_f c9_q hnq10_)]; exact c9_q
  have c11_q1_ : w11_ q1_ = some (.inl (D.1 100, 30, .inl (fun _ => 0))) := by rw [hw11_, gu_n (gne_f c9_q1_ hnq10_)]; exact c9_q1_
  have c11_q4_ : w11_ q4_ = some (.inl (D.1 100, 30, .inl (fun _ => 0))) := by rw [hw11_, gu_n (gne_f c9_q4_ hnq10_)]; exact c9_q4_
  have c11_q7_ : w11_ q7_ = some (.inl (D.1 100, 30, .inl (fun _ => 0))) := by rw [hw11_, gu_n (gne_f c9_q7_ hnq10_)]; exact c9_q7_
  have c11_q10_ : w11_ q10_ = some (.inl (D.1 100, 30, .inl (fun _ => 0))) := by rw [hw11_]; exact gu_s
  have hkw11_ : ∀ b y, w b = some y → b ≠ q → w11_ b = some y := fun b y q1 q2 => by rw [hw11_, gu_n (gne_f (hkw9_ b y q1 q2) hnq10_)]; exact hkw9_ b y q1 q2
  have hPw11_ := hPw9_.new hw11_ hnq10_
  have hzq10_ : w q10_ = none := by
    cases h8 : w q10_ with
    | none => rfl
    | some y =>
      have h9 := hkw9_ _ _ h8 (fun z => by have h7 := c9_q; rw [← z, hnq10_] at h7; cases h7)
      rw [hnq10_] at h9
      cases h9
  refine g_putF (pc := 33) (v := .ref q10_) S M G (C := RX3) (T := TX3) (N := 24) (ci := 2) in_X3 tyX3 tyX3_ok nmX3 c11_q hbq rfl 4 (by decide) q1327 (Or.inl rfl) rfl hname rfl rfl rfl (Nat.le_of_ble_eq_true rfl) dX3_init_33 (fun H locs G => ?_)
  obtain ⟨w12_, hw12_⟩ : ∃ z9, z9 = gu w11_ q (.inr (2, [.int 0, .ref q1_, .ref q4_, .ref q7_, .ref q10_, .null, .null, .null, .null, .null, .int 0, .null, .null, .null, .null, .null, .null, .null, .int 0, .int 0, .long 0, .long 0, .long 0, .int 0])) := ⟨_, rfl⟩
  replace G : gS D K w12_ s H locs := by rw [hw12_]; exact G
  have c12_q1_ : w12_ q1_ = some (.inl (D.1 100, 30, .inl (fun _ => 0))) := by rw [hw12_, gu_n (Ne.symm (gne_f hq hnq1_))]; exact c11_q1_
  have c12_q4_ : w12_ q4_ = some (.inl (D.1 100, 30, .inl (fun _ => 0))) := by rw [hw12_, gu_n (Ne.symm (gne_f c3_q hnq4_))]; exact c11_q4_
  have c12_q7_ : w12_ q7_ = some (.inl (D.1 100, 30, .inl (fun _ => 0))) := by rw [hw12_, gu_n (Ne.symm (gne_f c6_q hnq7_))]; exact c11_q7_
  have c12_q10_ : w12_ q10_ = some (.inl (D.1 100, 30, .inl (fun _ => 0))) := by rw [hw12_, gu_n (Ne.symm (gne_f c9_q hnq10_))]; exact c11_q10_
  have c12_q : w12_ q = some (.inr (2, [.int 0, .ref q1_, .ref q4_, .ref q7_, .ref q10_, .null, .null, .null, .null, .null, .int 0, .null, .null, .null, .null, .null, .null, .null, .int 0, .int 0, .long 0, .long 0, .long 0, .int 0])) := by rw [hw12_]; exact gu_s
  have hPw12_ := hPw11_.up hw12_
  have hkw12_ : ∀ b y, w b = some y → b ≠ q → w12_ b = some y := fun b y q1 q2 => by rw [hw12_, gu_n q2]; exact hkw11_ b y q1 q2
  refine lv_aload_n (pc := 36) hx hb dX3_init_36 rfl (lv_at hl 0 rfl) ?_
  refine lv_bipush (pc := 37) (v := 30) hx hb dX3_init_37 (by decide) ?_
  refine g_newi (pc := 39) S M G q208 (n := 30) (N' := 30) (by decide) rfl (by decide) (Nat.le_of_ble_eq_true rfl) (Nat.le_of_ble_eq_true rfl) dX3_init_39 (fun q13_ H hnq13_ hbq13_ heq13_ hsq13_ G => ?_)
  refine W.widen (k := 5) (n := 150) (Nat.le_of_ble_eq_true rfl) (Nat.le_of_ble_eq_true rfl) ?_
  obtain ⟨w14_, hw14_⟩ : ∃ z9, z9 = gu w12_ q13_ (.inl (D.1 100, 30, .inl (fun _ => 0))) := ⟨_, rfl⟩
  replace G : gS D K w14_ s H locs := by rw [hw14_]; exact G
  have c14_q : w14_ q = some (.inr (2, [.int 0, .ref q1_, .ref q4_, .ref q7_, .ref q10_, .null, .null, .null, .null, .null, .int 0, .null, .null, .null, .null, .null, .null, .null, .int 0, .int 0, .long 0, .long 0, .long 0, .int 0])) := by rw [hw14_, gu_n (gne_f c12_q hnq13_)]; exact c12_q
  have c14_q1_ : w14_ q1_ = some (.inl (D.1 100, 30, .inl (fun _ => 0))) := by rw [hw14_, gu_n (gne_f c12_q1_ hnq13_)]; exact c12_q1_
  have c14_q4_ : w14_ q4_ = some (.inl (D.1 100, 30, .inl (fun _ => 0))) := by rw [hw14_, gu_n (gne_f c12_q4_ hnq13_)]; exact c12_q4_
  have c14_q7_ : w14_ q7_ = some (.inl (D.1 100, 30, .inl (fun _ => 0))) := by rw [hw14_, gu_n (gne_f c12_q7_ hnq13_)]; exact c12_q7_
  have c14_q10_ : w14_ q10_ = some (.inl (D.1 100, 30, .inl (fun _ => 0))) := by rw [hw14_, gu_n (gne_f c12_q10_ hnq13_)]; exact c12_q10_
  have c14_q13_ : w14_ q13_ = some (.inl (D.1 100, 30, .inl (fun _ => 0))) := by rw [hw14_]; exact gu_s
  have hkw14_ : ∀ b y, w b = some y → b ≠ q → w14_ b = some y := fun b y q1 q2 => by rw [hw14_, gu_n (gne_f (hkw12_ b y q1 q2) hnq13_)]; exact hkw12_ b y q1 q2
  have hPw14_ := hPw12_.new hw14_ hnq13_
  have hzq13_ : w q13_ = none := by
    cases h8 : w q13_ with
    | none => rfl
    | some y =>
      have h9 := hkw12_ _ _ h8 (fun z => by have h7 := c12_q; rw [← z, hnq13_] at h7; cases h7)
      rw [hnq13_] at h9
      cases h9
  refine g_putF (pc := 41) (v := .ref q13_) S M G (C := RX3) (T := TX3) (N := 24) (ci := 2) in_X3 tyX3 tyX3_ok nmX3 c14_q hbq rfl 5 (by decide) q1328 (Or.inl rfl) rfl hname rfl rfl rfl (Nat.le_of_ble_eq_true rfl) dX3_init_41 (fun H locs G => ?_)
  obtain ⟨w15_, hw15_⟩ : ∃ z9, z9 = gu w14_ q (.inr (2, [.int 0, .ref q1_, .ref q4_, .ref q7_, .ref q10_, .ref q13_, .null, .null, .null, .null, .int 0, .null, .null, .null, .null, .null, .null, .null, .int 0, .int 0, .long 0, .long 0, .long 0, .int 0])) := ⟨_, rfl⟩
  replace G : gS D K w15_ s H locs := by rw [hw15_]; exact G
  have c15_q1_ : w15_ q1_ = some (.inl (D.1 100, 30, .inl (fun _ => 0))) := by rw [hw15_, gu_n (Ne.symm (gne_f hq hnq1_))]; exact c14_q1_
  have c15_q4_ : w15_ q4_ = some (.inl (D.1 100, 30, .inl (fun _ => 0))) := by rw [hw15_, gu_n (Ne.symm (gne_f c3_q hnq4_))]; exact c14_q4_
  have c15_q7_ : w15_ q7_ = some (.inl (D.1 100, 30, .inl (fun _ => 0))) := by rw [hw15_, gu_n (Ne.symm (gne_f c6_q hnq7_))]; exact c14_q7_
  have c15_q10_ : w15_ q10_ = some (.inl (D.1 100, 30, .inl (fun _ => 0))) := by rw [hw15_, gu_n (Ne.symm (gne_f c9_q hnq10_))]; exact c14_q10_
  have c15_q13_ : w15_ q13_ = some (.inl (D.1 100, 30, .inl (fun _ => 0))) := by rw [hw15_, gu_n (Ne.symm (gne_f c12_q hnq13_))]; exact c14_q13_
  have c15_q : w15_ q = some (.inr (2, [.int 0, .ref q1_, .ref q4_, .ref q7_, .ref q10_, .ref q13_, .null, .null, .null, .null, .int 0, .null, .null, .null, .null, .null, .null, .null, .int 0, .int 0, .long 0, .long 0, .long 0, .int 0])) := by rw [hw15_]; exact gu_s
  have hPw15_ := hPw14_.up hw15_
  have hkw15_ : ∀ b y, w b = some y → b ≠ q → w15_ b = some y := fun b y q1 q2 => by rw [hw15_, gu_n q2]; exact hkw14_ b y q1 q2
  refine lv_aload_n (pc := 44) hx hb dX3_init_44 rfl (lv_at hl 0 rfl) ?_
  refine lv_bipush (pc := 45) (v := 30) hx hb dX3_init_45 (by decide) ?_
  refine g_newi (pc := 47) S M G q208 (n := 30) (N' := 30) (by decide) rfl (by decide) (Nat.le_of_ble_eq_true rfl) (Nat.le_of_ble_eq_true rfl) dX3_init_47 (fun q16_ H hnq16_ hbq16_ heq16_ hsq16_ G => ?_)
  refine W.widen (k := 6) (n := 180) (Nat.le_of_ble_eq_true rfl) (Nat.le_of_ble_eq_true rfl) ?_
  obtain ⟨w17_, hw17_⟩ : ∃ z9, z9 = gu w15_ q16_ (.inl (D.1 100, 30, .inl (fun _ => 0))) := ⟨_, rfl⟩
  replace G : gS D K w17_ s H locs := by rw [hw17_]; exact G
  have c17_q : w17_ q = some (.inr (2, [.int 0, .ref q1_, .ref q4_, .ref q7_, .ref q10_, .ref q13_, .null, .null, .null, .null, .int 0, .null, .null, .null, .null, .null, .null, .null, .int 0, .int 0, .long 0, .long 0, .long 0, .int 0])) := by rw [hw17_, gu_n (gne_f c15_q hnq16_)]; exact c15_q
  have c17_q1_ : w17_ q1_ = some (.inl (D.1 100, 30, .inl (fun _ => 0))) := by rw [hw17_, gu_n (gne_f c15_q1_ hnq16_)]; exact c15_q1_
  have c17_q4_ : w17_ q4_ = some (.inl (D.1 100, 30, .inl (fun _ => 0))) := by rw [hw17_, gu_n (gne_f c15_q4_ hnq16_)]; exact c15_q4_
  have c17_q7_ : w17_ q7_ = some (.inl (D.1 100, 30, .inl (fun _ => 0))) := by rw [hw17_, gu_n (gne_f c15_q7_ hnq16_)]; exact c15_q7_
  have c17_q10_ : w17_ q10_ = some (.inl (D.1 100, 30, .inl (fun _ => 0))) := by rw [hw17_, gu_n (gne_f c15_q10_ hnq16_)]; exact c15_q10_
  have c17_q13_ : w17_ q13_ = some (.inl (D.1 100, 30, .inl (fun _ => 0))) := by rw [hw17_, gu_n (gne_f c15_q13_ hnq16_)]; exact c15_q13_
  have c17_q16_ : w17_ q16_ = some (.inl (D.1 100, 30, .inl (fun _ => 0))) := by rw [hw17_]; exact gu_s
  have hkw17_ : ∀ b y, w b = some y → b ≠ q → w17_ b = some y := fun b y q1 q2 => by rw [hw17_, gu_n (gne_f (hkw15_ b y q1 q2) hnq16_)]; exact hkw15_ b y q1 q2
  have hPw17_ := hPw15_.new hw17_ hnq16_
  have hzq16_ : w q16_ = none := by
    cases h8 : w q16_ with
    | none => rfl
    | some y =>
      have h9 := hkw15_ _ _ h8 (fun z => by have h7 := c15_q; rw [← z, hnq16_] at h7; cases h7)
      rw [hnq16_] at h9
      cases h9
  refine g_putF (pc := 49) (v := .ref q16_) S M G (C := RX3) (T := TX3) (N := 24) (ci := 2) in_X3 tyX3 tyX3_ok nmX3 c17_q hbq rfl 6 (by decide) q1329 (Or.inl rfl) rfl hname rfl rfl rfl (Nat.le_of_ble_eq_true rfl) dX3_init_49 (fun H locs G => ?_)
  obtain ⟨w18_, hw18_⟩ : ∃ z9, z9 = gu w17_ q (.inr (2, [.int 0, .ref q1_, .ref q4_, .ref q7_, .ref q10_, .ref q13_, .ref q16_, .null, .null, .null, .int 0, .null, .null, .null, .null, .null, .null, .null, .int 0, .int 0, .long 0, .long 0, .long 0, .int 0])) := ⟨_, rfl⟩
  replace G : gS D K w18_ s H locs := by rw [hw18_]; exact G
  have c18_q1_ : w18_ q1_ = some (.inl (D.1 100, 30, .inl (fun _ => 0))) := by rw [hw18_, gu_n (Ne.symm (gne_f hq hnq1_))]; exact c17_q1_
  have c18_q4_ : w18_ q4_ = some (.inl (D.1 100, 30, .inl (fun _ => 0))) := by rw [hw18_, gu_n (Ne.symm (gne_f c3_q hnq4_))]; exact c17_q4_
  have c18_q7_ : w18_ q7_ = some (.inl (D.1 100, 30, .inl (fun _ => 0))) := by rw [hw18_, gu_n (Ne.symm (gne_f c6_q hnq7_))]; exact c17_q7_
  have c18_q10_ : w18_ q10_ = some (.inl (D.1 100, 30, .inl (fun _ => 0))) := by rw [hw18_, gu_n (Ne.symm (gne_f c9_q hnq10_))]; exact c17_q10_
  have c18_q13_ : w18_ q13_ = some (.inl (D.1 100, 30, .inl (fun _ => 0))) := by rw [hw18_, gu_n (Ne.symm (gne_f c12_q hnq13_))]; exact c17_q13_
  have c18_q16_ : w18_ q16_ = some (.inl (D.1 100, 30, .inl (fun _ => 0))) := by rw [hw18_, gu_n (Ne.symm (gne_f c15_q hnq16_))]; exact c17_q16_
  have c18_q : w18_ q = some (.inr (2, [.int 0, .ref q1_, .ref q4_, .ref q7_, .ref q10_, .ref q13_, .ref q16_, .null, .null, .null, .int 0, .null, .null, .null, .null, .null, .null, .null, .int 0, .int 0, .long 0, .long 0, .long 0, .int 0])) := by rw [hw18_]; exact gu_s
  have hPw18_ := hPw17_.up hw18_
  have hkw18_ : ∀ b y, w b = some y → b ≠ q → w18_ b = some y := fun b y q1 q2 => by rw [hw18_, gu_n q2]; exact hkw17_ b y q1 q2
  refine lv_aload_n (pc := 52) hx hb dX3_init_52 rfl (lv_at hl 0 rfl) ?_
  refine lv_bipush (pc := 53) (v := 30) hx hb dX3_init_53 (by decide) ?_
  refine g_newi (pc := 55) S M G q208 (n := 30) (N' := 30) (by decide) rfl (by decide) (Nat.le_of_ble_eq_true rfl) (Nat.le_of_ble_eq_true rfl) dX3_init_55 (fun q19_ H hnq19_ hbq19_ heq19_ hsq19_ G => ?_)
  refine W.widen (k := 7) (n := 210) (Nat.le_of_ble_eq_true rfl) (Nat.le_of_ble_eq_true rfl) ?_
  obtain ⟨w20_, hw20_⟩ : ∃ z9, z9 = gu w18_ q19_ (.inl (D.1 100, 30, .inl (fun _ => 0))) := ⟨_, rfl⟩
  replace G : gS D K w20_ s H locs := by rw [hw20_]; exact G
  have c20_q : w20_ q = some (.inr (2, [.int 0, .ref q1_, .ref q4_, .ref q7_, .ref q10_, .ref q13_, .ref q16_, .null, .null, .null, .int 0, .null, .null, .null, .null, .null, .null, .null, .int 0, .int 0, .long 0, .long 0, .long 0, .int 0])) := by rw [hw20_, gu_n (gne_f c18_q hnq19_)]; exact c18_q
  have c20_q1_ : w20_ q1_ = some (.inl (D.1 100, 30, .inl (fun _ => 0))) := by rw [hw20_, gu_n (gne_f c18_q1_ hnq19_)]; exact c18_q1_
  have c20_q4_ : w20_ q4_ = some (.inl (D.1 100, 30, .inl (fun _ => 0))) := by rw [hw20_, gu_n (gne_f c18_q4_ hnq19_)]; exact c18_q4_
  have c20_q7_ : w20_ q7_ = some (.inl (D.1 100, 30, .inl (fun _ => 0))) := by rw [hw20_, gu_n (gne_f c18_q7_ hnq19_)]; exact c18_q7_
  have c20_q10_ : w20_ q10_ = some (.inl (D.1 100, 30, .inl (fun _ => 0))) := by rw [hw20_, gu_n (gne_f c18_q10_ hnq19_)]; exact c18_q10_
  have c20_q13_ : w20_ q13_ = some (.inl (D.1 100, 30, .inl (fun _ => 0))) := by rw [hw20_, gu_n (gne_f c18_q13_ hnq19_)]; exact c18_q13_
  have c20_q16_ : w20_ q16_ = some (.inl (D.1 100, 30, .inl (fun _ => 0))) := by rw [hw20_, gu_n (gne_f c18_q16_ hnq19_)]; exact c18_q16_
  have c20_q19_ : w20_ q19_ = some (.inl (D.1 100, 30, .inl (fun _ => 0))) := by rw [hw20_]; exact gu_s
  have hkw20_ : ∀ b y, w b = some y → b ≠ q → w20_ b = some y := fun b y q1 q2 => by rw [hw20_, gu_n (gne_f (hkw18_ b y q1 q2) hnq19_)]; exact hkw18_ b y q1 q2
  have hPw20_ := hPw18_.new hw20_ hnq19_
  have hzq19_ : w q19_ = none := by
    cases h8 : w q19_ with
    | none => rfl
    | some y =>
      have h9 := hkw18_ _ _ h8 (fun z => by have h7 := c18_q; rw [← z, hnq19_] at h7; cases h7)
      rw [hnq19_] at h9
      cases h9
  refine g_putF (pc := 57) (v := .ref q19_) S M G (C := RX3) (T := TX3) (N := 24) (ci := 2) in_X3 tyX3 tyX3_ok nmX3 c20_q hbq rfl 7 (by decide) q1330 (Or.inl rfl) rfl hname rfl rfl rfl (Nat.le_of_ble_eq_true rfl) dX3_init_57 (fun H locs G => ?_)
  obtain ⟨w21_, hw21_⟩ : ∃ z9, z9 = gu w20_ q (.inr (2, [.int 0, .ref q1_, .ref q4_, .ref q7_, .ref q10_, .ref q13_, .ref q16_, .ref q19_, .null, .null, .int 0, .null, .null, .null, .null, .null, .null, .null, .int 0, .int 0, .long 0, .long 0, .long 0, .int 0])) := ⟨_, rfl⟩
  replace G : gS D K w21_ s H locs := by rw [hw21_]; exact G
  have c21_q1_ : w21_ q1_ = some (.inl (D.1 100, 30, .inl (fun _ => 0))) := by rw [hw21_, gu_n (Ne.symm (gne_f hq hnq1_))]; exact c20_q1_
  have c21_q4_ : w21_ q4_ = some (.inl (D.1 100, 30, .inl (fun _ => 0))) := by rw [hw21_, gu_n (Ne.symm (gne_f c3_q hnq4_))]; exact c20_q4_
  have c21_q7_ : w21_ q7_ = some (.inl (D.1 100, 30, .inl (fun _ => 0))) := by rw [hw21_, gu_n (Ne.symm (gne_f c6_q hnq7_))]; exact c20_q7_
  have c21_q10_ : w21_ q10_ = some (.inl (D.1 100, 30, .inl (fun _ => 0))) := by rw [hw21_, gu_n (Ne.symm (gne_f c9_q hnq10_))]; exact c20_q10_
  have c21_q13_ : w21_ q13_ = some (.inl (D.1 100, 30, .inl (fun _ => 0))) := by rw [hw21_, gu_n (Ne.symm (gne_f c12_q hnq13_))]; exact c20_q13_
  have c21_q16_ : w21_ q16_ = some (.inl (D.1 100, 30, .inl (fun _ => 0))) := by rw [hw21_, gu_n (Ne.symm (gne_f c15_q hnq16_))]; exact c20_q16_
  have c21_q19_ : w21_ q19_ = some (.inl (D.1 100, 30, .inl (fun _ => 0))) := by rw [hw21_, gu_n (Ne.symm (gne_f c18_q hnq19_))]; exact c20_q19_
  have c21_q : w21_ q = some (.inr (2, [.int 0, .ref q1_, .ref q4_, .ref q7_, .ref q10_, .ref q13_, .ref q16_, .ref q19_, .null, .null, .int 0, .null, .null, .null, .null, .null, .null, .null, .int 0, .int 0, .long 0, .long 0, .long 0, .int 0])) := by rw [hw21_]; exact gu_s
  have hPw21_ := hPw20_.up hw21_
  have hkw21_ : ∀ b y, w b = some y → b ≠ q → w21_ b = some y := fun b y q1 q2 => by rw [hw21_, gu_n q2]; exact hkw20_ b y q1 q2
  refine lv_aload_n (pc := 60) hx hb dX3_init_60 rfl (lv_at hl 0 rfl) ?_
  refine lv_sipush (pc := 61) (v := 300) hx hb dX3_init_61 (by decide) ?_
  refine g_newi (pc := 64) S M G q208 (n := 300) (N' := 300) (by decide) rfl (by decide) (Nat.le_of_ble_eq_true rfl) (Nat.le_of_ble_eq_true rfl) dX3_init_64 (fun q22_ H hnq22_ hbq22_ heq22_ hsq22_ G => ?_)
  refine W.widen (k := 8) (n := 510) (Nat.le_of_ble_eq_true rfl) (Nat.le_of_ble_eq_true rfl) ?_
  obtain ⟨w23_, hw23_⟩ : ∃ z9, z9 = gu w21_ q22_ (.inl (D.1 100, 300, .inl (fun _ => 0))) := ⟨_, rfl⟩
  replace G : gS D K w23_ s H locs := by rw [hw23_]; exact G
  have c23_q : w23_ q = some (.inr (2, [.int 0, .ref q1_, .ref q4_, .ref q7_, .ref q10_, .ref q13_, .ref q16_, .ref q19_, .null, .null, .int 0, .null, .null, .null, .null, .null, .null, .null, .int 0, .int 0, .long 0, .long 0, .long 0, .int 0])) := by rw [hw23_, gu_n (gne_f c21_q hnq22_)]; exact c21_q
  have c23_q1_ : w23_ q1_ = some (.inl (D.1 100, 30, .inl (fun _ => 0))) := by rw [hw23_, gu_n (gne_f c21_q1_ hnq22_)]; exact c21_q1_
  have c23_q4_ : w23_ q4_ = some (.inl (D.1 100, 30, .inl (fun _ => 0))) := by rw [hw23_, gu_n (gne_f c21_q4_ hnq22_)]; exact c21_q4_
  have c23_q7_ : w23_ q7_ = some (.inl (D.1 100, 30, .inl (fun _ => 0))) := by rw [hw23_, gu_n (gne_f c21_q7_ hnq22_)]; exact c21_q7_
  have c23_q10_ : w23_ q10_ = some (.inl (D.1 100, 30, .inl (fun _ => 0))) := by rw [hw23_, gu_n (gne_f c21_q10_ hnq22_)]; exact c21_q10_
  have c23_q13_ : w23_ q13_ = some (.inl (D.1 100, 30, .inl (fun _ => 0))) := by rw [hw23_, gu_n (gne_f c21_q13_ hnq22_)]; exact c21_q13_
  have c23_q16_ : w23_ q16_ = some (.inl (D.1 100, 30, .inl (fun _ => 0))) := by rw [hw23_, gu_n (gne_f c21_q16_ hnq22_)]; exact c21_q16_
  have c23_q19_ : w23_ q19_ = some (.inl (D.1 100, 30, .inl (fun _ => 0))) := by rw [hw23_, gu_n (gne_f c21_q19_ hnq22_)]; exact c21_q19_
  have c23_q22_ : w23_ q22_ = some (.inl (D.1 100, 300, .inl (fun _ => 0))) := by rw [hw23_]; exact gu_s
  have hkw23_ : ∀ b y, w b = some y → b ≠ q → w23_ b = some y := fun b y q1 q2 => by rw [hw23_, gu_n (gne_f (hkw21_ b y q1 q2) hnq22_)]; exact hkw21_ b y q1 q2
  have hPw23_ := hPw21_.new hw23_ hnq22_
  have hzq22_ : w q22_ = none := by
    cases h8 : w q22_ with
    | none => rfl
    | some y =>
      have h9 := hkw21_ _ _ h8 (fun z => by have h7 := c21_q; rw [← z, hnq22_] at h7; cases h7)
      rw [hnq22_] at h9
      cases h9
  refine g_putF (pc := 66) (v := .ref q22_) S M G (C := RX3) (T := TX3) (N := 24) (ci := 2) in_X3 tyX3 tyX3_ok nmX3 c23_q hbq rfl 8 (by decide) q1331 (Or.inl rfl) rfl hname rfl rfl rfl (Nat.le_of_ble_eq_true rfl) dX3_init_66 (fun H locs G => ?_)
  obtain ⟨w24_, hw24_⟩ : ∃ z9, z9 = gu w23_ q (.inr (2, [.int 0, .ref q1_, .ref q4_, .ref q7_, .ref q10_, .ref q13_, .ref q16_, .ref q19_, .ref q22_, .null, .int 0, .null, .null, .null, .null, .null, .null, .null, .int 0, .int 0, .long 0, .long 0, .long 0, .int 0])) := ⟨_, rfl⟩
  replace G : gS D K w24_ s H locs := by rw [hw24_]; exact G
  have c24_q1_ : w24_ q1_ = some (.inl (D.1 100, 30, .inl (fun _ => 0))) := by rw [hw24_, gu_n (Ne.symm (gne_f hq hnq1_))]; exact c23_q1_
  have c24_q4_ : w24_ q4_ = some (.inl (D.1 100, 30, .inl (fun _ => 0))) := by rw [hw24_, gu_n (Ne.symm (gne_f c3_q hnq4_))]; exact c23_q4_
  have c24_q7_ : w24_ q7_ = some (.inl (D.1 100, 30, .inl (fun _ => 0))) := by rw [hw24_, gu_n (Ne.symm (gne_f c6_q hnq7_))]; exact c23_q7_
  have c24_q10_ : w24_ q10_ = some (.inl (D.1 100, 30, .inl (fun _ => 0))) := by rw [hw24_, gu_n (Ne.symm (gne_f c9_q hnq10_))]; exact c23_q10_
  have c24_q13_ : w24_ q13_ = some (.inl (D.1 100, 30, .inl (fun _ => 0))) := by rw [hw24_, gu_n (Ne.symm (gne_f c12_q hnq13_))]; exact c23_q13_
  have c24_q16_ : w24_ q16_ = some (.inl (D.1 100, 30, .inl (fun _ => 0))) := by rw [hw24_, gu_n (Ne.symm (gne_f c15_q hnq16_))]; exact c23_q16_
  have c24_q19_ : w24_ q19_ = some (.inl (D.1 100, 30, .inl (fun _ => 0))) := by rw [hw24_, gu_n (Ne.symm (gne_f c18_q hnq19_))]; exact c23_q19_
  have c24_q22_ : w24_ q22_ = some (.inl (D.1 100, 300, .inl (fun _ => 0))) := by rw [hw24_, gu_n (Ne.symm (gne_f c21_q hnq22_))]; exact c23_q22_
  have c24_q : w24_ q = some (.inr (2, [.int 0, .ref q1_, .ref q4_, .ref q7_, .ref q10_, .ref q13_, .ref q16_, .ref q19_, .ref q22_, .null, .int 0, .null, .null, .null, .null, .null, .null, .null, .int 0, .int 0, .long 0, .long 0, .long 0, .int 0])) := by rw [hw24_]; exact gu_s
  have hPw24_ := hPw23_.up hw24_
  have hkw24_ : ∀ b y, w b = some y → b ≠ q → w24_ b = some y := fun b y q1 q2 => by rw [hw24_, gu_n q2]; exact hkw23_ b y q1 q2
  refine lv_aload_n (pc := 69) hx hb dX3_init_69 rfl (lv_at hl 0 rfl) ?_
  refine lv_sipush (pc := 70) (v := 300) hx hb dX3_init_70 (by decide) ?_
  refine g_newi (pc := 73) S M G q208 (n := 300) (N' := 300) (by decide) rfl (by decide) (Nat.le_of_ble_eq_true rfl) (Nat.le_of_ble_eq_true rfl) dX3_init_73 (fun q25_ H hnq25_ hbq25_ heq25_ hsq25_ G => ?_)
  refine W.widen (k := 9) (n := 810) (Nat.le_of_ble_eq_true rfl) (Nat.le_of_ble_eq_true rfl) ?_
  obtain ⟨w26_, hw26_⟩ : ∃ z9, z9 = gu w24_ q25_ (.inl (D.1 100, 300, .inl (fun _ => 0))) := ⟨_, rfl⟩
  replace G : gS D K w26_ s H locs := by rw [hw26_]; exact G
  have c26_q : w26_ q = some (.inr (2, [.int 0, .ref q1_, .ref q4_, .ref q7_, .ref q10_, .ref q13_, .ref q16_, .ref q19_, .ref q22_, .null, .int 0, .null, .null, .null, .null, .null, .null, .null, .int 0, .int 0, .long 0, .long 0, .long 0, .int 0])) := by rw [hw26_, gu_n (gne_f c24_q hnq25_)]; exact c24_q
  have c26_q1_ : w26_ q1_ = some (.inl (D.1 100, 30, .inl (fun _ => 0))) := by rw [hw26_, gu_n (gne_f c24_q1_ hnq25_)]; exact c24_q1_
  have c26_q4_ : w26_ q4_ = some (.inl (D.1 100, 30, .inl (fun _ => 0))) := by rw [hw26_, gu_n (gne_f c24_q4_ hnq25_)]; exact c24_q4_
  have c26_q7_ : w26_ q7_ = some (.inl (D.1 100, 30, .inl (fun _ => 0))) := by rw [hw26_, gu_n (gne_f c24_q7_ hnq25_)]; exact c24_q7_
  have c26_q10_ : w26_ q10_ = some (.inl (D.1 100, 30, .inl (fun _ => 0))) := by rw [hw26_, gu_n (gne_f c24_q10_ hnq25_)]; exact c24_q10_
  have c26_q13_ : w26_ q13_ = some (.inl (D.1 100, 30, .inl (fun _ => 0))) := by rw [hw26_, gu_n (gne_f c24_q13_ hnq25_)]; exact c24_q13_
  have c26_q16_ : w26_ q16_ = some (.inl (D.1 100, 30, .inl (fun _ => 0))) := by rw [hw26_, gu_n (gne_f c24_q16_ hnq25_)]; exact c24_q16_
  have c26_q19_ : w26_ q19_ = some (.inl (D.1 100, 30, .inl (fun _ => 0))) := by rw [hw26_, gu_n (gne_f c24_q19_ hnq25_)]; exact c24_q19_
  have c26_q22_ : w26_ q22_ = some (.inl (D.1 100, 300, .inl (fun _ => 0))) := by rw [hw26_, gu_n (gne_f c24_q22_ hnq25_)]; exact c24_q22_
  have c26_q25_ : w26_ q25_ = some (.inl (D.1 100, 300, .inl (fun _ => 0))) := by rw [hw26_]; exact gu_s
  have hkw26_ : ∀ b y, w b = some y → b ≠ q → w26_ b = some y := fun b y q1 q2 => by rw [hw26_, gu_n (gne_f (hkw24_ b y q1 q2) hnq25_)]; exact hkw24_ b y q1 q2
  have hPw26_ := hPw24_.new hw26_ hnq25_
  have hzq25_ : w q25_ = none := by
    cases h8 : w q25_ with
    | none => rfl
    | some y =>
      have h9 := hkw24_ _ _ h8 (fun z => by have h7 := c24_q; rw [← z, hnq25_] at h7; cases h7)
      rw [hnq25_] at h9
      cases h9
  refine g_putF (pc := 75) (v := .ref q25_) S M G (C := RX3) (T := TX3) (N := 24) (ci := 2) in_X3 tyX3 tyX3_ok nmX3 c26_q hbq rfl 9 (by decide) q1332 (Or.inl rfl) rfl hname rfl rfl rfl (Nat.le_of_ble_eq_true rfl) dX3_init_75 (fun H locs G => ?_)
  obtain ⟨w27_, hw27_⟩ : ∃ z9, z9 = gu w26_ q (.inr (2, [.int 0, .ref q1_, .ref q4_, .ref q7_, .ref q10_, .ref q13_, .ref q16_, .ref q19_, .ref q22_, .ref q25_, .int 0, .null, .null, .null, .null, .null, .null, .null, .int 0, .int 0, .long 0, .long 0, .long 0, .int 0])) := ⟨_, rfl⟩
  replace G : gS D K w27_ s H locs := by rw [hw27_]; exact G
  have c27_q1_ : w27_ q1_ = some (.inl (D.1 100, 30, .inl (fun _ => 0))) := by rw [hw27_, gu_n (Ne.symm (gne_f hq hnq1_))]; exact c26_q1_
  have c27_q4_ : w27_ q4_ = some (.inl (D.1 100, 30, .inl (fun _ => 0))) := by rw [hw27_, gu_n (Ne.symm (gne_f c3_q hnq4_))]; exact c26_q4_
  have c27_q7_ : w27_ q7_ = some (.inl (D.1 100, 30, .inl (fun _ => 0))) := by rw [hw27_, gu_n (Ne.symm (gne_f c6_q hnq7_))]; exact c26_q7_
  have c27_q10_ : w27_ q10_ = some (.inl (D.1 100, 30, .inl (fun _ => 0))) := by rw [hw27_, gu_n (Ne.symm (gne_f c9_q hnq10_))]; exact c26_q10_
  have c27_q13_ : w27_ q13_ = some (.inl (D.1 100, 30, .inl (fun _ => 0))) := by rw [hw27_, gu_n (Ne.symm (gne_f c12_q hnq13_))]; exact c26_q13_
  have c27_q16_ : w27_ q16_ = some (.inl (D.1 100, 30, .inl (fun _ => 0))) := by rw [hw27_, gu_n (Ne.symm (gne_f c15_q hnq16_))]; exact c26_q16_
  have c27_q19_ : w27_ q19_ = some (.inl (D.1 100, 30, .inl (fun _ => 0))) := by rw [hw27_, gu_n (Ne.symm (gne_f c18_q hnq19_))]; exact c26_q19_
  have c27_q22_ : w27_ q22_ = some (.inl (D.1 100, 300, .inl (fun _ => 0))) := by rw [hw27_, gu_n (Ne.symm (gne_f c21_q hnq22_))]; exact c26_q22_
  have c27_q25_ : w27_ q25_ = some (.inl (D.1 100, 300, .inl (fun _ => 0))) := by rw [hw27_, gu_n (Ne.symm (gne_f c24_q hnq25_))]; exact c26_q25_
  have c27_q : w27_ q = some (.inr (2, [.int 0, .ref q1_, .ref q4_, .ref q7_, .ref q10_, .ref q13_, .ref q16_, .ref q19_, .ref q22_, .ref q25_, .int 0, .null, .null, .null, .null, .null, .null, .null, .int 0, .int 0, .long 0, .long 0, .long 0, .int 0])) := by rw [hw27_]; exact gu_s
  have hPw27_ := hPw26_.up hw27_
  have hkw27_ : ∀ b y, w b = some y → b ≠ q → w27_ b = some y := fun b y q1 q2 => by rw [hw27_, gu_n q2]; exact hkw26_ b y q1 q2
  refine lv_aload_n (pc := 78) hx hb dX3_init_78 rfl (lv_at hl 0 rfl) ?_
  refine lv_bipush (pc := 79) (v := 30) hx hb dX3_init_79 (by decide) ?_
  refine g_newi (pc := 81) S M G q208 (n := 30) (N' := 30) (by decide) rfl (by decide) (Nat.le_of_ble_eq_true rfl) (Nat.le_of_ble_eq_true rfl) dX3_init_81 (fun q28_ H hnq28_ hbq28_ heq28_ hsq28_ G => ?_)
  refine W.widen (k := 10) (n := 840) (Nat.le_of_ble_eq_true rfl) (Nat.le_of_ble_eq_true rfl) ?_
  obtain ⟨w29_, hw29_⟩ : ∃ z9, z9 = gu w27_ q28_ (.inl (D.1 100, 30, .inl (fun _ => 0))) := ⟨_, rfl⟩
  replace G : gS D K w29_ s H locs := by rw [hw29_]; exact G
  have c29_q : w29_ q = some (.inr (2, [.int 0, .ref q1_, .ref q4_, .ref q7_, .ref q10_, .ref q13_, .ref q16_, .ref q19_, .ref q22_, .ref q25_, .int 0, .null, .null, .null, .null, .null, .null, .null, .int 0, .int 0, .long 0, .long 0, .long 0, .int 0])) := by rw [hw29_, gu_n (gne_f c27_q hnq28_)]; exact c27_q
  have c29_q1_ : w29_ q1_ = some (.inl (D.1 100, 30, .inl (fun _ => 0))) := by rw [hw29_, gu_n (gne_f c27_q1_ hnq28_)]; exact c27_q1_
  have c29_q4_ : w29_ q4_ = some (.inl (D.1 100, 30, .inl (fun _ => 0))) := by rw [hw29_, gu_n (gne_f c27_q4_ hnq28_)]; exact c27_q4_
  have c29_q7_ : w29_ q7_ = some (.inl (D.1 100, 30, .inl (fun _ => 0))) := by rw [hw29_, gu_n (gne_f c27_q7_ hnq28_)]; exact c27_q7_
  have c29_q10_ : w29_ q10_ = some (.inl (D.1 100, 30, .inl (fun _ => 0))) := by rw [hw29_, gu_n (gne_f c27_q10_ hnq28_)]; exact c27_q10_
  have c29_q13_ : w29_ q13_ = some (.inl (D.1 100, 30, .inl (fun _ => 0))) := by rw [hw29_, gu_n (gne_f c27_q13_ hnq28_)]; exact c27_q13_
  have c29_q16_ : w29_ q16_ = some (.inl (D.1 100, 30, .inl (fun _ => 0))) := by rw [hw29_, gu_n (gne_f c27_q16_ hnq28_)]; exact c27_q16_
  have c29_q19_ : w29_ q19_ = some (.inl (D.1 100, 30, .inl (fun _ => 0))) := by rw [hw29_, gu_n (gne_f c27_q19_ hnq28_)]; exact c27_q19_
  have c29_q22_ : w29_ q22_ = some (.inl (D.1 100, 300, .inl (fun _ => 0))) := by rw [hw29_, gu_n (gne_f c27_q22_ hnq28_)]; exact c27_q22_
  have c29_q25_ : w29_ q25_ = some (.inl (D.1 100, 300, .inl (fun _ => 0))) := by rw [hw29_, gu_n (gne_f c27_q25_ hnq28_)]; exact c27_q25_
  have c29_q28_ : w29_ q28_ = some (.inl (D.1 100, 30, .inl (fun _ => 0))) := by rw [hw29_]; exact gu_s
  have hkw29_ : ∀ b y, w b = some y → b ≠ q → w29_ b = some y := fun b y q1 q2 => by rw [hw29_, gu_n (gne_f (hkw27_ b y q1 q2) hnq28_)]; exact hkw27_ b y q1 q2
  have hPw29_ := hPw27_.new hw29_ hnq28_
  have hzq28_ : w q28_ = none := by
    cases h8 : w q28_ with
    | none => rfl
    | some y =>
      have h9 := hkw27_ _ _ h8 (fun z => by have h7 := c27_q; rw [← z, hnq28_] at h7; cases h7)
      rw [hnq28_] at h9
      cases h9
  refine g_putF (pc := 83) (v := .ref q28_) S M G (C := RX3) (T := TX3) (N := 24) (ci := 2) in_X3 tyX3 tyX3_ok nmX3 c29_q hbq rfl 11 (by decide) q1334 (Or.inl rfl) rfl hname rfl rfl rfl (Nat.le_of_ble_eq_true rfl) dX3_init_83 (fun H locs G => ?_)
  obtain ⟨w30_, hw30_⟩ : ∃ z9, z9 = gu w29_ q (.inr (2, [.int 0, .ref q1_, .ref q4_, .ref q7_, .ref q10_, .ref q13_, .ref q16_, .ref q19_, .ref q22_, .ref q25_, .int 0, .ref q28_, .null, .null, .null, .null, .null, .null, .int 0, .int 0, .long 0, .long 0, .long 0, .int 0])) := ⟨_, rfl⟩
  replace G : gS D K w30_ s H locs := by rw [hw30_]; exact G
  have c30_q1_ : w30_ q1_ = some (.inl (D.1 100, 30, .inl (fun _ => 0))) := by rw [hw30_, gu_n (Ne.symm (gne_f hq hnq1_))]; exact c29_q1_
  have c30_q4_ : w30_ q4_ = some (.inl (D.1 100, 30, .inl (fun _ => 0))) := by rw [hw30_, gu_n (Ne.symm (gne_f c3_q hnq4_))]; exact c29_q4_
  have c30_q7_ : w30_ q7_ = some (.inl (D.1 100, 30, .inl (fun _ => 0))) := by rw [hw30_, gu_n (Ne.symm (gne_f c6_q hnq7_))]; exact c29_q7_
  have c30_q10_ : w30_ q10_ = some (.inl (D.1 100, 30, .inl (fun _ => 0))) := by rw [hw30_, gu_n (Ne.symm (gne_f c9_q hnq10_))]; exact c29_q10_
  have c30_q13_ : w30_ q13_ = some (.inl (D.1 100, 30, .inl (fun _ => 0))) := by rw [hw30_, gu_n (Ne.symm (gne_f c12_q hnq13_))]; exact c29_q13_
  have c30_q16_ : w30_ q16_ = some (.inl (D.1 100, 30, .inl (fun _ => 0))) := by rw [hw30_, gu_n (Ne.symm (gne_f c15_q hnq16_))]; exact c29_q16_
  have c30_q19_ : w30_ q19_ = some (.inl (D.1 100, 30, .inl (fun _ => 0))) := by rw [hw30_, gu_n (Ne.symm (gne_f c18_q hnq19_))]; exact c29_q19_
  have c30_q22_ : w30_ q22_ = some (.inl (D.1 100, 300, .inl (fun _ => 0))) := by rw [hw30_, gu_n (Ne.symm (gne_f c21_q hnq22_))]; exact c29_q22_
  have c30_q25_ : w30_ q25_ = some (.inl (D.1 100, 300, .inl (fun _ => 0))) := by rw [hw30_, gu_n (Ne.symm (gne_f c24_q hnq25_))]; exact c29_q25_
  have c30_q28_ : w30_ q28_ = some (.inl (D.1 100, 30, .inl (fun _ => 0))) := by rw [hw30_, gu_n (Ne.symm (gne_f c27_q hnq28_))]; exact c29_q28_
  have c30_q : w30_ q = some (.inr (2, [.int 0, .ref q1_, .ref q4_, .ref q7_, .ref q10_, .ref q13_, .ref q16_, .ref q19_, .ref q22_, .ref q25_, .int 0, .ref q28_, .null, .null, .null, .null, .null, .null, .int 0, .int 0, .long 0, .long 0, .long 0, .int 0])) := by rw [hw30_]; exact gu_s
  have hPw30_ := hPw29_.up hw30_
  have hkw30_ : ∀ b y, w b = some y → b ≠ q → w30_ b = some y := fun b y q1 q2 => by rw [hw30_, gu_n q2]; exact hkw29_ b y q1 q2
  refine lv_aload_n (pc := 86) hx hb dX3_init_86 rfl (lv_at hl 0 rfl) ?_
  refine lv_bipush (pc := 87) (v := 30) hx hb dX3_init_87 (by decide) ?_
  refine g_newi (pc := 89) S M G q208 (n := 30) (N' := 30) (by decide) rfl (by decide) (Nat.le_of_ble_eq_true rfl) (Nat.le_of_ble_eq_true rfl) dX3_init_89 (fun q31_ H hnq31_ hbq31_ heq31_ hsq31_ G => ?_)
  refine W.widen (k := 11) (n := 870) (Nat.le_of_ble_eq_true rfl) (Nat.le_of_ble_eq_true rfl) ?_
  obtain ⟨w32_, hw32_⟩ : ∃ z9, z9 = gu w30_ q31_ (.inl (D.1 100, 30, .inl (fun _ => 0))) := ⟨_, rfl⟩
  replace G : gS D K w32_ s H locs := by rw [hw32_]; exact G
  have c32_q : w32_ q = some (.inr (2, [.int 0, .ref q1_, .ref q4_, .ref q7_, .ref q10_, .ref q13_, .ref q16_, .ref q19_, .ref q22_, .ref q25_, .int 0, .ref q28_, .null, .null, .null, .null, .null, .null, .int 0, .int 0, .long 0, .long 0, .long 0, .int 0])) := by rw [hw32_, gu_n (gne_f c30_q hnq31_)]; exact c30_q
  have c32_q1_ : w32_ q1_ = some (.inl (D.1 100, 30, .inl (fun _ => 0))) := by rw [hw32_, gu_n (gne_f c30_q1_ hnq31_)]; exact c30_q1_
  have c32_q4_ : w32_ q4_ = some (.inl (D.1 100, 30, .inl (fun _ => 0))) := by rw [hw32_, gu_n (gne_f c30_q4_ hnq31_)]; exact c30_q4_
  have c32_q7_ : w32_ q7_ = some (.inl (D.1 100, 30, .inl (fun _ => 0))) := by rw [hw32_, gu_n (gne_f c30_q7_ hnq31_)]; exact c30_q7_
  have c32_q10_ : w32_ q10_ = some (.inl (D.1 100, 30, .inl (fun _ => 0))) := by rw [hw32_, gu_n (gne_f c30_q10_ hnq31_)]; exact c30_q10_
  have c32_q13_ : w32_ q13_ = some (.inl (D.1 100, 30, .inl (fun _ => 0))) := by rw [hw32_, gu_n (gne_f c30_q13_ hnq31_)]; exact c30_q13_
  have c32_q16_ : w32_ q16_ = some (.inl (D.1 100, 30, .inl (fun _ => 0))) := by rw [hw32_, gu_n (gne_f c30_q16_ hnq31_)]; exact c30_q16_
  have c32_q19_ : w32_ q19_ = some (.inl (D.1 100, 30, .inl (fun _ => 0))) := by rw [hw32_, gu_n (gne_f c30_q19_ hnq31_)]; exact c30_q19_
  have c32_q22_ : w32_ q22_ = some (.inl (D.1 100, 300, .inl (fun _ => 0))) := by rw [hw32_, gu_n (gne_f c30_q22_ hnq31_)]; exact c30_q22_
  have c32_q25_ : w32_ q25_ = some (.inl (D.1 100, 300, .inl (fun _ => 0))) := by rw [hw32_, gu_n (gne_f c30_q25_ hnq31_)]; exact c30_q25_
  have c32_q28_ : w32_ q28_ = some (.inl (D.1 100, 30, .inl (fun _ => 0))) := by rw [hw32_, gu_n (gne_f c30_q28_ hnq31_)]; exact c30_q28_
  have c32_q31_ : w32_ q31_ = some (.inl (D.1 100, 30, .inl (fun _ => 0))) := by rw [hw32_]; exact gu_s
  have hkw32_ : ∀ b y, w b = some y → b ≠ q → w32_ b = some y := fun b y q1 q2 => by rw [hw32_, gu_n (gne_f (hkw30_ b y q1 q2) hnq31_)]; exact hkw30_ b y q1 q2
  have hPw32_ := hPw30_.new hw32_ hnq31_
  have hzq31_ : w q31_ = none := by
    cases h8 : w q31_ with
    | none => rfl
    | some y =>
      have h9 := hkw30_ _ _ h8 (fun z => by have h7 := c30_q; rw [← z, hnq31_] at h7; cases h7)
      rw [hnq31_] at h9
      cases h9
  refine g_putF (pc := 91) (v := .ref q31_) S M G (C := RX3) (T := TX3) (N := 24) (ci := 2) in_X3 tyX3 tyX3_ok nmX3 c32_q hbq rfl 12 (by decide) q1335 (Or.inl rfl) rfl hname rfl rfl rfl (Nat.le_of_ble_eq_true rfl) dX3_init_91 (fun H locs G => ?_)
  obtain ⟨w33_, hw33_⟩ : ∃ z9, z9 = gu w32_ q (.inr (2, [.int 0, .ref q1_, .ref q4_, .ref q7_, .ref q10_, .ref q13_, .ref q16_, .ref q19_, .ref q22_, .ref q25_, .int 0, .ref q28_, .ref q31_, .null, .null, .null, .null, .null, .int 0, .int 0, .long 0, .long 0, .long 0, .int 0])) := ⟨_, rfl⟩
  replace G : gS D K w33_ s H locs := by rw [hw33_]; exact G
  have c33_q1_ : w33_ q1_ = some (.inl (D.1 100, 30, .inl (fun _ => 0))) := by rw [hw33_, gu_n (Ne.symm (gne_f hq hnq1_))]; exact c32_q1_
  have c33_q4_ : w33_ q4_ = some (.inl (D.1 100, 30, .inl (fun _ => 0))) := by rw [hw33_, gu_n (Ne.symm (gne_f c3_q hnq4_))]; exact c32_q4_
  have c33_q7_ : w33_ q7_ = some (.inl (D.1 100, 30, .inl (fun _ => 0))) := by rw [hw33_, gu_n (Ne.symm (gne_f c6_q hnq7_))]; exact c32_q7_
  have c33_q10_ : w33_ q10_ = some (.inl (D.1 100, 30, .inl (fun _ => 0))) := by rw [hw33_, gu_n (Ne.symm (gne_f c9_q hnq10_))]; exact c32_q10_
  have c33_q13_ : w33_ q13_ = some (.inl (D.1 100, 30, .inl (fun _ => 0))) := by rw [hw33_, gu_n (Ne.symm (gne_f c12_q hnq13_))]; exact c32_q13_
  have c33_q16_ : w33_ q16_ = some (.inl (D.1 100, 30, .inl (fun _ => 0))) := by rw [hw33_, gu_n (Ne.symm (gne_f c15_q hnq16_))]; exact c32_q16_
  have c33_q19_ : w33_ q19_ = some (.inl (D.1 100, 30, .inl (fun _ => 0))) := by rw [hw33_, gu_n (Ne.symm (gne_f c18_q hnq19_))]; exact c32_q19_
  have c33_q22_ : w33_ q22_ = some (.inl (D.1 100, 300, .inl (fun _ => 0))) := by rw [hw33_, gu_n (Ne.symm (gne_f c21_q hnq22_))]; exact c32_q22_
  have c33_q25_ : w33_ q25_ = some (.inl (D.1 100, 300, .inl (fun _ => 0))) := by rw [hw33_, gu_n (Ne.symm (gne_f c24_q hnq25_))]; exact c32_q25_
  have c33_q28_ : w33_ q28_ = some (.inl (D.1 100, 30, .inl (fun _ => 0))) := by rw [hw33_, gu_n (Ne.symm (gne_f c27_q hnq28_))]; exact c32_q28_
  have c33_q31_ : w33_ q31_ = some (.inl (D.1 100, 30, .inl (fun _ => 0))) := by rw [hw33_, gu_n (Ne.symm (gne_f c30_q hnq31_))]; exact c32_q31_
  have c33_q : w33_ q = some (.inr (2, [.int 0, .ref q1_, .ref q4_, .ref q7_, .ref q10_, .ref q13_, .ref q16_, .ref q19_, .ref q22_, .ref q25_, .int 0, .ref q28_, .ref q31_, .null, .null, .null, .null, .null, .int 0, .int 0, .long 0, .long 0, .long 0, .int 0])) := by rw [hw33_]; exact gu_s
  have hPw33_ := hPw32_.up hw33_
  have hkw33_ : ∀ b y, w b = some y → b ≠ q → w33_ b = some y := fun b y q1 q2 => by rw [hw33_, gu_n q2]; exact hkw32_ b y q1 q2
  refine lv_aload_n (pc := 94) hx hb dX3_init_94 rfl (lv_at hl 0 rfl) ?_
  refine lv_bipush (pc := 95) (v := 30) hx hb dX3_init_95 (by decide) ?_
  refine g_newi (pc := 97) S M G q208 (n := 30) (N' := 30) (by decide) rfl (by decide) (Nat.le_of_ble_eq_true rfl) (Nat.le_of_ble_eq_true rfl) dX3_init_97 (fun q34_ H hnq34_ hbq34_ heq34_ hsq34_ G => ?_)
  refine W.widen (k := 12) (n := 900) (Nat.le_of_ble_eq_true rfl) (Nat.le_of_ble_eq_true rfl) ?_
  obtain ⟨w35_, hw35_⟩ : ∃ z9, z9 = gu w33_ q34_ (.inl (D.1 100, 30, .inl (fun _ => 0))) := ⟨_, rfl⟩
  replace G : gS D K w35_ s H locs := by rw [hw35_]; exact G
  have c35_q : w35_ q = some (.inr (2, [.int 0, .ref q1_, .ref q4_, .ref q7_, .ref q10_, .ref q13_, .ref q16_, .ref q19_, .ref q22_, .ref q25_, .int 0, .ref q28_, .ref q31_, .null, .null, .null, .null, .null, .int 0, .int 0, .long 0, .long 0, .long 0, .int 0])) := by rw [hw35_, gu_n (gne_f c33_q hnq34_)]; exact c33_q
  have c35_q1_ : w35_ q1_ = some (.inl (D.1 100, 30, .inl (fun _ => 0))) := by rw [hw35_, gu_n (gne_f c33_q1_ hnq34_)]; exact c33_q1_
  have c35_q4_ : w35_ q4_ = some (.inl (D.1 100, 30, .inl (fun _ => 0))) := by rw [hw35_, gu_n (gne_f c33_q4_ hnq34_)]; exact c33_q4_
  have c35_q7_ : w35_ q7_ = some (.inl (D.1 100, 30, .inl (fun _ => 0))) := by rw [hw35_, gu_n (gne_f c33_q7_ hnq34_)]; exact c33_q7_
  have c35_q10_ : w35_ q10_ = some (.inl (D.1 100, 30, .inl (fun _ => 0))) := by rw [hw35_, gu_n (gne_f c33_q10_ hnq34_)]; exact c33_q10_
  have c35_q13_ : w35_ q13_ = some (.inl (D.1 100, 30, .inl (fun _ => 0))) := by rw [hw35_, gu_n (gne_f c33_q13_ hnq34_)]; exact c33_q13_
  have c35_q16_ : w35_ q16_ = some (.inl (D.1 100, 30, .inl (fun _ => 0))) := by rw [hw35_, gu_n (gne_f c33_q16_ hnq34_)]; exact c33_q16_
  have c35_q19_ : w35_ q19_ = some (.inl (D.1 100, 30, .inl (fun _ => 0))) := by rw [hw35_, gu_n (gne_f c33_q19_ hnq34_)]; exact c33_q19_
  have c35_q22_ : w35_ q22_ = some (.inl (D.1 100, 300, .inl (fun _ => 0))) := by rw [hw35_, gu_n (gne_f c33_q22_ hnq34_)]; exact c33_q22_
  have c35_q25_ : w35_ q25_ = some (.inl (D.1 100, 300, .inl (fun _ => 0))) := by rw [hw35_, gu_n (gne_f c33_q25_ hnq34_)]; exact c33_q25_
  have c35_q28_ : w35_ q28_ = some (.inl (D.1 100, 30, .inl (fun _ => 0))) := by rw [hw35_, gu_n (gne_f c33_q28_ hnq34_)]; exact c33_q28_
  have c35_q31_ : w35_ q31_ = some (.inl (D.1 100, 30, .inl (fun _ => 0))) := by rw [hw35_, gu_n (gne_f c33_q31_ hnq34_)]; exact c33_q31_
  have c35_q34_ : w35_ q34_ = some (.inl (D.1 100, 30, .inl (fun _ => 0))) := by rw [hw35_]; exact gu_s
  have hkw35_ : ∀ b y, w b = some y → b ≠ q → w35_ b = some y := fun b y q1 q2 => by rw [hw35_, gu_n (gne_f (hkw33_ b y q1 q2) hnq34_)]; exact hkw33_ b y q1 q2
  have hPw35_ := hPw33_.new hw35_ hnq34_
  have hzq34_ : w q34_ = none := by
    cases h8 : w q34_ with
    | none => rfl
    | some y =>
      have h9 := hkw33_ _ _ h8 (fun z => by have h7 := c33_q; rw [← z, hnq34_] at h7; cases h7)
      rw [hnq34_] at h9
      cases h9
  refine g_putF (pc := 99) (v := .ref q34_) S M G (C := RX3) (T := TX3) (N := 24) (ci := 2) in_X3 tyX3 tyX3_ok nmX3 c35_q hbq rfl 13 (by decide) q1336 (Or.inl rfl) rfl hname rfl rfl rfl (Nat.le_of_ble_eq_true rfl) dX3_init_99 (fun H locs G => ?_)
  obtain ⟨w36_, hw36_⟩ : ∃ z9, z9 = gu w35_ q (.inr (2, [.int 0, .ref q1_, .ref q4_, .ref q7_, .ref q10_, .ref q13_, .ref q16_, .ref q19_, .ref q22_, .ref q25_, .int 0, .ref q28_, .ref q31_, .ref q34_, .null, .null, .null, .null, .int 0, .int 0, .long 0, .long 0, .long 0, .int 0])) := ⟨_, rfl⟩
  replace G : gS D K w36_ s H locs := by rw [hw36_]; exact G
  have c36_q1_ : w36_ q1_ = some (.inl (D.1 100, 30, .inl (fun _ => 0))) := by rw [hw36_, gu_n (Ne.symm (gne_f hq hnq1_))]; exact c35_q1_
  have c36_q4_ : w36_ q4_ = some (.inl (D.1 100, 30, .inl (fun _ => 0))) := by rw [hw36_, gu_n (Ne.symm (gne_f c3_q hnq4_))]; exact c35_q4_
  have c36_q7_ : w36_ q7_ = some (.inl (D.1 100, 30, .inl (fun _ => 0))) := by rw [hw36_, gu_n (Ne.symm (gne_f c6_q hnq7_))]; exact c35_q7_
  have c36_q10_ : w36_ q10_ = some (.inl (D.1 100, 30, .inl (fun _ => 0))) := by rw [hw36_, gu_n (Ne.symm (gne_f c9_q hnq10_))]; exact c35_q10_
  have c36_q13_ : w36_ q13_ = some (.inl (D.1 100, 30, .inl (fun _ => 0))) := by rw [hw36_, gu_n (Ne.symm (gne_f c12_q hnq13_))]; exact c35_q13_
  have c36_q16_ : w36_ q16_ = some (.inl (D.1 100, 30, .inl (fun _ => 0))) := by rw [hw36_, gu_n (Ne.symm (gne_f c15_q hnq16_))]; exact c35_q16_
  have c36_q19_ : w36_ q19_ = some (.inl (D.1 100, 30, .inl (fun _ => 0))) := by rw [hw36_, gu_n (Ne.symm (gne_f c18_q hnq19_))]; exact c35_q19_
  have c36_q22_ : w36_ q22_ = some (.inl (D.1 100, 300, .inl (fun _ => 0))) := by rw [hw36_, gu_n (Ne.symm (gne_f c21_q hnq22_))]; exact c35_q22_
  have c36_q25_ : w36_ q25_ = some (.inl (D.1 100, 300, .inl (fun _ => 0))) := by rw [hw36_, gu_n (Ne.symm (gne_f c24_q hnq25_))]; exact c35_q25_
  have c36_q28_ : w36_ q28_ = some (.inl (D.1 100, 30, .inl (fun _ => 0))) := by rw [hw36_, gu_n (Ne.symm (gne_f c27_q hnq28_))]; exact c35_q28_
  have c36_q31_ : w36_ q31_ = some (.inl (D.1 100, 30, .inl (fun _ => 0))) := by rw [hw36_, gu_n (Ne.symm (gne_f c30_q hnq31_))]; exact c35_q31_
  have c36_q34_ : w36_ q34_ = some (.inl (D.1 100, 30, .inl (fun _ => 0))) := by rw [hw36_, gu_n (Ne.symm (gne_f c33_q hnq34_))]; exact c35_q34_
  have c36_q : w36_ q = some (.inr (2, [.int 0, .ref q1_, .ref q4_, .ref q7_, .ref q10_, .ref q13_, .ref q16_, .ref q19_, .ref q22_, .ref q25_, .int 0, .ref q28_, .ref q31_, .ref q34_, .null, .null, .null, .null, .int 0, .int 0, .long 0, .long 0, .long 0, .int 0])) := by rw [hw36_]; exact gu_s
  have hPw36_ := hPw35_.up hw36_
  have hkw36_ : ∀ b y, w b = some y → b ≠ q → w36_ b = some y := fun b y q1 q2 => by rw [hw36_, gu_n q2]; exact hkw35_ b y q1 q2
  refine lv_aload_n (pc := 102) hx hb dX3_init_102 rfl (lv_at hl 0 rfl) ?_
  refine lv_bipush (pc := 103) (v := 30) hx hb dX3_init_103 (by decide) ?_
  refine g_newi (pc := 105) S M G q208 (n := 30) (N' := 30) (by decide) rfl (by decide) (Nat.le_of_ble_eq_true rfl) (Nat.le_of_ble_eq_true rfl) dX3_init_105 (fun q37_ H hnq37_ hbq37_ heq37_ hsq37_ G => ?_)
  refine W.widen (k := 13) (n := 930) (Nat.le_of_ble_eq_true rfl) (Nat.le_of_ble_eq_true rfl) ?_
  obtain ⟨w38_, hw38_⟩ : ∃ z9, z9 = gu w36_ q37_ (.inl (D.1 100, 30, .inl (fun _ => 0))) := ⟨_, rfl⟩
  replace G : gS D K w38_ s H locs := by rw [hw38_]; exact G
  have c38_q : w38_ q = some (.inr (2, [.int 0, .ref q1_, .ref q4_, .ref q7_, .ref q10_, .ref q13_, .ref q16_, .ref q19_, .ref q22_, .ref q25_, .int 0, .ref q28_, .ref q31_, .ref q34_, .null, .null, .null, .null, .int 0, .int 0, .long 0, .long 0, .long 0, .int 0])) := by rw [hw38_, gu_n (gne_f c36_q hnq37_)]; exact c36_q
  have c38_q1_ : w38_ q1_ = some (.inl (D.1 100, 30, .inl (fun _ => 0))) := by rw [hw38_, gu_n (gne_f c36_q1_ hnq37_)]; exact c36_q1_
  have c38_q4_ : w38_ q4_ = some (.inl (D.1 100, 30, .inl (fun _ => 0))) := by rw [hw38_, gu_n (gne_f c36_q4_ hnq37_)]; exact c36_q4_
  have c38_q7_ : w38_ q7_ = some (.inl (D.1 100, 30, .inl (fun _ => 0))) := by rw [hw38_, gu_n (gne_f c36_q7_ hnq37_)]; exact c36_q7_
  have c38_q10_ : w38_ q10_ = some (.inl (D.1 100, 30, .inl (fun _ => 0))) := by rw [hw38_, gu_n (gne_f c36_q10_ hnq37_)]; exact c36_q10_
  have c38_q13_ : w38_ q13_ = some (.inl (D.1 100, 30, .inl (fun _ => 0))) := by rw [hw38_, gu_n (gne_f c36_q13_ hnq37_)]; exact c36_q13_
  have c38_q16_ : w38_ q16_ = some (.inl (D.1 100, 30, .inl (fun _ => 0))) := by rw [hw38_, gu_n (gne_f c36_q16_ hnq37_)]; exact c36_q16_
  have c38_q19_ : w38_ q19_ = some (.inl (D.1 100, 30, .inl (fun _ => 0))) := by rw [hw38_, gu_n (gne_f c36_q19_ hnq37_)]; exact c36_q19_
  have c38_q22_ : w38_ q22_ = some (.inl (D.1 100, 300, .inl (fun _ => 0))) := by rw [hw38_, gu_n (gne_f c36_q22_ hnq37_)]; exact c36_q22_
  have c38_q25_ : w38_ q25_ = some (.inl (D.1 100, 300, .inl (fun _ => 0))) := by rw [hw38_, gu_n (gne_f c36_q25_ hnq37_)]; exact c36_q25_
  have c38_q28_ : w38_ q28_ = some (.inl (D.1 100, 30, .inl (fun _ => 0))) := by rw [hw38_, gu_n (gne_f c36_q28_ hnq37_)]; exact c36_q28_
  have c38_q31_ : w38_ q31_ = some (.inl (D.1 100, 30, .inl (fun _ => 0))) := by rw [hw38_, gu_n (gne_f c36_q31_ hnq37_)]; exact c36_q31_
  have c38_q34_ : w38_ q34_ = some (.inl (D.1 100, 30, .inl (fun _ => 0))) := by rw [hw38_, gu_n (gne_f c36_q34_ hnq37_)]; exact c36_q34_
  have c38_q37_ : w38_ q37_ = some (.inl (D.1 100, 30, .inl (fun _ => 0))) := by rw [hw38_]; exact gu_s
  have hkw38_ : ∀ b y, w b = some y → b ≠ q → w38_ b = some y := fun b y q1 q2 => by rw [hw38_, gu_n (gne_f (hkw36_ b y q1 q2) hnq37_)]; exact hkw36_ b y q1 q2
  have hPw38_ := hPw36_.new hw38_ hnq37_
  have hzq37_ : w q37_ = none := by
    cases h8 : w q37_ with
    | none => rfl
    | some y =>
      have h9 := hkw36_ _ _ h8 (fun z => by have h7 := c36_q; rw [← z, hnq37_] at h7; cases h7)
      rw [hnq37_] at h9
      cases h9
  refine g_putF (pc := 107) (v := .ref q37_) S M G (C := RX3) (T := TX3) (N := 24) (ci := 2) in_X3 tyX3 tyX3_ok nmX3 c38_q hbq rfl 14 (by decide) q1337 (Or.inl rfl) rfl hname rfl rfl rfl (Nat.le_of_ble_eq_true rfl) dX3_init_107 (fun H locs G => ?_)
  obtain ⟨w39_, hw39_⟩ : ∃ z9, z9 = gu w38_ q (.inr (2, [.int 0, .ref q1_, .ref q4_, .ref q7_, .ref q10_, .ref q13_, .ref q16_, .ref q19_, .ref q22_, .ref q25_, .int 0, .ref q28_, .ref q31_, .ref q34_, .ref q37_, .null, .null, .null, .int 0, .int 0, .long 0, .long 0, .long 0, .int 0])) := ⟨_, rfl⟩
  replace G : gS D K w39_ s H locs := by rw [hw39_]; exact G
  have c39_q1_ : w39_ q1_ = some (.inl (D.1 100, 30, .inl (fun _ => 0))) := by rw [hw39_, gu_n (Ne.symm (gne_f hq hnq1_))]; exact c38_q1_
  have c39_q4_ : w39_ q4_ = some (.inl (D.1 100, 30, .inl (fun _ => 0))) := by rw [hw39_, gu_n (Ne.symm (gne_f c3_q hnq4_))]; exact c38_q4_
  have c39_q7_ : w39_ q7_ = some (.inl (D.1 100, 30, .inl (fun _ => 0))) := by rw [hw39_, gu_n (Ne.symm (gne_f c6_q hnq7_))]; exact c38_q7_
  have c39_q10_ : w39_ q10_ = some (.inl (D.1 100, 30, .inl (fun _ => 0))) := by rw [hw39_, gu_n (Ne.symm (gne_f c9_q hnq10_))]; exact c38_q10_
  have c39_q13_ : w39_ q13_ = some (.inl (D.1 100, 30, .inl (fun _ => 0))) := by rw [hw39_, gu_n (Ne.symm (gne_f c12_q hnq13_))]; exact c38_q13_
  have c39_q16_ : w39_ q16_ = some (.inl (D.1 100, 30, .inl (fun _ => 0))) := by rw [hw39_, gu_n (Ne.symm (gne_f c15_q hnq16_))]; exact c38_q16_
  have c39_q19_ : w39_ q19_ = some (.inl (D.1 100, 30, .inl (fun _ => 0))) := by rw [hw39_, gu_n (Ne.symm (gne_f c18_q hnq19_))]; exact c38_q19_
  have c39_q22_ : w39_ q22_ = some (.inl (D.1 100, 300, .inl (fun _ => 0))) := by rw [hw39_, gu_n (Ne.symm (gne_f c21_q hnq22_))]; exact c38_q22_
  have c39_q25_ : w39_ q25_ = some (.inl (D.1 100, 300, .inl (fun _ => 0))) := by rw [hw39_, gu_n (Ne.symm (gne_f c24_q hnq25_))]; exact c38_q25_
  have c39_q28_ : w39_ q28_ = some (.inl (D.1 100, 30, .inl (fun _ => 0))) := by rw [hw39_, gu_n (Ne.symm (gne_f c27_q hnq28_))]; exact c38_q28_
  have c39_q31_ : w39_ q31_ = some (.inl (D.1 100, 30, .inl (fun _ => 0))) := by rw [hw39_, gu_n (Ne.symm (gne_f c30_q hnq31_))]; exact c38_q31_
  have c39_q34_ : w39_ q34_ = some (.inl (D.1 100, 30, .inl (fun _ => 0))) := by rw [hw39_, gu_n (Ne.symm (gne_f c33_q hnq34_))]; exact c38_q34_
  have c39_q37_ : w39_ q37_ = some (.inl (D.1 100, 30, .inl (fun _ => 0))) := by rw [hw39_, gu_n (Ne.symm (gne_f c36_q hnq37_))]; exact c38_q37_
  have c39_q : w39_ q = some (.inr (2, [.int 0, .ref q1_, .ref q4_, .ref q7_, .ref q10_, .ref q13_, .ref q16_, .ref q19_, .ref q22_, .ref q25_, .int 0, .ref q28_, .ref q31_, .ref q34_, .ref q37_, .null, .null, .null, .int 0, .int 0, .long 0, .long 0, .long 0, .int 0])) := by rw [hw39_]; exact gu_s
  have hPw39_ := hPw38_.up hw39_
  have hkw39_ : ∀ b y, w b = some y → b ≠ q → w39_ b = some y := fun b y q1 q2 => by rw [hw39_, gu_n q2]; exact hkw38_ b y q1 q2
  refine lv_aload_n (pc := 110) hx hb dX3_init_110 rfl (lv_at hl 0 rfl) ?_
  refine lv_bipush (pc := 111) (v := 30) hx hb dX3_init_111 (by decide) ?_
  refine g_newi (pc := 113) S M G q208 (n := 30) (N' := 30) (by decide) rfl (by decide) (Nat.le_of_ble_eq_true rfl) (Nat.le_of_ble_eq_true rfl) dX3_init_113 (fun q40_ H hnq40_ hbq40_ heq40_ hsq40_ G => ?_)
  refine W.widen (k := 14) (n := 960) (Nat.le_of_ble_eq_true rfl) (Nat.le_of_ble_eq_true rfl) ?_
  obtain ⟨w41_, hw41_⟩ : ∃ z9, z9 = gu w39_ q40_ (.inl (D.1 100, 30, .inl (fun _ => 0))) := ⟨_, rfl⟩
  replace G : gS D K w41_ s H locs := by rw [hw41_]; exact G
  have c41_q : w41_ q = some (.inr (2, [.int 0, .ref q1_, .ref q4_, .ref q7_, .ref q10_, .ref q13_, .ref q16_, .ref q19_, .ref q22_, .ref q25_, .int 0, .ref q28_, .ref q31_, .ref q34_, .ref q37_, .null, .null, .null, .int 0, .int 0, .long 0, .long 0, .long 0, .int 0])) := by rw [hw41_, gu_n (gne_f c39_q hnq40_)]; exact c39_q
  have c41_q1_ : w41_ q1_ = some (.inl (D.1 100, 30, .inl (fun _ => 0))) := by rw [hw41_, gu_n (gne_f c39_q1_ hnq40_)]; exact c39_q1_
  have c41_q4_ : w41_ q4_ = some (.inl (D.1 100, 30, .inl (fun _ => 0))) := by rw [hw41_, gu_n (gne_f c39_q4_ hnq40_)]; exact c39_q4_
  have c41_q7_ : w41_ q7_ = some (.inl (D.1 100, 30, .inl (fun _ => 0))) := by rw [hw41_, gu_n (gne_f c39_q7_ hnq40_)]; exact c39_q7_
  have c41_q10_ : w41_ q10_ = some (.inl (D.1 100, 30, .inl (fun _ => 0))) := by rw [hw41_, gu_n (gne_f c39_q10_ hnq40_)]; exact c39_q10_
  have c41_q13_ : w41_ q13_ = some (.inl (D.1 100, 30, .inl (fun _ => 0))) := by rw [hw41_, gu_n (gne_f c39_q13_ hnq40_)]; exact c39_q13_
  have c41_q16_ : w41_ q16_ = some (.inl (D.1 100, 30, .inl (fun _ => 0))) := by rw [hw41_, gu_n (gne_f c39_q16_ hnq40_)]; exact c39_q16_
  have c41_q19_ : w41_ q19_ = some (.inl (D.1 100, 30, .inl (fun _ => 0))) := by rw [hw41_, gu_n (gne_f c39_q19_ hnq40_)]; exact c39_q19_
  have c41_q22_ : w41_ q22_ = some (.inl (D.1 100, 300, .inl (fun _ => 0))) := by rw [hw41_, gu_n (gne_f c39_q22_ hnq40_)]; exact c39_q22_
  have c41_q25_ : w41_ q25_ = some (.inl (D.1 100, 300, .inl (fun _ => 0))) := by rw [hw41_, gu_n (gne_f c39_q25_ hnq40_)]; exact c39_q25_
  have c41_q28_ : w41_ q28_ = some (.inl (D.1 100, 30, .inl (fun _ => 0))) := by rw [hw41_, gu_n (gne_f c39_q28_ hnq40_)]; exact c39_q28_
  have c41_q31_ : w41_ q31_ = some (.inl (D.1 100, 30, .inl (fun _ => 0))) := by rw [hw41_, gu_n (gne_f c39_q31_ hnq40_)]; exact c39_q31_
  have c41_q34_ : w41_ q34_ = some (.inl (D.1 100, 30, .inl (fun _ => 0))) := by rw [hw41_, gu_n (gne_f c39_q34_ hnq40_)]; exact c39_q34_
  have c41_q37_ : w41_ q37_ = some (.inl (D.1 100, 30, .inl (fun _ => 0))) := by rw [hw41_, gu_n (gne_f c39_q37_ hnq40_)]; exact c39_q37_
  have c41_q40_ : w41_ q40_ = some (.inl (D.1 100, 30, .inl (fun _ => 0))) := by rw [hw41_]; exact gu_s
  have hkw41_ : ∀ b y, w b = some y → b ≠ q → w41_ b = some y := fun b y q1 q2 => by rw [hw41_, gu_n (gne_f (hkw39_ b y q1 q2) hnq40_)]; exact hkw39_ b y q1 q2
  have hPw41_ := hPw39_.new hw41_ hnq40_
  have hzq40_ : w q40_ = none := by
    cases h8 : w q40_ with
    | none => rfl
    | some y =>
      have h9 := hkw39_ _ _ h8 (fun z => by have h7 := c39_q; rw [← z, hnq40_] at h7; cases h7)
      rw [hnq40_] at h9
      cases h9
  refine g_putF (pc := 115) (v := .ref q40_) S M G (C := RX3) (T := TX3) (N := 24) (ci := 2) in_X3 tyX3 tyX3_ok nmX3 c41_q hbq rfl 15 (by decide) q1338 (Or.inl rfl) rfl hname rfl rfl rfl (Nat.le_of_ble_eq_true rfl) dX3_init_115 (fun H locs G => ?_)
  obtain ⟨w42_, hw42_⟩ : ∃ z9, z9 = gu w41_ q (.inr (2, [.int 0, .ref q1_, .ref q4_, .ref q7_, .ref q10_, .ref q13_, .ref q16_, .ref q19_, .ref q22_, .ref q25_, .int 0, .ref q28_, .ref q31_, .ref q34_, .ref q37_, .ref q40_, .null, .null, .int 0, .int 0, .long 0, .long 0, .long 0, .int 0])) := ⟨_, rfl⟩
  replace G : gS D K w42_ s H locs := by rw [hw42_]; exact G
  have c42_q1_ : w42_ q1_ = some (.inl (D.1 100, 30, .inl (fun _ => 0))) := by rw [hw42_, gu_n (Ne.symm (gne_f hq hnq1_))]; exact c41_q1_
  have c42_q4_ : w42_ q4_ = some (.inl (D.1 100, 30, .inl (fun _ => 0))) := by rw [hw42_, gu_n (Ne.symm (gne_f c3_q hnq4_))]; exact c41_q4_
  have c42_q7_ : w42_ q7_ = some (.inl (D.1 100, 30, .inl (fun _ => 0))) := by rw [hw42_, gu_n (Ne.symm (gne_f c6_q hnq7_))]; exact c41_q7_
  have c42_q10_ : w42_ q10_ = some (.inl (D.1 100, 30, .inl (fun _ => 0))) := by rw [hw42_, gu_n (Ne.symm (gne_f c9_q hnq10_))]; exact c41_q10_
  have c42_q13_ : w42_ q13_ = some (.inl (D.1 100, 30, .inl (fun _ => 0))) := by rw [hw42_, gu_n (Ne.symm (gne_f c12_q hnq13_))]; exact c41_q13_
  have c42_q16_ : w42_ q16_ = some (.inl (D.1 100, 30, .inl (fun _ => 0))) := by rw [hw42_, gu_n (Ne.symm (gne_f c15_q hnq16_))]; exact c41_q16_
  have c42_q19_ : w42_ q19_ = some (.inl (D.1 100, 30, .inl (fun _ => 0))) := by rw [hw42_, gu_n (Ne.symm (gne_f c18_q hnq19_))]; exact c41_q19_
  have c42_q22_ : w42_ q22_ = some (.inl (D.1 100, 300, .inl (fun _ => 0))) := by rw [hw42_, gu_n (Ne.symm (gne_f c21_q hnq22_))]; exact c41_q22_
  have c42_q25_ : w42_ q25_ = some (.inl (D.1 100, 300, .inl (fun _ => 0))) := by rw [hw42_, gu_n (Ne.symm (gne_f c24_q hnq25_))]; exact c41_q25_
  have c42_q28_ : w42_ q28_ = some (.inl (D.1 100, 30, .inl (fun _ => 0))) := by rw [hw42_, gu_n (Ne.symm (gne_f c27_q hnq28_))]; exact c41_q28_
  have c42_q31_ : w42_ q31_ = some (.inl (D.1 100, 30, .inl (fun _ => 0))) := by rw [hw42_, gu_n (Ne.symm (gne_f c30_q hnq31_))]; exact c41_q31_
  have c42_q34_ : w42_ q34_ = some (.inl (D.1 100, 30, .inl (fun _ => 0))) := by rw [hw42_, gu_n (Ne.symm (gne_f c33_q hnq34_))]; exact c41_q34_
  have c42_q37_ : w42_ q37_ = some (.inl (D.1 100, 30, .inl (fun _ => 0))) := by rw [hw42_, gu_n (Ne.symm (gne_f c36_q hnq37_))]; exact c41_q37_
  have c42_q40_ : w42_ q40_ = some (.inl (D.1 100, 30, .inl (fun _ => 0))) := by rw [hw42_, gu_n (Ne.symm (gne_f c39_q hnq40_))]; exact c41_q40_
  have c42_q : w42_ q = some (.inr (2, [.int 0, .ref q1_, .ref q4_, .ref q7_, .ref q10_, .ref q13_, .ref q16_, .ref q19_, .ref q22_, .ref q25_, .int 0, .ref q28_, .ref q31_, .ref q34_, .ref q37_, .ref q40_, .null, .null, .int 0, .int 0, .long 0, .long 0, .long 0, .int 0])) := by rw [hw42_]; exact gu_s
  have hPw42_ := hPw41_.up hw42_
  have hkw42_ : ∀ b y, w b = some y → b ≠ q → w42_ b = some y := fun b y q1 q2 => by rw [hw42_, gu_n q2]; exact hkw41_ b y q1 q2
  refine lv_aload_n (pc := 118) hx hb dX3_init_118 rfl (lv_at hl 0 rfl) ?_
  refine lv_bipush (pc := 119) (v := 10) hx hb dX3_init_119 (by decide) ?_
  refine g_newi (pc := 121) S M G q208 (n := 10) (N' := 10) (by decide) rfl (by decide) (Nat.le_of_ble_eq_true rfl) (Nat.le_of_ble_eq_true rfl) dX3_init_121 (fun q43_ H hnq43_ hbq43_ heq43_ hsq43_ G => ?_)
  refine W.widen (k := 15) (n := 970) (Nat.le_of_ble_eq_true rfl) (Nat.le_of_ble_eq_true rfl) ?_
  obtain ⟨w44_, hw44_⟩ : ∃ z9, z9 = gu w42_ q43_ (.inl (D.1 100, 10, .inl (fun _ => 0))) := ⟨_, rfl⟩
  replace G : gS D K w44_ s H locs := by rw [hw44_]; exact G
  have c44_q : w44_ q = some (.inr (2, [.int 0, .ref q1_, .ref q4_, .ref q7_, .ref q10_, .ref q13_, .ref q16_, .ref q19_, .ref q22_, .ref q25_, .int 0, .ref q28_, .ref q31_, .ref q34_, .ref q37_, .ref q40_, .null, .null, .int 0, .int 0, .long 0, .long 0, .long 0, .int 0])) := by rw [hw44_, gu_n (gne_f c42_q hnq43_)]; exact c42_q
  have c44_q1_ : w44_ q1_ = some (.inl (D.1 100, 30, .inl (fun _ => 0))) := by rw [hw44_, gu_n (gne_f c42_q1_ hnq43_)]; exact c42_q1_
  have c44_q4_ : w44_ q4_ = some (.inl (D.1 100, 30, .inl (fun _ => 0))) := by rw [hw44_, gu_n (gne_f c42_q4_ hnq43_)]; exact c42_q4_
  have c44_q7_ : w44_ q7_ = some (.inl (D.1 100, 30, .inl (fun _ => 0))) := by rw [hw44_, gu_n (gne_f c42_q7_ hnq43_)]; exact c42_q7_
  have c44_q10_ : w44_ q10_ = some (.inl (D.1 100, 30, .inl (fun _ => 0))) := by rw [hw44_, gu_n (gne_f c42_q10_ hnq43_)]; exact c42_q10_
  have c44_q13_ : w44_ q13_ = some (.inl (D.1 100, 30, .inl (fun _ => 0))) := by rw [hw44_, gu_n (gne_f c42_q13_ hnq43_)]; exact c42_q13_
  have c44_q16_ : w44_ q16_ = some (.inl (D.1 100, 30, .inl (fun _ => 0))) := by rw [hw44_, gu_n (gne_f c42_q16_ hnq43_)]; exact c42_q16_
  have c44_q19_ : w44_ q19_ = some (.inl (D.1 100, 30, .inl (fun _ => 0))) := by rw [hw44_, gu_n (gne_f c42_q19_ hnq43_)]; exact c42_q19_
  have c44_q22_ : w44_ q22_ = some (.inl (D.1 100, 300, .inl (fun _ => 0))) := by rw [hw44_, gu_n (gne_f c42_q22_ hnq43_)]; exact c42_q22_
  have c44_q25_ : w44_ q25_ = some (.inl (D.1 100, 300, .inl (fun _ => 0))) := by rw [hw44_, gu_n (gne_f c42_q25_ hnq43_)]; exact c42_q25_
  have c44_q28_ : w44_ q28_ = some (.inl (D.1 100, 30, .inl (fun _ => 0))) := by rw [hw44_, gu_n (gne_f c42_q28_ hnq43_)]; exact c42_q28_
  have c44_q31_ : w44_ q31_ = some (.inl (D.1 100, 30, .inl (fun _ => 0))) := by rw [hw44_, gu_n (gne_f c42_q31_ hnq43_)]; exact c42_q31_
  have c44_q34_ : w44_ q34_ = some (.inl (D.1 100, 30, .inl (fun _ => 0))) := by rw [hw44_, gu_n (gne_f c42_q34_ hnq43_)]; exact c42_q34_
  have c44_q37_ : w44_ q37_ = some (.inl (D.1 100, 30, .inl (fun _ => 0))) := by rw [hw44_, gu_n (gne_f c42_q37_ hnq43_)]; exact c42_q37_
  have c44_q40_ : w44_ q40_ = some (.inl (D.1 100, 30, .inl (fun _ => 0))) := by rw [hw44_, gu_n (gne_f c42_q40_ hnq43_)]; exact c42_q40_
  have c44_q43_ : w44_ q43_ = some (.inl (D.1 100, 10, .inl (fun _ => 0))) := by rw [hw44_]; exact gu_s
  have hkw44_ : ∀ b y, w b = some y → b ≠ q → w44_ b = some y := fun b y q1 q2 => by rw [hw44_, gu_n (gne_f (hkw42_ b y q1 q2) hnq43_)]; exact hkw42_ b y q1 q2
  have hPw44_ := hPw42_.new hw44_ hnq43_
  have hzq43_ : w q43_ = none := by
    cases h8 : w q43_ with
    | none => rfl
    | some y =>
      have h9 := hkw42_ _ _ h8 (fun z => by have h7 := c42_q; rw [← z, hnq43_] at h7; cases h7)
      rw [hnq43_] at h9
      cases h9
  refine g_putF (pc := 123) (v := .ref q43_) S M G (C := RX3) (T := TX3) (N := 24) (ci := 2) in_X3 tyX3 tyX3_ok nmX3 c44_q hbq rfl 16 (by decide) q1339 (Or.inl rfl) rfl hname rfl rfl rfl (Nat.le_of_ble_eq_true rfl) dX3_init_123 (fun H locs G => ?_)
  obtain ⟨w45_, hw45_⟩ : ∃ z9, z9 = gu w44_ q (.inr (2, [.int 0, .ref q1_, .ref q4_, .ref q7_, .ref q10_, .ref q13_, .ref q16_, .ref q19_, .ref q22_, .ref q25_, .int 0, .ref q28_, .ref q31_, .ref q34_, .ref q37_, .ref q40_, .ref q43_, .null, .int 0, .int 0, .long 0, .long 0, .long 0, .int 0])) := ⟨_, rfl⟩
  replace G : gS D K w45_ s H locs := by rw [hw45_]; exact G
  have c45_q1_ : w45_ q1_ = some (.inl (D.1 100, 30, .inl (fun _ => 0))) := by rw [hw45_, gu_n (Ne.symm (gne_f hq hnq1_))]; exact c44_q1_
  have c45_q4_ : w45_ q4_ = some (.inl (D.1 100, 30, .inl (fun _ => 0))) := by rw [hw45_, gu_n (Ne.symm (gne_f c3_q hnq4_))]; exact c44_q4_
  have c45_q7_ : w45_ q7_ = some (.inl (D.1 100, 30, .inl (fun _ => 0))) := by rw [hw45_, gu_n (Ne.symm (gne_f c6_q hnq7_))]; exact c44_q7_
  have c45_q10_ : w45_ q10_ = some (.inl (D.1 100, 30, .inl (fun _ => 0))) := by rw [hw45_, gu_n (Ne.symm (gne_f c9_q hnq10_))]; exact c44_q10_
  have c45_q13_ : w45_ q13_ = some (.inl (D.1 100, 30, .inl (fun _ => 0))) := by rw [hw45_, gu_n (Ne.symm (gne_f c12_q hnq13_))]; exact c44_q13_
  have c45_q16_ : w45_ q16_ = some (.inl (D.1 100, 30, .inl (fun _ => 0))) := by rw [hw45_, gu_n (Ne.symm (gne_f c15_q hnq16_))]; exact c44_q16_
  have c45_q19_ : w45_ q19_ = some (.inl (D.1 100, 30, .inl (fun _ => 0))) := by rw [hw45_, gu_n (Ne.symm (gne_f c18_q hnq19_))]; exact c44_q19_
  have c45_q22_ : w45_ q22_ = some (.inl (D.1 100, 300, .inl (fun _ => 0))) := by rw [hw45_, gu_n (Ne.symm (gne_f c21_q hnq22_))]; exact c44_q22_
  have c45_q25_ : w45_ q25_ = some (.inl (D.1 100, 300, .inl (fun _ => 0))) := by rw [hw45_, gu_n (Ne.symm (gne_f c24_q hnq25_))]; exact c44_q25_
  have c45_q28_ : w45_ q28_ = some (.inl (D.1 100, 30, .inl (fun _ => 0))) := by rw [hw45_, gu_n (Ne.symm (gne_f c27_q hnq28_))]; exact c44_q28_
  have c45_q31_ : w45_ q31_ = some (.inl (D.1 100, 30, .inl (fun _ => 0))) := by rw [hw45_, gu_n (Ne.symm (gne_f c30_q hnq31_))]; exact c44_q31_
  have c45_q34_ : w45_ q34_ = some (.inl (D.1 100, 30, .inl (fun _ => 0))) := by rw [hw45_, gu_n (Ne.symm (gne_f c33_q hnq34_))]; exact c44_q34_
  have c45_q37_ : w45_ q37_ = some (.inl (D.1 100, 30, .inl (fun _ => 0))) := by rw [hw45_, gu_n (Ne.symm (gne_f c36_q hnq37_))]; exact c44_q37_
  have c45_q40_ : w45_ q40_ = some (.inl (D.1 100, 30, .inl (fun _ => 0))) := by rw [hw45_, gu_n (Ne.symm (gne_f c39_q hnq40_))]; exact c44_q40_
  have c45_q43_ : w45_ q43_ = some (.inl (D.1 100, 10, .inl (fun _ => 0))) := by rw [hw45_, gu_n (Ne.symm (gne_f c42_q hnq43_))]; exact c44_q43_
  have c45_q : w45_ q = some (.inr (2, [.int 0, .ref q1_, .ref q4_, .ref q7_, .ref q10_, .ref q13_, .ref q16_, .ref q19_, .ref q22_, .ref q25_, .int 0, .ref q28_, .ref q31_, .ref q34_, .ref q37_, .ref q40_, .ref q43_, .null, .int 0, .int 0, .long 0, .long 0, .long 0, .int 0])) := by rw [hw45_]; exact gu_s
  have hPw45_ := hPw44_.up hw45_
  have hkw45_ : ∀ b y, w b = some y → b ≠ q → w45_ b = some y := fun b y q1 q2 => by rw [hw45_, gu_n q2]; exact hkw44_ b y q1 q2
  refine lv_aload_n (pc := 126) hx hb dX3_init_126 rfl (lv_at hl 0 rfl) ?_
  refine lv_bipush (pc := 127) (v := 6) hx hb dX3_init_127 (by decide) ?_
  refine g_newi (pc := 129) S M G q208 (n := 6) (N' := 6) (by decide) rfl (by decide) (Nat.le_of_ble_eq_true rfl) (Nat.le_of_ble_eq_true rfl) dX3_init_129 (fun q46_ H hnq46_ hbq46_ heq46_ hsq46_ G => ?_)
  refine W.widen (k := 16) (n := 976) (Nat.le_of_ble_eq_true rfl) (Nat.le_of_ble_eq_true rfl) ?_
  obtain ⟨w47_, hw47_⟩ : ∃ z9, z9 = gu w45_ q46_ (.inl (D.1 100, 6, .inl (fun _ => 0))) := ⟨_, rfl⟩
  replace G : gS D K w47_ s H locs := by rw [hw47_]; exact G
  have c47_q : w47_ q = some (.inr (2, [.int 0, .ref q1_, .ref q4_, .ref q7_, .ref q10_, .ref q13_, .ref q16_, .ref q19_, .ref q22_, .ref q25_, .int 0, .ref q28_, .ref q31_, .ref q34_, .ref q37_, .ref q40_, .ref q43_, .null, .int 0, .int 0, .long 0, .long 0, .long 0, .int 0])) := by rw [hw47_, gu_n (gne_f c45_q hnq46_)]; exact c45_q
  have c47_q1_ : w47_ q1_ = some (.inl (D.1 100, 30, .inl (fun _ => 0))) := by rw [hw47_, gu_n (gne_f c45_q1_ hnq46_)]; exact c45_q1_
  have c47_q4_ : w47_ q4_ = some (.inl (D.1 100, 30, .inl (fun _ => 0))) := by rw [hw47_, gu_n (gne_f c45_q4_ hnq46_)]; exact c45_q4_
  have c47_q7_ : w47_ q7_ = some (.inl (D.1 100, 30, .inl (fun _ => 0))) := by rw [hw47_, gu_n (gne_f c45_q7_ hnq46_)]; exact c45_q7_
  have c47_q10_ : w47_ q10_ = some (.inl (D.1 100, 30, .inl (fun _ => 0))) := by rw [hw47_, gu_n (gne_f c45_q10_ hnq46_)]; exact c45_q10_
  have c47_q13_ : w47_ q13_ = some (.inl (D.1 100, 30, .inl (fun _ => 0))) := by rw [hw47_, gu_n (gne_f c45_q13_ hnq46_)]; exact c45_q13_
  have c47_q16_ : w47_ q16_ = some (.inl (D.1 100, 30, .inl (fun _ => 0))) := by rw [hw47_, gu_n (gne_f c45_q16_ hnq46_)]; exact c45_q16_
  have c47_q19_ : w47_ q19_ = some (.inl (D.1 100, 30, .inl (fun _ => 0))) := by rw [hw47_, gu_n (gne_f c45_q19_ hnq46_)]; exact c45_q19_
  have c47_q22_ : w47_ q22_ = some (.inl (D.1 100, 300, .inl (fun _ => 0))) := by rw [hw47_, gu_n (gne_f c45_q22_ hnq46_)]; exact c45_q22_
  have c47_q25_ : w47_ q25_ = some (.inl (D.1 100, 300, .inl (fun _ => 0))) := by rw [hw47_, gu_n (gne_f c45_q25_ hnq46_)]; exact c45_q25_
  have c47_q28_ : w47_ q28_ = some (.inl (D.1 100, 30, .inl (fun _ => 0))) := by rw [hw47_, gu_n (gne_f c45_q28_ hnq46_)]; exact c45_q28_
  have c47_q31_ : w47_ q31_ = some (.inl (D.1 100, 30, .inl (fun _ => 0))) := by rw [hw47_, gu_n (gne_f c45_q31_ hnq46_)]; exact c45_q31_
  have c47_q34_ : w47_ q34_ = some (.inl (D.1 100, 30, .inl (fun _ => 0))) := by rw [hw47_, gu_n (gne_f c45_q34_ hnq46_)]; exact c45_q34_
  have c47_q37_ : w47_ q37_ = some (.inl (D.1 100, 30, .inl (fun _ => 0))) := by rw [hw47_, gu_n (gne_f c45_q37_ hnq46_)]; exact c45_q37_
  have c47_q40_ : w47_ q40_ = some (.inl (D.1 100, 30, .inl (fun _ => 0))) := by rw [hw47_, gu_n (gne_f c45_q40_ hnq46_)]; exact c45_q40_
  have c47_q43_ : w47_ q43_ = some (.inl (D.1 100, 10, .inl (fun _ => 0))) := by rw [hw47_, gu_n (gne_f c45_q43_ hnq46_)]; exact c45_q43_
  have c47_q46_ : w47_ q46_ = some (.inl (D.1 100, 6, .inl (fun _ => 0))) := by rw [hw47_]; exact gu_s
  have hkw47_ : ∀ b y, w b = some y → b ≠ q → w47_ b = some y := fun b y q1 q2 => by rw [hw47_, gu_n (gne_f (hkw45_ b y q1 q2) hnq46_)]; exact hkw45_ b y q1 q2
  have hPw47_ := hPw45_.new hw47_ hnq46_
  have hzq46_ : w q46_ = none := by
    cases h8 : w q46_ with
    | none => rfl
    | some y =>
      have h9 := hkw45_ _ _ h8 (fun z => by have h7 := c45_q; rw [← z, hnq46_] at h7; cases h7)
      rw [hnq46_] at h9
      cases h9
  refine g_putF (pc := 131) (v := .ref q46_) S M G (C := RX3) (T := TX3) (N := 24) (ci := 2) in_X3 tyX3 tyX3_ok nmX3 c47_q hbq rfl 17 (by decide) q1340 (Or.inl rfl) rfl hname rfl rfl rfl (Nat.le_of_ble_eq_true rfl) dX3_init_131 (fun H locs G => ?_)
  obtain ⟨w48_, hw48_⟩ : ∃ z9, z9 = gu w47_ q (.inr (2, [.int 0, .ref q1_, .ref q4_, .ref q7_, .ref q10_, .ref q13_, .ref q16_, .ref q19_, .ref q22_, .ref q25_, .int 0, .ref q28_, .ref q31_, .ref q34_, .ref q37_, .ref q40_, .ref q43_, .ref q46_, .int 0, .int 0, .long 0, .long 0, .long 0, .int 0])) := ⟨_, rfl⟩
  replace G : gS D K w48_ s H locs := by rw [hw48_]; exact G
  have c48_q1_ : w48_ q1_ = some (.inl (D.1 100, 30, .inl (fun _ => 0))) := by rw [hw48_, gu_n (Ne.symm (gne_f hq hnq1_))]; exact c47_q1_
  have c48_q4_ : w48_ q4_ = some (.inl (D.1 100, 30, .inl (fun _ => 0))) := by rw [hw48_, gu_n (Ne.symm (gne_f c3_q hnq4_))]; exact c47_q4_
  have c48_q7_ : w48_ q7_ = some (.inl (D.1 100, 30, .inl (fun _ => 0))) := by rw [hw48_, gu_n (Ne.symm (gne_f c6_q hnq7_))]; exact c47_q7_
  have c48_q10_ : w48_ q10_ = some (.inl (D.1 100, 30, .inl (fun _ => 0))) := by rw [hw48_, gu_n (Ne.symm (gne_f c9_q hnq10_))]; exact c47_q10_
  have c48_q13_ : w48_ q13_ = some (.inl (D.1 100, 30, .inl (fun _ => 0))) := by rw [hw48_, gu_n (Ne.symm (gne_f c12_q hnq13_))]; exact c47_q13_
  have c48_q16_ : w48_ q16_ = some (.inl (D.1 100, 30, .inl (fun _ => 0))) := by rw [hw48_, gu_n (Ne.symm (gne_f c15_q hnq16_))]; exact c47_q16_
  have c48_q19_ : w48_ q19_ = some (.inl (D.1 100, 30, .inl (fun _ => 0))) := by rw [hw48_, gu_n (Ne.symm (gne_f c18_q hnq19_))]; exact c47_q19_
  have c48_q22_ : w48_ q22_ = some (.inl (D.1 100, 300, .inl (fun _ => 0))) := by rw [hw48_, gu_n (Ne.symm (gne_f c21_q hnq22_))]; exact c47_q22_
  have c48_q25_ : w48_ q25_ = some (.inl (D.1 100, 300, .inl (fun _ => 0))) := by rw [hw48_, gu_n (Ne.symm (gne_f c24_q hnq25_))]; exact c47_q25_
  have c48_q28_ : w48_ q28_ = some (.inl (D.1 100, 30, .inl (fun _ => 0))) := by rw [hw48_, gu_n (Ne.symm (gne_f c27_q hnq28_))]; exact c47_q28_
  have c48_q31_ : w48_ q31_ = some (.inl (D.1 100, 30, .inl (fun _ => 0))) := by rw [hw48_, gu_n (Ne.symm (gne_f c30_q hnq31_))]; exact c47_q31_
  have c48_q34_ : w48_ q34_ = some (.inl (D.1 100, 30, .inl (fun _ => 0))) := by rw [hw48_, gu_n (Ne.symm (gne_f c33_q hnq34_))]; exact c47_q34_
  have c48_q37_ : w48_ q37_ = some (.inl (D.1 100, 30, .inl (fun _ => 0))) := by rw [hw48_, gu_n (Ne.symm (gne_f c36_q hnq37_))]; exact c47_q37_
  have c48_q40_ : w48_ q40_ = some (.inl (D.1 100, 30, .inl (fun _ => 0))) := by rw [hw48_, gu_n (Ne.symm (gne_f c39_q hnq40_))]; exact c47_q40_
  have c48_q43_ : w48_ q43_ = some (.inl (D.1 100, 10, .inl (fun _ => 0))) := by rw [hw48_, gu_n (Ne.symm (gne_f c42_q hnq43_))]; exact c47_q43_
  have c48_q46_ : w48_ q46_ = some (.inl (D.1 100, 6, .inl (fun _ => 0))) := by rw [hw48_, gu_n (Ne.symm (gne_f c45_q hnq46_))]; exact c47_q46_
  have c48_q : w48_ q = some (.inr (2, [.int 0, .ref q1_, .ref q4_, .ref q7_, .ref q10_, .ref q13_, .ref q16_, .ref q19_, .ref q22_, .ref q25_, .int 0, .ref q28_, .ref q31_, .ref q34_, .ref q37_, .ref q40_, .ref q43_, .ref q46_, .int 0, .int 0, .long 0, .long 0, .long 0, .int 0])) := by rw [hw48_]; exact gu_s
  have hPw48_ := hPw47_.up hw48_
  have hkw48_ : ∀ b y, w b = some y → b ≠ q → w48_ b = some y := fun b y q1 q2 => by rw [hw48_, gu_n q2]; exact hkw47_ b y q1 q2
  refine lv_iconst (pc := 134) (v := 0) hx hb dX3_init_134 (by decide) ?_
  refine lv_istore_n (pc := 135) (lv' := [(1, .int 0), (0, .ref q)]) hx hb dX3_init_135 rfl hl (by decide) rfl (fun ls hl => ?_)
  have Lf : ∀ (n j : Nat) (w8 : Gh) (H : Heap) (locs : List Loc) (ls : Array Slot), j + n = 6 → w8 q = some (.inr (2, [.int 0, .ref q1_, .ref q4_, .ref q7_, .ref q10_, .ref q13_, .ref q16_, .ref q19_, .ref q22_, .ref q25_, .int 0, .ref q28_, .ref q31_, .ref q34_, .ref q37_, .ref q40_, .ref q43_, .ref q46_, .int 0, .int 0, .long 0, .long 0, .long 0, .int 0])) → w8 q46_ = some (.inl (D.1 100, 6, .inl (fun k => if k < j then (10 : Int32) else 0))) → (∀ b y, w48_ b = some y → b ≠ q → b ≠ q46_ → w8 b = some y) → gS D K w8 s H locs → lv_has ls 2 [(1, .int (nI j)), (0, .ref q)] → W p l e rmX3_init s m args below meth c H locs 16 976 Q (F0 m 136 ls []) := by
    intro n
    induction n with
    | zero =>
      intro j w8 H locs ls hj6 hme8 hca8 hk8 G hl
      have hj : j = 6 := by omega
      refine lv_iload_n (pc := 136) hx hb dX3_init_136 rfl (lv_at hl 0 rfl) ?_
      refine lv_bipush (pc := 137) (v := 6) hx hb dX3_init_137 (by decide) ?_
      refine lv_icmp_ge (pc := 139) (tgt := 156) hx hb dX3_init_139 (by decide) (fun _ => ?_) (fun c => absurd ((nI_leI (a := 6) (by decide) (by omega)).mpr (by omega)) c)
      refine lv_aload_n (pc := 156) hx hb dX3_init_156 rfl (lv_at hl 1 rfl) ?_
      refine lv_bipush (pc := 157) (v := 20) hx hb dX3_init_157 (by decide) ?_
      refine g_put (pc := 159) (v := .int 20) S M G (C := RX3) (T := TX3) (N := 24) (ci := 2) in_X3 tyX3 tyX3_ok nmX3 hme8 hbq rfl 18 (by decide) q1341 (Or.inl rfl) rfl rfl rfl (Nat.le_of_ble_eq_true rfl) dX3_init_159 (fun H locs G => ?_)
      obtain ⟨w49_, hw49_⟩ : ∃ z9, z9 = gu w8 q (.inr (2, [.int 0, .ref q1_, .ref q4_, .ref q7_, .ref q10_, .ref q13_, .ref q16_, .ref q19_, .ref q22_, .ref q25_, .int 0, .ref q28_, .ref q31_, .ref q34_, .ref q37_, .ref q40_, .ref q43_, .ref q46_, .int 20, .int 0, .long 0, .long 0, .long 0, .int 0])) := ⟨_, rfl⟩
      replace G : gS D K w49_ s H locs := by rw [hw49_]; exact G
      have c49_q46_ : w49_ q46_ = some (.inl (D.1 100, 6, .inl (fun k => if k < j then (10 : Int32) else 0))) := by rw [hw49_, gu_n (Ne.symm (gne_f c45_q hnq46_))]; exact hca8
      have c49_q : w49_ q = some (.inr (2, [.int 0, .ref q1_, .ref q4_, .ref q7_, .ref q10_, .ref q13_, .ref q16_, .ref q19_, .ref q22_, .ref q25_, .int 0, .ref q28_, .ref q31_, .ref q34_, .ref q37_, .ref q40_, .ref q43_, .ref q46_, .int 20, .int 0, .long 0, .long 0, .long 0, .int 0])) := by rw [hw49_]; exact gu_s
      have hPw49_ := hPw48_.up hw49_
      have hkw49_ : ∀ b y, w b = some y → b ≠ q → w49_ b = some y := fun b y q1 q2 => by rw [hw49_, gu_n q2]; exact hk8 b y q1 q2
      rw [hQ]
      refine g_vret S G hr hlocks (hdg := dX3_init_162) ?_ ?_ ?_
      · exact Nat.le_of_ble_eq_true rfl
      · exact Nat.le_of_ble_eq_true rfl
      · subst hj
        have hkk : ∀ b y, w b = some y → b ≠ q → w49_ b = some y := fun b y q1 q2 => by rw [hw49_, gu_n q2]; exact hk8 b y (hkw48_ b y q1 q2) q2 (fun z => by rw [z, hzq46_] at q1; cases q1)
        have hnd : ([q46_, q43_, q40_, q37_, q34_, q31_, q28_, q25_, q22_, q19_, q16_, q13_, q10_, q7_, q4_, q1_, q] : List Nat).Nodup := hPw48_.1
        refine ⟨rfl, fun k => ([q46_, q43_, q40_, q37_, q34_, q31_, q28_, q25_, q22_, q19_, q16_, q13_, q10_, q7_, q4_, q1_, q] : List Nat).getD (mps k) 0, rfl, ⟨?_, fun k hk => ?_, fun i j hi hj e => ?_, fun k hk => ?_⟩, fun k hk => ?_, hkk⟩
        · exact c49_q
        · rcases marr_c hk with rfl | rfl | rfl | rfl | rfl | rfl | rfl | rfl | rfl | rfl | rfl | rfl | rfl | rfl | rfl | rfl
          · exact (show w49_ q1_ = some (.inl (D.1 100, mlen 1, .inl (mA0 1))) by rw [hw49_, gu_n (gne_ao (hk8 _ _ c48_q1_ (gne_ao c48_q1_ c48_q) (gne_f c45_q1_ hnq46_)) hme8)]; exact hk8 _ _ c48_q1_ (gne_ao c48_q1_ c48_q) (gne_f c45_q1_ hnq46_))
          · exact (show w49_ q4_ = some (.inl (D.1 100, mlen 2, .inl (mA0 2))) by rw [hw49_, gu_n (gne_ao (hk8 _ _ c48_q4_ (gne_ao c48_q4_ c48_q) (gne_f c45_q4_ hnq46_)) hme8)]; exact hk8 _ _ c48_q4_ (gne_ao c48_q4_ c48_q) (gne_f c45_q4_ hnq46_))
          · exact (show w49_ q7_ = some (.inl (D.1 100, mlen 3, .inl (mA0 3))) by rw [hw49_, gu_n (gne_ao (hk8 _ _ c48_q7_ (gne_ao c48_q7_ c48_q) (gne_f c45_q7_ hnq46_)) hme8)]; exact hk8 _ _ c48_q7_ (gne_ao c48_q7_ c48_q) (gne_f c45_q7_ hnq46_))
          · exact (show w49_ q10_ = some (.inl (D.1 100, mlen 4, .inl (mA0 4))) by rw [hw49_, gu_n (gne_ao (hk8 _ _ c48_q10_ (gne_ao c48_q10_ c48_q) (gne_f c45_q10_ hnq46_)) hme8)]; exact hk8 _ _ c48_q10_ (gne_ao c48_q10_ c48_q) (gne_f c45_q10_ hnq46_))
          · exact (show w49_ q13_ = some (.inl (D.1 100, mlen 5, .inl (mA0 5))) by rw [hw49_, gu_n (gne_ao (hk8 _ _ c48_q13_ (gne_ao c48_q13_ c48_q) (gne_f c45_q13_ hnq46_)) hme8)]; exact hk8 _ _ c48_q13_ (gne_ao c48_q13_ c48_q) (gne_f c45_q13_ hnq46_))
          · exact (show w49_ q16_ = some (.inl (D.1 100, mlen 6, .inl (mA0 6))) by rw [hw49_, gu_n (gne_ao (hk8 _ _ c48_q16_ (gne_ao c48_q16_ c48_q) (gne_f c45_q16_ hnq46_)) hme8)]; exact hk8 _ _ c48_q16_ (gne_ao c48_q16_ c48_q) (gne_f c45_q16_ hnq46_))
          · exact (show w49_ q19_ = some (.inl (D.1 100, mlen 7, .inl (mA0 7))) by rw [hw49_, gu_n (gne_ao (hk8 _ _ c48_q19_ (gne_ao c48_q19_ c48_q) (gne_f c45_q19_ hnq46_)) hme8)]; exact hk8 _ _ c48_q19_ (gne_ao c48_q19_ c48_q) (gne_f c45_q19_ hnq46_))
          · exact (show w49_ q22_ = some (.inl (D.1 100, mlen 8, .inl (mA0 8))) by rw [hw49_, gu_n (gne_ao (hk8 _ _ c48_q22_ (gne_ao c48_q22_ c48_q) (gne_f c45_q22_ hnq46_)) hme8)]; exact hk8 _ _ c48_q22_ (gne_ao c48_q22_ c48_q) (gne_f c45_q22_ hnq46_))
          · exact (show w49_ q25_ = some (.inl (D.1 100, mlen 9, .inl (mA0 9))) by rw [hw49_, gu_n (gne_ao (hk8 _ _ c48_q25_ (gne_ao c48_q25_ c48_q) (gne_f c45_q25_ hnq46_)) hme8)]; exact hk8 _ _ c48_q25_ (gne_ao c48_q25_ c48_q) (gne_f c45_q25_ hnq46_))
          · exact (show w49_ q28_ = some (.inl (D.1 100, mlen 11, .inl (mA0 11))) by rw [hw49_, gu_n (gne_ao (hk8 _ _ c48_q28_ (gne_ao c48_q28_ c48_q) (gne_f c45_q28_ hnq46_)) hme8)]; exact hk8 _ _ c48_q28_ (gne_ao c48_q28_ c48_q) (gne_f c45_q28_ hnq46_))
          · exact (show w49_ q31_ = some (.inl (D.1 100, mlen 12, .inl (mA0 12))) by rw [hw49_, gu_n (gne_ao (hk8 _ _ c48_q31_ (gne_ao c48_q31_ c48_q) (gne_f c45_q31_ hnq46_)) hme8)]; exact hk8 _ _ c48_q31_ (gne_ao c48_q31_ c48_q) (gne_f c45_q31_ hnq46_))
          · exact (show w49_ q34_ = some (.inl (D.1 100, mlen 13, .inl (mA0 13))) by rw [hw49_, gu_n (gne_ao (hk8 _ _ c48_q34_ (gne_ao c48_q34_ c48_q) (gne_f c45_q34_ hnq46_)) hme8)]; exact hk8 _ _ c48_q34_ (gne_ao c48_q34_ c48_q) (gne_f c45_q34_ hnq46_))
          · exact (show w49_ q37_ = some (.inl (D.1 100, mlen 14, .inl (mA0 14))) by rw [hw49_, gu_n (gne_ao (hk8 _ _ c48_q37_ (gne_ao c48_q37_ c48_q) (gne_f c45_q37_ hnq46_)) hme8)]; exact hk8 _ _ c48_q37_ (gne_ao c48_q37_ c48_q) (gne_f c45_q37_ hnq46_))
          · exact (show w49_ q40_ = some (.inl (D.1 100, mlen 15, .inl (mA0 15))) by rw [hw49_, gu_n (gne_ao (hk8 _ _ c48_q40_ (gne_ao c48_q40_ c48_q) (gne_f c45_q40_ hnq46_)) hme8)]; exact hk8 _ _ c48_q40_ (gne_ao c48_q40_ c48_q) (gne_f c45_q40_ hnq46_))
          · exact (show w49_ q43_ = some (.inl (D.1 100, mlen 16, .inl (mA0 16))) by rw [hw49_, gu_n (gne_ao (hk8 _ _ c48_q43_ (gne_ao c48_q43_ c48_q) (gne_f c45_q43_ hnq46_)) hme8)]; exact hk8 _ _ c48_q43_ (gne_ao c48_q43_ c48_q) (gne_f c45_q43_ hnq46_))
          · exact (show w49_ q46_ = some (.inl (D.1 100, mlen 17, .inl (mA0 17))) by rw [hw49_, gu_n (gne_ao (hca8) hme8)]; exact hca8)
        · have c1 : ∀ k, mix k → mps k < 17 ∧ k ≠ 10 ∧ k ≤ 17 := fun k hk => by
            unfold mps
            rcases hk with rfl | hk
            · decide
            · rcases marr_c hk with rfl | rfl | rfl | rfl | rfl | rfl | rfl | rfl | rfl | rfl | rfl | rfl | rfl | rfl | rfl | rfl <;> decide
          have h1 := c1 i hi
          have h2 := c1 j hj
          have h3 := nd_inj hnd (i := mps i) (j := mps j) h1.1 h2.1 e
          unfold mps at h3
          split at h3 <;> split at h3 <;> omega
        · rcases hk with rfl | hk
          · exact hbq
          · rcases marr_c hk with rfl | rfl | rfl | rfl | rfl | rfl | rfl | rfl | rfl | rfl | rfl | rfl | rfl | rfl | rfl | rfl
            · exact hbq1_
            · exact hbq4_
            · exact hbq7_
            · exact hbq10_
            · exact hbq13_
            · exact hbq16_
            · exact hbq19_
            · exact hbq22_
            · exact hbq25_
            · exact hbq28_
            · exact hbq31_
            · exact hbq34_
            · exact hbq37_
            · exact hbq40_
            · exact hbq43_
            · exact hbq46_
        · rcases marr_c hk with rfl | rfl | rfl | rfl | rfl | rfl | rfl | rfl | rfl | rfl | rfl | rfl | rfl | rfl | rfl | rfl
          · exact hzq1_
          · exact hzq4_
          · exact hzq7_
          · exact hzq10_
          · exact hzq13_
          · exact hzq16_
          · exact hzq19_
          · exact hzq22_
          · exact hzq25_
          · exact hzq28_
          · exact hzq31_
          · exact hzq34_
          · exact hzq37_
          · exact hzq40_
          · exact hzq43_
          · exact hzq46_
    | succ n ih =>
      intro j w8 H locs ls hjn hme8 hca8 hk8 G hl
      have hj6 : j < 6 := by omega
      refine lv_iload_n (pc := 136) hx hb dX3_init_136 rfl (lv_at hl 0 rfl) ?_
      refine lv_bipush (pc := 137) (v := 6) hx hb dX3_init_137 (by decide) ?_
      refine lv_icmp_ge (pc := 139) (tgt := 156) hx hb dX3_init_139 (by decide) (fun c => absurd ((nI_leI (a := 6) (by decide) (by omega)).mp c) (by omega)) (fun _ => ?_)
      refine lv_aload_n (pc := 142) hx hb dX3_init_142 rfl (lv_at hl 1 rfl) ?_
      refine g_get (pc := 143) (v := .ref q46_) S M G (C := RX3) (T := TX3) (N := 24) (ci := 2) in_X3 hme8 rfl 17 (by decide) q1340 (Or.inl rfl) rfl dX3_init_143 ?_
      refine lv_iload_n (pc := 146) hx hb dX3_init_146 rfl (lv_at hl 0 rfl) ?_
      refine lv_bipush (pc := 147) (v := 10) hx hb dX3_init_147 (by decide) ?_
      refine g_iast (pc := 149) S M G hca8 hbq46_ (vp_in_nI hj6 (by decide)) dX3_init_149 (fun H locs G => ?_)
      obtain ⟨w50_, hw50_⟩ : ∃ z9, z9 = gu w8 q46_ (.inl (D.1 100, 6, .inl (upd (fun k => if k < j then (10 : Int32) else 0) (nI j).toNatClampNeg 10))) := ⟨_, rfl⟩
      replace G : gS D K w50_ s H locs := by rw [hw50_]; exact G
      have c50_q : w50_ q = some (.inr (2, [.int 0, .ref q1_, .ref q4_, .ref q7_, .ref q10_, .ref q13_, .ref q16_, .ref q19_, .ref q22_, .ref q25_, .int 0, .ref q28_, .ref q31_, .ref q34_, .ref q37_, .ref q40_, .ref q43_, .ref q46_, .int 0, .int 0, .long 0, .long 0, .long 0, .int 0])) := by rw [hw50_, gu_n (gne_f c45_q hnq46_)]; exact hme8
      have c50_q46_ : w50_ q46_ = some (.inl (D.1 100, 6, .inl (upd (fun k => if k < j then (10 : Int32) else 0) (nI j).toNatClampNeg 10))) := by rw [hw50_]; exact gu_s
      have hPw50_ := hPw48_.up hw50_
      have hkw50_ : ∀ b y, w b = some y → b ≠ q → w50_ b = some y := fun b y q1 q2 => by rw [hw50_, gu_n (fun z => by have h8 := q1; rw [z, hzq46_] at h8; cases h8)]; exact hk8 b y q1 q2
      refine lv_iinc (pc := 150) (v := ((nI j) + 1)) (lv' := [(1, .int ((nI j) + 1)), (0, .ref q)]) hx hb dX3_init_150 hl (k := 0) rfl (by first | rfl | decide) (by decide) rfl (fun ls hl => ?_)
      refine lv_goto (pc := 153) (tgt := 136) hx hb dX3_init_153 (by decide) ?_
      have hl9 : lv_has ls 2 [(1, .int (nI (j + 1))), (0, .ref q)] := by rw [nI_succ]; exact (lv_sub hl [0, 1] rfl)
      exact ih (j + 1) _ H locs ls (by omega) (by rw [hw50_]; rw [gu_n (Ne.symm (gne_ao hca8 hme8))]; exact hme8) (by rw [hw50_, gu_s, nI_clamp (by omega), fill10]) (fun b y q1 q2 q3 => by rw [hw50_, gu_n q3]; exact hk8 b y q1 q2 q3) G hl9
  exact Lf 6 0 _ H locs ls rfl c48_q (by rw [c48_q46_]; congr 4) (fun b y q1 _ _ => q1) G (lv_sub hl [0, 1] rfl)
