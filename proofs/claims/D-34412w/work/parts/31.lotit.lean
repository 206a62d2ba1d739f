/-! Lot's iterator -/
/-- cells but iterators are kept -/
def FRI (w w' : Gh) : Prop := ∀ a y, w a = some y → (∀ fs, y ≠ .inr (5, fs) ∧ y ≠ .inr (10, fs)) → w' a = some y
theorem FRI.rf {w : Gh} : FRI w w := fun _ _ h _ => h
theorem FRI.tr {w w1 w2 : Gh} (h : FRI w w1) (h2 : FRI w1 w2) : FRI w w2 := fun a y q1 q2 => h2 a y (h a y q1 q2) q2
theorem FRI.all {w w' : Gh} (h : ∀ a y, w a = some y → w' a = some y) : FRI w w' := fun a y q _ => h a y q
theorem FRI.up5 {w : Gh} {b : Nat} {fs : List Value} {x : va_E} (hb : w b = some (.inr (5, fs))) : FRI w (gu w b x) := fun a y h1 h2 => by
  rw [gu_n ?_]
  · exact h1
  · rintro rfl
    rw [hb] at h1
    cases h1
    exact (h2 fs).1 rfl
theorem FRI.up10 {w : Gh} {b : Nat} {fs : List Value} {x : va_E} (hb : w b = some (.inr (10, fs))) : FRI w (gu w b x) := fun a y h1 h2 => by
  rw [gu_n ?_]
  · exact h1
  · rintro rfl
    rw [hb] at h1
    cases h1
    exact (h2 fs).2 rfl
theorem mapc_o {D : va_G} {n : Nat} {fs : List Value} (h : mapc D (.inr (n, fs))) : n = 7 ∨ n = 8 ∨ n = 4 := by
  rcases h with h | ⟨z, h⟩
  · by_cases e1 : n = 7
    · exact Or.inl e1
    · by_cases e2 : n = 8
      · exact Or.inr (Or.inl e2)
      · exact absurd (show nomap D (.inr (n, fs)) from ⟨e1, e2⟩) h
  · cases h; exact Or.inr (Or.inr rfl)
theorem FRI.q {D : va_G} {w w' : Gh} (h : FRI w w') : FRQ D w w' := fun a y q1 q2 => h a y q1 (fun fs => ⟨fun e => (by subst e; exact absurd (mapc_o q2) (by decide)), fun e => (by subst e; exact absurd (mapc_o q2) (by decide))⟩)
theorem gu_id {w : Gh} {b : Nat} {x : va_E} (h : w b = some x) : gu w b x = w := by
  funext a
  by_cases q : a = b
  · subst q; rw [gu_s, h]
  · exact gu_n q
theorem FRQ.up10 {D : va_G} {w : Gh} {b : Nat} {fs : List Value} {x : va_E} (hb : w b = some (.inr (10, fs))) : FRQ D w (gu w b x) := FRQ.up hb ⟨by decide, by decide, by decide⟩
theorem FRI.k4 {w w' : Gh} {a : Nat} {fs : List Value} {ci : Nat} (h : FRI w w') (ha : w a = some (.inr (ci, fs))) (h5 : ci ≠ 5) (h10 : ci ≠ 10) : w' a = some (.inr (ci, fs)) := h a _ ha (fun fs => ⟨fun e => h5 (congrArg Prod.fst (Sum.inr.inj e)), fun e => h10 (congrArg Prod.fst (Sum.inr.inj e))⟩)
theorem div10_ne {h i : Nat} (hh : h < 300) (hi : i < 30) : nI (h / 10) = nI i ↔ h / 10 = i := nI_eq (by omega) (by omega)
/-- the entries that are not of lot i are passed over -/
abbrev skp (hN : Nat → Nat) (i : Nat) (l : List Nat) : List Nat := l.dropWhile (fun a => hN a / 10 != i)
theorem skp_c {hN : Nat → Nat} {i x : Nat} {l : List Nat} (h : hN x / 10 = i) : skp hN i (x :: l) = x :: l := List.dropWhile_cons_of_neg (by simp [h])
theorem skp_n {hN : Nat → Nat} {i x : Nat} {l : List Nat} (h : ¬ hN x / 10 = i) : skp hN i (x :: l) = skp hN i l := List.dropWhile_cons_of_pos (by simp [h])
abbrev rmX6_find : Room := ({ frames := 2, cells := 0, slots := 0, locals := 41 } : Room)
set_option maxHeartbeats 4000000 in
theorem metX6_find (l : Launch) (D : va_G) (K : Nat → Nat) (w : Gh) {rem done : List Nat} {cur : Option Nat} {q it lo mp i : Nat} {md : Int32} {ks nxt : Option Nat} {es : List Nat} {hN ky vl : Nat → Nat} {fl : List Value} (hM : MS D K w mp md ks es hN ky vl) (hq : w q = some (.inr (5, [va_rf nxt, .ref it, .ref lo]))) (hlo : w lo = some (.inr (3, .int (nI i) :: fl))) (hi30 : i < 30) (hes : es = done ++ rem) (hit : w it = some (.inr (10, [va_rf rem.head?, va_rf cur, .int md, .int 0, .ref mp]))) (hbi : K 0 ≤ it) : gMet l yX6_find (ws_ yX6_find cX6_find 2 (some (.object "DroitLine$Bidder"))) rmX6_find D K [.ref q] w (fun r' w' => r' = some (va_rf ((skp hN i rem).head?.map ky)) ∧ ∃ cur', w' = gu w it (.inr (10, [va_rf (skp hN i rem).tail.head?, va_rf cur', .int md, .int 0, .ref mp]))) := by
  refine gMet.of (by decide) (Nat.le_of_ble_eq_true rfl) ?_
  intro p e s m args below meth c H locs ls S M hr hlocks hname G hl
  have hx := S.1
  have hb := S.2.1
  have hown := S.2.2.2.1
  have hts := S.2.2.2.2
  have hl : lv_has ls 2 [(0, .ref q)] := hl
  obtain ⟨Q, hQ⟩ : ∃ Q, Q = gE below D K (fun r' w' => r' = some (va_rf ((skp hN i rem).head?.map ky)) ∧ ∃ cur', w' = gu w it (.inr (10, [va_rf (skp hN i rem).tail.head?, va_rf cur', .int md, .int 0, .ref mp]))) args s rmX6_find.cells rmX6_find.slots := ⟨_, rfl⟩
  rw [← hQ]
  have hqi : q ≠ it := gne_c hq hit (by decide)
  have hli : lo ≠ it := gne_c hlo hit (by decide)
  have Lf : ∀ (rem : List Nat) (cur : Option Nat) (done : List Nat) (_ : es = done ++ rem) (w1 : Gh) (H : Heap) (locs : List Loc) (ls : Array Slot), w1 = gu w it (.inr (10, [va_rf rem.head?, va_rf cur, .int md, .int 0, .ref mp])) → Q = gE below D K (fun r' w' => r' = some (va_rf ((skp hN i rem).head?.map ky)) ∧ ∃ cur', w' = gu w it (.inr (10, [va_rf (skp hN i rem).tail.head?, va_rf cur', .int md, .int 0, .ref mp]))) args s rmX6_find.cells rmX6_find.slots → gS D K w1 s H locs → lv_has ls 2 [(0, .ref q)] → W p l e rmX6_find s m args below meth c H locs 0 0 Q (F0 m 0 ls []) := by
    clear hQ
    intro rem
    induction rem with
    | nil =>
      intro cur done hes w1 H locs ls hw1 hQ G hl
      have hit1 : w1 it = some (.inr (10, [va_rf none, va_rf cur, .int md, .int 0, .ref mp])) := by rw [hw1]; exact gu_s
      have hq1 : w1 q = some (.inr (5, [va_rf nxt, .ref it, .ref lo])) := by rw [hw1, gu_n hqi]; exact hq
      have hlo1 : w1 lo = some (.inr (3, .int (nI i) :: fl)) := by rw [hw1, gu_n hli]; exact hlo
      refine lv_aload_n (pc := 0) hx hb dX6_find_0 rfl (lv_at hl 0 rfl) ?_
      refine g_get (pc := 1) (v := .ref it) S M G (C := RX6) (T := TX6) (N := 3) (ci := 5) in_X6 hq1 rfl 1 (by decide) q1082 (Or.inl rfl) rfl dX6_find_1 ?_
      refine g_callF (pc := 4) S M G hl.1 [] [] (metJ26_hasNext l D K w1 (o := none) hit1) 0 (g_recv M G hit1 (q := (RJ27, TJ27, 5)) rfl) (g_cls M (ci := 10) rfl) q292 q378 ⟨by decide, q274, q273, q291, q289, q287⟩ q290 q288 q51 rfl rfl ⟨Nat.le_of_ble_eq_true rfl, Nat.le_of_ble_eq_true rfl⟩ rfl (Nat.le_of_ble_eq_true rfl) dX6_find_4 ⟨Nat.le_of_ble_eq_true rfl, Nat.le_of_ble_eq_true rfl⟩ (fun r w2 H locs hp G => ?_)
      obtain ⟨rfl, hw2⟩ := hp
      rw [hw2] at G
      rw [show hasN none = 0 from rfl]
      refine W.eq (g2 := F0 m 9 ls [.int 0]) rfl ?_
      refine lv_if_eq (pc := 9) (tgt := 44) hx hb dX6_find_9 (by decide) (fun _ => ?_) (fun c => absurd c (by decide))
      refine lv_null (pc := 44) hx hb dX6_find_44 ?_
      rw [hQ]
      refine g_aret S G (rt := (.object "DroitLine$Bidder")) (r := none) hr (Or.inl ⟨_, rfl⟩) hlocks (hdg := dX6_find_45) ?_ ?_ ?_
      · exact Nat.le_of_ble_eq_true rfl
      · exact Nat.le_of_ble_eq_true rfl
      · exact ⟨rfl, cur, hw1⟩
    | cons x rem ih =>
      intro cur done hes w1 H locs ls hw1 hQ G hl
      have hit1 : w1 it = some (.inr (10, [va_rf (some x), va_rf cur, .int md, .int 0, .ref mp])) := by rw [hw1]; exact gu_s
      have hq1 : w1 q = some (.inr (5, [va_rf nxt, .ref it, .ref lo])) := by rw [hw1, gu_n hqi]; exact hq
      have hlo1 : w1 lo = some (.inr (3, .int (nI i) :: fl)) := by rw [hw1, gu_n hli]; exact hlo
      have hM1 : MS D K w1 mp md ks (done ++ x :: rem) hN ky vl := by rw [hw1, ← hes]; exact hM.kp (FRQ.up10 hit)
      refine lv_aload_n (pc := 0) hx hb dX6_find_0 rfl (lv_at hl 0 rfl) ?_
      refine g_get (pc := 1) (v := .ref it) S M G (C := RX6) (T := TX6) (N := 3) (ci := 5) in_X6 hq1 rfl 1 (by decide) q1082 (Or.inl rfl) rfl dX6_find_1 ?_
      refine g_callF (pc := 4) S M G hl.1 [] [] (metJ26_hasNext l D K w1 (o := some x) hit1) 0 (g_recv M G hit1 (q := (RJ27, TJ27, 5)) rfl) (g_cls M (ci := 10) rfl) q292 q378 ⟨by decide, q274, q273, q291, q289, q287⟩ q290 q288 q51 rfl rfl ⟨Nat.le_of_ble_eq_true rfl, Nat.le_of_ble_eq_true rfl⟩ rfl (Nat.le_of_ble_eq_true rfl) dX6_find_4 ⟨Nat.le_of_ble_eq_true rfl, Nat.le_of_ble_eq_true rfl⟩ (fun r w2 H locs hp G => ?_)
      obtain ⟨rfl, hw2⟩ := hp
      rw [hw2] at G
      rw [show hasN (some x) = 1 from rfl]
      refine W.eq (g2 := F0 m 9 ls [.int 1]) rfl ?_
      refine lv_if_eq (pc := 9) (tgt := 44) hx hb dX6_find_9 (by decide) (fun c => absurd c (by decide)) (fun _ => ?_)
      refine lv_aload_n (pc := 12) hx hb dX6_find_12 rfl (lv_at hl 0 rfl) ?_
      refine g_get (pc := 13) (v := .ref it) S M G (C := RX6) (T := TX6) (N := 3) (ci := 5) in_X6 hq1 rfl 1 (by decide) q1082 (Or.inl rfl) rfl dX6_find_13 ?_
      refine g_callF (pc := 16) S M G hl.1 [] [] (metJ27_nextW l D K w1 hM1 hit1 hbi) 0 (g_recv M G hit1 (q := (RJ27, TJ27, 5)) rfl) (g_cls M (ci := 10) rfl) q394 q380 ⟨by decide, q296, q295, q393, q391, q287⟩ q392 q390 q52 rfl rfl ⟨Nat.le_of_ble_eq_true rfl, Nat.le_of_ble_eq_true rfl⟩ rfl (Nat.le_of_ble_eq_true rfl) dX6_find_16 ⟨Nat.le_of_ble_eq_true rfl, Nat.le_of_ble_eq_true rfl⟩ (fun r w2 H locs hp G => ?_)
      obtain ⟨rfl, hw2⟩ := hp
      have hkx : KY w1 (ky x) (hN x) := hM1.cg.1 x (by simp)
      have hx300 : hN x < 300 := hM1.cg.2.1 x (by simp)
      rw [hw2] at G
      rw [hw1, gu_uu] at G
      have hkx2 : (gu w it (.inr (10, [va_rf rem.head?, .ref x, .int md, .int 0, .ref mp]))) (ky x) = some (.inr (4, [.int (nI (hN x / 10)), .int (nI (hN x % 10))])) := by rw [gu_n (gne_c hkx hit1 (by decide))]; rw [hw1] at hkx; unfold KY at hkx; rwa [gu_n (fun z => by rw [z, gu_s] at hkx; cases hkx)] at hkx
      have hq2 : (gu w it (.inr (10, [va_rf rem.head?, .ref x, .int md, .int 0, .ref mp]))) q = some (.inr (5, [va_rf nxt, .ref it, .ref lo])) := by rw [gu_n hqi]; exact hq
      have hlo2 : (gu w it (.inr (10, [va_rf rem.head?, .ref x, .int md, .int 0, .ref mp]))) lo = some (.inr (3, .int (nI i) :: fl)) := by rw [gu_n hli]; exact hlo
      refine W.eq (g2 := F0 m 21 ls [.ref (ky x)]) rfl ?_
      refine va_castS (pc := 21) hx hb hown (hts _ q408) (g_cls M (ci := 4) rfl) (g_recv M G hkx2 (q := (RX5, TX5, 2)) rfl) dX6_find_21 ?_
      refine lv_astore_n (pc := 24) (lv' := [(1, .ref (ky x)), (0, .ref q)]) hx hb dX6_find_24 rfl hl (by decide) rfl (fun ls hl => ?_)
      refine lv_aload_n (pc := 25) hx hb dX6_find_25 rfl (lv_at hl 0 rfl) ?_
      refine g_getN (pc := 26) (v := .int (nI (hN x / 10))) S M G (C := RX5) (T := TX5) (N := 2) (ci := 4) in_X5 hkx2 rfl 0 (by decide) q686 rfl rfl dX6_find_26 ?_
      refine lv_aload_n (pc := 29) hx hb dX6_find_29 rfl (lv_at hl 1 rfl) ?_
      refine g_get (pc := 30) (v := .ref lo) S M G (C := RX6) (T := TX6) (N := 3) (ci := 5) in_X6 hq2 rfl 2 (by decide) q1083 (Or.inl rfl) rfl dX6_find_30 ?_
      refine g_getN (pc := 33) (v := .int (nI i)) S M G (C := RX4) (T := TX4) (N := 14) (ci := 3) in_X4 hlo2 rfl 0 (by decide) q525 rfl rfl dX6_find_33 ?_
      refine lv_icmp_ne (pc := 36) (tgt := 41) hx hb dX6_find_36 (by decide) (fun c1 => ?_) (fun c1 => ?_)
      · refine lv_goto (pc := 41) (tgt := 0) hx hb dX6_find_41 (by decide) ?_
        exact ih (some x) (done ++ [x]) (by rw [hes]; simp) _ H locs ls rfl (by rw [hQ, skp_n (fun z => c1 ((div10_ne hx300 hi30).mpr z))]) G (lv_sub hl [1] rfl)
      · refine lv_aload_n (pc := 39) hx hb dX6_find_39 rfl (lv_at hl 0 rfl) ?_
        rw [hQ]
        refine g_aret S G (rt := (.object "DroitLine$Bidder")) (r := some (ky x)) hr (Or.inl ⟨_, rfl⟩) hlocks (hdg := dX6_find_40) ?_ ?_ ?_
        · exact Nat.le_of_ble_eq_true rfl
        · exact Nat.le_of_ble_eq_true rfl
        · rw [skp_c ((div10_ne hx300 hi30).mp c1)]
          exact ⟨rfl, some x, rfl⟩
  exact Lf rem cur done hes _ H locs ls (gu_id hit).symm hQ G (lv_sub hl [0] rfl)
