/-! entries: made, linked, unlinked -/
theorem EN.off {w : Gh} {es : List Nat} {hN ky vl : Nat → Nat} {nx bf af : Nat → Option Nat} {b : Nat} {e : va_E} (h : EN w es hN ky vl nx bf af) (hb : b ∉ es) : EN (gu w b e) es hN ky vl nx bf af := fun a ha => by rw [gu_n (fun q => hb (by rw [← q]; exact ha))]; exact h a ha
theorem EN.nx {w : Gh} {es : List Nat} {hN ky vl : Nat → Nat} {nx bf af : Nat → Option Nat} {z : Nat} {fs : List Value} (v : Option Nat) (h : EN w es hN ky vl nx bf af) (e : fs = nfl (nI (hN z)) (ky z) (vl z) v (bf z) (af z)) : EN (gu w z (.inr (8, fs))) es hN ky vl (va_up nx z v) bf af := fun a ha => by
  by_cases q : a = z
  · subst q; rw [gu_s, va_up_self, e]
  · rw [gu_n q, va_up_ne _ _ q]; exact h a ha
theorem EN.bf {w : Gh} {es : List Nat} {hN ky vl : Nat → Nat} {nx bf af : Nat → Option Nat} {z : Nat} {fs : List Value} (v : Option Nat) (h : EN w es hN ky vl nx bf af) (e : fs = nfl (nI (hN z)) (ky z) (vl z) (nx z) v (af z)) : EN (gu w z (.inr (8, fs))) es hN ky vl nx (va_up bf z v) af := fun a ha => by
  by_cases q : a = z
  · subst q; rw [gu_s, va_up_self, e]
  · rw [gu_n q, va_up_ne _ _ q]; exact h a ha
theorem EN.af {w : Gh} {es : List Nat} {hN ky vl : Nat → Nat} {nx bf af : Nat → Option Nat} {z : Nat} {fs : List Value} (v : Option Nat) (h : EN w es hN ky vl nx bf af) (e : fs = nfl (nI (hN z)) (ky z) (vl z) (nx z) (bf z) v) : EN (gu w z (.inr (8, fs))) es hN ky vl nx bf (va_up af z v) := fun a ha => by
  by_cases q : a = z
  · subst q; rw [gu_s, va_up_self, e]
  · rw [gu_n q, va_up_ne _ _ q]; exact h a ha
theorem EN.vl {w : Gh} {es : List Nat} {hN ky vl : Nat → Nat} {nx bf af : Nat → Option Nat} {z : Nat} {fs : List Value} (v : Nat) (h : EN w es hN ky vl nx bf af) (e : fs = nfl (nI (hN z)) (ky z) v (nx z) (bf z) (af z)) : EN (gu w z (.inr (8, fs))) es hN ky (va_up vl z v) nx bf af := fun a ha => by
  by_cases q : a = z
  · subst q; rw [gu_s, va_up_self, e]
  · rw [gu_n q, va_up_ne _ _ q]; exact h a ha
theorem EN.no {w : Gh} {es : List Nat} {hN ky vl : Nat → Nat} {nx bf af : Nat → Option Nat} {b c : Nat} {fs : List Value} (h : EN w es hN ky vl nx bf af) (hb : w b = some (.inr (c, fs))) (hc : c ≠ 8) : b ∉ es := fun q => by
  have := h b q
  rw [hb] at this
  exact hc (congrArg Prod.fst (Sum.inr.inj (Option.some.inj this)))
theorem EN.noa {w : Gh} {es : List Nat} {hN ky vl : Nat → Nat} {nx bf af : Nat → Option Nat} {b : Nat} {x : ClassId × vp_A} (h : EN w es hN ky vl nx bf af) (hb : w b = some (.inl x)) : b ∉ es := fun q => by
  have := h b q
  rw [hb] at this
  cases this
theorem EN.non {w : Gh} {es : List Nat} {hN ky vl : Nat → Nat} {nx bf af : Nat → Option Nat} {b : Nat} (h : EN w es hN ky vl nx bf af) (hb : w b = none) : b ∉ es := fun q => by
  have := h b q
  rw [hb] at this
  cases this
theorem EN.cg {w : Gh} {es : List Nat} {hN ky vl hN' ky' vl' : Nat → Nat} {nx bf af nx' bf' af' : Nat → Option Nat} (h : EN w es hN ky vl nx bf af) (e : ∀ a ∈ es, hN' a = hN a ∧ ky' a = ky a ∧ vl' a = vl a ∧ nx' a = nx a ∧ bf' a = bf a ∧ af' a = af a) : EN w es hN' ky' vl' nx' bf' af' := fun a ha => by
  obtain ⟨e1, e2, e3, e4, e5, e6⟩ := e a ha
  rw [e1, e2, e3, e4, e5, e6]
  exact h a ha
theorem EN.app {w : Gh} {es : List Nat} {p : Nat} {hN ky vl : Nat → Nat} {nx bf af : Nat → Option Nat} (h : EN w es hN ky vl nx bf af) (hp : w p = some (.inr (8, nfl (nI (hN p)) (ky p) (vl p) (nx p) (bf p) (af p)))) : EN w (es ++ [p]) hN ky vl nx bf af := fun a ha => by
  rcases List.mem_append.mp ha with q | q
  · exact h a q
  · rw [List.mem_singleton.mp q]; exact hp
theorem va_up_id {α : Type} {f : Nat → α} {k : Nat} {v : α} (h : f k = v) : va_up f k v = f := by
  funext j
  by_cases q : j = k
  · subst q; rw [va_up_self, h]
  · rw [va_up_ne _ _ q]
/-- what the map's methods leave alone -/
def MK (w w' : Gh) (mp : Nat) (es : List Nat) : Prop := ∀ a e, w a = some e → a ≠ mp → a ∉ es → w' a = some e
theorem MK.rf {w : Gh} {mp : Nat} {es : List Nat} : MK w w mp es := fun _ _ h _ _ => h
theorem MK.up {w w1 : Gh} {mp b : Nat} {es : List Nat} {x : va_E} (h : MK w w1 mp es) (hb : b = mp ∨ b ∈ es ∨ w b = none) : MK w (gu w1 b x) mp es := fun a e h1 h2 h3 => by
  rw [gu_n ?_]
  · exact h a e h1 h2 h3
  · rintro rfl
    rcases hb with hb | hb | hb
    · exact h2 hb
    · exact h3 hb
    · rw [hb] at h1; cases h1
abbrev rmJ21_init : Room := ({ frames := 1, cells := 0, slots := 0, locals := 20 } : Room)
set_option maxHeartbeats 4000000 in
theorem metJ21_init (l : Launch) (D : va_G) (K : Nat → Nat) (w : Gh) {q k v : Nat} {h : Int32} (hq : w q = some (.inr (8, [.int 0, .null, .null, .null, .null, .null]))) (hbq : K 0 ≤ q) : gMet l yJ21_init (ws_ yJ21_init cJ21_init 5 none) rmJ21_init D K [.ref q, .int h, .ref k, .ref v, .null] w (fun r' w' => r' = none ∧ w' = gu w q (.inr (8, nfl h k v none none none))) := by
  refine gMet.of (by decide) (Nat.le_of_ble_eq_true rfl) ?_
  intro p e s m args below meth c H locs ls S M hr hlocks hname G hl
  have hx := S.1
  have hb := S.2.1
  have hown := S.2.2.2.1
  have hts := S.2.2.2.2
  have hl : lv_has ls 5 [(0, .ref q), (1, .int h), (2, .ref k), (3, .ref v), (4, .null)] := hl
  obtain ⟨Q, hQ⟩ : ∃ Q, Q = gE below D K (fun r' w' => r' = none ∧ w' = gu w q (.inr (8, nfl h k v none none none))) args s rmJ21_init.cells rmJ21_init.slots := ⟨_, rfl⟩
  rw [← hQ]
  refine lv_aload_n (pc := 0) hx hb dJ21_init_0 rfl (lv_at hl 0 rfl) ?_
  refine W.objInit hx hb hown (hts _ q790) (hts _ q62) (hts _ q63) rfl (by rw [S.2.2.1]; exact hl.1) rfl dJ21_init_1 (Nat.le_of_ble_eq_true rfl) (Nat.le_of_ble_eq_true rfl) ?_
  refine W.eq (g2 := F0 m 4 ls []) rfl ?_
  refine lv_aload_n (pc := 4) hx hb dJ21_init_4 rfl (lv_at hl 0 rfl) ?_
  refine lv_iload_n (pc := 5) hx hb dJ21_init_5 rfl (lv_at hl 1 rfl) ?_
  refine g_putF (pc := 6) (v := .int h) S M G (C := RJ22) (T := TJ22) (N := 6) (ci := 8) in_J22 tyJ22 tyJ22_ok nmJ22 hq hbq rfl 0 (by decide) q795 (Or.inl rfl) rfl hname rfl rfl rfl (Nat.le_of_ble_eq_true rfl) dJ21_init_6 (fun H locs G => ?_)
  obtain ⟨w1_, hw1_⟩ : ∃ z9, z9 = gu w q (.inr (8, [.int h, .null, .null, .null, .null, .null])) := ⟨_, rfl⟩
  replace G : gS D K w1_ s H locs := by rw [hw1_]; exact G
  have c1_q : w1_ q = some (.inr (8, [.int h, .null, .null, .null, .null, .null])) := by rw [hw1_]; exact gu_s
  refine lv_aload_n (pc := 9) hx hb dJ21_init_9 rfl (lv_at hl 0 rfl) ?_
  refine lv_aload_n (pc := 10) hx hb dJ21_init_10 rfl (lv_at hl 2 rfl) ?_
  refine g_putF (pc := 11) (v := .ref k) S M G (C := RJ22) (T := TJ22) (N := 6) (ci := 8) in_J22 tyJ22 tyJ22_ok nmJ22 c1_q hbq rfl 1 (by decide) q801 (Or.inl rfl) rfl hname rfl rfl rfl (Nat.le_of_ble_eq_true rfl) dJ21_init_11 (fun H locs G => ?_)
  obtain ⟨w2_, hw2_⟩ : ∃ z9, z9 = gu w1_ q (.inr (8, [.int h, .ref k, .null, .null, .null, .null])) := ⟨_, rfl⟩
  replace G : gS D K w2_ s H locs := by rw [hw2_]; exact G
  have c2_q : w2_ q = some (.inr (8, [.int h, .ref k, .null, .null, .null, .null])) := by rw [hw2_]; exact gu_s
  refine lv_aload_n (pc := 14) hx hb dJ21_init_14 rfl (lv_at hl 0 rfl) ?_
  refine lv_aload_n (pc := 15) hx hb dJ21_init_15 rfl (lv_at hl 3 rfl) ?_
  refine g_put (pc := 16) (v := .ref v) S M G (C := RJ22) (T := TJ22) (N := 6) (ci := 8) in_J22 tyJ22 tyJ22_ok nmJ22 c2_q hbq rfl 2 (by decide) q807 (Or.inl rfl) rfl rfl rfl (Nat.le_of_ble_eq_true rfl) dJ21_init_16 (fun H locs G => ?_)
  obtain ⟨w3_, hw3_⟩ : ∃ z9, z9 = gu w2_ q (.inr (8, [.int h, .ref k, .ref v, .null, .null, .null])) := ⟨_, rfl⟩
  replace G : gS D K w3_ s H locs := by rw [hw3_]; exact G
  have c3_q : w3_ q = some (.inr (8, [.int h, .ref k, .ref v, .null, .null, .null])) := by rw [hw3_]; exact gu_s
  refine lv_aload_n (pc := 19) hx hb dJ21_init_19 rfl (lv_at hl 0 rfl) ?_
  refine lv_aloadN (pc := 20) hx hb dJ21_init_20 (lv_at hl 4 rfl) ?_
  refine g_put (pc := 22) (v := .null) S M G (C := RJ22) (T := TJ22) (N := 6) (ci := 8) in_J22 tyJ22 tyJ22_ok nmJ22 c3_q hbq rfl 3 (by decide) q812 (Or.inl rfl) rfl rfl rfl (Nat.le_of_ble_eq_true rfl) dJ21_init_22 (fun H locs G => ?_)
  obtain ⟨w4_, hw4_⟩ : ∃ z9, z9 = gu w3_ q (.inr (8, [.int h, .ref k, .ref v, .null, .null, .null])) := ⟨_, rfl⟩
  replace G : gS D K w4_ s H locs := by rw [hw4_]; exact G
  have c4_q : w4_ q = some (.inr (8, [.int h, .ref k, .ref v, .null, .null, .null])) := by rw [hw4_]; exact gu_s
  rw [hQ]
  refine g_vret S G hr hlocks (hdg := dJ21_init_25) ?_ ?_ ?_
  · exact Nat.le_of_ble_eq_true rfl
  · exact Nat.le_of_ble_eq_true rfl
  · refine ⟨rfl, ?_⟩
    rw [hw4_, hw3_, hw2_, hw1_, gu_uu, gu_uu, gu_uu]
    rfl
abbrev rmJ22_init : Room := ({ frames := 2, cells := 0, slots := 0, locals := 44 } : Room)
set_option maxHeartbeats 4000000 in
theorem metJ22_init (l : Launch) (D : va_G) (K : Nat → Nat) (w : Gh) {q k v : Nat} {h : Int32} (hq : w q = some (.inr (8, [.int 0, .null, .null, .null, .null, .null]))) (hbq : K 0 ≤ q) : gMet l yJ22_init (ws_ yJ22_init cJ22_init 5 none) rmJ22_init D K [.ref q, .int h, .ref k, .ref v, .null] w (fun r' w' => r' = none ∧ w' = gu w q (.inr (8, nfl h k v none none none))) := by
  refine gMet.of (by decide) (Nat.le_of_ble_eq_true rfl) ?_
  intro p e s m args below meth c H locs ls S M hr hlocks hname G hl
  have hx := S.1
  have hb := S.2.1
  have hown := S.2.2.2.1
  have hts := S.2.2.2.2
  have hl : lv_has ls 5 [(0, .ref q), (1, .int h), (2, .ref k), (3, .ref v), (4, .null)] := hl
  obtain ⟨Q, hQ⟩ : ∃ Q, Q = gE below D K (fun r' w' => r' = none ∧ w' = gu w q (.inr (8, nfl h k v none none none))) args s rmJ22_init.cells rmJ22_init.slots := ⟨_, rfl⟩
  rw [← hQ]
  refine lv_aload_n (pc := 0) hx hb dJ22_init_0 rfl (lv_at hl 0 rfl) ?_
  refine lv_iload_n (pc := 1) hx hb dJ22_init_1 rfl (lv_at hl 1 rfl) ?_
  refine lv_aload_n (pc := 2) hx hb dJ22_init_2 rfl (lv_at hl 2 rfl) ?_
  refine lv_aload_n (pc := 3) hx hb dJ22_init_3 rfl (lv_at hl 3 rfl) ?_
  refine lv_aloadN (pc := 4) hx hb dJ22_init_4 (lv_at hl 4 rfl) ?_
  refine g_callI (pc := 6) S M G hl.1 [.int h, .ref k, .ref v, .null] [] (metJ21_init l D K w hq hbq) 4 q789 q787 q788 q46 rfl (by decide) rfl ⟨Nat.le_of_ble_eq_true rfl, Nat.le_of_ble_eq_true rfl⟩ rfl (Nat.le_of_ble_eq_true rfl) dJ22_init_6 ⟨Nat.le_of_ble_eq_true rfl, Nat.le_of_ble_eq_true rfl⟩ (fun r w2 H locs hp G => ?_)
  obtain ⟨rfl, hw2⟩ := hp
  refine W.eq (g2 := F0 m 9 ls []) rfl ?_
  rw [hQ]
  refine g_vret S G hr hlocks (hdg := dJ22_init_9) ?_ ?_ ?_
  · exact Nat.le_of_ble_eq_true rfl
  · exact Nat.le_of_ble_eq_true rfl
  · exact ⟨rfl, hw2⟩
theorem DL.push2 {es : List Nat} {bf af : Nat → Option Nat} {hd : Option Nat} {t q : Nat} (h : DL es bf af hd (some t)) (hn : es.Nodup) (hq : q ∉ es) (ha : af q = none) : DL (es ++ [q]) (va_up bf q (some t)) (va_up af t (some q)) hd (some q) := by
  have h1 := h.push hn hq
  rw [va_up_id ha] at h1
  exact h1
theorem DL.mem {es : List Nat} {bf af : Nat → Option Nat} {hd : Option Nat} {t : Nat} (h : DL es bf af hd (some t)) : t ∈ es := List.mem_of_getLast? h.tl.symm
theorem DL.emp {es : List Nat} {bf af : Nat → Option Nat} {hd : Option Nat} (h : DL es bf af hd none) : es = [] ∧ hd = none := by
  have h1 : es = [] := List.getLast?_eq_none_iff.mp h.tl.symm
  subst h1
  exact ⟨rfl, h.1⟩
abbrev rmJ5_linkNodeAtEnd : Room := ({ frames := 0, cells := 0, slots := 0, locals := 0 } : Room)
set_option maxHeartbeats 4000000 in
theorem metJ5_linkNodeAtEnd (l : Launch) (D : va_G) (K : Nat → Nat) (w : Gh) {mp np : Nat} {tb : Option Nat} {sz md th : Int32} {lf : UInt32} {ks hd tl : Option Nat} {es : List Nat} {hN ky vl : Nat → Nat} {nx bf af : Nat → Option Nat} (ho : w mp = some (.inr (7, mfl tb sz md th lf ks hd tl))) (hbm : K 0 ≤ mp) (hE : EN w es hN ky vl nx bf af) (hbe : ∀ a ∈ es, K 0 ≤ a) (hD : DL es bf af hd tl) (hnd : es.Nodup) (hp0 : w np = some (.inr (8, nfl (nI (hN np)) (ky np) (vl np) (nx np) (bf np) (af np)))) (hbf : bf np = none) (haf : af np = none) (hbp : K 0 ≤ np) (hpn : np ∉ es) : gMet l yJ5_linkNodeAtEnd (ws_ yJ5_linkNodeAtEnd cJ5_linkNodeAtEnd 3 none) rmJ5_linkNodeAtEnd D K [.ref mp, .ref np] w (fun r' w' => r' = none ∧ ∃ bf' af' hd', DL (es ++ [np]) bf' af' hd' (some np) ∧ w' mp = some (.inr (7, mfl tb sz md th lf ks hd' (some np))) ∧ EN w' (es ++ [np]) hN ky vl nx bf' af' ∧ MK w w' mp (es ++ [np])) := by
  refine gMet.of (by decide) (Nat.le_of_ble_eq_true rfl) ?_
  intro p e s m args below meth c H locs ls S M hr hlocks hname G hl
  have hx := S.1
  have hb := S.2.1
  have hown := S.2.2.2.1
  have hts := S.2.2.2.2
  have hl : lv_has ls 3 [(0, .ref mp), (1, .ref np)] := hl
  obtain ⟨Q, hQ⟩ : ∃ Q, Q = gE below D K (fun r' w' => r' = none ∧ ∃ bf' af' hd', DL (es ++ [np]) bf' af' hd' (some np) ∧ w' mp = some (.inr (7, mfl tb sz md th lf ks hd' (some np))) ∧ EN w' (es ++ [np]) hN ky vl nx bf' af' ∧ MK w w' mp (es ++ [np])) args s rmJ5_linkNodeAtEnd.cells rmJ5_linkNodeAtEnd.slots := ⟨_, rfl⟩
  rw [← hQ]
  have hmpn : mp ∉ es ++ [np] := fun q => by
    rcases List.mem_append.mp q with q | q
    · exact hE.no ho (by decide) q
    · exact gne_c ho hp0 (by decide) (List.mem_singleton.mp q)
  refine lv_aload_n (pc := 0) hx hb dJ5_linkNodeAtEnd_0 rfl (lv_at hl 0 rfl) ?_
  refine g_get (pc := 1) (v := .int 0) S M G (C := RJ5) (T := TJ5) (N := 12) (ci := 7) in_J5 ho rfl 11 (by decide) q129 (Or.inl rfl) rfl dJ5_linkNodeAtEnd_1 ?_
  refine lv_iconst (pc := 4) (v := 1) hx hb dJ5_linkNodeAtEnd_4 (by decide) ?_
  refine lv_icmp_ne (pc := 5) (tgt := 43) hx hb dJ5_linkNodeAtEnd_5 (by decide) (fun _ => ?_) (fun c => absurd c (by decide))
  refine lv_aload_n (pc := 43) hx hb dJ5_linkNodeAtEnd_43 rfl (lv_at hl 0 rfl) ?_
  refine g_get (pc := 44) (v := va_rf tl) S M G (C := RJ5) (T := TJ5) (N := 12) (ci := 7) in_J5 ho rfl 9 (by decide) q127 (Or.inl rfl) rfl dJ5_linkNodeAtEnd_44 ?_
  refine gv_astore_n (pc := 47) (lv' := [(2, va_rf tl), (0, .ref mp), (1, .ref np)]) S dJ5_linkNodeAtEnd_47 rfl hl (by decide) rfl (fun ls hl => ?_)
  refine lv_aload_n (pc := 48) hx hb dJ5_linkNodeAtEnd_48 rfl (lv_at hl 1 rfl) ?_
  refine lv_aload_n (pc := 49) hx hb dJ5_linkNodeAtEnd_49 rfl (lv_at hl 2 rfl) ?_
  refine g_put (pc := 50) (v := .ref np) S M G (C := RJ5) (T := TJ5) (N := 12) (ci := 7) in_J5 tyJ5 tyJ5_ok nmJ5 ho hbm rfl 9 (by decide) q127 (Or.inl rfl) rfl rfl rfl (Nat.le_of_ble_eq_true rfl) dJ5_linkNodeAtEnd_50 (fun H locs G => ?_)
  obtain ⟨w1_, hw1_⟩ : ∃ z9, z9 = gu w mp (.inr (7, [va_rf tb, .null, .int sz, .int md, .int th, .float lf, va_rf ks, .null, va_rf hd, .ref np, .int 0, .int 0])) := ⟨_, rfl⟩
  replace G : gS D K w1_ s H locs := by rw [hw1_]; exact G
  have c1_np : w1_ np = some (.inr (8, [.int (nI (hN np)), .ref (ky np), .ref (vl np), va_rf (nx np), va_rf (bf np), va_rf (af np)])) := by rw [hw1_, gu_n (gne_c hp0 ho (by decide))]; exact hp0
  have c1_mp : w1_ mp = some (.inr (7, [va_rf tb, .null, .int sz, .int md, .int th, .float lf, va_rf ks, .null, va_rf hd, .ref np, .int 0, .int 0])) := by rw [hw1_]; exact gu_s
  refine gv_aload_n (pc := 53) S dJ5_linkNodeAtEnd_53 rfl (lv_at hl 0 rfl) ?_
  refine gv_ifnonnull (pc := 54) (tgt := 65) S dJ5_linkNodeAtEnd_54 (by decide) (fun tlv h1 => ?_) (fun h1 => ?_)
  · have hlx_h1 := hl
    have Gx_h1 := G
    subst h1
    have hl := hlx_h1
    have G : gS D K w1_ s H locs := Gx_h1
    have hl : lv_has ls 3 [(2, .ref tlv), (0, .ref mp), (1, .ref np)] := hl
    refine W.eq (g2 := F0 m 65 ls []) rfl ?_
    have ctl : w1_ tlv = some (.inr (8, nfl (nI (hN tlv)) (ky tlv) (vl tlv) (nx tlv) (bf tlv) (af tlv))) := by rw [hw1_, gu_n (fun q => hE.no ho (by decide) (by rw [← q]; exact hD.mem))]; exact hE tlv hD.mem
    refine lv_aload_n (pc := 65) hx hb dJ5_linkNodeAtEnd_65 rfl (lv_at hl 2 rfl) ?_
    refine lv_aload_n (pc := 66) hx hb dJ5_linkNodeAtEnd_66 rfl (lv_at hl 0 rfl) ?_
    refine g_put (pc := 67) (v := .ref tlv) S M G (C := RJ22) (T := TJ22) (N := 6) (ci := 8) in_J22 tyJ22 tyJ22_ok nmJ22 c1_np hbp rfl 4 (by decide) q791 (Or.inl rfl) rfl rfl rfl (Nat.le_of_ble_eq_true rfl) dJ5_linkNodeAtEnd_67 (fun H locs G => ?_)
    obtain ⟨w2_, hw2_⟩ : ∃ z9, z9 = gu w1_ np (.inr (8, [.int (nI (hN np)), .ref (ky np), .ref (vl np), va_rf (nx np), .ref tlv, va_rf (af np)])) := ⟨_, rfl⟩
    replace G : gS D K w2_ s H locs := by rw [hw2_]; exact G
    have c2_mp : w2_ mp = some (.inr (7, [va_rf tb, .null, .int sz, .int md, .int th, .float lf, va_rf ks, .null, va_rf hd, .ref np, .int 0, .int 0])) := by rw [hw2_, gu_n (gne_c c1_mp c1_np (by decide))]; exact c1_mp
    have c2_tlv : w2_ tlv = some (.inr (8, [.int (nI (hN tlv)), .ref (ky tlv), .ref (vl tlv), va_rf (nx tlv), va_rf (bf tlv), va_rf (af tlv)])) := by rw [hw2_, gu_n (fun q => hpn (by rw [← q]; exact hD.mem))]; exact ctl
    have c2_np : w2_ np = some (.inr (8, [.int (nI (hN np)), .ref (ky np), .ref (vl np), va_rf (nx np), .ref tlv, va_rf (af np)])) := by rw [hw2_]; exact gu_s
    refine lv_aload_n (pc := 70) hx hb dJ5_linkNodeAtEnd_70 rfl (lv_at hl 0 rfl) ?_
    refine lv_aload_n (pc := 71) hx hb dJ5_linkNodeAtEnd_71 rfl (lv_at hl 2 rfl) ?_
    refine g_put (pc := 72) (v := .ref np) S M G (C := RJ22) (T := TJ22) (N := 6) (ci := 8) in_J22 tyJ22 tyJ22_ok nmJ22 c2_tlv (hbe tlv hD.mem) rfl 5 (by decide) q793 (Or.inl rfl) rfl rfl rfl (Nat.le_of_ble_eq_true rfl) dJ5_linkNodeAtEnd_72 (fun H locs G => ?_)
    obtain ⟨w3_, hw3_⟩ : ∃ z9, z9 = gu w2_ tlv (.inr (8, [.int (nI (hN tlv)), .ref (ky tlv), .ref (vl tlv), va_rf (nx tlv), va_rf (bf tlv), .ref np])) := ⟨_, rfl⟩
    replace G : gS D K w3_ s H locs := by rw [hw3_]; exact G
    have c3_mp : w3_ mp = some (.inr (7, [va_rf tb, .null, .int sz, .int md, .int th, .float lf, va_rf ks, .null, va_rf hd, .ref np, .int 0, .int 0])) := by rw [hw3_, gu_n (gne_c c2_mp c2_tlv (by decide))]; exact c2_mp
    have c3_np : w3_ np = some (.inr (8, [.int (nI (hN np)), .ref (ky np), .ref (vl np), va_rf (nx np), .ref tlv, va_rf (af np)])) := by rw [hw3_, gu_n (Ne.symm (fun q => hpn (by rw [← q]; exact hD.mem)))]; exact c2_np
    have c3_tlv : w3_ tlv = some (.inr (8, [.int (nI (hN tlv)), .ref (ky tlv), .ref (vl tlv), va_rf (nx tlv), va_rf (bf tlv), .ref np])) := by rw [hw3_]; exact gu_s
    rw [hQ]
    refine g_vret S G hr hlocks (hdg := dJ5_linkNodeAtEnd_75) ?_ ?_ ?_
    · exact Nat.le_of_ble_eq_true rfl
    · exact Nat.le_of_ble_eq_true rfl
    · refine ⟨rfl, _, _, _, hD.push2 hnd hpn haf, ?_, ?_, ?_⟩
      · rw [hw3_, gu_n (gne_c ho (hE tlv hD.mem) (by decide)), hw2_, gu_n (gne_c ho hp0 (by decide)), hw1_]; exact gu_s
      · rw [hw3_, hw2_, hw1_]
        exact (((hE.app hp0).off hmpn).bf (some tlv) rfl).af (some np) (by rw [va_up_ne _ _ (fun q => hpn (by rw [← q]; exact hD.mem))]; rfl)
      · rw [hw3_, hw2_, hw1_]
        exact ((MK.rf.up (Or.inl rfl)).up (Or.inr (Or.inl (by simp)))).up (Or.inr (Or.inl (List.mem_append_left _ hD.mem)))
  · have hlx_h1 := hl
    have Gx_h1 := G
    subst h1
    have hl := hlx_h1
    have G : gS D K w1_ s H locs := Gx_h1
    have hl : lv_has ls 3 [(2, .null), (0, .ref mp), (1, .ref np)] := hl
    refine W.eq (g2 := F0 m 57 ls []) rfl ?_
    obtain ⟨hes, hhd⟩ := hD.emp
    subst hes
    refine lv_aload_n (pc := 57) hx hb dJ5_linkNodeAtEnd_57 rfl (lv_at hl 1 rfl) ?_
    refine lv_aload_n (pc := 58) hx hb dJ5_linkNodeAtEnd_58 rfl (lv_at hl 2 rfl) ?_
    refine g_put (pc := 59) (v := .ref np) S M G (C := RJ5) (T := TJ5) (N := 12) (ci := 7) in_J5 tyJ5 tyJ5_ok nmJ5 c1_mp hbm rfl 8 (by decide) q124 (Or.inl rfl) rfl rfl rfl (Nat.le_of_ble_eq_true rfl) dJ5_linkNodeAtEnd_59 (fun H locs G => ?_)
    obtain ⟨w4_, hw4_⟩ : ∃ z9, z9 = gu w1_ mp (.inr (7, [va_rf tb, .null, .int sz, .int md, .int th, .float lf, va_rf ks, .null, .ref np, .ref np, .int 0, .int 0])) := ⟨_, rfl⟩
    replace G : gS D K w4_ s H locs := by rw [hw4_]; exact G
    have c4_np : w4_ np = some (.inr (8, [.int (nI (hN np)), .ref (ky np), .ref (vl np), va_rf (nx np), va_rf (bf np), va_rf (af np)])) := by rw [hw4_, gu_n (gne_c c1_np c1_mp (by decide))]; exact c1_np
    have c4_mp : w4_ mp = some (.inr (7, [va_rf tb, .null, .int sz, .int md, .int th, .float lf, va_rf ks, .null, .ref np, .ref np, .int 0, .int 0])) := by rw [hw4_]; exact gu_s
    refine lv_goto (pc := 62) (tgt := 75) hx hb dJ5_linkNodeAtEnd_62 (by decide) ?_
    rw [hQ]
    refine g_vret S G hr hlocks (hdg := dJ5_linkNodeAtEnd_75) ?_ ?_ ?_
    · exact Nat.le_of_ble_eq_true rfl
    · exact Nat.le_of_ble_eq_true rfl
    · refine ⟨rfl, bf, af, some np, DL.push0 hbf haf, ?_, ?_, ?_⟩
      · rw [hw4_]; exact gu_s
      · rw [hw4_, hw1_]; exact ((hE.app hp0).off hmpn).off hmpn
      · rw [hw4_, hw1_]; exact (MK.rf.up (Or.inl rfl)).up (Or.inl rfl)
abbrev rmJ5_newNode : Room := ({ frames := 3, cells := 1, slots := 6, locals := 68 } : Room)
set_option maxHeartbeats 4000000 in
theorem metJ5_newNode (l : Launch) (D : va_G) (K : Nat → Nat) (w : Gh) {mp np : Nat} {tb : Option Nat} {sz md th : Int32} {lf : UInt32} {ks hd tl : Option Nat} {es : List Nat} {hN ky vl : Nat → Nat} {nx bf af : Nat → Option Nat} (ho : w mp = some (.inr (7, mfl tb sz md th lf ks hd tl))) (hbm : K 0 ≤ mp) (hE : EN w es hN ky vl nx bf af) (hbe : ∀ a ∈ es, K 0 ≤ a) (hD : DL es bf af hd tl) (hnd : es.Nodup) (hh k v : Nat) : gMet l yJ5_newNode (ws_ yJ5_newNode cJ5_newNode 6 (some (.object "java/util/HashMap$Node"))) rmJ5_newNode D K [.ref mp, .int (nI hh), .ref k, .ref v, .null] w (fun r' w' => ∃ np bf' af' hd', r' = some (.ref np) ∧ w np = none ∧ K 0 ≤ np ∧ DL (es ++ [np]) bf' af' hd' (some np) ∧ w' mp = some (.inr (7, mfl tb sz md th lf ks hd' (some np))) ∧ EN w' (es ++ [np]) (va_up hN np hh) (va_up ky np k) (va_up vl np v) (va_up nx np none) bf' af' ∧ MK w w' mp es) := by
  refine gMet.of (by decide) (Nat.le_of_ble_eq_true rfl) ?_
  intro p e s m args below meth c H locs ls S M hr hlocks hname G hl
  have hx := S.1
  have hb := S.2.1
  have hown := S.2.2.2.1
  have hts := S.2.2.2.2
  have hl : lv_has ls 6 [(0, .ref mp), (1, .int (nI hh)), (2, .ref k), (3, .ref v), (4, .null)] := hl
  obtain ⟨Q, hQ⟩ : ∃ Q, Q = gE below D K (fun r' w' => ∃ np bf' af' hd', r' = some (.ref np) ∧ w np = none ∧ K 0 ≤ np ∧ DL (es ++ [np]) bf' af' hd' (some np) ∧ w' mp = some (.inr (7, mfl tb sz md th lf ks hd' (some np))) ∧ EN w' (es ++ [np]) (va_up hN np hh) (va_up ky np k) (va_up vl np v) (va_up nx np none) bf' af' ∧ MK w w' mp es) args s rmJ5_newNode.cells rmJ5_newNode.slots := ⟨_, rfl⟩
  rw [← hQ]
  refine g_new (pc := 0) S M G (C := RJ22) (T := TJ22) (N := 6) (ci := 8) (fs := [.int 0, .null, .null, .null, .null, .null]) in_J22 tyJ22 tyJ22_ok q782 q783 q47 rfl df_J22 (Nat.le_of_ble_eq_true rfl) (Nat.le_of_ble_eq_true rfl) dJ5_newNode_0 (fun q1_ H hnq1_ hbq1_ heq1_ hsq1_ G => ?_)
  refine W.widen (k := 1) (n := 6) (Nat.le_of_ble_eq_true rfl) (Nat.le_of_ble_eq_true rfl) ?_
  obtain ⟨w2_, hw2_⟩ : ∃ z9, z9 = gu w q1_ (.inr (8, [.int 0, .null, .null, .null, .null, .null])) := ⟨_, rfl⟩
  replace G : gS D K w2_ s H locs := by rw [hw2_]; exact G
  have c2_mp : w2_ mp = some (.inr (7, [va_rf tb, .null, .int sz, .int md, .int th, .float lf, va_rf ks, .null, va_rf hd, va_rf tl, .int 0, .int 0])) := by rw [hw2_, gu_n (gne_f ho hnq1_)]; exact ho
  have c2_q1_ : w2_ q1_ = some (.inr (8, [.int 0, .null, .null, .null, .null, .null])) := by rw [hw2_]; exact gu_s
  refine lv_dup (pc := 3) hx hb dJ5_newNode_3 rfl ?_
  refine lv_iload_n (pc := 4) hx hb dJ5_newNode_4 rfl (lv_at hl 1 rfl) ?_
  refine lv_aload_n (pc := 5) hx hb dJ5_newNode_5 rfl (lv_at hl 2 rfl) ?_
  refine lv_aload_n (pc := 6) hx hb dJ5_newNode_6 rfl (lv_at hl 3 rfl) ?_
  refine lv_aloadN (pc := 7) hx hb dJ5_newNode_7 (lv_at hl 4 rfl) ?_
  refine g_callI (pc := 9) S M G hl.1 [.int (nI hh), .ref k, .ref v, .null] [.ref q1_] (metJ22_init l D K w2_ (h := nI hh) (k := k) (v := v) c2_q1_ hbq1_) 4 q786 q784 q785 q47 rfl (by decide) rfl ⟨Nat.le_of_ble_eq_true rfl, Nat.le_of_ble_eq_true rfl⟩ rfl (Nat.le_of_ble_eq_true rfl) dJ5_newNode_9 ⟨Nat.le_of_ble_eq_true rfl, Nat.le_of_ble_eq_true rfl⟩ (fun r w2 H locs hp G => ?_)
  obtain ⟨rfl, hw2⟩ := hp
  rw [hw2] at G
  obtain ⟨w3_, hw3_⟩ : ∃ z9, z9 = gu w2_ q1_ (.inr (8, [.int (nI hh), .ref k, .ref v, .null, .null, .null])) := ⟨_, rfl⟩
  replace G : gS D K w3_ s H locs := by rw [hw3_]; exact G
  have c3_mp : w3_ mp = some (.inr (7, [va_rf tb, .null, .int sz, .int md, .int th, .float lf, va_rf ks, .null, va_rf hd, va_rf tl, .int 0, .int 0])) := by rw [hw3_, gu_n (gne_c c2_mp c2_q1_ (by decide))]; exact c2_mp
  have c3_q1_ : w3_ q1_ = some (.inr (8, [.int (nI hh), .ref k, .ref v, .null, .null, .null])) := by rw [hw3_]; exact gu_s
  refine W.eq (g2 := F0 m 12 ls [.ref q1_]) rfl ?_
  refine lv_astore (pc := 12) (lv' := [(5, .ref q1_), (0, .ref mp), (1, .int (nI hh)), (2, .ref k), (3, .ref v), (4, .null)]) hx hb dJ5_newNode_12 hl (by decide) rfl (fun ls hl => ?_)
  refine lv_aload_n (pc := 14) hx hb dJ5_newNode_14 rfl (lv_at hl 1 rfl) ?_
  refine lv_aload (pc := 15) hx hb dJ5_newNode_15 (lv_at hl 0 rfl) ?_
  have hwn : w q1_ = none := hnq1_
  have hnn : q1_ ∉ es := hE.non hwn
  have hEx : EN w3_ es (va_up hN q1_ hh) (va_up ky q1_ k) (va_up vl q1_ v) (va_up nx q1_ none) (va_up bf q1_ none) (va_up af q1_ none) := by
    rw [hw3_, hw2_]
    exact ((hE.off hnn).off hnn).cg (fun a ha => by
      have q : a ≠ q1_ := fun q => hnn (by rw [← q]; exact ha)
      exact ⟨va_up_ne _ _ q, va_up_ne _ _ q, va_up_ne _ _ q, va_up_ne _ _ q, va_up_ne _ _ q, va_up_ne _ _ q⟩)
  have hDx : DL es (va_up bf q1_ none) (va_up af q1_ none) hd tl := hD.cg (fun a ha => va_up_ne _ _ (fun q => hnn (by rw [← q]; exact ha))) (fun a ha => va_up_ne _ _ (fun q => hnn (by rw [← q]; exact ha)))
  refine g_callV (pc := 17) S M G hl.1 [.ref q1_] [] (metJ5_linkNodeAtEnd l D K w3_ c3_mp hbm hEx hbe hDx hnd (by rw [va_up_self, va_up_self, va_up_self, va_up_self, va_up_self, va_up_self]; exact c3_q1_) (va_up_self _ _ _) (va_up_self _ _ _) hbq1_ hnn) 1 (g_recv M G c3_mp (q := (RJ5, TJ5, 12)) rfl) q889 q886 q888 qs8 q25 (by decide) rfl ⟨Nat.le_of_ble_eq_true rfl, Nat.le_of_ble_eq_true rfl⟩ rfl (Nat.le_of_ble_eq_true rfl) dJ5_newNode_17 ⟨Nat.le_of_ble_eq_true rfl, Nat.le_of_ble_eq_true rfl⟩ (fun r w2 H locs hp G => ?_)
  obtain ⟨rfl, bf', af', hd', hD', ho', hE', hMK⟩ := hp
  refine W.eq (g2 := F0 m 20 ls []) rfl ?_
  refine lv_aload (pc := 20) hx hb dJ5_newNode_20 (lv_at hl 0 rfl) ?_
  rw [hQ]
  refine g_aret S G (rt := (.object "java/util/HashMap$Node")) (r := some q1_) hr (Or.inl ⟨_, rfl⟩) hlocks (hdg := dJ5_newNode_22) ?_ ?_ ?_
  · exact Nat.le_of_ble_eq_true rfl
  · exact Nat.le_of_ble_eq_true rfl
  · refine ⟨q1_, bf', af', hd', rfl, hwn, hbq1_, hD', ho', hE', ?_⟩
    intro a e' h1 h2 h3
    have h4 : a ≠ q1_ := gne_f h1 hwn
    refine hMK a e' ?_ h2 (fun q => ?_)
    · rw [hw3_, hw2_, gu_n h4, gu_n h4]; exact h1
    · rcases List.mem_append.mp q with q | q
      · exact h3 q
      · exact h4 (List.mem_singleton.mp q)
abbrev rmJ5_removeEldestEntry : Room := ({ frames := 0, cells := 0, slots := 0, locals := 0 } : Room)
set_option maxHeartbeats 4000000 in
theorem metJ5_removeEldestEntry (l : Launch) (D : va_G) (K : Nat → Nat) (w : Gh) {mp x : Nat} : gMet l yJ5_removeEldestEntry (ws_ yJ5_removeEldestEntry cJ5_removeEldestEntry 2 (some .boolean)) rmJ5_removeEldestEntry D K [.ref mp, .ref x] w (fun r' w' => r' = some (.int 0) ∧ w' = w) := by
  refine gMet.of (by decide) (Nat.le_of_ble_eq_true rfl) ?_
  intro p e s m args below meth c H locs ls S M hr hlocks hname G hl
  have hx := S.1
  have hb := S.2.1
  have hown := S.2.2.2.1
  have hts := S.2.2.2.2
  have hl : lv_has ls 2 [(0, .ref mp), (1, .ref x)] := hl
  obtain ⟨Q, hQ⟩ : ∃ Q, Q = gE below D K (fun r' w' => r' = some (.int 0) ∧ w' = w) args s rmJ5_removeEldestEntry.cells rmJ5_removeEldestEntry.slots := ⟨_, rfl⟩
  rw [← hQ]
  refine lv_iconst (pc := 0) (v := 0) hx hb dJ5_removeEldestEntry_0 (by decide) ?_
  rw [hQ]
  refine g_zret S G hr hlocks (hv := ?_) (hdg := dJ5_removeEldestEntry_1) ?_ ?_ ?_
  · first | exact Or.inl rfl | exact Or.inr rfl | exact Or.inl rfl
  · exact Nat.le_of_ble_eq_true rfl
  · exact Nat.le_of_ble_eq_true rfl
  · exact ⟨rfl, rfl⟩
abbrev rmJ5_afterNodeInsertion : Room := ({ frames := 1, cells := 0, slots := 0, locals := 21 } : Room)
set_option maxHeartbeats 4000000 in
theorem metJ5_afterNodeInsertion (l : Launch) (D : va_G) (K : Nat → Nat) (w : Gh) {mp : Nat} {tb : Option Nat} {sz md th : Int32} {lf : UInt32} {ks hd tl : Option Nat} (ho : w mp = some (.inr (7, mfl tb sz md th lf ks hd tl))) : gMet l yJ5_afterNodeInsertion (ws_ yJ5_afterNodeInsertion cJ5_afterNodeInsertion 4 none) rmJ5_afterNodeInsertion D K [.ref mp, .int 1] w (fun r' w' => r' = none ∧ w' = w) := by
  refine gMet.of (by decide) (Nat.le_of_ble_eq_true rfl) ?_
  intro p e s m args below meth c H locs ls S M hr hlocks hname G hl
  have hx := S.1
  have hb := S.2.1
  have hown := S.2.2.2.1
  have hts := S.2.2.2.2
  have hl : lv_has ls 4 [(0, .ref mp), (1, .int 1)] := hl
  obtain ⟨Q, hQ⟩ : ∃ Q, Q = gE below D K (fun r' w' => r' = none ∧ w' = w) args s rmJ5_afterNodeInsertion.cells rmJ5_afterNodeInsertion.slots := ⟨_, rfl⟩
  rw [← hQ]
  refine lv_iload_n (pc := 0) hx hb dJ5_afterNodeInsertion_0 rfl (lv_at hl 1 rfl) ?_
  refine lv_if_eq (pc := 1) (tgt := 39) hx hb dJ5_afterNodeInsertion_1 (by decide) (fun c => absurd c (by decide)) (fun _ => ?_)
  refine lv_aload_n (pc := 4) hx hb dJ5_afterNodeInsertion_4 rfl (lv_at hl 0 rfl) ?_
  refine g_get (pc := 5) (v := va_rf hd) S M G (C := RJ5) (T := TJ5) (N := 12) (ci := 7) in_J5 ho rfl 8 (by decide) q124 (Or.inl rfl) rfl dJ5_afterNodeInsertion_5 ?_
  refine lv_dup (pc := 8) hx hb dJ5_afterNodeInsertion_8 (cat_rf _) ?_
  refine gv_astore_n (pc := 9) (lv' := [(2, va_rf hd), (0, .ref mp), (1, .int 1)]) S dJ5_afterNodeInsertion_9 rfl hl (by decide) rfl (fun ls hl => ?_)
  refine gv_ifnull (pc := 10) (tgt := 39) S dJ5_afterNodeInsertion_10 (by decide) (fun h1 => ?_) (fun hdv h1 => ?_)
  · have hlx_h1 := hl
    have Gx_h1 := G
    subst h1
    have hl := hlx_h1
    have G : gS D K w s H locs := Gx_h1
    have hl : lv_has ls 4 [(2, .null), (0, .ref mp), (1, .int 1)] := hl
    refine W.eq (g2 := F0 m 39 ls []) rfl ?_
    rw [hQ]
    refine g_vret S G hr hlocks (hdg := dJ5_afterNodeInsertion_39) ?_ ?_ ?_
    · exact Nat.le_of_ble_eq_true rfl
    · exact Nat.le_of_ble_eq_true rfl
    · exact ⟨rfl, rfl⟩
  · have hlx_h1 := hl
    have Gx_h1 := G
    subst h1
    have hl := hlx_h1
    have G : gS D K w s H locs := Gx_h1
    have hl : lv_has ls 4 [(2, .ref hdv), (0, .ref mp), (1, .int 1)] := hl
    refine W.eq (g2 := F0 m 13 ls []) rfl ?_
    refine lv_aload_n (pc := 13) hx hb dJ5_afterNodeInsertion_13 rfl (lv_at hl 1 rfl) ?_
    refine lv_aload_n (pc := 14) hx hb dJ5_afterNodeInsertion_14 rfl (lv_at hl 0 rfl) ?_
    refine g_callV (pc := 15) S M G hl.1 [.ref hdv] [] (metJ5_removeEldestEntry l D K w) 1 (g_recv M G ho (q := (RJ5, TJ5, 12)) rfl) q994 q991 q992 q993 q25 (by decide) rfl ⟨Nat.le_of_ble_eq_true rfl, Nat.le_of_ble_eq_true rfl⟩ rfl (Nat.le_of_ble_eq_true rfl) dJ5_afterNodeInsertion_15 ⟨Nat.le_of_ble_eq_true rfl, Nat.le_of_ble_eq_true rfl⟩ (fun r w2 H locs hp G => ?_)
    obtain ⟨rfl, hw2⟩ := hp
    rw [hw2] at G
    refine W.eq (g2 := F0 m 18 ls [.int 0]) rfl ?_
    refine lv_if_eq (pc := 18) (tgt := 39) hx hb dJ5_afterNodeInsertion_18 (by decide) (fun _ => ?_) (fun c => absurd c (by decide))
    rw [hQ]
    refine g_vret S G hr hlocks (hdg := dJ5_afterNodeInsertion_39) ?_ ?_ ?_
    · exact Nat.le_of_ble_eq_true rfl
    · exact Nat.le_of_ble_eq_true rfl
    · exact ⟨rfl, rfl⟩
abbrev rmJ5_afterNodeAccess : Room := ({ frames := 0, cells := 0, slots := 0, locals := 0 } : Room)
set_option maxHeartbeats 4000000 in
theorem metJ5_afterNodeAccess (l : Launch) (D : va_G) (K : Nat → Nat) (w : Gh) {mp : Nat} {tb : Option Nat} {sz md th : Int32} {lf : UInt32} {ks hd tl : Option Nat} (ho : w mp = some (.inr (7, mfl tb sz md th lf ks hd tl))) (x : Nat) : gMet l yJ5_afterNodeAccess (ws_ yJ5_afterNodeAccess cJ5_afterNodeAccess 7 none) rmJ5_afterNodeAccess D K [.ref mp, .ref x] w (fun r' w' => r' = none ∧ w' = w) := by
  refine gMet.of (by decide) (Nat.le_of_ble_eq_true rfl) ?_
  intro p e s m args below meth c H locs ls S M hr hlocks hname G hl
  have hx := S.1
  have hb := S.2.1
  have hown := S.2.2.2.1
  have hts := S.2.2.2.2
  have hl : lv_has ls 7 [(0, .ref mp), (1, .ref x)] := hl
  obtain ⟨Q, hQ⟩ : ∃ Q, Q = gE below D K (fun r' w' => r' = none ∧ w' = w) args s rmJ5_afterNodeAccess.cells rmJ5_afterNodeAccess.slots := ⟨_, rfl⟩
  rw [← hQ]
  refine lv_aload_n (pc := 0) hx hb dJ5_afterNodeAccess_0 rfl (lv_at hl 0 rfl) ?_
  refine g_get (pc := 1) (v := .int 0) S M G (C := RJ5) (T := TJ5) (N := 12) (ci := 7) in_J5 ho rfl 11 (by decide) q129 (Or.inl rfl) rfl dJ5_afterNodeAccess_1 ?_
  refine lv_iconst (pc := 4) (v := 2) hx hb dJ5_afterNodeAccess_4 (by decide) ?_
  refine lv_icmp_eq (pc := 5) (tgt := 22) hx hb dJ5_afterNodeAccess_5 (by decide) (fun c => absurd c (by decide)) (fun _ => ?_)
  refine lv_aload_n (pc := 8) hx hb dJ5_afterNodeAccess_8 rfl (lv_at hl 0 rfl) ?_
  refine g_get (pc := 9) (v := .int 0) S M G (C := RJ5) (T := TJ5) (N := 12) (ci := 7) in_J5 ho rfl 11 (by decide) q129 (Or.inl rfl) rfl dJ5_afterNodeAccess_9 ?_
  refine lv_if_ne (pc := 12) (tgt := 141) hx hb dJ5_afterNodeAccess_12 (by decide) (fun c => absurd c (by decide)) (fun _ => ?_)
  refine lv_aload_n (pc := 15) hx hb dJ5_afterNodeAccess_15 rfl (lv_at hl 0 rfl) ?_
  refine g_get (pc := 16) (v := .int 0) S M G (C := RJ5) (T := TJ5) (N := 12) (ci := 7) in_J5 ho rfl 10 (by decide) q128 (Or.inl rfl) rfl dJ5_afterNodeAccess_16 ?_
  refine lv_if_eq (pc := 19) (tgt := 141) hx hb dJ5_afterNodeAccess_19 (by decide) (fun _ => ?_) (fun c => absurd c (by decide))
  refine lv_aload_n (pc := 141) hx hb dJ5_afterNodeAccess_141 rfl (lv_at hl 0 rfl) ?_
  refine g_get (pc := 142) (v := .int 0) S M G (C := RJ5) (T := TJ5) (N := 12) (ci := 7) in_J5 ho rfl 11 (by decide) q129 (Or.inl rfl) rfl dJ5_afterNodeAccess_142 ?_
  refine lv_iconst (pc := 145) (v := 1) hx hb dJ5_afterNodeAccess_145 (by decide) ?_
  refine lv_icmp_ne (pc := 146) (tgt := 265) hx hb dJ5_afterNodeAccess_146 (by decide) (fun _ => ?_) (fun c => absurd c (by decide))
  rw [hQ]
  refine g_vret S G hr hlocks (hdg := dJ5_afterNodeAccess_265) ?_ ?_ ?_
  · exact Nat.le_of_ble_eq_true rfl
  · exact Nat.le_of_ble_eq_true rfl
  · exact ⟨rfl, rfl⟩
abbrev rmJ5_get : Room := ({ frames := 3, cells := 0, slots := 0, locals := 68 } : Room)
set_option maxHeartbeats 4000000 in
theorem metJ5_get (l : Launch) (D : va_G) (K : Nat → Nat) (w : Gh) {mp t n : Nat} {f : Nat → Option Nat} {sz md th : Int32} {lf : UInt32} {ks hd tl : Option Nat} {es : List Nat} {hN ky vl : Nat → Nat} {nx bf af : Nat → Option Nat} (ho : w mp = some (.inr (7, mfl (some t) sz md th lf ks hd tl))) (ht : w t = some (.inl (D.1 103, n, gra f))) (hn : p2 n) (hE : EN w es hN ky vl nx bf af) (hKy : ∀ a ∈ es, KY w (ky a) (hN a)) (hlt : ∀ a ∈ es, hN a < 300) {key h : Nat} (hk : KY w key h) (hh : h < 300) {LL : List Nat} (hl0 : Sg nx (f (h % n)) LL none) (hle : ∀ a ∈ LL, a ∈ es) {a : Nat} (hfa : LL.find? (fun a => hN a == h) = some a) : gMet l yJ5_get (ws_ yJ5_get cJ5_get 3 (some (.object "java/lang/Object"))) rmJ5_get D K [.ref mp, .ref key] w (fun r' w' => r' = some (.ref (vl a)) ∧ w' = w) := by
  refine gMet.of (by decide) (Nat.le_of_ble_eq_true rfl) ?_
  intro p e s m args below meth c H locs ls S M hr hlocks hname G hl
  have hx := S.1
  have hb := S.2.1
  have hown := S.2.2.2.1
  have hts := S.2.2.2.2
  have hl : lv_has ls 3 [(0, .ref mp), (1, .ref key)] := hl
  obtain ⟨Q, hQ⟩ : ∃ Q, Q = gE below D K (fun r' w' => r' = some (.ref (vl a)) ∧ w' = w) args s rmJ5_get.cells rmJ5_get.slots := ⟨_, rfl⟩
  rw [← hQ]
  have cea := hE a (hle a (List.mem_of_find?_eq_some hfa))
  refine lv_aload_n (pc := 0) hx hb dJ5_get_0 rfl (lv_at hl 0 rfl) ?_
  refine lv_aload_n (pc := 1) hx hb dJ5_get_1 rfl (lv_at hl 1 rfl) ?_
  refine g_callU (pc := 2) (owner := "java/util/HashMap") S M G hl.1 [.ref key] [] (metJ4_getNode l D K w ho ht hn hE hKy hlt hk hh hl0 hle) 1 (g_recv M G ho (q := (RJ5, TJ5, 12)) rfl) q1110 q1105 q1106 (va_Decl.abs (M.1.2.2.1 _ q1107 rfl)) q1109 q1108 q24 (by decide) rfl ⟨Nat.le_of_ble_eq_true rfl, Nat.le_of_ble_eq_true rfl⟩ rfl (Nat.le_of_ble_eq_true rfl) dJ5_get_2 ⟨Nat.le_of_ble_eq_true rfl, Nat.le_of_ble_eq_true rfl⟩ (fun r w2 H locs hp G => ?_)
  obtain ⟨rfl, hw2⟩ := hp
  rw [hw2] at G
  rw [hfa]
  refine W.eq (g2 := F0 m 5 ls [.ref a]) rfl ?_
  refine lv_dup (pc := 5) hx hb dJ5_get_5 rfl ?_
  refine lv_astore_n (pc := 6) (lv' := [(2, .ref a), (0, .ref mp), (1, .ref key)]) hx hb dJ5_get_6 rfl hl (by decide) rfl (fun ls hl => ?_)
  refine lv_ifnonnull (pc := 7) (tgt := 12) hx hb dJ5_get_7 (by decide) ?_
  refine lv_aload_n (pc := 12) hx hb dJ5_get_12 rfl (lv_at hl 1 rfl) ?_
  refine g_get (pc := 13) (v := .int 0) S M G (C := RJ5) (T := TJ5) (N := 12) (ci := 7) in_J5 ho rfl 10 (by decide) q128 (Or.inl rfl) rfl dJ5_get_13 ?_
  refine lv_if_eq (pc := 16) (tgt := 24) hx hb dJ5_get_16 (by decide) (fun _ => ?_) (fun c => absurd c (by decide))
  refine lv_aload_n (pc := 24) hx hb dJ5_get_24 rfl (lv_at hl 0 rfl) ?_
  refine g_get (pc := 25) (v := .ref (vl a)) S M G (C := RJ22) (T := TJ22) (N := 6) (ci := 8) in_J22 cea rfl 2 (by decide) q811 (Or.inl rfl) rfl dJ5_get_25 ?_
  rw [hQ]
  refine g_aret S G (rt := (.object "java/lang/Object")) (r := some (vl a)) hr (Or.inl ⟨_, rfl⟩) hlocks (hdg := dJ5_get_28) ?_ ?_ ?_
  · exact Nat.le_of_ble_eq_true rfl
  · exact Nat.le_of_ble_eq_true rfl
  · exact ⟨rfl, rfl⟩
