/-! HashMap.resize, the walk -/
abbrev p3 (n : Nat) : Prop := n = 16 ∨ n = 32 ∨ n = 64
theorem p3_2 {n : Nat} (hn : p3 n) : p2 n := by rcases hn with h | h | h <;> simp [p2, h]
theorem p3_22 {n : Nat} (hn : p3 n) : p2 (2 * n) := by rcases hn with h | h | h <;> simp [p2, h]
theorem p3_le {n : Nat} (hn : p3 n) : n ≤ 64 := by rcases hn with rfl | rfl | rfl <;> decide
theorem p3_z1 {n : Nat} (hn : p3 n) : nI n < 1073741824 := by rcases hn with rfl | rfl | rfl <;> decide
theorem p3_z2 {n : Nat} (hn : p3 n) : ¬ 1073741824 ≤ nI (2 * n) := by rcases hn with rfl | rfl | rfl <;> decide
theorem p3_z3 {n : Nat} (hn : p3 n) : ¬ nI n < 16 := by rcases hn with rfl | rfl | rfl <;> decide
theorem p3_z4 {n : Nat} (hn : p3 n) : ¬ nI (2 * n / 4 * 3) = 0 := by rcases hn with rfl | rfl | rfl <;> decide
theorem p3_sh {n : Nat} (hn : p3 n) : nI n <<< ((1 : Int32) &&& 31) = nI (2 * n) := by rcases hn with rfl | rfl | rfl <;> decide
theorem p3_sh4 {n : Nat} (hn : p3 n) : nI (n / 4 * 3) <<< ((1 : Int32) &&& 31) = nI (2 * n / 4 * 3) := by rcases hn with rfl | rfl | rfl <;> decide
theorem p2_andc {n h : Nat} (hn : p2 n) (hh : h < 300) : nI h &&& (nI n - 1) = nI (h % n) := by rw [Int32.and_comm]; exact p2_and hn hh
theorem RS.put2 {es : List Nat} {hN : Nat → Nat} {n : Nat} {f : Nat → Option Nat} {ch : Nat → List Nat} {j : Nat} {g g1 nx nx1 : Nat → Option Nat} (h : RS hN n f ch j g nx) (hC : CO es hN n ch) (hj : j < n) (hx : ∀ a, a ∉ ch j → nx1 a = nx a) {X Y : Option Nat} (hX : Sg nx1 X ((ch j).filter (fun a => hN a % (2 * n) == j)) none) (hY : Sg nx1 Y ((ch j).filter (fun a => hN a % (2 * n) == j + n)) none) (h1 : g1 j = X) (h2 : g1 (j + n) = Y)
    (hg : ∀ i, i ≠ j → i ≠ j + n → g1 i = g i) : RS hN n f ch (j + 1) g1 nx1 := h.put hC hj hx hg (by rw [h1]; exact hX) (by rw [h2]; exact hY)
theorem SP.me {hN : Nat → Nat} {n j : Nat} {c : List Nat} {nx0 nx : Nat → Option Nat} {pre rest : List Nat} {e : Nat} {lh lt hh ht : Option Nat} (h : SP hN n j c nx0 nx pre rest e lh lt hh ht) : e ∈ c := by rw [h.1]; exact List.mem_append_right _ List.mem_cons_self
theorem SP.ml {hN : Nat → Nat} {n j : Nat} {c : List Nat} {nx0 nx : Nat → Option Nat} {pre rest : List Nat} {e t : Nat} {lh hh ht : Option Nat} (h : SP hN n j c nx0 nx pre rest e lh (some t) hh ht) : t ∈ c := by rw [h.1]; exact List.mem_append_left _ (List.mem_filter.mp h.2.1.mem).1
theorem SP.mh {hN : Nat → Nat} {n j : Nat} {c : List Nat} {nx0 nx : Nat → Option Nat} {pre rest : List Nat} {e t : Nat} {lh lt hh : Option Nat} (h : SP hN n j c nx0 nx pre rest e lh lt hh (some t)) : t ∈ c := by rw [h.1]; exact List.mem_append_left _ (List.mem_filter.mp h.2.2.1.mem).1
theorem SE.lon {hN : Nat → Nat} {n j : Nat} {c : List Nat} {nx0 nx : Nat → Option Nat} {lh hh ht : Option Nat} (h : SE hN n j c nx0 nx lh none hh ht) : Sg nx none (c.filter (fun a => hN a % (2 * n) == j)) none ∧ Lh nx hh ht (c.filter (fun a => hN a % (2 * n) == j + n)) ∧ ∀ a, a ∉ c → nx a = nx0 a := ⟨by rw [h.1.none'.1]; rfl, h.2.1, h.2.2⟩
theorem SE_hi {hN : Nat → Nat} {n j : Nat} {c : List Nat} {nx0 nx : Nat → Option Nat} {t : Nat} {X hh : Option Nat} (h : Sg nx X (c.filter (fun a => hN a % (2 * n) == j)) none ∧ Lh nx hh (some t) (c.filter (fun a => hN a % (2 * n) == j + n)) ∧ ∀ a, a ∉ c → nx a = nx0 a) (hc : c.Nodup) (hn : 0 < n) : Sg (va_up nx t none) X (c.filter (fun a => hN a % (2 * n) == j)) none ∧ Sg (va_up nx t none) hh (c.filter (fun a => hN a % (2 * n) == j + n)) none ∧ ∀ a, a ∉ c → va_up nx t none a = nx0 a := by
  have ht := List.mem_filter.mp h.2.1.mem
  refine ⟨h.1.up (fun q => ?_), h.2.1.fin (hc.filter _), fun a ha => ?_⟩
  · have q1 := beq_iff_eq.mp (List.mem_filter.mp q).2
    have q2 := beq_iff_eq.mp ht.2
    omega
  · rw [va_up_ne _ _ (fun q => ha (by rw [q]; exact ht.1))]; exact h.2.2 a ha
theorem SE_hin {hN : Nat → Nat} {n j : Nat} {c : List Nat} {nx0 nx : Nat → Option Nat} {X hh : Option Nat} (h : Sg nx X (c.filter (fun a => hN a % (2 * n) == j)) none ∧ Lh nx hh none (c.filter (fun a => hN a % (2 * n) == j + n)) ∧ ∀ a, a ∉ c → nx a = nx0 a) : Sg nx X (c.filter (fun a => hN a % (2 * n) == j)) none ∧ Sg nx none (c.filter (fun a => hN a % (2 * n) == j + n)) none ∧ ∀ a, a ∉ c → nx a = nx0 a := ⟨h.1, by rw [h.2.1.none'.1]; rfl, h.2.2⟩
theorem nle_lt {a b : Nat} (h : ¬ nI a ≤ nI b) (ha : a < 2 ^ 31) (hb : b < 2 ^ 31) : b < a := Nat.not_le.mp (fun q => h (nI_le q hb))
abbrev rmJ4_resize0 : Room := ({ frames := 0, cells := 1, slots := 16, locals := 0 } : Room)
set_option maxHeartbeats 4000000 in
theorem metJ4_resize0 (l : Launch) (D : va_G) (K : Nat → Nat) (w : Gh) {mp : Nat} {sz md : Int32} {lf : UInt32} {ks hd tl : Option Nat} (ho : w mp = some (.inr (7, mfl none sz md 0 lf ks hd tl))) (hbm : K 0 ≤ mp) : gMet l yJ4_resize (ws_ yJ4_resize cJ4_resize 14 (some (.array (.object "java/util/HashMap$Node")))) rmJ4_resize0 D K [.ref mp] w (fun r' w' => ∃ t', r' = some (.ref t') ∧ w t' = none ∧ K 0 ≤ t' ∧ w' mp = some (.inr (7, mfl (some t') sz md 12 lf ks hd tl)) ∧ w' t' = some (.inl (D.1 103, 16, gra (fun _ => none))) ∧ ∀ a x, w a = some x → a ≠ mp → w' a = some x) := by
  refine gMet.of (by decide) (Nat.le_of_ble_eq_true rfl) ?_
  intro p e s m args below meth c H locs ls S M hr hlocks hname G hl
  have hx := S.1
  have hb := S.2.1
  have hown := S.2.2.2.1
  have hts := S.2.2.2.2
  have hl : lv_has ls 14 [(0, .ref mp)] := hl
  obtain ⟨Q, hQ⟩ : ∃ Q, Q = gE below D K (fun r' w' => ∃ t', r' = some (.ref t') ∧ w t' = none ∧ K 0 ≤ t' ∧ w' mp = some (.inr (7, mfl (some t') sz md 12 lf ks hd tl)) ∧ w' t' = some (.inl (D.1 103, 16, gra (fun _ => none))) ∧ ∀ a x, w a = some x → a ≠ mp → w' a = some x) args s rmJ4_resize0.cells rmJ4_resize0.slots := ⟨_, rfl⟩
  rw [← hQ]
  refine lv_aload_n (pc := 0) hx hb dJ4_resize_0 rfl (lv_at hl 0 rfl) ?_
  refine g_get (pc := 1) (v := .null) S M G (C := RJ5) (T := TJ5) (N := 12) (ci := 7) in_J5 ho rfl 0 (by decide) q130 (Or.inl rfl) rfl dJ4_resize_1 ?_
  refine lv_astore_nN (pc := 4) (lv' := [(1, .null), (0, .ref mp)]) hx hb dJ4_resize_4 rfl hl (by decide) rfl (fun ls hl => ?_)
  refine lv_aload_nN (pc := 5) hx hb dJ4_resize_5 rfl (lv_at hl 0 rfl) ?_
  refine lv_ifnonnullN (pc := 6) hx hb dJ4_resize_6 ?_
  refine lv_iconst (pc := 9) (v := 0) hx hb dJ4_resize_9 (by decide) ?_
  refine lv_goto (pc := 10) (tgt := 15) hx hb dJ4_resize_10 (by decide) ?_
  refine lv_istore_n (pc := 15) (lv' := [(2, .int 0), (1, .null), (0, .ref mp)]) hx hb dJ4_resize_15 rfl hl (by decide) rfl (fun ls hl => ?_)
  refine lv_aload_n (pc := 16) hx hb dJ4_resize_16 rfl (lv_at hl 2 rfl) ?_
  refine g_get (pc := 17) (v := .int 0) S M G (C := RJ5) (T := TJ5) (N := 12) (ci := 7) in_J5 ho rfl 4 (by decide) q136 (Or.inl rfl) rfl dJ4_resize_17 ?_
  refine lv_istore_n (pc := 20) (lv' := [(3, .int 0), (2, .int 0), (1, .null), (0, .ref mp)]) hx hb dJ4_resize_20 rfl hl (by decide) rfl (fun ls hl => ?_)
  refine lv_iconst (pc := 21) (v := 0) hx hb dJ4_resize_21 (by decide) ?_
  refine lv_istore (pc := 22) (lv' := [(5, .int 0), (3, .int 0), (2, .int 0), (1, .null), (0, .ref mp)]) hx hb dJ4_resize_22 hl (by decide) rfl (fun ls hl => ?_)
  refine lv_iload_n (pc := 24) hx hb dJ4_resize_24 rfl (lv_at hl 2 rfl) ?_
  refine lv_if_le (pc := 25) (tgt := 67) hx hb dJ4_resize_25 (by decide) (fun _ => ?_) (fun c => absurd c (by decide))
  refine lv_iload_n (pc := 67) hx hb dJ4_resize_67 rfl (lv_at hl 1 rfl) ?_
  refine lv_if_le (pc := 68) (tgt := 77) hx hb dJ4_resize_68 (by decide) (fun _ => ?_) (fun c => absurd c (by decide))
  refine lv_bipush (pc := 77) (v := 16) hx hb dJ4_resize_77 (by decide) ?_
  refine lv_istore (pc := 79) (lv' := [(4, .int 16), (5, .int 0), (3, .int 0), (2, .int 0), (1, .null), (0, .ref mp)]) hx hb dJ4_resize_79 hl (by decide) rfl (fun ls hl => ?_)
  refine lv_bipush (pc := 81) (v := 12) hx hb dJ4_resize_81 (by decide) ?_
  refine lv_istore (pc := 83) (lv' := [(5, .int 12), (4, .int 16), (3, .int 0), (2, .int 0), (1, .null), (0, .ref mp)]) hx hb dJ4_resize_83 hl (by decide) rfl (fun ls hl => ?_)
  refine lv_iload (pc := 85) hx hb dJ4_resize_85 (lv_at hl 0 rfl) ?_
  refine lv_if_ne (pc := 87) (tgt := 125) hx hb dJ4_resize_87 (by decide) (fun _ => ?_) (fun c => absurd c (by decide))
  refine lv_aload_n (pc := 125) hx hb dJ4_resize_125 rfl (lv_at hl 5 rfl) ?_
  refine lv_iload (pc := 126) hx hb dJ4_resize_126 (lv_at hl 0 rfl) ?_
  refine g_put (pc := 128) (v := .int 12) S M G (C := RJ5) (T := TJ5) (N := 12) (ci := 7) in_J5 tyJ5 tyJ5_ok nmJ5 ho hbm rfl 4 (by decide) q136 (Or.inl rfl) rfl rfl rfl (Nat.le_of_ble_eq_true rfl) dJ4_resize_128 (fun H locs G => ?_)
  obtain ⟨w1_, hw1_⟩ : ∃ z9, z9 = gu w mp (.inr (7, [.null, .null, .int sz, .int md, .int 12, .float lf, va_rf ks, .null, va_rf hd, va_rf tl, .int 0, .int 0])) := ⟨_, rfl⟩
  replace G : gS D K w1_ s H locs := by rw [hw1_]; exact G
  have c1_mp : w1_ mp = some (.inr (7, [.null, .null, .int sz, .int md, .int 12, .float lf, va_rf ks, .null, va_rf hd, va_rf tl, .int 0, .int 0])) := by rw [hw1_]; exact gu_s
  refine lv_iload (pc := 131) hx hb dJ4_resize_131 (lv_at hl 1 rfl) ?_
  refine g_newq (pc := 133) S M G (C := "java/util/HashMap$Node") (N' := 16) 3 rfl q764 q765 (by decide) rfl (by decide) (Nat.le_of_ble_eq_true rfl) (Nat.le_trans (show 0 + 16 ≤ 16 from (by decide)) (Nat.le_of_ble_eq_true rfl)) dJ4_resize_133 (fun q2_ H hnq2_ hbq2_ heq2_ hsq2_ G => ?_)
  refine W.widen (k := 1) (n := 16) (Nat.le_of_ble_eq_true rfl) (show 0 + 16 ≤ 16 from (by decide)) ?_
  obtain ⟨w3_, hw3_⟩ : ∃ z9, z9 = gu w1_ q2_ (.inl (D.1 103, 16, .inr (.inr (.inr (.inr (fun _ => none)))))) := ⟨_, rfl⟩
  replace G : gS D K w3_ s H locs := by rw [hw3_]; exact G
  have c3_mp : w3_ mp = some (.inr (7, [.null, .null, .int sz, .int md, .int 12, .float lf, va_rf ks, .null, va_rf hd, va_rf tl, .int 0, .int 0])) := by rw [hw3_, gu_n (gne_f c1_mp hnq2_)]; exact c1_mp
  have c3_q2_ : w3_ q2_ = some (.inl (D.1 103, 16, .inr (.inr (.inr (.inr (fun _ => none)))))) := by rw [hw3_]; exact gu_s
  refine lv_astore (pc := 136) (lv' := [(6, .ref q2_), (5, .int 12), (4, .int 16), (3, .int 0), (2, .int 0), (1, .null), (0, .ref mp)]) hx hb dJ4_resize_136 hl (by decide) rfl (fun ls hl => ?_)
  refine lv_aload_n (pc := 138) hx hb dJ4_resize_138 rfl (lv_at hl 6 rfl) ?_
  refine lv_aload (pc := 139) hx hb dJ4_resize_139 (lv_at hl 0 rfl) ?_
  refine g_put (pc := 141) (v := .ref q2_) S M G (C := RJ5) (T := TJ5) (N := 12) (ci := 7) in_J5 tyJ5 tyJ5_ok nmJ5 c3_mp hbm rfl 0 (by decide) q130 (Or.inl rfl) rfl rfl rfl (Nat.le_of_ble_eq_true rfl) dJ4_resize_141 (fun H locs G => ?_)
  obtain ⟨w4_, hw4_⟩ : ∃ z9, z9 = gu w3_ mp (.inr (7, [.ref q2_, .null, .int sz, .int md, .int 12, .float lf, va_rf ks, .null, va_rf hd, va_rf tl, .int 0, .int 0])) := ⟨_, rfl⟩
  replace G : gS D K w4_ s H locs := by rw [hw4_]; exact G
  have c4_q2_ : w4_ q2_ = some (.inl (D.1 103, 16, .inr (.inr (.inr (.inr (fun _ => none)))))) := by rw [hw4_, gu_n (gne_ao c3_q2_ c3_mp)]; exact c3_q2_
  have c4_mp : w4_ mp = some (.inr (7, [.ref q2_, .null, .int sz, .int md, .int 12, .float lf, va_rf ks, .null, va_rf hd, va_rf tl, .int 0, .int 0])) := by rw [hw4_]; exact gu_s
  refine lv_aload_nN (pc := 144) hx hb dJ4_resize_144 rfl (lv_at hl 5 rfl) ?_
  refine lv_ifnullN (pc := 145) (tgt := 353) hx hb dJ4_resize_145 (by decide) ?_
  refine lv_aload (pc := 353) hx hb dJ4_resize_353 (lv_at hl 0 rfl) ?_
  rw [hQ]
  refine g_aret S G (rt := (.array (.object "java/util/HashMap$Node"))) (r := some q2_) hr (Or.inr ⟨_, rfl⟩) hlocks (hdg := dJ4_resize_355) ?_ ?_ ?_
  · exact Nat.le_of_ble_eq_true rfl
  · exact Nat.le_of_ble_eq_true rfl
  · refine ⟨q2_, rfl, (gu_none (by rw [← hw1_]; exact hnq2_)).1, hbq2_, c4_mp, c4_q2_, fun a x h1 h2 => ?_⟩
    rw [hw4_, gu_n h2, hw3_, gu_n (gne_f h1 (gu_none (by rw [← hw1_]; exact hnq2_)).1), hw1_, gu_n h2]
    exact h1
abbrev rmJ4_resizeN : Room := ({ frames := 0, cells := 1, slots := 128, locals := 0 } : Room)
set_option maxHeartbeats 4000000 in
theorem metJ4_resizeN (l : Launch) (D : va_G) (K : Nat → Nat) (w : Gh) {mp t n : Nat} {f : Nat → Option Nat} {sz md : Int32} {lf : UInt32} {ks hd tl : Option Nat} {es : List Nat} {hN ky vl : Nat → Nat} {nx bf af : Nat → Option Nat} (ho : w mp = some (.inr (7, mfl (some t) sz md (nI (n / 4 * 3)) lf ks hd tl))) (hbm : K 0 ≤ mp) (ht : w t = some (.inl (D.1 103, n, gra f))) (hbt : K 0 ≤ t) (hn : p3 n) (hE : EN w es hN ky vl nx bf af) (hbe : ∀ a ∈ es, K 0 ≤ a) (hlt : ∀ a ∈ es, hN a < 300) (hCH : CHn es hN n f nx) : gMet l yJ4_resize (ws_ yJ4_resize cJ4_resize 14 (some (.array (.object "java/util/HashMap$Node")))) rmJ4_resizeN D K [.ref mp] w (fun r' w' => ∃ t' f' nx', r' = some (.ref t') ∧ w t' = none ∧ K 0 ≤ t' ∧ w' mp = some (.inr (7, mfl (some t') sz md (nI (2 * n / 4 * 3)) lf ks hd tl)) ∧ w' t' = some (.inl (D.1 103, 2 * n, gra f')) ∧ EN w' es hN ky vl nx' bf af ∧ CHn es hN (2 * n) f' nx' ∧ MT w w' mp t es) := by
  refine gMet.of (by decide) (Nat.le_of_ble_eq_true rfl) ?_
  intro p e s m args below meth c H locs ls S M hr hlocks hname G hl
  have hx := S.1
  have hb := S.2.1
  have hown := S.2.2.2.1
  have hts := S.2.2.2.2
  have hl : lv_has ls 14 [(0, .ref mp)] := hl
  obtain ⟨Q, hQ⟩ : ∃ Q, Q = gE below D K (fun r' w' => ∃ t' f' nx', r' = some (.ref t') ∧ w t' = none ∧ K 0 ≤ t' ∧ w' mp = some (.inr (7, mfl (some t') sz md (nI (2 * n / 4 * 3)) lf ks hd tl)) ∧ w' t' = some (.inl (D.1 103, 2 * n, gra f')) ∧ EN w' es hN ky vl nx' bf af ∧ CHn es hN (2 * n) f' nx' ∧ MT w w' mp t es) args s rmJ4_resizeN.cells rmJ4_resizeN.slots := ⟨_, rfl⟩
  rw [← hQ]
  have hn64 := p3_le hn
  have hn0 : 0 < n := p2_pos (p3_2 hn)
  obtain ⟨ch, hch1, hch2, hch3⟩ := hCH
  have hC : CO es hN n ch := ⟨hch2, hch3⟩
  have hF0 : MT w w mp t es := MT.rf
  refine lv_aload_n (pc := 0) hx hb dJ4_resize_0 rfl (lv_at hl 0 rfl) ?_
  refine g_get (pc := 1) (v := .ref t) S M G (C := RJ5) (T := TJ5) (N := 12) (ci := 7) in_J5 ho rfl 0 (by decide) q130 (Or.inl rfl) rfl dJ4_resize_1 ?_
  refine lv_astore_n (pc := 4) (lv' := [(1, .ref t), (0, .ref mp)]) hx hb dJ4_resize_4 rfl hl (by decide) rfl (fun ls hl => ?_)
  refine lv_aload_n (pc := 5) hx hb dJ4_resize_5 rfl (lv_at hl 0 rfl) ?_
  refine lv_ifnonnull (pc := 6) (tgt := 13) hx hb dJ4_resize_6 (by decide) ?_
  refine lv_aload_n (pc := 13) hx hb dJ4_resize_13 rfl (lv_at hl 0 rfl) ?_
  refine g_alen (pc := 14) (v := (nI n)) S M G 3 rfl ht rfl dJ4_resize_14 ?_
  refine lv_istore_n (pc := 15) (lv' := [(2, .int (nI n)), (1, .ref t), (0, .ref mp)]) hx hb dJ4_resize_15 rfl hl (by decide) rfl (fun ls hl => ?_)
  refine lv_aload_n (pc := 16) hx hb dJ4_resize_16 rfl (lv_at hl 2 rfl) ?_
  refine g_get (pc := 17) (v := .int (nI (n / 4 * 3))) S M G (C := RJ5) (T := TJ5) (N := 12) (ci := 7) in_J5 ho rfl 4 (by decide) q136 (Or.inl rfl) rfl dJ4_resize_17 ?_
  refine lv_istore_n (pc := 20) (lv' := [(3, .int (nI (n / 4 * 3))), (2, .int (nI n)), (1, .ref t), (0, .ref mp)]) hx hb dJ4_resize_20 rfl hl (by decide) rfl (fun ls hl => ?_)
  refine lv_iconst (pc := 21) (v := 0) hx hb dJ4_resize_21 (by decide) ?_
  refine lv_istore (pc := 22) (lv' := [(5, .int 0), (3, .int (nI (n / 4 * 3))), (2, .int (nI n)), (1, .ref t), (0, .ref mp)]) hx hb dJ4_resize_22 hl (by decide) rfl (fun ls hl => ?_)
  refine lv_iload_n (pc := 24) hx hb dJ4_resize_24 rfl (lv_at hl 2 rfl) ?_
  refine lv_if_le (pc := 25) (tgt := 67) hx hb dJ4_resize_25 (by decide) (fun c => absurd c (p2_nle (p3_2 hn))) (fun _ => ?_)
  refine lv_iload_n (pc := 28) hx hb dJ4_resize_28 rfl (lv_at hl 2 rfl) ?_
  refine lv_ldc (pc := 29) (v := 1073741824) hx hb hown (hts _ q761) dJ4_resize_29 ?_
  refine lv_icmp_lt (pc := 31) (tgt := 42) hx hb dJ4_resize_31 (by decide) (fun _ => ?_) (fun c => absurd (p3_z1 hn) c)
  refine lv_iload_n (pc := 42) hx hb dJ4_resize_42 rfl (lv_at hl 2 rfl) ?_
  refine lv_iconst (pc := 43) (v := 1) hx hb dJ4_resize_43 (by decide) ?_
  refine lv_ishl (pc := 44) hx hb dJ4_resize_44 ?_
  rw [p3_sh hn]
  refine lv_dup (pc := 45) hx hb dJ4_resize_45 rfl ?_
  refine lv_istore (pc := 46) (lv' := [(4, .int (nI (2 * n))), (5, .int 0), (3, .int (nI (n / 4 * 3))), (2, .int (nI n)), (1, .ref t), (0, .ref mp)]) hx hb dJ4_resize_46 hl (by decide) rfl (fun ls hl => ?_)
  refine lv_ldc (pc := 48) (v := 1073741824) hx hb hown (hts _ q761) dJ4_resize_48 ?_
  refine lv_icmp_ge (pc := 50) (tgt := 85) hx hb dJ4_resize_50 (by decide) (fun c => absurd c (p3_z2 hn)) (fun _ => ?_)
  refine lv_iload_n (pc := 53) hx hb dJ4_resize_53 rfl (lv_at hl 3 rfl) ?_
  refine lv_bipush (pc := 54) (v := 16) hx hb dJ4_resize_54 (by decide) ?_
  refine lv_icmp_lt (pc := 56) (tgt := 85) hx hb dJ4_resize_56 (by decide) (fun c => absurd c (p3_z3 hn)) (fun _ => ?_)
  refine lv_iload_n (pc := 59) hx hb dJ4_resize_59 rfl (lv_at hl 2 rfl) ?_
  refine lv_iconst (pc := 60) (v := 1) hx hb dJ4_resize_60 (by decide) ?_
  refine lv_ishl (pc := 61) hx hb dJ4_resize_61 ?_
  rw [p3_sh4 hn]
  refine lv_istore (pc := 62) (lv' := [(5, .int (nI (2 * n / 4 * 3))), (4, .int (nI (2 * n))), (3, .int (nI (n / 4 * 3))), (2, .int (nI n)), (1, .ref t), (0, .ref mp)]) hx hb dJ4_resize_62 hl (by decide) rfl (fun ls hl => ?_)
  refine lv_goto (pc := 64) (tgt := 85) hx hb dJ4_resize_64 (by decide) ?_
  refine lv_iload (pc := 85) hx hb dJ4_resize_85 (lv_at hl 0 rfl) ?_
  refine lv_if_ne (pc := 87) (tgt := 125) hx hb dJ4_resize_87 (by decide) (fun _ => ?_) (fun c => absurd c (p3_z4 hn))
  refine lv_aload_n (pc := 125) hx hb dJ4_resize_125 rfl (lv_at hl 5 rfl) ?_
  refine lv_iload (pc := 126) hx hb dJ4_resize_126 (lv_at hl 0 rfl) ?_
  refine g_put (pc := 128) (v := .int (nI (2 * n / 4 * 3))) S M G (C := RJ5) (T := TJ5) (N := 12) (ci := 7) in_J5 tyJ5 tyJ5_ok nmJ5 ho hbm rfl 4 (by decide) q136 (Or.inl rfl) rfl rfl rfl (Nat.le_of_ble_eq_true rfl) dJ4_resize_128 (fun H locs G => ?_)
  obtain ⟨w1_, hw1_⟩ : ∃ z9, z9 = gu w mp (.inr (7, [.ref t, .null, .int sz, .int md, .int (nI (2 * n / 4 * 3)), .float lf, va_rf ks, .null, va_rf hd, va_rf tl, .int 0, .int 0])) := ⟨_, rfl⟩
  replace G : gS D K w1_ s H locs := by rw [hw1_]; exact G
  have c1_t : w1_ t = some (.inl (D.1 103, n, .inr (.inr (.inr (.inr f))))) := by rw [hw1_, gu_n (gne_ao ht ho)]; exact ht
  have c1_mp : w1_ mp = some (.inr (7, [.ref t, .null, .int sz, .int md, .int (nI (2 * n / 4 * 3)), .float lf, va_rf ks, .null, va_rf hd, va_rf tl, .int 0, .int 0])) := by rw [hw1_]; exact gu_s
  have hEw1_ : EN w1_ es hN ky vl nx bf af := by rw [hw1_]; exact hE.off (hE.no ho (by decide))
  have hFw1_ : MT w w1_ mp t es := by rw [hw1_]; exact hF0.up (Or.inl rfl)
  refine lv_iload (pc := 131) hx hb dJ4_resize_131 (lv_at hl 1 rfl) ?_
  refine g_newq (pc := 133) S M G (C := "java/util/HashMap$Node") (N' := (2 * n)) 3 rfl q764 q765 (nI_pos (by omega)) (nI_clamp (by omega)) (by omega) (Nat.le_of_ble_eq_true rfl) (Nat.le_trans (show 0 + (2 * n) ≤ 128 from (by omega)) (Nat.le_of_ble_eq_true rfl)) dJ4_resize_133 (fun q2_ H hnq2_ hbq2_ heq2_ hsq2_ G => ?_)
  refine W.widen (k := 1) (n := 128) (Nat.le_of_ble_eq_true rfl) (show 0 + (2 * n) ≤ 128 from (by omega)) ?_
  obtain ⟨w3_, hw3_⟩ : ∃ z9, z9 = gu w1_ q2_ (.inl (D.1 103, (2 * n), .inr (.inr (.inr (.inr (fun _ => none)))))) := ⟨_, rfl⟩
  replace G : gS D K w3_ s H locs := by rw [hw3_]; exact G
  have c3_mp : w3_ mp = some (.inr (7, [.ref t, .null, .int sz, .int md, .int (nI (2 * n / 4 * 3)), .float lf, va_rf ks, .null, va_rf hd, va_rf tl, .int 0, .int 0])) := by rw [hw3_, gu_n (gne_f c1_mp hnq2_)]; exact c1_mp
  have c3_t : w3_ t = some (.inl (D.1 103, n, .inr (.inr (.inr (.inr f))))) := by rw [hw3_, gu_n (gne_f c1_t hnq2_)]; exact c1_t
  have c3_q2_ : w3_ q2_ = some (.inl (D.1 103, (2 * n), .inr (.inr (.inr (.inr (fun _ => none)))))) := by rw [hw3_]; exact gu_s
  have hwt2 : w q2_ = none := (gu_none (by rw [← hw1_]; exact hnq2_)).1
  have hEw3_ : EN w3_ es hN ky vl nx bf af := by rw [hw3_]; exact hEw1_.off (hEw1_.non hnq2_)
  have hFw3_ : MT w w3_ mp t es := by rw [hw3_]; exact hFw1_.up (Or.inr (Or.inr (Or.inr hwt2)))
  refine lv_astore (pc := 136) (lv' := [(6, .ref q2_), (5, .int (nI (2 * n / 4 * 3))), (4, .int (nI (2 * n))), (3, .int (nI (n / 4 * 3))), (2, .int (nI n)), (1, .ref t), (0, .ref mp)]) hx hb dJ4_resize_136 hl (by decide) rfl (fun ls hl => ?_)
  refine lv_aload_n (pc := 138) hx hb dJ4_resize_138 rfl (lv_at hl 6 rfl) ?_
  refine lv_aload (pc := 139) hx hb dJ4_resize_139 (lv_at hl 0 rfl) ?_
  refine g_put (pc := 141) (v := .ref q2_) S M G (C := RJ5) (T := TJ5) (N := 12) (ci := 7) in_J5 tyJ5 tyJ5_ok nmJ5 c3_mp hbm rfl 0 (by decide) q130 (Or.inl rfl) rfl rfl rfl (Nat.le_of_ble_eq_true rfl) dJ4_resize_141 (fun H locs G => ?_)
  obtain ⟨w4_, hw4_⟩ : ∃ z9, z9 = gu w3_ mp (.inr (7, [.ref q2_, .null, .int sz, .int md, .int (nI (2 * n / 4 * 3)), .float lf, va_rf ks, .null, va_rf hd, va_rf tl, .int 0, .int 0])) := ⟨_, rfl⟩
  replace G : gS D K w4_ s H locs := by rw [hw4_]; exact G
  have c4_t : w4_ t = some (.inl (D.1 103, n, .inr (.inr (.inr (.inr f))))) := by rw [hw4_, gu_n (gne_ao c3_t c3_mp)]; exact c3_t
  have c4_q2_ : w4_ q2_ = some (.inl (D.1 103, (2 * n), .inr (.inr (.inr (.inr (fun _ => none)))))) := by rw [hw4_, gu_n (gne_ao c3_q2_ c3_mp)]; exact c3_q2_
  have c4_mp : w4_ mp = some (.inr (7, [.ref q2_, .null, .int sz, .int md, .int (nI (2 * n / 4 * 3)), .float lf, va_rf ks, .null, va_rf hd, va_rf tl, .int 0, .int 0])) := by rw [hw4_]; exact gu_s
  have hEw4_ : EN w4_ es hN ky vl nx bf af := by rw [hw4_]; exact hEw3_.off (hEw3_.no c3_mp (by decide))
  have hFw4_ : MT w w4_ mp t es := by rw [hw4_]; exact hFw3_.up (Or.inl rfl)
  refine lv_aload_n (pc := 144) hx hb dJ4_resize_144 rfl (lv_at hl 5 rfl) ?_
  refine lv_ifnull (pc := 145) hx hb dJ4_resize_145 ?_
  refine lv_iconst (pc := 148) (v := 0) hx hb dJ4_resize_148 (by decide) ?_
  refine lv_istore (pc := 149) (lv' := [(7, .int 0), (6, .ref q2_), (5, .int (nI (2 * n / 4 * 3))), (4, .int (nI (2 * n))), (3, .int (nI (n / 4 * 3))), (2, .int (nI n)), (1, .ref t), (0, .ref mp)]) hx hb dJ4_resize_149 hl (by decide) rfl (fun ls hl => ?_)
  have htt2 : t ≠ q2_ := gne_f ht hwt2
  have Lp : ∀ (fuel j : Nat) (fj g nxj : Nat → Option Nat) (wj : Gh) (H : Heap) (locs : List Loc) (ls : Array Slot), n - j < fuel → j ≤ n → RS hN n f ch j g nxj → (∀ i, j ≤ i → fj i = f i) → wj mp = some (.inr (7, [.ref q2_, .null, .int sz, .int md, .int (nI (2 * n / 4 * 3)), .float lf, va_rf ks, .null, va_rf hd, va_rf tl, .int 0, .int 0])) → wj t = some (.inl (D.1 103, n, .inr (.inr (.inr (.inr fj))))) → wj q2_ = some (.inl (D.1 103, (2 * n), .inr (.inr (.inr (.inr g))))) → EN wj es hN ky vl nxj bf af → MT w wj mp t es → gS D K wj s H locs → lv_has ls 14 [(7, .int (nI j)), (0, .ref mp), (1, .ref t), (2, .int (nI n)), (4, .int (nI (2 * n))), (6, .ref q2_)] → W p l e rmJ4_resizeN s m args below meth c H locs 1 128 Q (F0 m 151 ls []) := by
    intro fuel
    induction fuel with
    | zero => intro j fj g nxj wj H locs ls h0; exact absurd h0 (Nat.not_lt_zero _)
    | succ fuel ih =>
      intro j fj g nxj wj H locs ls hfu hjle hR hfj hm_wj ht_wj hg_wj hEj hFj G hl
      refine lv_iload (pc := 151) hx hb dJ4_resize_151 (lv_at hl 0 rfl) ?_
      refine lv_iload_n (pc := 153) hx hb dJ4_resize_153 rfl (lv_at hl 3 rfl) ?_
      refine lv_icmp_ge (pc := 154) (tgt := 353) hx hb dJ4_resize_154 (by decide) (fun c1 => ?_) (fun c1 => ?_)
      · refine lv_aload (pc := 353) hx hb dJ4_resize_353 (lv_at hl 5 rfl) ?_
        rw [hQ]
        refine g_aret S G (rt := (.array (.object "java/util/HashMap$Node"))) (r := some q2_) hr (Or.inr ⟨_, rfl⟩) hlocks (hdg := dJ4_resize_355) ?_ ?_ ?_
        · exact Nat.le_of_ble_eq_true rfl
        · exact Nat.le_of_ble_eq_true rfl
        · have hjn : j = n := Nat.le_antisymm hjle ((nI_leI (by omega) (by omega)).mp c1)
          rw [hjn] at hR
          exact ⟨q2_, g, nxj, rfl, hwt2, hbq2_, hm_wj, hg_wj, hEj, hR.done hC hn0, hFj⟩
      · have hjn : j < n := nle_lt c1 (by omega) (by omega)
        refine lv_aload_n (pc := 157) hx hb dJ4_resize_157 rfl (lv_at hl 2 rfl) ?_
        refine lv_iload (pc := 158) hx hb dJ4_resize_158 (lv_at hl 0 rfl) ?_
        refine g_aald (pc := 160) S M G 3 rfl ht_wj (vp_in_nI hjn (by omega)) dJ4_resize_160 ?_
        obtain ⟨r2, er2⟩ : ∃ z9, z9 = fj (nI j).toNatClampNeg := ⟨_, rfl⟩
        rw [← er2]
        refine W.eq (g2 := F0 m 161 ls [va_rf r2]) rfl ?_
        rw [nI_clamp (show j < 2 ^ 31 by omega)] at er2
        rw [hfj j (Nat.le_refl _)] at er2
        refine lv_dup (pc := 161) hx hb dJ4_resize_161 (cat_rf _) ?_
        refine gv_astore (pc := 162) (lv' := [(8, va_rf r2), (7, .int (nI j)), (0, .ref mp), (1, .ref t), (2, .int (nI n)), (4, .int (nI (2 * n))), (6, .ref q2_)]) S dJ4_resize_162 hl (by decide) rfl (fun ls hl => ?_)
        refine gv_ifnull (pc := 164) (tgt := 347) S dJ4_resize_164 (by decide) (fun h3 => ?_) (fun r2v h3 => ?_)
        · have hlx_h3 := hl
          have Gx_h3 := G
          subst h3
          have hl := hlx_h3
          have G : gS D K wj s H locs := Gx_h3
          have hl : lv_has ls 14 [(8, .null), (7, .int (nI j)), (0, .ref mp), (1, .ref t), (2, .int (nI n)), (4, .int (nI (2 * n))), (6, .ref q2_)] := hl
          refine W.eq (g2 := F0 m 347 ls []) rfl ?_
          refine lv_iinc (pc := 347) (v := ((nI j) + 1)) (lv' := [(7, .int ((nI j) + 1)), (8, .null), (0, .ref mp), (1, .ref t), (2, .int (nI n)), (4, .int (nI (2 * n))), (6, .ref q2_)]) hx hb dJ4_resize_347 hl (k := 1) rfl (by first | rfl | decide) (by decide) rfl (fun ls hl => ?_)
          rw [← nI_succ] at hl
          refine lv_goto (pc := 350) (tgt := 151) hx hb dJ4_resize_350 (by decide) ?_
          exact ih (j + 1) fj g nxj wj H locs ls (by omega) (by omega) (hR.none' hC hjn er2) (fun i hi => hfj i (by omega)) hm_wj ht_wj hg_wj hEj hFj G (lv_sub hl [0, 2, 3, 4, 5, 6] rfl)
        · have hlx_h3 := hl
          have Gx_h3 := G
          subst h3
          have hl := hlx_h3
          have G : gS D K wj s H locs := Gx_h3
          have hl : lv_has ls 14 [(8, .ref r2v), (7, .int (nI j)), (0, .ref mp), (1, .ref t), (2, .int (nI n)), (4, .int (nI (2 * n))), (6, .ref q2_)] := hl
          refine W.eq (g2 := F0 m 167 ls []) rfl ?_
          obtain ⟨lr, hcj, hsg1⟩ := Sg.cons1 er2 (hR.1 j (Nat.le_refl _) hjn)
          have hcm := (hC.1 j hjn r2v).mp (by rw [hcj]; exact List.mem_cons_self)
          have hme_r2v := hcm.1
          refine lv_aload_n (pc := 167) hx hb dJ4_resize_167 rfl (lv_at hl 3 rfl) ?_
          refine lv_iload (pc := 168) hx hb dJ4_resize_168 (lv_at hl 1 rfl) ?_
          refine lv_null (pc := 170) hx hb dJ4_resize_170 ?_
          refine g_aastN (pc := 171) S M G 3 rfl ht_wj hbt (vp_in_nI hjn (by omega)) dJ4_resize_171 (fun H locs G => ?_)
          rw [nI_clamp (show j < 2 ^ 31 by omega)] at G
          obtain ⟨w5_, hw5_⟩ : ∃ z9, z9 = gu wj t (.inl (D.1 103, n, .inr (.inr (.inr (.inr (va_up fj j none)))))) := ⟨_, rfl⟩
          replace G : gS D K w5_ s H locs := by rw [hw5_]; exact G
          have c5_mp : w5_ mp = some (.inr (7, [.ref q2_, .null, .int sz, .int md, .int (nI (2 * n / 4 * 3)), .float lf, va_rf ks, .null, va_rf hd, va_rf tl, .int 0, .int 0])) := by rw [hw5_, gu_n (Ne.symm (gne_ao ht_wj hm_wj))]; exact hm_wj
          have c5_q2_ : w5_ q2_ = some (.inl (D.1 103, (2 * n), .inr (.inr (.inr (.inr g))))) := by rw [hw5_, gu_n (Ne.symm htt2)]; exact hg_wj
          have c5_t : w5_ t = some (.inl (D.1 103, n, .inr (.inr (.inr (.inr (va_up fj j none)))))) := by rw [hw5_]; exact gu_s
          have hEw5_ : EN w5_ es hN ky vl nxj bf af := by rw [hw5_]; exact hEj.off (hEj.noa ht_wj)
          have hFw5_ : MT w w5_ mp t es := by rw [hw5_]; exact hFj.up (Or.inr (Or.inl rfl))
          refine lv_aload (pc := 172) hx hb dJ4_resize_172 (lv_at hl 0 rfl) ?_
          have ct4 : w5_ r2v = some (.inr (8, [.int (nI (hN r2v)), .ref (ky r2v), .ref (vl r2v), va_rf (nxj r2v), va_rf (bf r2v), va_rf (af r2v)])) := hEw5_ r2v hme_r2v
          refine g_get (pc := 174) (v := va_rf (nxj r2v)) S M G (C := RJ22) (T := TJ22) (N := 6) (ci := 8) in_J22 ct4 rfl 3 (by decide) q816 (Or.inl rfl) rfl dJ4_resize_174 ?_
          obtain ⟨r5, er5⟩ : ∃ z9, z9 = nxj r2v := ⟨_, rfl⟩
          rw [← er5]
          refine gv_ifnonnull (pc := 177) (tgt := 198) S dJ4_resize_177 (by decide) (fun r5v h6 => ?_) (fun h6 => ?_)
          · have hlx_h6 := hl
            have Gx_h6 := G
            subst h6
            have hl := hlx_h6
            have G : gS D K w5_ s H locs := Gx_h6
            have hl : lv_has ls 14 [(8, .ref r2v), (7, .int (nI j)), (0, .ref mp), (1, .ref t), (2, .int (nI n)), (4, .int (nI (2 * n))), (6, .ref q2_)] := hl
            refine W.eq (g2 := F0 m 198 ls []) rfl ?_
            refine lv_aload (pc := 198) hx hb dJ4_resize_198 (lv_at hl 0 rfl) ?_
            refine va_instNo (pc := 200) hx hb hown (hts _ q766) (M.1.2.2.2.2.1 ("java/util/LinkedHashMap$Entry", "java/util/HashMap$TreeNode") (by decide)) (g_recv M G ct4 (q := (RJ22, TJ22, 6)) rfl) dJ4_resize_200 ?_
            refine lv_if_eq (pc := 203) (tgt := 223) hx hb dJ4_resize_203 (by decide) (fun _ => ?_) (fun c => absurd c (by decide))
            refine lv_null (pc := 223) hx hb dJ4_resize_223 ?_
            refine lv_astoreN (pc := 224) (lv' := [(9, .null), (8, .ref r2v), (7, .int (nI j)), (0, .ref mp), (1, .ref t), (2, .int (nI n)), (4, .int (nI (2 * n))), (6, .ref q2_)]) hx hb dJ4_resize_224 hl (by decide) rfl (fun ls hl => ?_)
            refine lv_null (pc := 226) hx hb dJ4_resize_226 ?_
            refine lv_astoreN (pc := 227) (lv' := [(10, .null), (9, .null), (8, .ref r2v), (7, .int (nI j)), (0, .ref mp), (1, .ref t), (2, .int (nI n)), (4, .int (nI (2 * n))), (6, .ref q2_)]) hx hb dJ4_resize_227 hl (by decide) rfl (fun ls hl => ?_)
            refine lv_null (pc := 229) hx hb dJ4_resize_229 ?_
            refine lv_astoreN (pc := 230) (lv' := [(11, .null), (10, .null), (9, .null), (8, .ref r2v), (7, .int (nI j)), (0, .ref mp), (1, .ref t), (2, .int (nI n)), (4, .int (nI (2 * n))), (6, .ref q2_)]) hx hb dJ4_resize_230 hl (by decide) rfl (fun ls hl => ?_)
            refine lv_null (pc := 232) hx hb dJ4_resize_232 ?_
            refine lv_astoreN (pc := 233) (lv' := [(12, .null), (11, .null), (10, .null), (9, .null), (8, .ref r2v), (7, .int (nI j)), (0, .ref mp), (1, .ref t), (2, .int (nI n)), (4, .int (nI (2 * n))), (6, .ref q2_)]) hx hb dJ4_resize_233 hl (by decide) rfl (fun ls hl => ?_)
            have Lq : ∀ (fuel2 : Nat) (pre rest : List Nat) (en : Nat) (lh lt hh ht : Option Nat) (nxi : Nat → Option Nat) (wi : Gh) (H : Heap) (locs : List Loc) (ls : Array Slot), rest.length < fuel2 → SP hN n j (ch j) nxj nxi pre rest en lh lt hh ht → wi mp = some (.inr (7, [.ref q2_, .null, .int sz, .int md, .int (nI (2 * n / 4 * 3)), .float lf, va_rf ks, .null, va_rf hd, va_rf tl, .int 0, .int 0])) → wi t = some (.inl (D.1 103, n, .inr (.inr (.inr (.inr (va_up fj j none)))))) → wi q2_ = some (.inl (D.1 103, (2 * n), .inr (.inr (.inr (.inr g))))) → EN wi es hN ky vl nxi bf af → MT w wi mp t es → gS D K wi s H locs → lv_has ls 14 [(8, .ref en), (9, va_rf lh), (10, va_rf lt), (11, va_rf hh), (12, va_rf ht), (0, .ref mp), (1, .ref t), (2, .int (nI n)), (4, .int (nI (2 * n))), (6, .ref q2_), (7, .int (nI j))] → W p l e rmJ4_resizeN s m args below meth c H locs 1 128 Q (F0 m 235 ls []) := by
              intro fuel2
              induction fuel2 with
              | zero => intro pre rest en lh lt hh ht nxi wi H locs ls h0; exact absurd h0 (Nat.not_lt_zero _)
              | succ fuel2 ih2 =>
                intro pre rest en lh lt hh ht nxi wi H locs ls hfu2 hsp hm_wi ht_wi hg_wi hEi hFi G hl
                have J301 : ∀ (pre2 r2 : List Nat) (o2 lh2 lt2 hh2 ht2 : Option Nat) (nxk : Nat → Option Nat) (wk : Gh) (H : Heap) (locs : List Loc) (ls : Array Slot), r2.length ≤ rest.length → SM hN n j (ch j) nxj nxk pre2 r2 o2 lh2 lt2 hh2 ht2 → wk mp = some (.inr (7, [.ref q2_, .null, .int sz, .int md, .int (nI (2 * n / 4 * 3)), .float lf, va_rf ks, .null, va_rf hd, va_rf tl, .int 0, .int 0])) → wk t = some (.inl (D.1 103, n, .inr (.inr (.inr (.inr (va_up fj j none)))))) → wk q2_ = some (.inl (D.1 103, (2 * n), .inr (.inr (.inr (.inr g))))) → EN wk es hN ky vl nxk bf af → MT w wk mp t es → gS D K wk s H locs → lv_has ls 14 [(13, va_rf o2), (9, va_rf lh2), (10, va_rf lt2), (11, va_rf hh2), (12, va_rf ht2), (0, .ref mp), (1, .ref t), (2, .int (nI n)), (4, .int (nI (2 * n))), (6, .ref q2_), (7, .int (nI j))] → W p l e rmJ4_resizeN s m args below meth c H locs 1 128 Q (F0 m 301 ls []) := by
                  intro pre2 r2 o2 lh2 lt2 hh2 ht2 nxk wk H locs ls hfu3 hsm hm_wk ht_wk hg_wk hEk hFk G hl
                  refine gv_aload (pc := 301) S dJ4_resize_301 (lv_at hl 0 rfl) ?_
                  refine lv_dup (pc := 303) hx hb dJ4_resize_303 (cat_rf _) ?_
                  refine gv_astore (pc := 304) (lv' := [(8, va_rf o2), (13, va_rf o2), (9, va_rf lh2), (10, va_rf lt2), (11, va_rf hh2), (12, va_rf ht2), (0, .ref mp), (1, .ref t), (2, .int (nI n)), (4, .int (nI (2 * n))), (6, .ref q2_), (7, .int (nI j))]) S dJ4_resize_304 hl (by decide) rfl (fun ls hl => ?_)
                  refine gv_ifnonnull (pc := 306) (tgt := 235) S dJ4_resize_306 (by decide) (fun o2v h7 => ?_) (fun h7 => ?_)
                  · have hlx_h7 := hl
                    have Gx_h7 := G
                    subst h7
                    have hl := hlx_h7
                    have G : gS D K wk s H locs := Gx_h7
                    have hl : lv_has ls 14 [(8, .ref o2v), (13, .ref o2v), (9, va_rf lh2), (10, va_rf lt2), (11, va_rf hh2), (12, va_rf ht2), (0, .ref mp), (1, .ref t), (2, .int (nI n)), (4, .int (nI (2 * n))), (6, .ref q2_), (7, .int (nI j))] := hl
                    refine W.eq (g2 := F0 m 235 ls []) rfl ?_
                    obtain ⟨r3, hr3, hsp2⟩ := hsm.more rfl
                    exact ih2 pre2 r3 o2v lh2 lt2 hh2 ht2 nxk wk H locs ls (by rw [hr3] at hfu3; simp only [List.length_cons] at hfu3; omega) hsp2 hm_wk ht_wk hg_wk hEk hFk G (lv_sub hl [0, 2, 3, 4, 5, 6, 7, 8, 9, 10, 11] rfl)
                  · have hlx_h7 := hl
                    have Gx_h7 := G
                    subst h7
                    have hl := hlx_h7
                    have G : gS D K wk s H locs := Gx_h7
                    have hl : lv_has ls 14 [(8, .null), (13, .null), (9, va_rf lh2), (10, va_rf lt2), (11, va_rf hh2), (12, va_rf ht2), (0, .ref mp), (1, .ref t), (2, .int (nI n)), (4, .int (nI (2 * n))), (6, .ref q2_), (7, .int (nI j))] := hl
                    refine W.eq (g2 := F0 m 309 ls []) rfl ?_
                    have hse := hsm.fin rfl
                    refine gv_aload (pc := 309) S dJ4_resize_309 (lv_at hl 3 rfl) ?_
                    refine gv_ifnull (pc := 311) (tgt := 327) S dJ4_resize_311 (by decide) (fun h8 => ?_) (fun lt2v h8 => ?_)
                    · have hlx_h8 := hl
                      have Gx_h8 := G
                      subst h8
                      have hl := hlx_h8
                      have G : gS D K wk s H locs := Gx_h8
                      have hl : lv_has ls 14 [(8, .null), (13, .null), (9, va_rf lh2), (10, .null), (11, va_rf hh2), (12, va_rf ht2), (0, .ref mp), (1, .ref t), (2, .int (nI n)), (4, .int (nI (2 * n))), (6, .ref q2_), (7, .int (nI j))] := hl
                      refine W.eq (g2 := F0 m 327 ls []) rfl ?_
                      have hA := hse.lon
                      refine gv_aload (pc := 327) S dJ4_resize_327 (lv_at hl 5 rfl) ?_
                      refine gv_ifnull (pc := 329) (tgt := 347) S dJ4_resize_329 (by decide) (fun h10 => ?_) (fun ht2v h10 => ?_)
                      · have hlx_h10 := hl
                        have Gx_h10 := G
                        subst h10
                        have hl := hlx_h10
                        have G : gS D K wk s H locs := Gx_h10
                        have hl : lv_has ls 14 [(8, .null), (13, .null), (9, va_rf lh2), (10, .null), (11, va_rf hh2), (12, .null), (0, .ref mp), (1, .ref t), (2, .int (nI n)), (4, .int (nI (2 * n))), (6, .ref q2_), (7, .int (nI j))] := hl
                        refine W.eq (g2 := F0 m 347 ls []) rfl ?_
                        have hB := SE_hin hA
                        refine lv_iinc (pc := 347) (v := ((nI j) + 1)) (lv' := [(7, .int ((nI j) + 1)), (8, .null), (13, .null), (9, va_rf lh2), (10, .null), (11, va_rf hh2), (12, .null), (0, .ref mp), (1, .ref t), (2, .int (nI n)), (4, .int (nI (2 * n))), (6, .ref q2_)]) hx hb dJ4_resize_347 hl (k := 11) rfl (by first | rfl | decide) (by decide) rfl (fun ls hl => ?_)
                        rw [← nI_succ] at hl
                        refine lv_goto (pc := 350) (tgt := 151) hx hb dJ4_resize_350 (by decide) ?_
                        exact ih (j + 1) (va_up fj j none) g nxk wk H locs ls (by omega) (by omega) (hR.put2 hC hjn hB.2.2 hB.1 hB.2.1 (hR.gj hjn).1 (hR.gj hjn).2 (fun _ _ _ => rfl)) (fun i hi => (va_up_ne _ _ (by omega)).trans (hfj i (by omega))) hm_wk ht_wk hg_wk hEk hFk G (lv_sub hl [0, 7, 8, 9, 10, 11] rfl)
                      · have hlx_h10 := hl
                        have Gx_h10 := G
                        subst h10
                        have hl := hlx_h10
                        have G : gS D K wk s H locs := Gx_h10
                        have hl : lv_has ls 14 [(8, .null), (13, .null), (9, va_rf lh2), (10, .null), (11, va_rf hh2), (12, .ref ht2v), (0, .ref mp), (1, .ref t), (2, .int (nI n)), (4, .int (nI (2 * n))), (6, .ref q2_), (7, .int (nI j))] := hl
                        refine W.eq (g2 := F0 m 332 ls []) rfl ?_
                        have hme_ht2v : ht2v ∈ es := ((hC.1 j hjn ht2v).mp (List.mem_filter.mp hA.2.1.mem).1).1
                        obtain ⟨hh2v, ef11, pf11⟩ := hA.2.1.hd
                        have hlx_f11 := hl
                        have Gx_f11 := G
                        subst ef11
                        have hl := hlx_f11
                        have G : gS D K wk s H locs := Gx_f11
                        have hl : lv_has ls 14 [(8, .null), (13, .null), (9, va_rf lh2), (10, .null), (11, .ref hh2v), (12, .ref ht2v), (0, .ref mp), (1, .ref t), (2, .int (nI n)), (4, .int (nI (2 * n))), (6, .ref q2_), (7, .int (nI j))] := hl
                        refine W.eq (g2 := F0 m 332 ls []) rfl ?_
                        have hme_hh2v : hh2v ∈ es := ((hC.1 j hjn hh2v).mp (List.mem_filter.mp pf11).1).1
                        have hB := SE_hi hA (hC.2 j hjn) hn0
                        refine lv_aload (pc := 332) hx hb dJ4_resize_332 (lv_at hl 5 rfl) ?_
                        refine lv_null (pc := 334) hx hb dJ4_resize_334 ?_
                        have ct12 : wk ht2v = some (.inr (8, [.int (nI (hN ht2v)), .ref (ky ht2v), .ref (vl ht2v), va_rf (nxk ht2v), va_rf (bf ht2v), va_rf (af ht2v)])) := hEk ht2v hme_ht2v
                        refine g_put (pc := 335) (v := .null) S M G (C := RJ22) (T := TJ22) (N := 6) (ci := 8) in_J22 tyJ22 tyJ22_ok nmJ22 ct12 (hbe ht2v hme_ht2v) rfl 3 (by decide) q816 (Or.inl rfl) rfl rfl rfl (Nat.le_of_ble_eq_true rfl) dJ4_resize_335 (fun H locs G => ?_)
                        obtain ⟨w6_, hw6_⟩ : ∃ z9, z9 = gu wk ht2v (.inr (8, [.int (nI (hN ht2v)), .ref (ky ht2v), .ref (vl ht2v), .null, va_rf (bf ht2v), va_rf (af ht2v)])) := ⟨_, rfl⟩
                        replace G : gS D K w6_ s H locs := by rw [hw6_]; exact G
                        have c6_mp : w6_ mp = some (.inr (7, [.ref q2_, .null, .int sz, .int md, .int (nI (2 * n / 4 * 3)), .float lf, va_rf ks, .null, va_rf hd, va_rf tl, .int 0, .int 0])) := by rw [hw6_, gu_n (gne_c hm_wk ct12 (by decide))]; exact hm_wk
                        have c6_t : w6_ t = some (.inl (D.1 103, n, .inr (.inr (.inr (.inr (va_up fj j none)))))) := by rw [hw6_, gu_n (gne_ao ht_wk ct12)]; exact ht_wk
                        have c6_q2_ : w6_ q2_ = some (.inl (D.1 103, (2 * n), .inr (.inr (.inr (.inr g))))) := by rw [hw6_, gu_n (gne_ao hg_wk ct12)]; exact hg_wk
                        have c6_ht2v : w6_ ht2v = some (.inr (8, [.int (nI (hN ht2v)), .ref (ky ht2v), .ref (vl ht2v), .null, va_rf (bf ht2v), va_rf (af ht2v)])) := by rw [hw6_]; exact gu_s
                        have hEw6_ : EN w6_ es hN ky vl (va_up nxk ht2v none) bf af := by rw [hw6_]; exact hEk.nx none rfl
                        have hFw6_ : MT w w6_ mp t es := by rw [hw6_]; exact hFk.up (Or.inr (Or.inr (Or.inl hme_ht2v)))
                        refine lv_aload (pc := 338) hx hb dJ4_resize_338 (lv_at hl 10 rfl) ?_
                        refine lv_iload (pc := 340) hx hb dJ4_resize_340 (lv_at hl 11 rfl) ?_
                        refine lv_iload_n (pc := 342) hx hb dJ4_resize_342 rfl (lv_at hl 8 rfl) ?_
                        refine lv_iadd (pc := 343) hx hb dJ4_resize_343 ?_
                        rw [nI_add]
                        refine lv_aload (pc := 344) hx hb dJ4_resize_344 (lv_at hl 4 rfl) ?_
                        have ct13 : w6_ hh2v = some (.inr (8, [.int (nI (hN hh2v)), .ref (ky hh2v), .ref (vl hh2v), va_rf ((va_up nxk ht2v none) hh2v), va_rf (bf hh2v), va_rf (af hh2v)])) := hEw6_ hh2v hme_hh2v
                        refine g_aast (pc := 346) S M G 3 rfl c6_q2_ hbq2_ (g_recv M G ct13 (q := (RJ22, TJ22, 6)) rfl) q1591 (vp_in_nI (show j + n < 2 * n by omega) (by omega)) dJ4_resize_346 (fun H locs G => ?_)
                        rw [nI_clamp (show j + n < 2 ^ 31 by omega)] at G
                        obtain ⟨w7_, hw7_⟩ : ∃ z9, z9 = gu w6_ q2_ (.inl (D.1 103, (2 * n), .inr (.inr (.inr (.inr (va_up g (j + n) (some hh2v))))))) := ⟨_, rfl⟩
                        replace G : gS D K w7_ s H locs := by rw [hw7_]; exact G
                        have c7_mp : w7_ mp = some (.inr (7, [.ref q2_, .null, .int sz, .int md, .int (nI (2 * n / 4 * 3)), .float lf, va_rf ks, .null, va_rf hd, va_rf tl, .int 0, .int 0])) := by rw [hw7_, gu_n (Ne.symm (gne_ao c6_q2_ c6_mp))]; exact c6_mp
                        have c7_t : w7_ t = some (.inl (D.1 103, n, .inr (.inr (.inr (.inr (va_up fj j none)))))) := by rw [hw7_, gu_n htt2]; exact c6_t
                        have c7_q2_ : w7_ q2_ = some (.inl (D.1 103, (2 * n), .inr (.inr (.inr (.inr (va_up g (j + n) (some hh2v))))))) := by rw [hw7_]; exact gu_s
                        have hEw7_ : EN w7_ es hN ky vl (va_up nxk ht2v none) bf af := by rw [hw7_]; exact hEw6_.off (hEw6_.noa c6_q2_)
                        have hFw7_ : MT w w7_ mp t es := by rw [hw7_]; exact hFw6_.up (Or.inr (Or.inr (Or.inr hwt2)))
                        refine lv_iinc (pc := 347) (v := ((nI j) + 1)) (lv' := [(7, .int ((nI j) + 1)), (8, .null), (13, .null), (9, va_rf lh2), (10, .null), (11, .ref hh2v), (12, .ref ht2v), (0, .ref mp), (1, .ref t), (2, .int (nI n)), (4, .int (nI (2 * n))), (6, .ref q2_)]) hx hb dJ4_resize_347 hl (k := 11) rfl (by first | rfl | decide) (by decide) rfl (fun ls hl => ?_)
                        rw [← nI_succ] at hl
                        refine lv_goto (pc := 350) (tgt := 151) hx hb dJ4_resize_350 (by decide) ?_
                        exact ih (j + 1) (va_up fj j none) (va_up g (j + n) (some hh2v)) (va_up nxk ht2v none) w7_ H locs ls (by omega) (by omega) (hR.put2 hC hjn hB.2.2 hB.1 hB.2.1 ((va_up_ne _ _ (by omega)).trans (hR.gj hjn).1) (va_up_self _ _ _) (fun i h1 h2 => va_up_ne _ _ h2)) (fun i hi => (va_up_ne _ _ (by omega)).trans (hfj i (by omega))) c7_mp c7_t c7_q2_ hEw7_ hFw7_ G (lv_sub hl [0, 7, 8, 9, 10, 11] rfl)
                    · have hlx_h8 := hl
                      have Gx_h8 := G
                      subst h8
                      have hl := hlx_h8
                      have G : gS D K wk s H locs := Gx_h8
                      have hl : lv_has ls 14 [(8, .null), (13, .null), (9, va_rf lh2), (10, .ref lt2v), (11, va_rf hh2), (12, va_rf ht2), (0, .ref mp), (1, .ref t), (2, .int (nI n)), (4, .int (nI (2 * n))), (6, .ref q2_), (7, .int (nI j))] := hl
                      refine W.eq (g2 := F0 m 314 ls []) rfl ?_
                      have hme_lt2v : lt2v ∈ es := ((hC.1 j hjn lt2v).mp (List.mem_filter.mp hse.1.mem).1).1
                      obtain ⟨lh2v, ef9, pf9⟩ := hse.1.hd
                      have hlx_f9 := hl
                      have Gx_f9 := G
                      subst ef9
                      have hl := hlx_f9
                      have G : gS D K wk s H locs := Gx_f9
                      have hl : lv_has ls 14 [(8, .null), (13, .null), (9, .ref lh2v), (10, .ref lt2v), (11, va_rf hh2), (12, va_rf ht2), (0, .ref mp), (1, .ref t), (2, .int (nI n)), (4, .int (nI (2 * n))), (6, .ref q2_), (7, .int (nI j))] := hl
                      refine W.eq (g2 := F0 m 314 ls []) rfl ?_
                      have hme_lh2v : lh2v ∈ es := ((hC.1 j hjn lh2v).mp (List.mem_filter.mp pf9).1).1
                      have hA := hse.lo (hC.2 j hjn) hn0
                      refine lv_aload (pc := 314) hx hb dJ4_resize_314 (lv_at hl 3 rfl) ?_
                      refine lv_null (pc := 316) hx hb dJ4_resize_316 ?_
                      have ct14 : wk lt2v = some (.inr (8, [.int (nI (hN lt2v)), .ref (ky lt2v), .ref (vl lt2v), va_rf (nxk lt2v), va_rf (bf lt2v), va_rf (af lt2v)])) := hEk lt2v hme_lt2v
                      refine g_put (pc := 317) (v := .null) S M G (C := RJ22) (T := TJ22) (N := 6) (ci := 8) in_J22 tyJ22 tyJ22_ok nmJ22 ct14 (hbe lt2v hme_lt2v) rfl 3 (by decide) q816 (Or.inl rfl) rfl rfl rfl (Nat.le_of_ble_eq_true rfl) dJ4_resize_317 (fun H locs G => ?_)
                      obtain ⟨w8_, hw8_⟩ : ∃ z9, z9 = gu wk lt2v (.inr (8, [.int (nI (hN lt2v)), .ref (ky lt2v), .ref (vl lt2v), .null, va_rf (bf lt2v), va_rf (af lt2v)])) := ⟨_, rfl⟩
                      replace G : gS D K w8_ s H locs := by rw [hw8_]; exact G
                      have c8_mp : w8_ mp = some (.inr (7, [.ref q2_, .null, .int sz, .int md, .int (nI (2 * n / 4 * 3)), .float lf, va_rf ks, .null, va_rf hd, va_rf tl, .int 0, .int 0])) := by rw [hw8_, gu_n (gne_c hm_wk ct14 (by decide))]; exact hm_wk
                      have c8_t : w8_ t = some (.inl (D.1 103, n, .inr (.inr (.inr (.inr (va_up fj j none)))))) := by rw [hw8_, gu_n (gne_ao ht_wk ct14)]; exact ht_wk
                      have c8_q2_ : w8_ q2_ = some (.inl (D.1 103, (2 * n), .inr (.inr (.inr (.inr g))))) := by rw [hw8_, gu_n (gne_ao hg_wk ct14)]; exact hg_wk
                      have c8_lt2v : w8_ lt2v = some (.inr (8, [.int (nI (hN lt2v)), .ref (ky lt2v), .ref (vl lt2v), .null, va_rf (bf lt2v), va_rf (af lt2v)])) := by rw [hw8_]; exact gu_s
                      have hEw8_ : EN w8_ es hN ky vl (va_up nxk lt2v none) bf af := by rw [hw8_]; exact hEk.nx none rfl
                      have hFw8_ : MT w w8_ mp t es := by rw [hw8_]; exact hFk.up (Or.inr (Or.inr (Or.inl hme_lt2v)))
                      refine lv_aload (pc := 320) hx hb dJ4_resize_320 (lv_at hl 10 rfl) ?_
                      refine lv_iload (pc := 322) hx hb dJ4_resize_322 (lv_at hl 11 rfl) ?_
                      refine lv_aload (pc := 324) hx hb dJ4_resize_324 (lv_at hl 2 rfl) ?_
                      have ct15 : w8_ lh2v = some (.inr (8, [.int (nI (hN lh2v)), .ref (ky lh2v), .ref (vl lh2v), va_rf ((va_up nxk lt2v none) lh2v), va_rf (bf lh2v), va_rf (af lh2v)])) := hEw8_ lh2v hme_lh2v
                      refine g_aast (pc := 326) S M G 3 rfl c8_q2_ hbq2_ (g_recv M G ct15 (q := (RJ22, TJ22, 6)) rfl) q1591 (vp_in_nI (show j < 2 * n by omega) (by omega)) dJ4_resize_326 (fun H locs G => ?_)
                      rw [nI_clamp (show j < 2 ^ 31 by omega)] at G
                      obtain ⟨w9_, hw9_⟩ : ∃ z9, z9 = gu w8_ q2_ (.inl (D.1 103, (2 * n), .inr (.inr (.inr (.inr (va_up g j (some lh2v))))))) := ⟨_, rfl⟩
                      replace G : gS D K w9_ s H locs := by rw [hw9_]; exact G
                      have c9_mp : w9_ mp = some (.inr (7, [.ref q2_, .null, .int sz, .int md, .int (nI (2 * n / 4 * 3)), .float lf, va_rf ks, .null, va_rf hd, va_rf tl, .int 0, .int 0])) := by rw [hw9_, gu_n (Ne.symm (gne_ao c8_q2_ c8_mp))]; exact c8_mp
                      have c9_t : w9_ t = some (.inl (D.1 103, n, .inr (.inr (.inr (.inr (va_up fj j none)))))) := by rw [hw9_, gu_n htt2]; exact c8_t
                      have c9_q2_ : w9_ q2_ = some (.inl (D.1 103, (2 * n), .inr (.inr (.inr (.inr (va_up g j (some lh2v))))))) := by rw [hw9_]; exact gu_s
                      have hEw9_ : EN w9_ es hN ky vl (va_up nxk lt2v none) bf af := by rw [hw9_]; exact hEw8_.off (hEw8_.noa c8_q2_)
                      have hFw9_ : MT w w9_ mp t es := by rw [hw9_]; exact hFw8_.up (Or.inr (Or.inr (Or.inr hwt2)))
                      refine gv_aload (pc := 327) S dJ4_resize_327 (lv_at hl 5 rfl) ?_
                      refine gv_ifnull (pc := 329) (tgt := 347) S dJ4_resize_329 (by decide) (fun h16 => ?_) (fun ht2v h16 => ?_)
                      · have hlx_h16 := hl
                        have Gx_h16 := G
                        subst h16
                        have hl := hlx_h16
                        have G : gS D K w9_ s H locs := Gx_h16
                        have hl : lv_has ls 14 [(8, .null), (13, .null), (9, .ref lh2v), (10, .ref lt2v), (11, va_rf hh2), (12, .null), (0, .ref mp), (1, .ref t), (2, .int (nI n)), (4, .int (nI (2 * n))), (6, .ref q2_), (7, .int (nI j))] := hl
                        refine W.eq (g2 := F0 m 347 ls []) rfl ?_
                        have hB := SE_hin hA
                        refine lv_iinc (pc := 347) (v := ((nI j) + 1)) (lv' := [(7, .int ((nI j) + 1)), (8, .null), (13, .null), (9, .ref lh2v), (10, .ref lt2v), (11, va_rf hh2), (12, .null), (0, .ref mp), (1, .ref t), (2, .int (nI n)), (4, .int (nI (2 * n))), (6, .ref q2_)]) hx hb dJ4_resize_347 hl (k := 11) rfl (by first | rfl | decide) (by decide) rfl (fun ls hl => ?_)
                        rw [← nI_succ] at hl
                        refine lv_goto (pc := 350) (tgt := 151) hx hb dJ4_resize_350 (by decide) ?_
                        exact ih (j + 1) (va_up fj j none) (va_up g j (some lh2v)) (va_up nxk lt2v none) w9_ H locs ls (by omega) (by omega) (hR.put2 hC hjn hB.2.2 hB.1 hB.2.1 (va_up_self _ _ _) ((va_up_ne _ _ (by omega)).trans (hR.gj hjn).2) (fun i h1 h2 => va_up_ne _ _ h1)) (fun i hi => (va_up_ne _ _ (by omega)).trans (hfj i (by omega))) c9_mp c9_t c9_q2_ hEw9_ hFw9_ G (lv_sub hl [0, 7, 8, 9, 10, 11] rfl)
                      · have hlx_h16 := hl
                        have Gx_h16 := G
                        subst h16
                        have hl := hlx_h16
                        have G : gS D K w9_ s H locs := Gx_h16
                        have hl : lv_has ls 14 [(8, .null), (13, .null), (9, .ref lh2v), (10, .ref lt2v), (11, va_rf hh2), (12, .ref ht2v), (0, .ref mp), (1, .ref t), (2, .int (nI n)), (4, .int (nI (2 * n))), (6, .ref q2_), (7, .int (nI j))] := hl
                        refine W.eq (g2 := F0 m 332 ls []) rfl ?_
                        have hme_ht2v : ht2v ∈ es := ((hC.1 j hjn ht2v).mp (List.mem_filter.mp hA.2.1.mem).1).1
                        obtain ⟨hh2v, ef17, pf17⟩ := hA.2.1.hd
                        have hlx_f17 := hl
                        have Gx_f17 := G
                        subst ef17
                        have hl := hlx_f17
                        have G : gS D K w9_ s H locs := Gx_f17
                        have hl : lv_has ls 14 [(8, .null), (13, .null), (9, .ref lh2v), (10, .ref lt2v), (11, .ref hh2v), (12, .ref ht2v), (0, .ref mp), (1, .ref t), (2, .int (nI n)), (4, .int (nI (2 * n))), (6, .ref q2_), (7, .int (nI j))] := hl
                        refine W.eq (g2 := F0 m 332 ls []) rfl ?_
                        have hme_hh2v : hh2v ∈ es := ((hC.1 j hjn hh2v).mp (List.mem_filter.mp pf17).1).1
                        have hB := SE_hi hA (hC.2 j hjn) hn0
                        refine lv_aload (pc := 332) hx hb dJ4_resize_332 (lv_at hl 5 rfl) ?_
                        refine lv_null (pc := 334) hx hb dJ4_resize_334 ?_
                        have ct18 : w9_ ht2v = some (.inr (8, [.int (nI (hN ht2v)), .ref (ky ht2v), .ref (vl ht2v), va_rf ((va_up nxk lt2v none) ht2v), va_rf (bf ht2v), va_rf (af ht2v)])) := hEw9_ ht2v hme_ht2v
                        refine g_put (pc := 335) (v := .null) S M G (C := RJ22) (T := TJ22) (N := 6) (ci := 8) in_J22 tyJ22 tyJ22_ok nmJ22 ct18 (hbe ht2v hme_ht2v) rfl 3 (by decide) q816 (Or.inl rfl) rfl rfl rfl (Nat.le_of_ble_eq_true rfl) dJ4_resize_335 (fun H locs G => ?_)
                        obtain ⟨w10_, hw10_⟩ : ∃ z9, z9 = gu w9_ ht2v (.inr (8, [.int (nI (hN ht2v)), .ref (ky ht2v), .ref (vl ht2v), .null, va_rf (bf ht2v), va_rf (af ht2v)])) := ⟨_, rfl⟩
                        replace G : gS D K w10_ s H locs := by rw [hw10_]; exact G
                        have c10_mp : w10_ mp = some (.inr (7, [.ref q2_, .null, .int sz, .int md, .int (nI (2 * n / 4 * 3)), .float lf, va_rf ks, .null, va_rf hd, va_rf tl, .int 0, .int 0])) := by rw [hw10_, gu_n (gne_c c9_mp ct18 (by decide))]; exact c9_mp
                        have c10_t : w10_ t = some (.inl (D.1 103, n, .inr (.inr (.inr (.inr (va_up fj j none)))))) := by rw [hw10_, gu_n (gne_ao c9_t ct18)]; exact c9_t
                        have c10_q2_ : w10_ q2_ = some (.inl (D.1 103, (2 * n), .inr (.inr (.inr (.inr (va_up g j (some lh2v))))))) := by rw [hw10_, gu_n (gne_ao c9_q2_ ct18)]; exact c9_q2_
                        have c10_ht2v : w10_ ht2v = some (.inr (8, [.int (nI (hN ht2v)), .ref (ky ht2v), .ref (vl ht2v), .null, va_rf (bf ht2v), va_rf (af ht2v)])) := by rw [hw10_]; exact gu_s
                        have hEw10_ : EN w10_ es hN ky vl (va_up (va_up nxk lt2v none) ht2v none) bf af := by rw [hw10_]; exact hEw9_.nx none rfl
                        have hFw10_ : MT w w10_ mp t es := by rw [hw10_]; exact hFw9_.up (Or.inr (Or.inr (Or.inl hme_ht2v)))
                        refine lv_aload (pc := 338) hx hb dJ4_resize_338 (lv_at hl 10 rfl) ?_
                        refine lv_iload (pc := 340) hx hb dJ4_resize_340 (lv_at hl 11 rfl) ?_
                        refine lv_iload_n (pc := 342) hx hb dJ4_resize_342 rfl (lv_at hl 8 rfl) ?_
                        refine lv_iadd (pc := 343) hx hb dJ4_resize_343 ?_
                        rw [nI_add]
                        refine lv_aload (pc := 344) hx hb dJ4_resize_344 (lv_at hl 4 rfl) ?_
                        have ct19 : w10_ hh2v = some (.inr (8, [.int (nI (hN hh2v)), .ref (ky hh2v), .ref (vl hh2v), va_rf ((va_up (va_up nxk lt2v none) ht2v none) hh2v), va_rf (bf hh2v), va_rf (af hh2v)])) := hEw10_ hh2v hme_hh2v
                        refine g_aast (pc := 346) S M G 3 rfl c10_q2_ hbq2_ (g_recv M G ct19 (q := (RJ22, TJ22, 6)) rfl) q1591 (vp_in_nI (show j + n < 2 * n by omega) (by omega)) dJ4_resize_346 (fun H locs G => ?_)
                        rw [nI_clamp (show j + n < 2 ^ 31 by omega)] at G
                        obtain ⟨w11_, hw11_⟩ : ∃ z9, z9 = gu w10_ q2_ (.inl (D.1 103, (2 * n), .inr (.inr (.inr (.inr (va_up (va_up g j (some lh2v)) (j + n) (some hh2v))))))) := ⟨_, rfl⟩
                        replace G : gS D K w11_ s H locs := by rw [hw11_]; exact G
                        have c11_mp : w11_ mp = some (.inr (7, [.ref q2_, .null, .int sz, .int md, .int (nI (2 * n / 4 * 3)), .float lf, va_rf ks, .null, va_rf hd, va_rf tl, .int 0, .int 0])) := by rw [hw11_, gu_n (Ne.symm (gne_ao c10_q2_ c10_mp))]; exact c10_mp
                        have c11_t : w11_ t = some (.inl (D.1 103, n, .inr (.inr (.inr (.inr (va_up fj j none)))))) := by rw [hw11_, gu_n htt2]; exact c10_t
                        have c11_q2_ : w11_ q2_ = some (.inl (D.1 103, (2 * n), .inr (.inr (.inr (.inr (va_up (va_up g j (some lh2v)) (j + n) (some hh2v))))))) := by rw [hw11_]; exact gu_s
                        have hEw11_ : EN w11_ es hN ky vl (va_up (va_up nxk lt2v none) ht2v none) bf af := by rw [hw11_]; exact hEw10_.off (hEw10_.noa c10_q2_)
                        have hFw11_ : MT w w11_ mp t es := by rw [hw11_]; exact hFw10_.up (Or.inr (Or.inr (Or.inr hwt2)))
                        refine lv_iinc (pc := 347) (v := ((nI j) + 1)) (lv' := [(7, .int ((nI j) + 1)), (8, .null), (13, .null), (9, .ref lh2v), (10, .ref lt2v), (11, .ref hh2v), (12, .ref ht2v), (0, .ref mp), (1, .ref t), (2, .int (nI n)), (4, .int (nI (2 * n))), (6, .ref q2_)]) hx hb dJ4_resize_347 hl (k := 11) rfl (by first | rfl | decide) (by decide) rfl (fun ls hl => ?_)
                        rw [← nI_succ] at hl
                        refine lv_goto (pc := 350) (tgt := 151) hx hb dJ4_resize_350 (by decide) ?_
                        exact ih (j + 1) (va_up fj j none) (va_up (va_up g j (some lh2v)) (j + n) (some hh2v)) (va_up (va_up nxk lt2v none) ht2v none) w11_ H locs ls (by omega) (by omega) (hR.put2 hC hjn hB.2.2 hB.1 hB.2.1 ((va_up_ne _ _ (by omega)).trans (va_up_self _ _ _)) (va_up_self _ _ _) (fun i h1 h2 => (va_up_ne _ _ h2).trans (va_up_ne _ _ h1))) (fun i hi => (va_up_ne _ _ (by omega)).trans (hfj i (by omega))) c11_mp c11_t c11_q2_ hEw11_ hFw11_ G (lv_sub hl [0, 7, 8, 9, 10, 11] rfl)
                have hme : en ∈ es := ((hC.1 j hjn en).mp hsp.me).1
                have hmod : hN en % n = j := ((hC.1 j hjn en).mp hsp.me).2
                refine lv_aload (pc := 235) hx hb dJ4_resize_235 (lv_at hl 0 rfl) ?_
                have ct20 : wi en = some (.inr (8, [.int (nI (hN en)), .ref (ky en), .ref (vl en), va_rf (nxi en), va_rf (bf en), va_rf (af en)])) := hEi en hme
                refine g_get (pc := 237) (v := va_rf (nxi en)) S M G (C := RJ22) (T := TJ22) (N := 6) (ci := 8) in_J22 ct20 rfl 3 (by decide) q816 (Or.inl rfl) rfl dJ4_resize_237 ?_
                obtain ⟨r21, er21⟩ : ∃ z9, z9 = nxi en := ⟨_, rfl⟩
                rw [← er21]
                refine gv_astore (pc := 240) (lv' := [(13, va_rf r21), (8, .ref en), (9, va_rf lh), (10, va_rf lt), (11, va_rf hh), (12, va_rf ht), (0, .ref mp), (1, .ref t), (2, .int (nI n)), (4, .int (nI (2 * n))), (6, .ref q2_), (7, .int (nI j))]) S dJ4_resize_240 hl (by decide) (by simp [cat_rf]) (fun ls hl => ?_)
                refine lv_aload (pc := 242) hx hb dJ4_resize_242 (lv_at hl 1 rfl) ?_
                refine g_get (pc := 244) (v := .int (nI (hN en))) S M G (C := RJ22) (T := TJ22) (N := 6) (ci := 8) in_J22 ct20 rfl 0 (by decide) q800 (Or.inl rfl) rfl dJ4_resize_244 ?_
                refine lv_iload_n (pc := 247) hx hb dJ4_resize_247 rfl (lv_at hl 8 rfl) ?_
                refine lv_iand (pc := 248) hx hb dJ4_resize_248 ?_
                refine lv_if_ne (pc := 249) (tgt := 278) hx hb dJ4_resize_249 (by decide) (fun c22 => ?_) (fun c22 => ?_)
                · have he : hN en % (2 * n) = j + n := (mod_two hn0 hmod).resolve_left (fun q => c22 ((p2_lo hn (hlt en hme)).mpr (by rw [q, hmod])))
                  refine gv_aload (pc := 278) S dJ4_resize_278 (lv_at hl 5 rfl) ?_
                  refine gv_ifnonnull (pc := 280) (tgt := 290) S dJ4_resize_280 (by decide) (fun htv h23 => ?_) (fun h23 => ?_)
                  · have hlx_h23 := hl
                    have Gx_h23 := G
                    subst h23
                    have hl := hlx_h23
                    have G : gS D K wi s H locs := Gx_h23
                    have hl : lv_has ls 14 [(13, va_rf r21), (8, .ref en), (9, va_rf lh), (10, va_rf lt), (11, va_rf hh), (12, .ref htv), (0, .ref mp), (1, .ref t), (2, .int (nI n)), (4, .int (nI (2 * n))), (6, .ref q2_), (7, .int (nI j))] := hl
                    refine W.eq (g2 := F0 m 290 ls []) rfl ?_
                    have hme_htv : htv ∈ es := ((hC.1 j hjn htv).mp hsp.mh).1
                    refine lv_aload (pc := 290) hx hb dJ4_resize_290 (lv_at hl 5 rfl) ?_
                    refine lv_aload (pc := 292) hx hb dJ4_resize_292 (lv_at hl 1 rfl) ?_
                    have ct24 : wi htv = some (.inr (8, [.int (nI (hN htv)), .ref (ky htv), .ref (vl htv), va_rf (nxi htv), va_rf (bf htv), va_rf (af htv)])) := hEi htv hme_htv
                    refine g_put (pc := 294) (v := .ref en) S M G (C := RJ22) (T := TJ22) (N := 6) (ci := 8) in_J22 tyJ22 tyJ22_ok nmJ22 ct24 (hbe htv hme_htv) rfl 3 (by decide) q816 (Or.inl rfl) rfl rfl rfl (Nat.le_of_ble_eq_true rfl) dJ4_resize_294 (fun H locs G => ?_)
                    obtain ⟨w12_, hw12_⟩ : ∃ z9, z9 = gu wi htv (.inr (8, [.int (nI (hN htv)), .ref (ky htv), .ref (vl htv), .ref en, va_rf (bf htv), va_rf (af htv)])) := ⟨_, rfl⟩
                    replace G : gS D K w12_ s H locs := by rw [hw12_]; exact G
                    have c12_mp : w12_ mp = some (.inr (7, [.ref q2_, .null, .int sz, .int md, .int (nI (2 * n / 4 * 3)), .float lf, va_rf ks, .null, va_rf hd, va_rf tl, .int 0, .int 0])) := by rw [hw12_, gu_n (gne_c hm_wi ct24 (by decide))]; exact hm_wi
                    have c12_t : w12_ t = some (.inl (D.1 103, n, .inr (.inr (.inr (.inr (va_up fj j none)))))) := by rw [hw12_, gu_n (gne_ao ht_wi ct24)]; exact ht_wi
                    have c12_q2_ : w12_ q2_ = some (.inl (D.1 103, (2 * n), .inr (.inr (.inr (.inr g))))) := by rw [hw12_, gu_n (gne_ao hg_wi ct24)]; exact hg_wi
                    have c12_htv : w12_ htv = some (.inr (8, [.int (nI (hN htv)), .ref (ky htv), .ref (vl htv), .ref en, va_rf (bf htv), va_rf (af htv)])) := by rw [hw12_]; exact gu_s
                    have hEw12_ : EN w12_ es hN ky vl (va_up nxi htv (some en)) bf af := by rw [hw12_]; exact hEi.nx (some en) rfl
                    have hFw12_ : MT w w12_ mp t es := by rw [hw12_]; exact hFi.up (Or.inr (Or.inr (Or.inl hme_htv)))
                    refine lv_aload (pc := 297) hx hb dJ4_resize_297 (lv_at hl 1 rfl) ?_
                    refine lv_astore (pc := 299) (lv' := [(12, .ref en), (13, va_rf r21), (8, .ref en), (9, va_rf lh), (10, va_rf lt), (11, va_rf hh), (0, .ref mp), (1, .ref t), (2, .int (nI n)), (4, .int (nI (2 * n))), (6, .ref q2_), (7, .int (nI j))]) hx hb dJ4_resize_299 hl (by decide) (by simp [cat_rf]) (fun ls hl => ?_)
                    exact J301 (pre ++ [en]) rest r21 lh lt hh (some en) (va_up nxi htv (some en)) w12_ H locs ls (Nat.le_refl _) (by rw [er21]; exact hsp.hi1 (hC.2 j hjn) hn0 he) c12_mp c12_t c12_q2_ hEw12_ hFw12_ G (lv_sub hl [1, 3, 4, 5, 0, 6, 7, 8, 9, 10, 11] rfl)
                  · have hlx_h23 := hl
                    have Gx_h23 := G
                    subst h23
                    have hl := hlx_h23
                    have G : gS D K wi s H locs := Gx_h23
                    have hl : lv_has ls 14 [(13, va_rf r21), (8, .ref en), (9, va_rf lh), (10, va_rf lt), (11, va_rf hh), (12, .null), (0, .ref mp), (1, .ref t), (2, .int (nI n)), (4, .int (nI (2 * n))), (6, .ref q2_), (7, .int (nI j))] := hl
                    refine W.eq (g2 := F0 m 283 ls []) rfl ?_
                    refine lv_aload (pc := 283) hx hb dJ4_resize_283 (lv_at hl 1 rfl) ?_
                    refine lv_astore (pc := 285) (lv' := [(11, .ref en), (13, va_rf r21), (8, .ref en), (9, va_rf lh), (10, va_rf lt), (12, .null), (0, .ref mp), (1, .ref t), (2, .int (nI n)), (4, .int (nI (2 * n))), (6, .ref q2_), (7, .int (nI j))]) hx hb dJ4_resize_285 hl (by decide) (by simp [cat_rf]) (fun ls hl => ?_)
                    refine lv_goto (pc := 287) (tgt := 297) hx hb dJ4_resize_287 (by decide) ?_
                    refine lv_aload (pc := 297) hx hb dJ4_resize_297 (lv_at hl 2 rfl) ?_
                    refine lv_astore (pc := 299) (lv' := [(12, .ref en), (11, .ref en), (13, va_rf r21), (8, .ref en), (9, va_rf lh), (10, va_rf lt), (0, .ref mp), (1, .ref t), (2, .int (nI n)), (4, .int (nI (2 * n))), (6, .ref q2_), (7, .int (nI j))]) hx hb dJ4_resize_299 hl (by decide) rfl (fun ls hl => ?_)
                    exact J301 (pre ++ [en]) rest r21 lh lt (some en) (some en) nxi wi H locs ls (Nat.le_refl _) (by rw [er21]; exact hsp.hi0 hn0 he) hm_wi ht_wi hg_wi hEi hFi G (lv_sub hl [2, 4, 5, 1, 0, 6, 7, 8, 9, 10, 11] rfl)
                · have he : hN en % (2 * n) = j := by rw [(p2_lo hn (hlt en hme)).mp c22]; exact hmod
                  refine gv_aload (pc := 252) S dJ4_resize_252 (lv_at hl 3 rfl) ?_
                  refine gv_ifnonnull (pc := 254) (tgt := 264) S dJ4_resize_254 (by decide) (fun ltv h25 => ?_) (fun h25 => ?_)
                  · have hlx_h25 := hl
                    have Gx_h25 := G
                    subst h25
                    have hl := hlx_h25
                    have G : gS D K wi s H locs := Gx_h25
                    have hl : lv_has ls 14 [(13, va_rf r21), (8, .ref en), (9, va_rf lh), (10, .ref ltv), (11, va_rf hh), (12, va_rf ht), (0, .ref mp), (1, .ref t), (2, .int (nI n)), (4, .int (nI (2 * n))), (6, .ref q2_), (7, .int (nI j))] := hl
                    refine W.eq (g2 := F0 m 264 ls []) rfl ?_
                    have hme_ltv : ltv ∈ es := ((hC.1 j hjn ltv).mp hsp.ml).1
                    refine lv_aload (pc := 264) hx hb dJ4_resize_264 (lv_at hl 3 rfl) ?_
                    refine lv_aload (pc := 266) hx hb dJ4_resize_266 (lv_at hl 1 rfl) ?_
                    have ct26 : wi ltv = some (.inr (8, [.int (nI (hN ltv)), .ref (ky ltv), .ref (vl ltv), va_rf (nxi ltv), va_rf (bf ltv), va_rf (af ltv)])) := hEi ltv hme_ltv
                    refine g_put (pc := 268) (v := .ref en) S M G (C := RJ22) (T := TJ22) (N := 6) (ci := 8) in_J22 tyJ22 tyJ22_ok nmJ22 ct26 (hbe ltv hme_ltv) rfl 3 (by decide) q816 (Or.inl rfl) rfl rfl rfl (Nat.le_of_ble_eq_true rfl) dJ4_resize_268 (fun H locs G => ?_)
                    obtain ⟨w13_, hw13_⟩ : ∃ z9, z9 = gu wi ltv (.inr (8, [.int (nI (hN ltv)), .ref (ky ltv), .ref (vl ltv), .ref en, va_rf (bf ltv), va_rf (af ltv)])) := ⟨_, rfl⟩
                    replace G : gS D K w13_ s H locs := by rw [hw13_]; exact G
                    have c13_mp : w13_ mp = some (.inr (7, [.ref q2_, .null, .int sz, .int md, .int (nI (2 * n / 4 * 3)), .float lf, va_rf ks, .null, va_rf hd, va_rf tl, .int 0, .int 0])) := by rw [hw13_, gu_n (gne_c hm_wi ct26 (by decide))]; exact hm_wi
                    have c13_t : w13_ t = some (.inl (D.1 103, n, .inr (.inr (.inr (.inr (va_up fj j none)))))) := by rw [hw13_, gu_n (gne_ao ht_wi ct26)]; exact ht_wi
                    have c13_q2_ : w13_ q2_ = some (.inl (D.1 103, (2 * n), .inr (.inr (.inr (.inr g))))) := by rw [hw13_, gu_n (gne_ao hg_wi ct26)]; exact hg_wi
                    have c13_ltv : w13_ ltv = some (.inr (8, [.int (nI (hN ltv)), .ref (ky ltv), .ref (vl ltv), .ref en, va_rf (bf ltv), va_rf (af ltv)])) := by rw [hw13_]; exact gu_s
                    have hEw13_ : EN w13_ es hN ky vl (va_up nxi ltv (some en)) bf af := by rw [hw13_]; exact hEi.nx (some en) rfl
                    have hFw13_ : MT w w13_ mp t es := by rw [hw13_]; exact hFi.up (Or.inr (Or.inr (Or.inl hme_ltv)))
                    refine lv_aload (pc := 271) hx hb dJ4_resize_271 (lv_at hl 1 rfl) ?_
                    refine lv_astore (pc := 273) (lv' := [(10, .ref en), (13, va_rf r21), (8, .ref en), (9, va_rf lh), (11, va_rf hh), (12, va_rf ht), (0, .ref mp), (1, .ref t), (2, .int (nI n)), (4, .int (nI (2 * n))), (6, .ref q2_), (7, .int (nI j))]) hx hb dJ4_resize_273 hl (by decide) (by simp [cat_rf]) (fun ls hl => ?_)
                    refine lv_goto (pc := 275) (tgt := 301) hx hb dJ4_resize_275 (by decide) ?_
                    exact J301 (pre ++ [en]) rest r21 lh (some en) hh ht (va_up nxi ltv (some en)) w13_ H locs ls (Nat.le_refl _) (by rw [er21]; exact hsp.lo1 (hC.2 j hjn) hn0 he) c13_mp c13_t c13_q2_ hEw13_ hFw13_ G (lv_sub hl [1, 3, 0, 4, 5, 6, 7, 8, 9, 10, 11] rfl)
                  · have hlx_h25 := hl
                    have Gx_h25 := G
                    subst h25
                    have hl := hlx_h25
                    have G : gS D K wi s H locs := Gx_h25
                    have hl : lv_has ls 14 [(13, va_rf r21), (8, .ref en), (9, va_rf lh), (10, .null), (11, va_rf hh), (12, va_rf ht), (0, .ref mp), (1, .ref t), (2, .int (nI n)), (4, .int (nI (2 * n))), (6, .ref q2_), (7, .int (nI j))] := hl
                    refine W.eq (g2 := F0 m 257 ls []) rfl ?_
                    refine lv_aload (pc := 257) hx hb dJ4_resize_257 (lv_at hl 1 rfl) ?_
                    refine lv_astore (pc := 259) (lv' := [(9, .ref en), (13, va_rf r21), (8, .ref en), (10, .null), (11, va_rf hh), (12, va_rf ht), (0, .ref mp), (1, .ref t), (2, .int (nI n)), (4, .int (nI (2 * n))), (6, .ref q2_), (7, .int (nI j))]) hx hb dJ4_resize_259 hl (by decide) rfl (fun ls hl => ?_)
                    refine lv_goto (pc := 261) (tgt := 271) hx hb dJ4_resize_261 (by decide) ?_
                    refine lv_aload (pc := 271) hx hb dJ4_resize_271 (lv_at hl 2 rfl) ?_
                    refine lv_astore (pc := 273) (lv' := [(10, .ref en), (9, .ref en), (13, va_rf r21), (8, .ref en), (11, va_rf hh), (12, va_rf ht), (0, .ref mp), (1, .ref t), (2, .int (nI n)), (4, .int (nI (2 * n))), (6, .ref q2_), (7, .int (nI j))]) hx hb dJ4_resize_273 hl (by decide) rfl (fun ls hl => ?_)
                    refine lv_goto (pc := 275) (tgt := 301) hx hb dJ4_resize_275 (by decide) ?_
                    exact J301 (pre ++ [en]) rest r21 (some en) (some en) hh ht nxi wi H locs ls (Nat.le_refl _) (by rw [er21]; exact hsp.lo0 hn0 he) hm_wi ht_wi hg_wi hEi hFi G (lv_sub hl [2, 1, 0, 4, 5, 6, 7, 8, 9, 10, 11] rfl)
            exact Lq (lr.length + 1) [] lr r2v none none none none nxj w5_ H locs ls (Nat.lt_succ_self _) ⟨hcj, Lh.nil, Lh.nil, ⟨rfl, hsg1⟩, fun _ _ => rfl⟩ c5_mp c5_t c5_q2_ hEw5_ hFw5_ G (lv_sub hl [4, 3, 2, 1, 0, 6, 7, 8, 9, 10, 5] rfl)
          · have hlx_h6 := hl
            have Gx_h6 := G
            subst h6
            have hl := hlx_h6
            have G : gS D K w5_ s H locs := Gx_h6
            have hl : lv_has ls 14 [(8, .ref r2v), (7, .int (nI j)), (0, .ref mp), (1, .ref t), (2, .int (nI n)), (4, .int (nI (2 * n))), (6, .ref q2_)] := hl
            refine W.eq (g2 := F0 m 180 ls []) rfl ?_
            obtain ⟨-, -, hR1⟩ := hR.one hC hjn er2 er5
            refine lv_aload (pc := 180) hx hb dJ4_resize_180 (lv_at hl 6 rfl) ?_
            refine lv_aload (pc := 182) hx hb dJ4_resize_182 (lv_at hl 0 rfl) ?_
            refine g_get (pc := 184) (v := .int (nI (hN r2v))) S M G (C := RJ22) (T := TJ22) (N := 6) (ci := 8) in_J22 ct4 rfl 0 (by decide) q800 (Or.inl rfl) rfl dJ4_resize_184 ?_
            refine lv_iload (pc := 187) hx hb dJ4_resize_187 (lv_at hl 5 rfl) ?_
            refine lv_iconst (pc := 189) (v := 1) hx hb dJ4_resize_189 (by decide) ?_
            refine lv_isub (pc := 190) hx hb dJ4_resize_190 ?_
            refine lv_iand (pc := 191) hx hb dJ4_resize_191 ?_
            rw [p2_andc (p3_22 hn) (hlt r2v hme_r2v)]
            refine lv_aload (pc := 192) hx hb dJ4_resize_192 (lv_at hl 0 rfl) ?_
            refine g_aast (pc := 194) S M G 3 rfl c5_q2_ hbq2_ (g_recv M G ct4 (q := (RJ22, TJ22, 6)) rfl) q1591 (p2_in (p3_22 hn)) dJ4_resize_194 (fun H locs G => ?_)
            rw [p2_cl (p3_22 hn)] at G
            obtain ⟨w14_, hw14_⟩ : ∃ z9, z9 = gu w5_ q2_ (.inl (D.1 103, (2 * n), .inr (.inr (.inr (.inr (va_up g (hN r2v % (2 * n)) (some r2v))))))) := ⟨_, rfl⟩
            replace G : gS D K w14_ s H locs := by rw [hw14_]; exact G
            have c14_mp : w14_ mp = some (.inr (7, [.ref q2_, .null, .int sz, .int md, .int (nI (2 * n / 4 * 3)), .float lf, va_rf ks, .null, va_rf hd, va_rf tl, .int 0, .int 0])) := by rw [hw14_, gu_n (Ne.symm (gne_ao c5_q2_ c5_mp))]; exact c5_mp
            have c14_t : w14_ t = some (.inl (D.1 103, n, .inr (.inr (.inr (.inr (va_up fj j none)))))) := by rw [hw14_, gu_n htt2]; exact c5_t
            have c14_q2_ : w14_ q2_ = some (.inl (D.1 103, (2 * n), .inr (.inr (.inr (.inr (va_up g (hN r2v % (2 * n)) (some r2v))))))) := by rw [hw14_]; exact gu_s
            have hEw14_ : EN w14_ es hN ky vl nxj bf af := by rw [hw14_]; exact hEw5_.off (hEw5_.noa c5_q2_)
            have hFw14_ : MT w w14_ mp t es := by rw [hw14_]; exact hFw5_.up (Or.inr (Or.inr (Or.inr hwt2)))
            refine lv_goto (pc := 195) (tgt := 347) hx hb dJ4_resize_195 (by decide) ?_
            refine lv_iinc (pc := 347) (v := ((nI j) + 1)) (lv' := [(7, .int ((nI j) + 1)), (8, .ref r2v), (0, .ref mp), (1, .ref t), (2, .int (nI n)), (4, .int (nI (2 * n))), (6, .ref q2_)]) hx hb dJ4_resize_347 hl (k := 1) rfl (by first | rfl | decide) (by decide) rfl (fun ls hl => ?_)
            rw [← nI_succ] at hl
            refine lv_goto (pc := 350) (tgt := 151) hx hb dJ4_resize_350 (by decide) ?_
            exact ih (j + 1) (va_up fj j none) (va_up g (hN r2v % (2 * n)) (some r2v)) nxj w14_ H locs ls (by omega) (by omega) hR1 (fun i hi => (va_up_ne _ _ (by omega)).trans (hfj i (by omega))) c14_mp c14_t c14_q2_ hEw14_ hFw14_ G (lv_sub hl [0, 2, 3, 4, 5, 6] rfl)
  exact Lp (n + 1) 0 f (fun _ => none) nx w4_ H locs ls (by omega) (Nat.zero_le _) (RS.start hch1) (fun _ _ => rfl) c4_mp c4_t c4_q2_ hEw4_ hFw4_ G (lv_sub hl [0, 7, 6, 5, 3, 1] rfl)
