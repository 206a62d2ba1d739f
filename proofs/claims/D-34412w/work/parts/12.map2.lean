/-! HashMap.getNode, LinkedHashMap.get -/
theorem Sg.nil0 {nx : Nat → Option Nat} {l : List Nat} (h : Sg nx none l none) : l = [] := by
  cases l with
  | nil => rfl
  | cons a l => exact absurd h.1 (by simp)
theorem Sg.cons0 {nx : Nat → Option Nat} {l : List Nat} {a : Nat} (h : Sg nx (some a) l none) : ∃ l', l = a :: l' ∧ Sg nx (nx a) l' none := by
  cases l with
  | nil => exact absurd h (by simp [Sg])
  | cons b l =>
    obtain ⟨h1, h2⟩ := h
    cases h1
    exact ⟨l, rfl, h2⟩
theorem Sg.nil1 {nx : Nat → Option Nat} {o : Option Nat} {l : List Nat} (e : none = o) (h : Sg nx o l none) : l = [] := by
  subst e
  exact h.nil0
theorem Sg.cons1 {nx : Nat → Option Nat} {o : Option Nat} {l : List Nat} {a : Nat} (e : some a = o) (h : Sg nx o l none) : ∃ l', l = a :: l' ∧ Sg nx (nx a) l' none := by
  subst e
  exact h.cons0
theorem p2_nle {n : Nat} (hn : p2 n) : ¬ nI n ≤ 0 := nI_nle (p2_pos hn) (by have := p2_le hn; omega)
theorem p2_in {n h : Nat} (hn : p2 n) : vp_in (nI (h % n)) n := vp_in_nI (p2_mod hn) (by have := p2_le hn; omega)
theorem p2_cl {n h : Nat} (hn : p2 n) : (nI (h % n)).toNatClampNeg = h % n := nI_clamp (by have := p2_le hn; have := p2_mod (h := h) hn; omega)
theorem hq_of {a b : Nat} (ha : a < 300) (hb : b < 300) (h : nI a = nI b) : a = b := (nI_eq (by omega) (by omega)).mp h
theorem fi_pos {p : Nat → Bool} {a : Nat} {l : List Nat} (h : p a = true) : (a :: l).find? p = some a := List.find?_cons_of_pos h
theorem fi_neg {p : Nat → Bool} {a : Nat} {l : List Nat} (h : ¬ p a = true) : (a :: l).find? p = l.find? p := List.find?_cons_of_neg h
abbrev rmJ4_getNode : Room := ({ frames := 2, cells := 0, slots := 0, locals := 41 } : Room)
set_option maxHeartbeats 4000000 in
theorem metJ4_getNode (l : Launch) (D : va_G) (K : Nat → Nat) (w : Gh) {mp t n : Nat} {f : Nat → Option Nat} {sz md th : Int32} {lf : UInt32} {ks hd tl : Option Nat} {es : List Nat} {hN ky vl : Nat → Nat} {nx bf af : Nat → Option Nat} (ho : w mp = some (.inr (7, mfl (some t) sz md th lf ks hd tl))) (ht : w t = some (.inl (D.1 103, n, gra f))) (hn : p2 n) (hE : EN w es hN ky vl nx bf af) (hKy : ∀ a ∈ es, KY w (ky a) (hN a)) (hlt : ∀ a ∈ es, hN a < 300) {key h : Nat} (hk : KY w key h) (hh : h < 300) {LL : List Nat} (hl0 : Sg nx (f (h % n)) LL none) (hle : ∀ a ∈ LL, a ∈ es) : gMet l yJ4_getNode (ws_ yJ4_getNode cJ4_getNode 8 (some (.object "java/util/HashMap$Node"))) rmJ4_getNode D K [.ref mp, .ref key] w (fun r' w' => r' = some (va_rf (LL.find? (fun a => hN a == h))) ∧ w' = w) := by
  refine gMet.of (by decide) (Nat.le_of_ble_eq_true rfl) ?_
  intro p ev s m args below meth c H locs ls S M hr hlocks hname G hl
  have hx := S.1
  have hb := S.2.1
  have hown := S.2.2.2.1
  have hts := S.2.2.2.2
  have hl : lv_has ls 8 [(0, .ref mp), (1, .ref key)] := hl
  obtain ⟨Q, hQ⟩ : ∃ Q, Q = gE below D K (fun r' w' => r' = some (va_rf (LL.find? (fun a => hN a == h))) ∧ w' = w) args s rmJ4_getNode.cells rmJ4_getNode.slots := ⟨_, rfl⟩
  rw [← hQ]
  refine lv_aload_n (pc := 0) hx hb dJ4_getNode_0 rfl (lv_at hl 0 rfl) ?_
  refine g_get (pc := 1) (v := .ref t) S M G (C := RJ5) (T := TJ5) (N := 12) (ci := 7) in_J5 ho rfl 0 (by decide) q130 (Or.inl rfl) rfl dJ4_getNode_1 ?_
  refine lv_dup (pc := 4) hx hb dJ4_getNode_4 rfl ?_
  refine lv_astore_n (pc := 5) (lv' := [(2, .ref t), (0, .ref mp), (1, .ref key)]) hx hb dJ4_getNode_5 rfl hl (by decide) rfl (fun ls hl => ?_)
  refine lv_ifnull (pc := 6) hx hb dJ4_getNode_6 ?_
  refine lv_aload_n (pc := 9) hx hb dJ4_getNode_9 rfl (lv_at hl 0 rfl) ?_
  refine g_alen (pc := 10) (v := (nI n)) S M G 3 rfl ht rfl dJ4_getNode_10 ?_
  refine lv_dup (pc := 11) hx hb dJ4_getNode_11 rfl ?_
  refine lv_istore (pc := 12) (lv' := [(5, .int (nI n)), (2, .ref t), (0, .ref mp), (1, .ref key)]) hx hb dJ4_getNode_12 hl (by decide) rfl (fun ls hl => ?_)
  refine lv_if_le (pc := 14) (tgt := 148) hx hb dJ4_getNode_14 (by decide) (fun c => absurd c (p2_nle hn)) (fun _ => ?_)
  refine lv_aload_n (pc := 17) hx hb dJ4_getNode_17 rfl (lv_at hl 1 rfl) ?_
  refine lv_iload (pc := 18) hx hb dJ4_getNode_18 (lv_at hl 0 rfl) ?_
  refine lv_iconst (pc := 20) (v := 1) hx hb dJ4_getNode_20 (by decide) ?_
  refine lv_isub (pc := 21) hx hb dJ4_getNode_21 ?_
  refine lv_aload_n (pc := 22) hx hb dJ4_getNode_22 rfl (lv_at hl 3 rfl) ?_
  refine g_callS (pc := 23) S M G hl.1 [.ref key] [.int ((nI n) - 1), .ref t] (metJ4_hash l D K w hk hh) 1 q727 q725 q726 q24 (by decide) rfl ⟨Nat.le_of_ble_eq_true rfl, Nat.le_of_ble_eq_true rfl⟩ rfl (Nat.le_of_ble_eq_true rfl) dJ4_getNode_23 ⟨Nat.le_of_ble_eq_true rfl, Nat.le_of_ble_eq_true rfl⟩ (fun r w2 H locs hp G => ?_)
  obtain ⟨rfl, hw2⟩ := hp
  rw [hw2] at G
  refine W.eq (g2 := F0 m 26 ls [.int (nI h), .int ((nI n) - 1), .ref t]) rfl ?_
  refine lv_dup (pc := 26) hx hb dJ4_getNode_26 rfl ?_
  refine lv_istore (pc := 27) (lv' := [(6, .int (nI h)), (5, .int (nI n)), (2, .ref t), (0, .ref mp), (1, .ref key)]) hx hb dJ4_getNode_27 hl (by decide) rfl (fun ls hl => ?_)
  refine lv_iand (pc := 29) hx hb dJ4_getNode_29 ?_
  rw [p2_and hn hh]
  refine g_aald (pc := 30) S M G 3 rfl ht (p2_in hn) dJ4_getNode_30 ?_
  obtain ⟨r1, er1⟩ : ∃ z9, z9 = f (nI (h % n)).toNatClampNeg := ⟨_, rfl⟩
  rw [← er1]
  refine W.eq (g2 := F0 m 31 ls [va_rf r1]) rfl ?_
  rw [p2_cl hn] at er1
  refine lv_dup (pc := 31) hx hb dJ4_getNode_31 (cat_rf _) ?_
  refine gv_astore_n (pc := 32) (lv' := [(3, va_rf r1), (6, .int (nI h)), (5, .int (nI n)), (2, .ref t), (0, .ref mp), (1, .ref key)]) S dJ4_getNode_32 rfl hl (by decide) rfl (fun ls hl => ?_)
  refine gv_ifnull (pc := 33) (tgt := 148) S dJ4_getNode_33 (by decide) (fun h2 => ?_) (fun r1v h2 => ?_)
  · have hlx_h2 := hl
    have Gx_h2 := G
    subst h2
    have hl := hlx_h2
    have G : gS D K w s H locs := Gx_h2
    have hl : lv_has ls 8 [(3, .null), (6, .int (nI h)), (5, .int (nI n)), (2, .ref t), (0, .ref mp), (1, .ref key)] := hl
    refine W.eq (g2 := F0 m 148 ls []) rfl ?_
    refine lv_null (pc := 148) hx hb dJ4_getNode_148 ?_
    rw [hQ]
    refine g_aret S G (rt := (.object "java/util/HashMap$Node")) (r := none) hr (Or.inl ⟨_, rfl⟩) hlocks (hdg := dJ4_getNode_149) ?_ ?_ ?_
    · exact Nat.le_of_ble_eq_true rfl
    · exact Nat.le_of_ble_eq_true rfl
    · have hnil := Sg.nil1 er1 hl0
      subst hnil
      exact ⟨rfl, rfl⟩
  · have hlx_h2 := hl
    have Gx_h2 := G
    subst h2
    have hl := hlx_h2
    have G : gS D K w s H locs := Gx_h2
    have hl : lv_has ls 8 [(3, .ref r1v), (6, .int (nI h)), (5, .int (nI n)), (2, .ref t), (0, .ref mp), (1, .ref key)] := hl
    refine W.eq (g2 := F0 m 36 ls []) rfl ?_
    obtain ⟨l1, rfl, hl1⟩ := Sg.cons1 er1 hl0
    have he1 : r1v ∈ es := hle r1v List.mem_cons_self
    have ce1 := hE r1v he1
    refine lv_aload_n (pc := 36) hx hb dJ4_getNode_36 rfl (lv_at hl 0 rfl) ?_
    refine g_get (pc := 37) (v := .int (nI (hN r1v))) S M G (C := RJ22) (T := TJ22) (N := 6) (ci := 8) in_J22 ce1 rfl 0 (by decide) q800 (Or.inl rfl) rfl dJ4_getNode_37 ?_
    refine lv_iload (pc := 40) hx hb dJ4_getNode_40 (lv_at hl 1 rfl) ?_
    refine lv_icmp_ne (pc := 42) (tgt := 71) hx hb dJ4_getNode_42 (by decide) (fun c3 => ?_) (fun c3 => ?_)
    · refine lv_aload_n (pc := 71) hx hb dJ4_getNode_71 rfl (lv_at hl 0 rfl) ?_
      refine g_get (pc := 72) (v := va_rf (nx r1v)) S M G (C := RJ22) (T := TJ22) (N := 6) (ci := 8) in_J22 ce1 rfl 3 (by decide) q816 (Or.inl rfl) rfl dJ4_getNode_72 ?_
      obtain ⟨r4, er4⟩ : ∃ z9, z9 = nx r1v := ⟨_, rfl⟩
      rw [← er4]
      refine lv_dup (pc := 75) hx hb dJ4_getNode_75 (cat_rf _) ?_
      refine gv_astore (pc := 76) (lv' := [(4, va_rf r4), (3, .ref r1v), (6, .int (nI h)), (5, .int (nI n)), (2, .ref t), (0, .ref mp), (1, .ref key)]) S dJ4_getNode_76 hl (by decide) rfl (fun ls hl => ?_)
      refine gv_ifnull (pc := 78) (tgt := 148) S dJ4_getNode_78 (by decide) (fun h5 => ?_) (fun r4v h5 => ?_)
      · have hlx_h5 := hl
        have Gx_h5 := G
        subst h5
        have hl := hlx_h5
        have G : gS D K w s H locs := Gx_h5
        have hl : lv_has ls 8 [(4, .null), (3, .ref r1v), (6, .int (nI h)), (5, .int (nI n)), (2, .ref t), (0, .ref mp), (1, .ref key)] := hl
        refine W.eq (g2 := F0 m 148 ls []) rfl ?_
        refine lv_null (pc := 148) hx hb dJ4_getNode_148 ?_
        rw [hQ]
        refine g_aret S G (rt := (.object "java/util/HashMap$Node")) (r := none) hr (Or.inl ⟨_, rfl⟩) hlocks (hdg := dJ4_getNode_149) ?_ ?_ ?_
        · exact Nat.le_of_ble_eq_true rfl
        · exact Nat.le_of_ble_eq_true rfl
        · have hnil := Sg.nil1 er4 hl1
          subst hnil
          exact ⟨(congrArg (fun z => some (va_rf z)) (fi_neg (p := fun a => hN a == h) (a := r1v) (l := []) (by simp; exact fun q => c3 (by rw [q])))).symm, rfl⟩
      · have hlx_h5 := hl
        have Gx_h5 := G
        subst h5
        have hl := hlx_h5
        have G : gS D K w s H locs := Gx_h5
        have hl : lv_has ls 8 [(4, .ref r4v), (3, .ref r1v), (6, .int (nI h)), (5, .int (nI n)), (2, .ref t), (0, .ref mp), (1, .ref key)] := hl
        refine W.eq (g2 := F0 m 81 ls []) rfl ?_
        obtain ⟨l2, rfl, hl2⟩ := Sg.cons1 er4 hl1
        have hfi : (r1v :: r4v :: l2).find? (fun a => hN a == h) = (r4v :: l2).find? (fun a => hN a == h) := fi_neg (by simp; exact fun q => c3 (by rw [q]))
        refine lv_aload_n (pc := 81) hx hb dJ4_getNode_81 rfl (lv_at hl 1 rfl) ?_
        refine va_instNo (pc := 82) hx hb hown (hts _ q766) (M.1.2.2.2.2.1 ("java/util/LinkedHashMap$Entry", "java/util/HashMap$TreeNode") (by decide)) (g_recv M G ce1 (q := (RJ22, TJ22, 6)) rfl) dJ4_getNode_82 ?_
        refine lv_if_eq (pc := 85) (tgt := 99) hx hb dJ4_getNode_85 (by decide) (fun _ => ?_) (fun c => absurd c (by decide))
        have Lp : ∀ (fuel : Nat) (rest : List Nat) (e : Nat) (H : Heap) (locs : List Loc) (ls : Array Slot), rest.length < fuel → Sg nx (nx e) rest none → (∀ a ∈ e :: rest, a ∈ es) → (r1v :: r4v :: l2).find? (fun a => hN a == h) = (e :: rest).find? (fun a => hN a == h) → gS D K w s H locs → lv_has ls 8 [(4, .ref e), (0, .ref mp), (1, .ref key), (6, .int (nI h))] → W p l ev rmJ4_getNode s m args below meth c H locs 0 0 Q (F0 m 99 ls []) := by
          intro fuel
          induction fuel with
          | zero => intro rest e H locs ls h0; exact absurd h0 (Nat.not_lt_zero _)
          | succ fuel ih =>
            intro rest e H locs ls hlen hsg hin hfi G hl
            have hee : e ∈ es := hin e List.mem_cons_self
            have cee := hE e hee
            refine lv_aload (pc := 99) hx hb dJ4_getNode_99 (lv_at hl 0 rfl) ?_
            refine g_get (pc := 101) (v := .int (nI (hN e))) S M G (C := RJ22) (T := TJ22) (N := 6) (ci := 8) in_J22 cee rfl 0 (by decide) q800 (Or.inl rfl) rfl dJ4_getNode_101 ?_
            refine lv_iload (pc := 104) hx hb dJ4_getNode_104 (lv_at hl 3 rfl) ?_
            refine lv_icmp_ne (pc := 106) (tgt := 137) hx hb dJ4_getNode_106 (by decide) (fun c6 => ?_) (fun c6 => ?_)
            · refine lv_aload (pc := 137) hx hb dJ4_getNode_137 (lv_at hl 0 rfl) ?_
              refine g_get (pc := 139) (v := va_rf (nx e)) S M G (C := RJ22) (T := TJ22) (N := 6) (ci := 8) in_J22 cee rfl 3 (by decide) q816 (Or.inl rfl) rfl dJ4_getNode_139 ?_
              obtain ⟨r7, er7⟩ : ∃ z9, z9 = nx e := ⟨_, rfl⟩
              rw [← er7]
              refine lv_dup (pc := 142) hx hb dJ4_getNode_142 (cat_rf _) ?_
              refine gv_astore (pc := 143) (lv' := [(4, va_rf r7), (0, .ref mp), (1, .ref key), (6, .int (nI h))]) S dJ4_getNode_143 hl (by decide) rfl (fun ls hl => ?_)
              refine gv_ifnonnull (pc := 145) (tgt := 99) S dJ4_getNode_145 (by decide) (fun r7v h8 => ?_) (fun h8 => ?_)
              · have hlx_h8 := hl
                have Gx_h8 := G
                subst h8
                have hl := hlx_h8
                have G : gS D K w s H locs := Gx_h8
                have hl : lv_has ls 8 [(4, .ref r7v), (0, .ref mp), (1, .ref key), (6, .int (nI h))] := hl
                refine W.eq (g2 := F0 m 99 ls []) rfl ?_
                obtain ⟨l3, rfl, hl3⟩ := Sg.cons1 er7 hsg
                have hfi := hfi.trans (fi_neg (l := r7v :: l3) (by simp; exact fun q => c6 (by rw [q])))
                exact ih l3 r7v H locs ls (by have := hlen; simp only [List.length_cons] at this; omega) hl3 (fun a ha => hin a (List.mem_cons_of_mem _ ha)) hfi G (lv_sub hl [0, 1, 2, 3] rfl)
              · have hlx_h8 := hl
                have Gx_h8 := G
                subst h8
                have hl := hlx_h8
                have G : gS D K w s H locs := Gx_h8
                have hl : lv_has ls 8 [(4, .null), (0, .ref mp), (1, .ref key), (6, .int (nI h))] := hl
                refine W.eq (g2 := F0 m 148 ls []) rfl ?_
                refine lv_null (pc := 148) hx hb dJ4_getNode_148 ?_
                rw [hQ]
                refine g_aret S G (rt := (.object "java/util/HashMap$Node")) (r := none) hr (Or.inl ⟨_, rfl⟩) hlocks (hdg := dJ4_getNode_149) ?_ ?_ ?_
                · exact Nat.le_of_ble_eq_true rfl
                · exact Nat.le_of_ble_eq_true rfl
                · have hnil := Sg.nil1 er7 hsg
                  subst hnil
                  exact ⟨(congrArg (fun z => some (va_rf z)) (hfi.trans (fi_neg (by simp; exact fun q => c6 (by rw [q]))))).symm, rfl⟩
            · have hqe : hN e = h := hq_of (hlt e hee) hh c6
              refine lv_aload (pc := 109) hx hb dJ4_getNode_109 (lv_at hl 0 rfl) ?_
              refine g_get (pc := 111) (v := .ref (ky e)) S M G (C := RJ22) (T := TJ22) (N := 6) (ci := 8) in_J22 cee rfl 1 (by decide) q806 (Or.inl rfl) rfl dJ4_getNode_111 ?_
              refine lv_dup (pc := 114) hx hb dJ4_getNode_114 rfl ?_
              refine lv_astore (pc := 115) (lv' := [(7, .ref (ky e)), (4, .ref e), (0, .ref mp), (1, .ref key), (6, .int (nI h))]) hx hb dJ4_getNode_115 hl (by decide) rfl (fun ls hl => ?_)
              refine lv_aload_n (pc := 117) hx hb dJ4_getNode_117 rfl (lv_at hl 3 rfl) ?_
              refine lv_acmp_eq (pc := 118) (tgt := 134) (rx := (some (ky e))) (ry := (some key)) hx hb dJ4_getNode_118 (by decide) (fun c9 => ?_) (fun c9 => ?_)
              · refine lv_aload (pc := 134) hx hb dJ4_getNode_134 (lv_at hl 1 rfl) ?_
                rw [hQ]
                refine g_aret S G (rt := (.object "java/util/HashMap$Node")) (r := some e) hr (Or.inl ⟨_, rfl⟩) hlocks (hdg := dJ4_getNode_136) ?_ ?_ ?_
                · exact Nat.le_of_ble_eq_true rfl
                · exact Nat.le_of_ble_eq_true rfl
                · exact ⟨(congrArg (fun z => some (va_rf z)) (hfi.trans (fi_pos (by simp [hqe])))).symm, rfl⟩
              · refine lv_aload_n (pc := 121) hx hb dJ4_getNode_121 rfl (lv_at hl 3 rfl) ?_
                refine lv_ifnull (pc := 122) hx hb dJ4_getNode_122 ?_
                refine lv_aload_n (pc := 125) hx hb dJ4_getNode_125 rfl (lv_at hl 3 rfl) ?_
                refine lv_aload (pc := 126) hx hb dJ4_getNode_126 (lv_at hl 0 rfl) ?_
                refine g_callU (pc := 128) (owner := "java/lang/Object") S M G hl.1 [.ref (ky e)] [] (metX5_equals l D K w hk (hKy e hee) hh (hlt e hee)) 1 (g_recv M G hk (q := (RX5, TX5, 2)) rfl) q899 q892 q894 (va_Decl.abs (M.1.2.2.1 _ q891 rfl)) q898 q897 q42 (by decide) rfl ⟨Nat.le_of_ble_eq_true rfl, Nat.le_of_ble_eq_true rfl⟩ rfl (Nat.le_of_ble_eq_true rfl) dJ4_getNode_128 ⟨Nat.le_of_ble_eq_true rfl, Nat.le_of_ble_eq_true rfl⟩ (fun r w2 H locs hp G => ?_)
                obtain ⟨rfl, hw2⟩ := hp
                rw [hw2] at G
                rw [if_pos hqe.symm]
                refine W.eq (g2 := F0 m 131 ls [.int 1]) rfl ?_
                refine lv_if_eq (pc := 131) (tgt := 137) hx hb dJ4_getNode_131 (by decide) (fun c => absurd c (by decide)) (fun _ => ?_)
                refine lv_aload (pc := 134) hx hb dJ4_getNode_134 (lv_at hl 1 rfl) ?_
                rw [hQ]
                refine g_aret S G (rt := (.object "java/util/HashMap$Node")) (r := some e) hr (Or.inl ⟨_, rfl⟩) hlocks (hdg := dJ4_getNode_136) ?_ ?_ ?_
                · exact Nat.le_of_ble_eq_true rfl
                · exact Nat.le_of_ble_eq_true rfl
                · exact ⟨(congrArg (fun z => some (va_rf z)) (hfi.trans (fi_pos (by simp [hqe])))).symm, rfl⟩
        exact Lp (l2.length + 1) l2 r4v H locs ls (Nat.lt_succ_self _) hl2 (fun a ha => hle a (List.mem_cons_of_mem _ ha)) hfi G (lv_sub hl [0, 5, 6, 2] rfl)
    · have hqr1v : hN r1v = h := hq_of (hlt r1v he1) hh c3
      refine lv_aload_n (pc := 45) hx hb dJ4_getNode_45 rfl (lv_at hl 0 rfl) ?_
      refine g_get (pc := 46) (v := .ref (ky r1v)) S M G (C := RJ22) (T := TJ22) (N := 6) (ci := 8) in_J22 ce1 rfl 1 (by decide) q806 (Or.inl rfl) rfl dJ4_getNode_46 ?_
      refine lv_dup (pc := 49) hx hb dJ4_getNode_49 rfl ?_
      refine lv_astore (pc := 50) (lv' := [(7, .ref (ky r1v)), (3, .ref r1v), (6, .int (nI h)), (5, .int (nI n)), (2, .ref t), (0, .ref mp), (1, .ref key)]) hx hb dJ4_getNode_50 hl (by decide) rfl (fun ls hl => ?_)
      refine lv_aload_n (pc := 52) hx hb dJ4_getNode_52 rfl (lv_at hl 6 rfl) ?_
      refine lv_acmp_eq (pc := 53) (tgt := 69) (rx := (some (ky r1v))) (ry := (some key)) hx hb dJ4_getNode_53 (by decide) (fun c10 => ?_) (fun c10 => ?_)
      · refine lv_aload_n (pc := 69) hx hb dJ4_getNode_69 rfl (lv_at hl 1 rfl) ?_
        rw [hQ]
        refine g_aret S G (rt := (.object "java/util/HashMap$Node")) (r := some r1v) hr (Or.inl ⟨_, rfl⟩) hlocks (hdg := dJ4_getNode_70) ?_ ?_ ?_
        · exact Nat.le_of_ble_eq_true rfl
        · exact Nat.le_of_ble_eq_true rfl
        · exact ⟨(congrArg (fun z => some (va_rf z)) (fi_pos (by simp [hqr1v]))).symm, rfl⟩
      · refine lv_aload_n (pc := 56) hx hb dJ4_getNode_56 rfl (lv_at hl 6 rfl) ?_
        refine lv_ifnull (pc := 57) hx hb dJ4_getNode_57 ?_
        refine lv_aload_n (pc := 60) hx hb dJ4_getNode_60 rfl (lv_at hl 6 rfl) ?_
        refine lv_aload (pc := 61) hx hb dJ4_getNode_61 (lv_at hl 0 rfl) ?_
        refine g_callU (pc := 63) (owner := "java/lang/Object") S M G hl.1 [.ref (ky r1v)] [] (metX5_equals l D K w hk (hKy r1v he1) hh (hlt r1v he1)) 1 (g_recv M G hk (q := (RX5, TX5, 2)) rfl) q899 q892 q894 (va_Decl.abs (M.1.2.2.1 _ q891 rfl)) q898 q897 q42 (by decide) rfl ⟨Nat.le_of_ble_eq_true rfl, Nat.le_of_ble_eq_true rfl⟩ rfl (Nat.le_of_ble_eq_true rfl) dJ4_getNode_63 ⟨Nat.le_of_ble_eq_true rfl, Nat.le_of_ble_eq_true rfl⟩ (fun r w2 H locs hp G => ?_)
        obtain ⟨rfl, hw2⟩ := hp
        rw [hw2] at G
        rw [if_pos hqr1v.symm]
        refine W.eq (g2 := F0 m 66 ls [.int 1]) rfl ?_
        refine lv_if_eq (pc := 66) (tgt := 71) hx hb dJ4_getNode_66 (by decide) (fun c => absurd c (by decide)) (fun _ => ?_)
        refine lv_aload_n (pc := 69) hx hb dJ4_getNode_69 rfl (lv_at hl 1 rfl) ?_
        rw [hQ]
        refine g_aret S G (rt := (.object "java/util/HashMap$Node")) (r := some r1v) hr (Or.inl ⟨_, rfl⟩) hlocks (hdg := dJ4_getNode_70) ?_ ?_ ?_
        · exact Nat.le_of_ble_eq_true rfl
        · exact Nat.le_of_ble_eq_true rfl
        · exact ⟨(congrArg (fun z => some (va_rf z)) (fi_pos (by simp [hqr1v]))).symm, rfl⟩
