/-! HashMap.removeNode, remove -/
section GR
variable {p : Program} {l : Launch} {e : Env} {R : Room} {s : State} {m : MethodId} {args : Array Value} {below : List Frame} {meth : Method} {c : Code} {H : Heap} {locs : List Loc} {cells slots : Nat} {Q : State → Prop}
variable {cc : ByteArray} {pc nL : Nat} {ls : Array Slot} {rest : List Value} {D : va_G} {K : Nat → Nat} {a : Nat} {w : Gh} {own : String}
theorem g_aastR (S : CallFix p m c cc nL s args lw_all own) (M : Amb D K s) (G : gS D K w s H locs) (t0 : Nat) {E C : String} {cA : ClassId} (ht : (gtys D)[t0]? = some (cA, .object E)) {n : Nat} {f : Nat → Option Nat} (ha : w a = some (.inl (cA, n, .inr (.inr (.inr (.inr f)))))) (hba : K 0 ≤ a) {o : Option Nat} (hr : ∀ v, o = some v → ∃ cellV : Cell, H[v]? = some cellV ∧ cellV.vm.isStatics = false ∧ s.vm.findClass C = some cellV.cls) (hCE : Cond.castable C E ∈ lw_tbl) {i : Int32} (hin : vp_in i n) (hdg : decode cc pc = .ok (.aastore, 1))
    (kk : ∀ (H1 : Heap) (locs1 : List Loc), gS D K (gu w a (.inl (cA, n, .inr (.inr (.inr (.inr (va_up f i.toNatClampNeg o))))))) s H1 locs1 → W p l e R s m args below meth c H1 locs1 cells slots Q (F0 m (pc + 1) ls rest)) : W p l e R s m args below meth c H locs cells slots Q (F0 m pc ls (va_rf o :: .int i :: .ref a :: rest)) := by
  cases o with
  | none => exact g_aastN S M G t0 ht ha hba hin hdg kk
  | some v => exact g_aast S M G t0 ht ha hba (hr v rfl) hCE hin hdg kk
end GR
theorem Sg.hmem {nx : Nat → Option Nat} {l : List Nat} {v : Nat} (h : Sg nx (some v) l none) : v ∈ l := by
  obtain ⟨l', rfl, -⟩ := h.cons0
  exact List.mem_cons_self
/-- an entry is taken out of its chain -/
theorem CHn.del {l1 l2 : List Nat} {x : Nat} {hN : Nat → Nat} {n i : Nat} {f f' nx nx' : Nat → Option Nat} {ch : Nat → List Nat} {LL : List Nat} (h1 : ∀ i, i < n → Sg nx (f i) (ch i) none) (h2 : ∀ i, i < n → ∀ a, a ∈ ch i ↔ a ∈ l1 ++ x :: l2 ∧ hN a % n = i) (h3 : ∀ i, i < n → (ch i).Nodup) (hnd : (l1 ++ x :: l2).Nodup) (hi : hN x % n = i)
    (hS : Sg nx' (f' i) LL none) (hm : ∀ a, a ∈ LL ↔ a ∈ ch i ∧ a ≠ x) (hn : LL.Nodup) (hf : ∀ j, j ≠ i → f' j = f j) (hx : ∀ a, a ∉ ch i → nx' a = nx a) : CHn (l1 ++ l2) hN n f' nx' := by
  have hnn := List.nodup_append.mp hnd
  have hx1 : x ∉ l1 := fun q => hnn.2.2 x q x List.mem_cons_self rfl
  have hx2 : x ∉ l2 := (List.nodup_cons.mp hnn.2.1).1
  have hmem : ∀ a, a ∈ l1 ++ l2 ↔ a ∈ l1 ++ x :: l2 ∧ a ≠ x := fun a => by
    constructor
    · intro q
      refine ⟨?_, fun z => ?_⟩
      · rcases List.mem_append.mp q with q | q; exact List.mem_append_left _ q; exact List.mem_append_right _ (List.mem_cons_of_mem _ q)
      · rw [z] at q; rcases List.mem_append.mp q with q | q; exact hx1 q; exact hx2 q
    · rintro ⟨q, z⟩
      rcases List.mem_append.mp q with q | q
      · exact List.mem_append_left _ q
      · exact List.mem_append_right _ ((List.mem_cons.mp q).resolve_left z)
  refine ⟨fun j => if j = i then LL else ch j, fun j hj => ?_, fun j hj a => ?_, fun j hj => ?_⟩
  · show Sg nx' (f' j) (if j = i then LL else ch j) none
    by_cases e : j = i
    · rw [if_pos e, e]; exact hS
    · rw [if_neg e, hf j e]
      refine (h1 j hj).cg (fun a ha => hx a (fun z => e ?_))
      rw [← ((h2 j hj a).mp ha).2]
      by_cases hin : i < n
      · exact ((h2 i hin a).mp z).2
      · exact absurd (hi ▸ Nat.mod_lt (hN x) (Nat.lt_of_le_of_lt (Nat.zero_le _) hj)) hin
  · show a ∈ (if j = i then LL else ch j) ↔ _
    rw [hmem a]
    by_cases e : j = i
    · rw [if_pos e, hm a, e, h2 i (e ▸ hj) a]
      exact ⟨fun z => ⟨⟨z.1.1, z.2⟩, z.1.2⟩, fun z => ⟨⟨z.1.1, z.2⟩, z.1.2⟩⟩
    · rw [if_neg e, h2 j hj a]
      refine ⟨fun z => ⟨⟨z.1, fun q => e ?_⟩, z.2⟩, fun z => ⟨z.1.1, z.2⟩⟩
      rw [← z.2, q, hi]
  · show (if j = i then LL else ch j).Nodup
    by_cases e : j = i
    · rw [if_pos e]; exact hn
    · rw [if_neg e]; exact h3 j hj
theorem len_d {l1 l2 : List Nat} {x : Nat} : nI (l1 ++ x :: l2).length - 1 = nI (l1 ++ l2).length := by
  rw [List.length_append, List.length_cons, ← Nat.add_assoc, nI_pred, List.length_append]
theorem mem_d {l1 l2 : List Nat} {x a : Nat} (h : a ∈ l1 ++ l2) : a ∈ l1 ++ x :: l2 := by
  rcases List.mem_append.mp h with q | q
  · exact List.mem_append_left _ q
  · exact List.mem_append_right _ (List.mem_cons_of_mem _ q)
theorem nd_d {l1 l2 : List Nat} {x : Nat} (h : (l1 ++ x :: l2).Nodup) : (l1 ++ l2).Nodup := h.sublist (List.Sublist.append (List.Sublist.refl _) (List.sublist_cons_self _ _))
theorem nd_ne {l1 l2 : List Nat} {x a : Nat} (h : (l1 ++ x :: l2).Nodup) : a ∈ l1 ++ l2 ↔ a ∈ l1 ++ x :: l2 ∧ a ≠ x := by
  have hnn := List.nodup_append.mp h
  have hx1 : x ∉ l1 := fun q => hnn.2.2 x q x List.mem_cons_self rfl
  have hx2 : x ∉ l2 := (List.nodup_cons.mp hnn.2.1).1
  constructor
  · exact fun q => ⟨mem_d q, fun z => (List.mem_append.mp (z ▸ q)).elim hx1 hx2⟩
  · rintro ⟨q, z⟩
    rcases List.mem_append.mp q with q | q
    · exact List.mem_append_left _ q
    · exact List.mem_append_right _ ((List.mem_cons.mp q).resolve_left z)
abbrev rmJ4_removeNode : Room := ({ frames := 1, cells := 0, slots := 0, locals := 24 } : Room)
set_option maxHeartbeats 4000000 in
theorem metJ4_removeNode (l : Launch) (D : va_G) (K : Nat → Nat) (w : Gh) {mp n t : Nat} {f : Nat → Option Nat} {lf : UInt32} {hd tl : Option Nat} {nx bf af : Nat → Option Nat} {md : Int32} {ks : Option Nat} {es : List Nat} {hN ky vl : Nat → Nat} {key h : Nat} (hk : KY w key h) (hh : h < 300) (hM : MPQ D K w mp (nI es.length) md ks es hN ky vl n t f lf hd tl nx bf af) (hsz : es.length ≤ n / 4 * 3) {a0 : Nat} (ha0 : a0 ∈ es) (hh0 : hN a0 = h) : gMet l yJ4_removeNode (ws_ yJ4_removeNode cJ4_removeNode 14 (some (.object "java/util/HashMap$Node"))) rmJ4_removeNode D K [.ref mp, .int (nI h), .ref key, .null, .int 0, .int 1] w (fun r' w' => r' = some (.ref a0) ∧ ∃ l1 l2 nx', es = l1 ++ a0 :: l2 ∧ MPF D K w' mp (md + 1) ks (l1 ++ l2) hN ky vl ∧ FRM D w w' ∧ w' a0 = some (.inr (8, nfl (nI (hN a0)) (ky a0) (vl a0) nx' none none))) := by
  refine gMet.of (by decide) (Nat.le_of_ble_eq_true rfl) ?_
  intro p e s m args below meth c H locs ls S M hr hlocks hname G hl
  have hx := S.1
  have hb := S.2.1
  have hown := S.2.2.2.1
  have hts := S.2.2.2.2
  have hl : lv_has ls 14 [(0, .ref mp), (1, .int (nI h)), (2, .ref key), (3, .null), (4, .int 0), (5, .int 1)] := hl
  obtain ⟨Q, hQ⟩ : ∃ Q, Q = gE below D K (fun r' w' => r' = some (.ref a0) ∧ ∃ l1 l2 nx', es = l1 ++ a0 :: l2 ∧ MPF D K w' mp (md + 1) ks (l1 ++ l2) hN ky vl ∧ FRM D w w' ∧ w' a0 = some (.inr (8, nfl (nI (hN a0)) (ky a0) (vl a0) nx' none none))) args s rmJ4_removeNode.cells rmJ4_removeNode.slots := ⟨_, rfl⟩
  rw [← hQ]
  obtain ⟨ho, hbm, ht, hbt, hn, hE, hbe, hD, hnd, hCH, hKy, hlt, hinj⟩ := hM
  obtain ⟨ch, hch1, hch2, hch3⟩ := hCH
  have hmod := p2_mod (h := h) hn
  have hl0 : Sg nx (f (h % n)) (ch (h % n)) none := hch1 _ hmod
  have hle : ∀ a ∈ ch (h % n), a ∈ es := fun a ha => ((hch2 _ hmod a).mp ha).1
  have hin0 : a0 ∈ ch (h % n) := (hch2 _ hmod a0).mpr ⟨ha0, by rw [hh0]⟩
  refine lv_aload_n (pc := 0) hx hb dJ4_removeNode_0 rfl (lv_at hl 0 rfl) ?_
  refine g_get (pc := 1) (v := .ref t) S M G (C := RJ5) (T := TJ5) (N := 12) (ci := 7) in_J5 ho rfl 0 (by decide) q130 (Or.inl rfl) rfl dJ4_removeNode_1 ?_
  refine lv_dup (pc := 4) hx hb dJ4_removeNode_4 rfl ?_
  refine lv_astore (pc := 5) (lv' := [(6, .ref t), (0, .ref mp), (1, .int (nI h)), (2, .ref key), (3, .null), (4, .int 0), (5, .int 1)]) hx hb dJ4_removeNode_5 hl (by decide) rfl (fun ls hl => ?_)
  refine lv_ifnull (pc := 7) hx hb dJ4_removeNode_7 ?_
  refine lv_aload (pc := 10) hx hb dJ4_removeNode_10 (lv_at hl 0 rfl) ?_
  refine g_alen (pc := 12) (v := (nI n)) S M G 3 rfl ht rfl dJ4_removeNode_12 ?_
  refine lv_dup (pc := 13) hx hb dJ4_removeNode_13 rfl ?_
  refine lv_istore (pc := 14) (lv' := [(8, .int (nI n)), (6, .ref t), (0, .ref mp), (1, .int (nI h)), (2, .ref key), (3, .null), (4, .int 0), (5, .int 1)]) hx hb dJ4_removeNode_14 hl (by decide) rfl (fun ls hl => ?_)
  refine lv_if_le (pc := 16) (tgt := 289) hx hb dJ4_removeNode_16 (by decide) (fun c => absurd c (p2_nle hn)) (fun _ => ?_)
  refine lv_aload (pc := 19) hx hb dJ4_removeNode_19 (lv_at hl 1 rfl) ?_
  refine lv_iload (pc := 21) hx hb dJ4_removeNode_21 (lv_at hl 0 rfl) ?_
  refine lv_iconst (pc := 23) (v := 1) hx hb dJ4_removeNode_23 (by decide) ?_
  refine lv_isub (pc := 24) hx hb dJ4_removeNode_24 ?_
  refine lv_iload_n (pc := 25) hx hb dJ4_removeNode_25 rfl (lv_at hl 3 rfl) ?_
  refine lv_iand (pc := 26) hx hb dJ4_removeNode_26 ?_
  rw [p2_and hn hh]
  refine lv_dup (pc := 27) hx hb dJ4_removeNode_27 rfl ?_
  refine lv_istore (pc := 28) (lv' := [(9, .int (nI (h % n))), (8, .int (nI n)), (6, .ref t), (0, .ref mp), (1, .int (nI h)), (2, .ref key), (3, .null), (4, .int 0), (5, .int 1)]) hx hb dJ4_removeNode_28 hl (by decide) rfl (fun ls hl => ?_)
  refine g_aald (pc := 30) S M G 3 rfl ht (p2_in hn) dJ4_removeNode_30 ?_
  obtain ⟨r1, er1⟩ : ∃ z9, z9 = f (nI (h % n)).toNatClampNeg := ⟨_, rfl⟩
  rw [← er1]
  refine W.eq (g2 := F0 m 31 ls [va_rf r1]) rfl ?_
  rw [p2_cl hn] at er1
  refine lv_dup (pc := 31) hx hb dJ4_removeNode_31 (cat_rf _) ?_
  refine gv_astore (pc := 32) (lv' := [(7, va_rf r1), (9, .int (nI (h % n))), (8, .int (nI n)), (6, .ref t), (0, .ref mp), (1, .int (nI h)), (2, .ref key), (3, .null), (4, .int 0), (5, .int 1)]) S dJ4_removeNode_32 hl (by decide) rfl (fun ls hl => ?_)
  refine gv_ifnull (pc := 34) (tgt := 289) S dJ4_removeNode_34 (by decide) (fun h2 => ?_) (fun r1v h2 => ?_)
  · have hlx_h2 := hl
    have Gx_h2 := G
    subst h2
    have hl := hlx_h2
    have G : gS D K w s H locs := Gx_h2
    have hl : lv_has ls 14 [(7, .null), (9, .int (nI (h % n))), (8, .int (nI n)), (6, .ref t), (0, .ref mp), (1, .int (nI h)), (2, .ref key), (3, .null), (4, .int 0), (5, .int 1)] := hl
    refine W.eq (g2 := F0 m 289 ls []) rfl ?_
    have hnil := Sg.nil1 er1 hl0
    rw [hnil] at hin0
    cases hin0
  · have hlx_h2 := hl
    have Gx_h2 := G
    subst h2
    have hl := hlx_h2
    have G : gS D K w s H locs := Gx_h2
    have hl : lv_has ls 14 [(7, .ref r1v), (9, .int (nI (h % n))), (8, .int (nI n)), (6, .ref t), (0, .ref mp), (1, .int (nI h)), (2, .ref key), (3, .null), (4, .int 0), (5, .int 1)] := hl
    refine W.eq (g2 := F0 m 37 ls []) rfl ?_
    obtain ⟨l1, hl1, hsg1⟩ := Sg.cons1 er1 hl0
    have hcur : r1v ∈ es := hle r1v (by rw [hl1]; exact List.mem_cons_self)
    have ce1 := hE r1v hcur
    refine lv_null (pc := 37) hx hb dJ4_removeNode_37 ?_
    refine lv_astoreN (pc := 38) (lv' := [(10, .null), (7, .ref r1v), (9, .int (nI (h % n))), (8, .int (nI n)), (6, .ref t), (0, .ref mp), (1, .int (nI h)), (2, .ref key), (3, .null), (4, .int 0), (5, .int 1)]) hx hb dJ4_removeNode_38 hl (by decide) rfl (fun ls hl => ?_)
    refine lv_aload (pc := 40) hx hb dJ4_removeNode_40 (lv_at hl 1 rfl) ?_
    refine g_get (pc := 42) (v := .int (nI (hN r1v))) S M G (C := RJ22) (T := TJ22) (N := 6) (ci := 8) in_J22 ce1 rfl 0 (by decide) q800 (Or.inl rfl) rfl dJ4_removeNode_42 ?_
    refine lv_iload_n (pc := 45) hx hb dJ4_removeNode_45 rfl (lv_at hl 6 rfl) ?_
    refine lv_icmp_ne (pc := 46) (tgt := 81) hx hb dJ4_removeNode_46 (by decide) (fun c3 => ?_) (fun c3 => ?_)
    · refine lv_aload (pc := 81) hx hb dJ4_removeNode_81 (lv_at hl 1 rfl) ?_
      refine g_get (pc := 83) (v := va_rf (nx r1v)) S M G (C := RJ22) (T := TJ22) (N := 6) (ci := 8) in_J22 ce1 rfl 3 (by decide) q816 (Or.inl rfl) rfl dJ4_removeNode_83 ?_
      obtain ⟨r4, er4⟩ : ∃ z9, z9 = nx r1v := ⟨_, rfl⟩
      rw [← er4]
      refine lv_dup (pc := 86) hx hb dJ4_removeNode_86 (cat_rf _) ?_
      refine gv_astore (pc := 87) (lv' := [(11, va_rf r4), (10, .null), (7, .ref r1v), (9, .int (nI (h % n))), (8, .int (nI n)), (6, .ref t), (0, .ref mp), (1, .int (nI h)), (2, .ref key), (3, .null), (4, .int 0), (5, .int 1)]) S dJ4_removeNode_87 hl (by decide) rfl (fun ls hl => ?_)
      refine gv_ifnull (pc := 89) (tgt := 171) S dJ4_removeNode_89 (by decide) (fun h5 => ?_) (fun r4v h5 => ?_)
      · have hlx_h5 := hl
        have Gx_h5 := G
        subst h5
        have hl := hlx_h5
        have G : gS D K w s H locs := Gx_h5
        have hl : lv_has ls 14 [(11, .null), (10, .null), (7, .ref r1v), (9, .int (nI (h % n))), (8, .int (nI n)), (6, .ref t), (0, .ref mp), (1, .int (nI h)), (2, .ref key), (3, .null), (4, .int 0), (5, .int 1)] := hl
        refine W.eq (g2 := F0 m 171 ls []) rfl ?_
        have hnil := Sg.nil1 er4 hsg1
        rw [hl1, hnil] at hin0
        exact absurd (List.mem_singleton.mp hin0) (fun z => c3 (by rw [← z, hh0]))
      · have hlx_h5 := hl
        have Gx_h5 := G
        subst h5
        have hl := hlx_h5
        have G : gS D K w s H locs := Gx_h5
        have hl : lv_has ls 14 [(11, .ref r4v), (10, .null), (7, .ref r1v), (9, .int (nI (h % n))), (8, .int (nI n)), (6, .ref t), (0, .ref mp), (1, .int (nI h)), (2, .ref key), (3, .null), (4, .int 0), (5, .int 1)] := hl
        refine W.eq (g2 := F0 m 92 ls []) rfl ?_
        obtain ⟨l2, hl2, hsg2⟩ := Sg.cons1 er4 hsg1
        refine lv_aload (pc := 92) hx hb dJ4_removeNode_92 (lv_at hl 2 rfl) ?_
        refine va_instNo (pc := 94) hx hb hown (hts _ q766) (M.1.2.2.2.2.1 ("java/util/LinkedHashMap$Entry", "java/util/HashMap$TreeNode") (by decide)) (g_recv M G ce1 (q := (RJ22, TJ22, 6)) rfl) dJ4_removeNode_94 ?_
        refine lv_if_eq (pc := 97) (tgt := 115) hx hb dJ4_removeNode_97 (by decide) (fun _ => ?_) (fun c => absurd c (by decide))
        have Lr : ∀ (fuel : Nat) (pre : List Nat) (pq en : Nat) (rest : List Nat) (H : Heap) (locs : List Loc) (ls : Array Slot), rest.length < fuel → ch (h % n) = pre ++ pq :: en :: rest → a0 ∈ en :: rest → Sg nx (nx en) rest none → gS D K w s H locs → lv_has ls 14 [(7, .ref pq), (11, .ref en), (0, .ref mp), (1, .int (nI h)), (2, .ref key), (4, .int 0), (6, .ref t), (9, .int (nI (h % n)))] → W p l e rmJ4_removeNode s m args below meth c H locs 0 0 Q (F0 m 115 ls []) := by
          intro fuel
          induction fuel with
          | zero => intro pre pq en rest H locs ls h0; exact absurd h0 (Nat.not_lt_zero _)
          | succ fuel ih =>
            intro pre pq en rest H locs ls hfu hlp hin hsg G hl
            have hcur : en ∈ es := hle en (by rw [hlp]; simp)
            have cec := hE en hcur
            have hpq : pq ∈ es := hle pq (by rw [hlp]; simp)
            have ceq := hE pq hpq
            refine lv_aload (pc := 115) hx hb dJ4_removeNode_115 (lv_at hl 1 rfl) ?_
            refine g_get (pc := 117) (v := .int (nI (hN en))) S M G (C := RJ22) (T := TJ22) (N := 6) (ci := 8) in_J22 cec rfl 0 (by decide) q800 (Or.inl rfl) rfl dJ4_removeNode_117 ?_
            refine lv_iload_n (pc := 120) hx hb dJ4_removeNode_120 rfl (lv_at hl 3 rfl) ?_
            refine lv_icmp_ne (pc := 121) (tgt := 156) hx hb dJ4_removeNode_121 (by decide) (fun c6 => ?_) (fun c6 => ?_)
            · refine lv_aload (pc := 156) hx hb dJ4_removeNode_156 (lv_at hl 1 rfl) ?_
              refine lv_astore (pc := 158) (lv' := [(7, .ref en), (11, .ref en), (0, .ref mp), (1, .int (nI h)), (2, .ref key), (4, .int 0), (6, .ref t), (9, .int (nI (h % n)))]) hx hb dJ4_removeNode_158 hl (by decide) rfl (fun ls hl => ?_)
              refine lv_aload (pc := 160) hx hb dJ4_removeNode_160 (lv_at hl 1 rfl) ?_
              refine g_get (pc := 162) (v := va_rf (nx en)) S M G (C := RJ22) (T := TJ22) (N := 6) (ci := 8) in_J22 cec rfl 3 (by decide) q816 (Or.inl rfl) rfl dJ4_removeNode_162 ?_
              obtain ⟨r7, er7⟩ : ∃ z9, z9 = nx en := ⟨_, rfl⟩
              rw [← er7]
              refine lv_dup (pc := 165) hx hb dJ4_removeNode_165 (cat_rf _) ?_
              refine gv_astore (pc := 166) (lv' := [(11, va_rf r7), (7, .ref en), (0, .ref mp), (1, .int (nI h)), (2, .ref key), (4, .int 0), (6, .ref t), (9, .int (nI (h % n)))]) S dJ4_removeNode_166 hl (by decide) rfl (fun ls hl => ?_)
              refine gv_ifnonnull (pc := 168) (tgt := 115) S dJ4_removeNode_168 (by decide) (fun r7v h8 => ?_) (fun h8 => ?_)
              · have hlx_h8 := hl
                have Gx_h8 := G
                subst h8
                have hl := hlx_h8
                have G : gS D K w s H locs := Gx_h8
                have hl : lv_has ls 14 [(11, .ref r7v), (7, .ref en), (0, .ref mp), (1, .int (nI h)), (2, .ref key), (4, .int 0), (6, .ref t), (9, .int (nI (h % n)))] := hl
                refine W.eq (g2 := F0 m 115 ls []) rfl ?_
                obtain ⟨l3, hl3, hsg3⟩ := Sg.cons1 er7 hsg
                exact ih (pre ++ [pq]) en r7v l3 H locs ls (by rw [hl3] at hfu; simp only [List.length_cons] at hfu; omega) (by rw [hlp, hl3]; simp) ((List.mem_cons.mp (hl3 ▸ hin)).resolve_left (fun z => c6 (by rw [← z, hh0]))) hsg3 G (lv_sub hl [1, 0, 2, 3, 4, 5, 6, 7] rfl)
              · have hlx_h8 := hl
                have Gx_h8 := G
                subst h8
                have hl := hlx_h8
                have G : gS D K w s H locs := Gx_h8
                have hl : lv_has ls 14 [(11, .null), (7, .ref en), (0, .ref mp), (1, .int (nI h)), (2, .ref key), (4, .int 0), (6, .ref t), (9, .int (nI (h % n)))] := hl
                refine W.eq (g2 := F0 m 171 ls []) rfl ?_
                have hnil := Sg.nil1 er7 hsg
                rw [hnil] at hin
                exact absurd (List.mem_singleton.mp hin) (fun z => c6 (by rw [← z, hh0]))
            · have hqc : hN en = h := hq_of (hlt en hcur) hh c6
              have hra : a0 = en := hinj a0 ha0 en hcur (hh0.trans hqc.symm)
              obtain ⟨l1e, l2e, hes⟩ := List.append_of_mem hcur
              rw [hes] at hnd hch2
              have hndL := hch3 _ hmod
              refine lv_aload (pc := 124) hx hb dJ4_removeNode_124 (lv_at hl 1 rfl) ?_
              refine g_get (pc := 126) (v := .ref (ky en)) S M G (C := RJ22) (T := TJ22) (N := 6) (ci := 8) in_J22 cec rfl 1 (by decide) q806 (Or.inl rfl) rfl dJ4_removeNode_126 ?_
              refine lv_dup (pc := 129) hx hb dJ4_removeNode_129 rfl ?_
              refine lv_astore (pc := 130) (lv' := [(12, .ref (ky en)), (7, .ref pq), (11, .ref en), (0, .ref mp), (1, .int (nI h)), (2, .ref key), (4, .int 0), (6, .ref t), (9, .int (nI (h % n)))]) hx hb dJ4_removeNode_130 hl (by decide) rfl (fun ls hl => ?_)
              refine lv_aload_n (pc := 132) hx hb dJ4_removeNode_132 rfl (lv_at hl 5 rfl) ?_
              refine lv_acmp_eq (pc := 133) (tgt := 149) (rx := (some (ky en))) (ry := (some key)) hx hb dJ4_removeNode_133 (by decide) (fun c9 => ?_) (fun c9 => ?_)
              · refine lv_aload (pc := 149) hx hb dJ4_removeNode_149 (lv_at hl 2 rfl) ?_
                refine lv_astore (pc := 151) (lv' := [(10, .ref en), (12, .ref (ky en)), (7, .ref pq), (11, .ref en), (0, .ref mp), (1, .int (nI h)), (2, .ref key), (4, .int 0), (6, .ref t), (9, .int (nI (h % n)))]) hx hb dJ4_removeNode_151 hl (by decide) rfl (fun ls hl => ?_)
                refine lv_goto (pc := 153) (tgt := 171) hx hb dJ4_removeNode_153 (by decide) ?_
                refine lv_aload (pc := 171) hx hb dJ4_removeNode_171 (lv_at hl 0 rfl) ?_
                refine lv_ifnull (pc := 173) hx hb dJ4_removeNode_173 ?_
                refine lv_iload (pc := 176) hx hb dJ4_removeNode_176 (lv_at hl 7 rfl) ?_
                refine lv_if_eq (pc := 178) (tgt := 206) hx hb dJ4_removeNode_178 (by decide) (fun _ => ?_) (fun c => absurd c (by decide))
                refine lv_aload (pc := 206) hx hb dJ4_removeNode_206 (lv_at hl 0 rfl) ?_
                refine va_instNo (pc := 208) hx hb hown (hts _ q766) (M.1.2.2.2.2.1 ("java/util/LinkedHashMap$Entry", "java/util/HashMap$TreeNode") (by decide)) (g_recv M G cec (q := (RJ22, TJ22, 6)) rfl) dJ4_removeNode_208 ?_
                refine lv_if_eq (pc := 211) (tgt := 230) hx hb dJ4_removeNode_211 (by decide) (fun _ => ?_) (fun c => absurd c (by decide))
                refine lv_aload (pc := 230) hx hb dJ4_removeNode_230 (lv_at hl 0 rfl) ?_
                refine lv_aload (pc := 232) hx hb dJ4_removeNode_232 (lv_at hl 2 rfl) ?_
                refine lv_acmp_ne (pc := 234) (tgt := 250) (rx := (some en)) (ry := (some pq)) hx hb dJ4_removeNode_234 (by decide) (fun _ => ?_) (fun c => absurd (Option.some.inj c) (fun z => (List.nodup_cons.mp (List.nodup_append.mp (hlp ▸ hndL)).2.1).1 (by rw [← z]; exact List.mem_cons_self)))
                refine lv_aload (pc := 250) hx hb dJ4_removeNode_250 (lv_at hl 2 rfl) ?_
                refine lv_aload (pc := 252) hx hb dJ4_removeNode_252 (lv_at hl 0 rfl) ?_
                refine g_get (pc := 254) (v := va_rf (nx en)) S M G (C := RJ22) (T := TJ22) (N := 6) (ci := 8) in_J22 cec rfl 3 (by decide) q816 (Or.inl rfl) rfl dJ4_removeNode_254 ?_
                obtain ⟨r10, er10⟩ : ∃ z9, z9 = nx en := ⟨_, rfl⟩
                rw [← er10]
                refine g_put (pc := 257) (v := va_rf r10) S M G (C := RJ22) (T := TJ22) (N := 6) (ci := 8) in_J22 tyJ22 tyJ22_ok nmJ22 ceq (hbe pq hpq) rfl 3 (by decide) q816 (Or.inl rfl) rfl (nar_rf _ (by first | exact Or.inl ⟨_, rfl⟩ | exact Or.inr ⟨_, rfl⟩)) (fit_rf _ (by first | exact Or.inl ⟨_, rfl⟩ | exact Or.inr ⟨_, rfl⟩)) (Nat.le_of_ble_eq_true rfl) dJ4_removeNode_257 (fun H locs G => ?_)
                obtain ⟨w1_, hw1_⟩ : ∃ z9, z9 = gu w pq (.inr (8, nfl (nI (hN pq)) (ky pq) (vl pq) r10 (bf pq) (af pq))) := ⟨_, rfl⟩
                replace G : gS D K w1_ s H locs := by rw [hw1_]; exact G
                have c1_mp : w1_ mp = some (.inr (7, mfl (some t) (nI es.length) md (nI (n / 4 * 3)) lf ks hd tl)) := by rw [hw1_, gu_n (gne_c ho ceq (by decide))]; exact ho
                have c1_t : w1_ t = some (.inl (D.1 103, n, .inr (.inr (.inr (.inr f))))) := by rw [hw1_, gu_n (gne_ao ht ceq)]; exact ht
                have c1_key : w1_ key = some (.inr (4, [.int (nI (h / 10)), .int (nI (h % 10))])) := by rw [hw1_, gu_n (gne_c hk ceq (by decide))]; exact hk
                have c1_pq : w1_ pq = some (.inr (8, nfl (nI (hN pq)) (ky pq) (vl pq) r10 (bf pq) (af pq))) := by rw [hw1_]; exact gu_s
                have hEw1_ : EN w1_ es hN ky vl (va_up nx pq r10) bf af := by rw [hw1_]; exact hE.nx r10 rfl
                have hFw1_ : FRM D w w1_ := by rw [hw1_]; exact (FRM.rf (w := w)).tr (FRM.up ceq nm_8)
                have hCHd : CHn (l1e ++ l2e) hN n f (va_up nx pq r10) := CHn.del (LL := pre ++ pq :: rest) hch1 hch2 hch3 hnd (by rw [hqc]) (by
                    have q1 := hl0
                    rw [hlp] at q1 hndL
                    have q2 := List.nodup_append.mp hndL
                    have q3 := (List.nodup_cons.mp q2.2.1).1
                    rw [show (va_up nx pq r10) = va_up nx pq (nx en) from by first | rfl | (congr 1)]
                    exact q1.skip (fun z => q2.2.2 pq z pq List.mem_cons_self rfl) (fun z => q3 (List.mem_cons_of_mem _ z)))
                  (fun a => by
                    rw [hlp]
                    rw [hlp] at hndL
                    have q := nd_ne (a := a) (l1 := pre ++ [pq]) (l2 := rest) (x := en) (by simpa using hndL)
                    simpa using q)
                  (by rw [hlp] at hndL; have q := nd_d (l1 := pre ++ [pq]) (l2 := rest) (x := en) (by simpa using hndL); simpa using q)
                  (fun j hj => rfl) (fun a ha => va_up_ne _ _ (fun z => ha (by rw [hlp, z]; simp)))
                refine lv_aload_n (pc := 260) hx hb dJ4_removeNode_260 rfl (lv_at hl 4 rfl) ?_
                refine lv_dup (pc := 261) hx hb dJ4_removeNode_261 rfl ?_
                refine g_get (pc := 262) (v := .int md) S M G (C := RJ5) (T := TJ5) (N := 12) (ci := 7) in_J5 c1_mp rfl 3 (by decide) q135 (Or.inl rfl) rfl dJ4_removeNode_262 ?_
                refine lv_iconst (pc := 265) (v := 1) hx hb dJ4_removeNode_265 (by decide) ?_
                refine lv_iadd (pc := 266) hx hb dJ4_removeNode_266 ?_
                refine g_put (pc := 267) (v := .int (md + 1)) S M G (C := RJ5) (T := TJ5) (N := 12) (ci := 7) in_J5 tyJ5 tyJ5_ok nmJ5 c1_mp hbm rfl 3 (by decide) q135 (Or.inl rfl) rfl rfl rfl (Nat.le_of_ble_eq_true rfl) dJ4_removeNode_267 (fun H locs G => ?_)
                obtain ⟨w2_, hw2_⟩ : ∃ z9, z9 = gu w1_ mp (.inr (7, mfl (some t) (nI es.length) (md + 1) (nI (n / 4 * 3)) lf ks hd tl)) := ⟨_, rfl⟩
                replace G : gS D K w2_ s H locs := by rw [hw2_]; exact G
                have c2_t : w2_ t = some (.inl (D.1 103, n, .inr (.inr (.inr (.inr f))))) := by rw [hw2_, gu_n (gne_ao c1_t c1_mp)]; exact c1_t
                have c2_key : w2_ key = some (.inr (4, [.int (nI (h / 10)), .int (nI (h % 10))])) := by rw [hw2_, gu_n (gne_c c1_key c1_mp (by decide))]; exact c1_key
                have c2_mp : w2_ mp = some (.inr (7, mfl (some t) (nI es.length) (md + 1) (nI (n / 4 * 3)) lf ks hd tl)) := by rw [hw2_]; exact gu_s
                have hEw2_ : EN w2_ es hN ky vl (va_up nx pq r10) bf af := by rw [hw2_]; exact hEw1_.off (hEw1_.no c1_mp (by decide))
                have hFw2_ : FRM D w w2_ := by rw [hw2_]; exact hFw1_.tr (FRM.up c1_mp nm_7)
                refine lv_aload_n (pc := 270) hx hb dJ4_removeNode_270 rfl (lv_at hl 4 rfl) ?_
                refine lv_dup (pc := 271) hx hb dJ4_removeNode_271 rfl ?_
                refine g_get (pc := 272) (v := .int (nI es.length)) S M G (C := RJ5) (T := TJ5) (N := 12) (ci := 7) in_J5 c2_mp rfl 2 (by decide) q131 (Or.inl rfl) rfl dJ4_removeNode_272 ?_
                refine lv_iconst (pc := 275) (v := 1) hx hb dJ4_removeNode_275 (by decide) ?_
                refine lv_isub (pc := 276) hx hb dJ4_removeNode_276 ?_
                rw [show nI es.length - 1 = nI (l1e ++ l2e).length by rw [hes]; exact len_d]
                refine g_put (pc := 277) (v := .int (nI (l1e ++ l2e).length)) S M G (C := RJ5) (T := TJ5) (N := 12) (ci := 7) in_J5 tyJ5 tyJ5_ok nmJ5 c2_mp hbm rfl 2 (by decide) q131 (Or.inl rfl) rfl rfl rfl (Nat.le_of_ble_eq_true rfl) dJ4_removeNode_277 (fun H locs G => ?_)
                obtain ⟨w3_, hw3_⟩ : ∃ z9, z9 = gu w2_ mp (.inr (7, mfl (some t) (nI (l1e ++ l2e).length) (md + 1) (nI (n / 4 * 3)) lf ks hd tl)) := ⟨_, rfl⟩
                replace G : gS D K w3_ s H locs := by rw [hw3_]; exact G
                have c3_t : w3_ t = some (.inl (D.1 103, n, .inr (.inr (.inr (.inr f))))) := by rw [hw3_, gu_n (gne_ao c2_t c2_mp)]; exact c2_t
                have c3_key : w3_ key = some (.inr (4, [.int (nI (h / 10)), .int (nI (h % 10))])) := by rw [hw3_, gu_n (gne_c c2_key c2_mp (by decide))]; exact c2_key
                have c3_mp : w3_ mp = some (.inr (7, mfl (some t) (nI (l1e ++ l2e).length) (md + 1) (nI (n / 4 * 3)) lf ks hd tl)) := by rw [hw3_]; exact gu_s
                have hEw3_ : EN w3_ es hN ky vl (va_up nx pq r10) bf af := by rw [hw3_]; exact hEw2_.off (hEw2_.no c2_mp (by decide))
                have hFw3_ : FRM D w w3_ := by rw [hw3_]; exact hFw2_.tr (FRM.up c2_mp nm_7)
                refine lv_aload_n (pc := 280) hx hb dJ4_removeNode_280 rfl (lv_at hl 4 rfl) ?_
                refine lv_aload (pc := 281) hx hb dJ4_removeNode_281 (lv_at hl 0 rfl) ?_
                refine g_callU (pc := 283) (owner := "java/util/HashMap") S M G hl.1 [.ref en] [] (metJ5_afterNodeRemoval l D K w3_ (l1 := l1e) (x := en) (l2 := l2e) c3_mp hbm (by rw [← hes]; exact hEw3_) (by rw [← hes]; exact hbe) (by rw [← hes]; exact hD) hnd) 1 (g_recv M G c3_mp (q := (RJ5, TJ5, 12)) rfl) q1169 q1164 q1166 (va_Decl.abs (M.1.2.2.1 _ q1170 rfl)) q1168 q1167 q25 (by decide) rfl ⟨Nat.le_of_ble_eq_true rfl, Nat.le_of_ble_eq_true rfl⟩ rfl (Nat.le_of_ble_eq_true rfl) dJ4_removeNode_283 ⟨Nat.le_of_ble_eq_true rfl, Nat.le_of_ble_eq_true rfl⟩ (fun r w7 H locs hp G => ?_)
                obtain ⟨rfl, bf7, af7, hd7, tl7, hD7, ho7, hE7, hMK7, hx7⟩ := hp
                have ht7 : w7 t = some (.inl (D.1 103, n, .inr (.inr (.inr (.inr f))))) := hMK7 t _ c3_t (gne_ao c3_t c3_mp) (hes ▸ hEw3_.noa c3_t)
                have hF7 : FRM D w w7 := hFw3_.tr (FRM.mk hMK7 c3_mp (by rw [← hes]; exact hEw3_))
                refine W.eq (g2 := F0 m 286 ls []) rfl ?_
                refine lv_aload (pc := 286) hx hb dJ4_removeNode_286 (lv_at hl 0 rfl) ?_
                rw [hQ]
                refine g_aret S G (rt := (.object "java/util/HashMap$Node")) (r := some en) hr (Or.inl ⟨_, rfl⟩) hlocks (hdg := dJ4_removeNode_288) ?_ ?_ ?_
                · exact Nat.le_of_ble_eq_true rfl
                · exact Nat.le_of_ble_eq_true rfl
                · rw [hra]
                  have hin9 : ∀ a ∈ l1e ++ l2e, a ∈ es := fun a ha => by rw [hes]; exact mem_d ha
                  exact ⟨rfl, l1e, l2e, _, hes, ⟨n, t, f, lf, hd7, tl7, (va_up nx pq r10), bf7, af7, ⟨ho7, hbm, ht7, hbt, hn, hE7, fun a ha => hbe a (hin9 a ha), hD7, nd_d hnd, hCHd, fun a ha => hF7.ky (hKy a (hin9 a ha)), fun a ha => hlt a (hin9 a ha), fun a ha b hb => hinj a (hin9 a ha) b (hin9 b hb)⟩, Nat.le_trans (by rw [hes, List.length_append, List.length_append, List.length_cons]; omega) hsz⟩, hF7, hx7⟩
              · refine lv_aload_n (pc := 136) hx hb dJ4_removeNode_136 rfl (lv_at hl 5 rfl) ?_
                refine lv_ifnull (pc := 137) hx hb dJ4_removeNode_137 ?_
                refine lv_aload_n (pc := 140) hx hb dJ4_removeNode_140 rfl (lv_at hl 5 rfl) ?_
                refine lv_aload (pc := 141) hx hb dJ4_removeNode_141 (lv_at hl 0 rfl) ?_
                refine g_callU (pc := 143) (owner := "java/lang/Object") S M G hl.1 [.ref (ky en)] [] (metX5_equals l D K w hk (hKy en hcur) hh (hlt en hcur)) 1 (g_recv M G hk (q := (RX5, TX5, 2)) rfl) q899 q892 q894 (va_Decl.abs (M.1.2.2.1 _ q891 rfl)) q898 q897 q42 (by decide) rfl ⟨Nat.le_of_ble_eq_true rfl, Nat.le_of_ble_eq_true rfl⟩ rfl (Nat.le_of_ble_eq_true rfl) dJ4_removeNode_143 ⟨Nat.le_of_ble_eq_true rfl, Nat.le_of_ble_eq_true rfl⟩ (fun r w2 H locs hp G => ?_)
                obtain ⟨rfl, hw2⟩ := hp
                rw [hw2] at G
                rw [if_pos hqc.symm]
                refine W.eq (g2 := F0 m 146 ls [.int 1]) rfl ?_
                refine lv_if_eq (pc := 146) (tgt := 156) hx hb dJ4_removeNode_146 (by decide) (fun c => absurd c (by decide)) (fun _ => ?_)
                refine lv_aload (pc := 149) hx hb dJ4_removeNode_149 (lv_at hl 2 rfl) ?_
                refine lv_astore (pc := 151) (lv' := [(10, .ref en), (12, .ref (ky en)), (7, .ref pq), (11, .ref en), (0, .ref mp), (1, .int (nI h)), (2, .ref key), (4, .int 0), (6, .ref t), (9, .int (nI (h % n)))]) hx hb dJ4_removeNode_151 hl (by decide) rfl (fun ls hl => ?_)
                refine lv_goto (pc := 153) (tgt := 171) hx hb dJ4_removeNode_153 (by decide) ?_
                refine lv_aload (pc := 171) hx hb dJ4_removeNode_171 (lv_at hl 0 rfl) ?_
                refine lv_ifnull (pc := 173) hx hb dJ4_removeNode_173 ?_
                refine lv_iload (pc := 176) hx hb dJ4_removeNode_176 (lv_at hl 7 rfl) ?_
                refine lv_if_eq (pc := 178) (tgt := 206) hx hb dJ4_removeNode_178 (by decide) (fun _ => ?_) (fun c => absurd c (by decide))
                refine lv_aload (pc := 206) hx hb dJ4_removeNode_206 (lv_at hl 0 rfl) ?_
                refine va_instNo (pc := 208) hx hb hown (hts _ q766) (M.1.2.2.2.2.1 ("java/util/LinkedHashMap$Entry", "java/util/HashMap$TreeNode") (by decide)) (g_recv M G cec (q := (RJ22, TJ22, 6)) rfl) dJ4_removeNode_208 ?_
                refine lv_if_eq (pc := 211) (tgt := 230) hx hb dJ4_removeNode_211 (by decide) (fun _ => ?_) (fun c => absurd c (by decide))
                refine lv_aload (pc := 230) hx hb dJ4_removeNode_230 (lv_at hl 0 rfl) ?_
                refine lv_aload (pc := 232) hx hb dJ4_removeNode_232 (lv_at hl 2 rfl) ?_
                refine lv_acmp_ne (pc := 234) (tgt := 250) (rx := (some en)) (ry := (some pq)) hx hb dJ4_removeNode_234 (by decide) (fun _ => ?_) (fun c => absurd (Option.some.inj c) (fun z => (List.nodup_cons.mp (List.nodup_append.mp (hlp ▸ hndL)).2.1).1 (by rw [← z]; exact List.mem_cons_self)))
                refine lv_aload (pc := 250) hx hb dJ4_removeNode_250 (lv_at hl 2 rfl) ?_
                refine lv_aload (pc := 252) hx hb dJ4_removeNode_252 (lv_at hl 0 rfl) ?_
                refine g_get (pc := 254) (v := va_rf (nx en)) S M G (C := RJ22) (T := TJ22) (N := 6) (ci := 8) in_J22 cec rfl 3 (by decide) q816 (Or.inl rfl) rfl dJ4_removeNode_254 ?_
                obtain ⟨r11, er11⟩ : ∃ z9, z9 = nx en := ⟨_, rfl⟩
                rw [← er11]
                refine g_put (pc := 257) (v := va_rf r11) S M G (C := RJ22) (T := TJ22) (N := 6) (ci := 8) in_J22 tyJ22 tyJ22_ok nmJ22 ceq (hbe pq hpq) rfl 3 (by decide) q816 (Or.inl rfl) rfl (nar_rf _ (by first | exact Or.inl ⟨_, rfl⟩ | exact Or.inr ⟨_, rfl⟩)) (fit_rf _ (by first | exact Or.inl ⟨_, rfl⟩ | exact Or.inr ⟨_, rfl⟩)) (Nat.le_of_ble_eq_true rfl) dJ4_removeNode_257 (fun H locs G => ?_)
                obtain ⟨w4_, hw4_⟩ : ∃ z9, z9 = gu w pq (.inr (8, nfl (nI (hN pq)) (ky pq) (vl pq) r11 (bf pq) (af pq))) := ⟨_, rfl⟩
                replace G : gS D K w4_ s H locs := by rw [hw4_]; exact G
                have c4_mp : w4_ mp = some (.inr (7, mfl (some t) (nI es.length) md (nI (n / 4 * 3)) lf ks hd tl)) := by rw [hw4_, gu_n (gne_c ho ceq (by decide))]; exact ho
                have c4_t : w4_ t = some (.inl (D.1 103, n, .inr (.inr (.inr (.inr f))))) := by rw [hw4_, gu_n (gne_ao ht ceq)]; exact ht
                have c4_key : w4_ key = some (.inr (4, [.int (nI (h / 10)), .int (nI (h % 10))])) := by rw [hw4_, gu_n (gne_c hk ceq (by decide))]; exact hk
                have c4_pq : w4_ pq = some (.inr (8, nfl (nI (hN pq)) (ky pq) (vl pq) r11 (bf pq) (af pq))) := by rw [hw4_]; exact gu_s
                have hEw4_ : EN w4_ es hN ky vl (va_up nx pq r11) bf af := by rw [hw4_]; exact hE.nx r11 rfl
                have hFw4_ : FRM D w w4_ := by rw [hw4_]; exact (FRM.rf (w := w)).tr (FRM.up ceq nm_8)
                have hCHd : CHn (l1e ++ l2e) hN n f (va_up nx pq r11) := CHn.del (LL := pre ++ pq :: rest) hch1 hch2 hch3 hnd (by rw [hqc]) (by
                    have q1 := hl0
                    rw [hlp] at q1 hndL
                    have q2 := List.nodup_append.mp hndL
                    have q3 := (List.nodup_cons.mp q2.2.1).1
                    rw [show (va_up nx pq r11) = va_up nx pq (nx en) from by first | rfl | (congr 1)]
                    exact q1.skip (fun z => q2.2.2 pq z pq List.mem_cons_self rfl) (fun z => q3 (List.mem_cons_of_mem _ z)))
                  (fun a => by
                    rw [hlp]
                    rw [hlp] at hndL
                    have q := nd_ne (a := a) (l1 := pre ++ [pq]) (l2 := rest) (x := en) (by simpa using hndL)
                    simpa using q)
                  (by rw [hlp] at hndL; have q := nd_d (l1 := pre ++ [pq]) (l2 := rest) (x := en) (by simpa using hndL); simpa using q)
                  (fun j hj => rfl) (fun a ha => va_up_ne _ _ (fun z => ha (by rw [hlp, z]; simp)))
                refine lv_aload_n (pc := 260) hx hb dJ4_removeNode_260 rfl (lv_at hl 4 rfl) ?_
                refine lv_dup (pc := 261) hx hb dJ4_removeNode_261 rfl ?_
                refine g_get (pc := 262) (v := .int md) S M G (C := RJ5) (T := TJ5) (N := 12) (ci := 7) in_J5 c4_mp rfl 3 (by decide) q135 (Or.inl rfl) rfl dJ4_removeNode_262 ?_
                refine lv_iconst (pc := 265) (v := 1) hx hb dJ4_removeNode_265 (by decide) ?_
                refine lv_iadd (pc := 266) hx hb dJ4_removeNode_266 ?_
                refine g_put (pc := 267) (v := .int (md + 1)) S M G (C := RJ5) (T := TJ5) (N := 12) (ci := 7) in_J5 tyJ5 tyJ5_ok nmJ5 c4_mp hbm rfl 3 (by decide) q135 (Or.inl rfl) rfl rfl rfl (Nat.le_of_ble_eq_true rfl) dJ4_removeNode_267 (fun H locs G => ?_)
                obtain ⟨w5_, hw5_⟩ : ∃ z9, z9 = gu w4_ mp (.inr (7, mfl (some t) (nI es.length) (md + 1) (nI (n / 4 * 3)) lf ks hd tl)) := ⟨_, rfl⟩
                replace G : gS D K w5_ s H locs := by rw [hw5_]; exact G
                have c5_t : w5_ t = some (.inl (D.1 103, n, .inr (.inr (.inr (.inr f))))) := by rw [hw5_, gu_n (gne_ao c4_t c4_mp)]; exact c4_t
                have c5_key : w5_ key = some (.inr (4, [.int (nI (h / 10)), .int (nI (h % 10))])) := by rw [hw5_, gu_n (gne_c c4_key c4_mp (by decide))]; exact c4_key
                have c5_mp : w5_ mp = some (.inr (7, mfl (some t) (nI es.length) (md + 1) (nI (n / 4 * 3)) lf ks hd tl)) := by rw [hw5_]; exact gu_s
                have hEw5_ : EN w5_ es hN ky vl (va_up nx pq r11) bf af := by rw [hw5_]; exact hEw4_.off (hEw4_.no c4_mp (by decide))
                have hFw5_ : FRM D w w5_ := by rw [hw5_]; exact hFw4_.tr (FRM.up c4_mp nm_7)
                refine lv_aload_n (pc := 270) hx hb dJ4_removeNode_270 rfl (lv_at hl 4 rfl) ?_
                refine lv_dup (pc := 271) hx hb dJ4_removeNode_271 rfl ?_
                refine g_get (pc := 272) (v := .int (nI es.length)) S M G (C := RJ5) (T := TJ5) (N := 12) (ci := 7) in_J5 c5_mp rfl 2 (by decide) q131 (Or.inl rfl) rfl dJ4_removeNode_272 ?_
                refine lv_iconst (pc := 275) (v := 1) hx hb dJ4_removeNode_275 (by decide) ?_
                refine lv_isub (pc := 276) hx hb dJ4_removeNode_276 ?_
                rw [show nI es.length - 1 = nI (l1e ++ l2e).length by rw [hes]; exact len_d]
                refine g_put (pc := 277) (v := .int (nI (l1e ++ l2e).length)) S M G (C := RJ5) (T := TJ5) (N := 12) (ci := 7) in_J5 tyJ5 tyJ5_ok nmJ5 c5_mp hbm rfl 2 (by decide) q131 (Or.inl rfl) rfl rfl rfl (Nat.le_of_ble_eq_true rfl) dJ4_removeNode_277 (fun H locs G => ?_)
                obtain ⟨w6_, hw6_⟩ : ∃ z9, z9 = gu w5_ mp (.inr (7, mfl (some t) (nI (l1e ++ l2e).length) (md + 1) (nI (n / 4 * 3)) lf ks hd tl)) := ⟨_, rfl⟩
                replace G : gS D K w6_ s H locs := by rw [hw6_]; exact G
                have c6_t : w6_ t = some (.inl (D.1 103, n, .inr (.inr (.inr (.inr f))))) := by rw [hw6_, gu_n (gne_ao c5_t c5_mp)]; exact c5_t
                have c6_key : w6_ key = some (.inr (4, [.int (nI (h / 10)), .int (nI (h % 10))])) := by rw [hw6_, gu_n (gne_c c5_key c5_mp (by decide))]; exact c5_key
                have c6_mp : w6_ mp = some (.inr (7, mfl (some t) (nI (l1e ++ l2e).length) (md + 1) (nI (n / 4 * 3)) lf ks hd tl)) := by rw [hw6_]; exact gu_s
                have hEw6_ : EN w6_ es hN ky vl (va_up nx pq r11) bf af := by rw [hw6_]; exact hEw5_.off (hEw5_.no c5_mp (by decide))
                have hFw6_ : FRM D w w6_ := by rw [hw6_]; exact hFw5_.tr (FRM.up c5_mp nm_7)
                refine lv_aload_n (pc := 280) hx hb dJ4_removeNode_280 rfl (lv_at hl 4 rfl) ?_
                refine lv_aload (pc := 281) hx hb dJ4_removeNode_281 (lv_at hl 0 rfl) ?_
                refine g_callU (pc := 283) (owner := "java/util/HashMap") S M G hl.1 [.ref en] [] (metJ5_afterNodeRemoval l D K w6_ (l1 := l1e) (x := en) (l2 := l2e) c6_mp hbm (by rw [← hes]; exact hEw6_) (by rw [← hes]; exact hbe) (by rw [← hes]; exact hD) hnd) 1 (g_recv M G c6_mp (q := (RJ5, TJ5, 12)) rfl) q1169 q1164 q1166 (va_Decl.abs (M.1.2.2.1 _ q1170 rfl)) q1168 q1167 q25 (by decide) rfl ⟨Nat.le_of_ble_eq_true rfl, Nat.le_of_ble_eq_true rfl⟩ rfl (Nat.le_of_ble_eq_true rfl) dJ4_removeNode_283 ⟨Nat.le_of_ble_eq_true rfl, Nat.le_of_ble_eq_true rfl⟩ (fun r w7 H locs hp G => ?_)
                obtain ⟨rfl, bf7, af7, hd7, tl7, hD7, ho7, hE7, hMK7, hx7⟩ := hp
                have ht7 : w7 t = some (.inl (D.1 103, n, .inr (.inr (.inr (.inr f))))) := hMK7 t _ c6_t (gne_ao c6_t c6_mp) (hes ▸ hEw6_.noa c6_t)
                have hF7 : FRM D w w7 := hFw6_.tr (FRM.mk hMK7 c6_mp (by rw [← hes]; exact hEw6_))
                refine W.eq (g2 := F0 m 286 ls []) rfl ?_
                refine lv_aload (pc := 286) hx hb dJ4_removeNode_286 (lv_at hl 0 rfl) ?_
                rw [hQ]
                refine g_aret S G (rt := (.object "java/util/HashMap$Node")) (r := some en) hr (Or.inl ⟨_, rfl⟩) hlocks (hdg := dJ4_removeNode_288) ?_ ?_ ?_
                · exact Nat.le_of_ble_eq_true rfl
                · exact Nat.le_of_ble_eq_true rfl
                · rw [hra]
                  have hin9 : ∀ a ∈ l1e ++ l2e, a ∈ es := fun a ha => by rw [hes]; exact mem_d ha
                  exact ⟨rfl, l1e, l2e, _, hes, ⟨n, t, f, lf, hd7, tl7, (va_up nx pq r11), bf7, af7, ⟨ho7, hbm, ht7, hbt, hn, hE7, fun a ha => hbe a (hin9 a ha), hD7, nd_d hnd, hCHd, fun a ha => hF7.ky (hKy a (hin9 a ha)), fun a ha => hlt a (hin9 a ha), fun a ha b hb => hinj a (hin9 a ha) b (hin9 b hb)⟩, Nat.le_trans (by rw [hes, List.length_append, List.length_append, List.length_cons]; omega) hsz⟩, hF7, hx7⟩
        exact Lr (l2.length + 1) [] r1v r4v l2 H locs ls (Nat.lt_succ_self _) (by rw [hl1, hl2]; rfl) (hl2 ▸ (List.mem_cons.mp (hl1 ▸ hin0)).resolve_left (fun z => c3 (by rw [← z, hh0]))) hsg2 G (lv_sub hl [2, 0, 6, 7, 8, 10, 5, 3] rfl)
    · have hqc : hN r1v = h := hq_of (hlt r1v hcur) hh c3
      have hra : a0 = r1v := hinj a0 ha0 r1v hcur (hh0.trans hqc.symm)
      obtain ⟨l1e, l2e, hes⟩ := List.append_of_mem hcur
      rw [hes] at hnd hch2
      have hndL := hch3 _ hmod
      refine lv_aload (pc := 49) hx hb dJ4_removeNode_49 (lv_at hl 1 rfl) ?_
      refine g_get (pc := 51) (v := .ref (ky r1v)) S M G (C := RJ22) (T := TJ22) (N := 6) (ci := 8) in_J22 ce1 rfl 1 (by decide) q806 (Or.inl rfl) rfl dJ4_removeNode_51 ?_
      refine lv_dup (pc := 54) hx hb dJ4_removeNode_54 rfl ?_
      refine lv_astore (pc := 55) (lv' := [(12, .ref (ky r1v)), (10, .null), (7, .ref r1v), (9, .int (nI (h % n))), (8, .int (nI n)), (6, .ref t), (0, .ref mp), (1, .int (nI h)), (2, .ref key), (3, .null), (4, .int 0), (5, .int 1)]) hx hb dJ4_removeNode_55 hl (by decide) rfl (fun ls hl => ?_)
      refine lv_aload_n (pc := 57) hx hb dJ4_removeNode_57 rfl (lv_at hl 8 rfl) ?_
      refine lv_acmp_eq (pc := 58) (tgt := 74) (rx := (some (ky r1v))) (ry := (some key)) hx hb dJ4_removeNode_58 (by decide) (fun c12 => ?_) (fun c12 => ?_)
      · refine lv_aload (pc := 74) hx hb dJ4_removeNode_74 (lv_at hl 2 rfl) ?_
        refine lv_astore (pc := 76) (lv' := [(10, .ref r1v), (12, .ref (ky r1v)), (7, .ref r1v), (9, .int (nI (h % n))), (8, .int (nI n)), (6, .ref t), (0, .ref mp), (1, .int (nI h)), (2, .ref key), (3, .null), (4, .int 0), (5, .int 1)]) hx hb dJ4_removeNode_76 hl (by decide) rfl (fun ls hl => ?_)
        refine lv_goto (pc := 78) (tgt := 171) hx hb dJ4_removeNode_78 (by decide) ?_
        refine lv_aload (pc := 171) hx hb dJ4_removeNode_171 (lv_at hl 0 rfl) ?_
        refine lv_ifnull (pc := 173) hx hb dJ4_removeNode_173 ?_
        refine lv_iload (pc := 176) hx hb dJ4_removeNode_176 (lv_at hl 10 rfl) ?_
        refine lv_if_eq (pc := 178) (tgt := 206) hx hb dJ4_removeNode_178 (by decide) (fun _ => ?_) (fun c => absurd c (by decide))
        refine lv_aload (pc := 206) hx hb dJ4_removeNode_206 (lv_at hl 0 rfl) ?_
        refine va_instNo (pc := 208) hx hb hown (hts _ q766) (M.1.2.2.2.2.1 ("java/util/LinkedHashMap$Entry", "java/util/HashMap$TreeNode") (by decide)) (g_recv M G ce1 (q := (RJ22, TJ22, 6)) rfl) dJ4_removeNode_208 ?_
        refine lv_if_eq (pc := 211) (tgt := 230) hx hb dJ4_removeNode_211 (by decide) (fun _ => ?_) (fun c => absurd c (by decide))
        refine lv_aload (pc := 230) hx hb dJ4_removeNode_230 (lv_at hl 0 rfl) ?_
        refine lv_aload (pc := 232) hx hb dJ4_removeNode_232 (lv_at hl 2 rfl) ?_
        refine lv_acmp_ne (pc := 234) (tgt := 250) (rx := (some r1v)) (ry := (some r1v)) hx hb dJ4_removeNode_234 (by decide) (fun c => absurd rfl c) (fun _ => ?_)
        refine lv_aload (pc := 237) hx hb dJ4_removeNode_237 (lv_at hl 5 rfl) ?_
        refine lv_iload (pc := 239) hx hb dJ4_removeNode_239 (lv_at hl 3 rfl) ?_
        refine lv_aload (pc := 241) hx hb dJ4_removeNode_241 (lv_at hl 0 rfl) ?_
        refine g_get (pc := 243) (v := va_rf (nx r1v)) S M G (C := RJ22) (T := TJ22) (N := 6) (ci := 8) in_J22 ce1 rfl 3 (by decide) q816 (Or.inl rfl) rfl dJ4_removeNode_243 ?_
        obtain ⟨r13, er13⟩ : ∃ z9, z9 = nx r1v := ⟨_, rfl⟩
        rw [← er13]
        refine g_aastR (pc := 246) S M G 3 rfl ht hbt (fun v hv => g_recv M G (hE v (hle v (by rw [hl1]; exact List.mem_cons_of_mem _ (Sg.hmem (by rw [← hv, er13]; exact hsg1))))) (q := (RJ22, TJ22, 6)) rfl) q1591 (p2_in hn) dJ4_removeNode_246 (fun H locs G => ?_)
        rw [p2_cl hn] at G
        obtain ⟨w7_, hw7_⟩ : ∃ z9, z9 = gu w t (.inl (D.1 103, n, .inr (.inr (.inr (.inr (va_up f (h % n) r13)))))) := ⟨_, rfl⟩
        replace G : gS D K w7_ s H locs := by rw [hw7_]; exact G
        have c7_mp : w7_ mp = some (.inr (7, mfl (some t) (nI es.length) md (nI (n / 4 * 3)) lf ks hd tl)) := by rw [hw7_, gu_n (Ne.symm (gne_ao ht ho))]; exact ho
        have c7_key : w7_ key = some (.inr (4, [.int (nI (h / 10)), .int (nI (h % 10))])) := by rw [hw7_, gu_n (Ne.symm (gne_ao ht hk))]; exact hk
        have c7_t : w7_ t = some (.inl (D.1 103, n, .inr (.inr (.inr (.inr (va_up f (h % n) r13)))))) := by rw [hw7_]; exact gu_s
        have hEw7_ : EN w7_ es hN ky vl nx bf af := by rw [hw7_]; exact hE.off (hE.noa ht)
        have hFw7_ : FRM D w w7_ := by rw [hw7_]; exact (FRM.rf (w := w)).tr (FRM.up ht nm_a)
        refine lv_goto (pc := 247) (tgt := 260) hx hb dJ4_removeNode_247 (by decide) ?_
        have hCHd : CHn (l1e ++ l2e) hN n (va_up f (h % n) r13) nx := CHn.del (LL := l1) hch1 hch2 hch3 hnd (by rw [hqc]) (by rw [va_up_self, er13]; exact hsg1)
          (fun a => by
            rw [hl1]
            rw [hl1] at hndL
            exact nd_ne (l1 := []) hndL)
          (by rw [hl1] at hndL; exact (List.nodup_cons.mp hndL).2)
          (fun j hj => va_up_ne _ _ hj) (fun a _ => rfl)
        refine lv_aload_n (pc := 260) hx hb dJ4_removeNode_260 rfl (lv_at hl 6 rfl) ?_
        refine lv_dup (pc := 261) hx hb dJ4_removeNode_261 rfl ?_
        refine g_get (pc := 262) (v := .int md) S M G (C := RJ5) (T := TJ5) (N := 12) (ci := 7) in_J5 c7_mp rfl 3 (by decide) q135 (Or.inl rfl) rfl dJ4_removeNode_262 ?_
        refine lv_iconst (pc := 265) (v := 1) hx hb dJ4_removeNode_265 (by decide) ?_
        refine lv_iadd (pc := 266) hx hb dJ4_removeNode_266 ?_
        refine g_put (pc := 267) (v := .int (md + 1)) S M G (C := RJ5) (T := TJ5) (N := 12) (ci := 7) in_J5 tyJ5 tyJ5_ok nmJ5 c7_mp hbm rfl 3 (by decide) q135 (Or.inl rfl) rfl rfl rfl (Nat.le_of_ble_eq_true rfl) dJ4_removeNode_267 (fun H locs G => ?_)
        obtain ⟨w8_, hw8_⟩ : ∃ z9, z9 = gu w7_ mp (.inr (7, mfl (some t) (nI es.length) (md + 1) (nI (n / 4 * 3)) lf ks hd tl)) := ⟨_, rfl⟩
        replace G : gS D K w8_ s H locs := by rw [hw8_]; exact G
        have c8_t : w8_ t = some (.inl (D.1 103, n, .inr (.inr (.inr (.inr (va_up f (h % n) r13)))))) := by rw [hw8_, gu_n (gne_ao c7_t c7_mp)]; exact c7_t
        have c8_key : w8_ key = some (.inr (4, [.int (nI (h / 10)), .int (nI (h % 10))])) := by rw [hw8_, gu_n (gne_c c7_key c7_mp (by decide))]; exact c7_key
        have c8_mp : w8_ mp = some (.inr (7, mfl (some t) (nI es.length) (md + 1) (nI (n / 4 * 3)) lf ks hd tl)) := by rw [hw8_]; exact gu_s
        have hEw8_ : EN w8_ es hN ky vl nx bf af := by rw [hw8_]; exact hEw7_.off (hEw7_.no c7_mp (by decide))
        have hFw8_ : FRM D w w8_ := by rw [hw8_]; exact hFw7_.tr (FRM.up c7_mp nm_7)
        refine lv_aload_n (pc := 270) hx hb dJ4_removeNode_270 rfl (lv_at hl 6 rfl) ?_
        refine lv_dup (pc := 271) hx hb dJ4_removeNode_271 rfl ?_
        refine g_get (pc := 272) (v := .int (nI es.length)) S M G (C := RJ5) (T := TJ5) (N := 12) (ci := 7) in_J5 c8_mp rfl 2 (by decide) q131 (Or.inl rfl) rfl dJ4_removeNode_272 ?_
        refine lv_iconst (pc := 275) (v := 1) hx hb dJ4_removeNode_275 (by decide) ?_
        refine lv_isub (pc := 276) hx hb dJ4_removeNode_276 ?_
        rw [show nI es.length - 1 = nI (l1e ++ l2e).length by rw [hes]; exact len_d]
        refine g_put (pc := 277) (v := .int (nI (l1e ++ l2e).length)) S M G (C := RJ5) (T := TJ5) (N := 12) (ci := 7) in_J5 tyJ5 tyJ5_ok nmJ5 c8_mp hbm rfl 2 (by decide) q131 (Or.inl rfl) rfl rfl rfl (Nat.le_of_ble_eq_true rfl) dJ4_removeNode_277 (fun H locs G => ?_)
        obtain ⟨w9_, hw9_⟩ : ∃ z9, z9 = gu w8_ mp (.inr (7, mfl (some t) (nI (l1e ++ l2e).length) (md + 1) (nI (n / 4 * 3)) lf ks hd tl)) := ⟨_, rfl⟩
        replace G : gS D K w9_ s H locs := by rw [hw9_]; exact G
        have c9_t : w9_ t = some (.inl (D.1 103, n, .inr (.inr (.inr (.inr (va_up f (h % n) r13)))))) := by rw [hw9_, gu_n (gne_ao c8_t c8_mp)]; exact c8_t
        have c9_key : w9_ key = some (.inr (4, [.int (nI (h / 10)), .int (nI (h % 10))])) := by rw [hw9_, gu_n (gne_c c8_key c8_mp (by decide))]; exact c8_key
        have c9_mp : w9_ mp = some (.inr (7, mfl (some t) (nI (l1e ++ l2e).length) (md + 1) (nI (n / 4 * 3)) lf ks hd tl)) := by rw [hw9_]; exact gu_s
        have hEw9_ : EN w9_ es hN ky vl nx bf af := by rw [hw9_]; exact hEw8_.off (hEw8_.no c8_mp (by decide))
        have hFw9_ : FRM D w w9_ := by rw [hw9_]; exact hFw8_.tr (FRM.up c8_mp nm_7)
        refine lv_aload_n (pc := 280) hx hb dJ4_removeNode_280 rfl (lv_at hl 6 rfl) ?_
        refine lv_aload (pc := 281) hx hb dJ4_removeNode_281 (lv_at hl 0 rfl) ?_
        refine g_callU (pc := 283) (owner := "java/util/HashMap") S M G hl.1 [.ref r1v] [] (metJ5_afterNodeRemoval l D K w9_ (l1 := l1e) (x := r1v) (l2 := l2e) c9_mp hbm (by rw [← hes]; exact hEw9_) (by rw [← hes]; exact hbe) (by rw [← hes]; exact hD) hnd) 1 (g_recv M G c9_mp (q := (RJ5, TJ5, 12)) rfl) q1169 q1164 q1166 (va_Decl.abs (M.1.2.2.1 _ q1170 rfl)) q1168 q1167 q25 (by decide) rfl ⟨Nat.le_of_ble_eq_true rfl, Nat.le_of_ble_eq_true rfl⟩ rfl (Nat.le_of_ble_eq_true rfl) dJ4_removeNode_283 ⟨Nat.le_of_ble_eq_true rfl, Nat.le_of_ble_eq_true rfl⟩ (fun r w7 H locs hp G => ?_)
        obtain ⟨rfl, bf7, af7, hd7, tl7, hD7, ho7, hE7, hMK7, hx7⟩ := hp
        have ht7 : w7 t = some (.inl (D.1 103, n, .inr (.inr (.inr (.inr (va_up f (h % n) r13)))))) := hMK7 t _ c9_t (gne_ao c9_t c9_mp) (hes ▸ hEw9_.noa c9_t)
        have hF7 : FRM D w w7 := hFw9_.tr (FRM.mk hMK7 c9_mp (by rw [← hes]; exact hEw9_))
        refine W.eq (g2 := F0 m 286 ls []) rfl ?_
        refine lv_aload (pc := 286) hx hb dJ4_removeNode_286 (lv_at hl 0 rfl) ?_
        rw [hQ]
        refine g_aret S G (rt := (.object "java/util/HashMap$Node")) (r := some r1v) hr (Or.inl ⟨_, rfl⟩) hlocks (hdg := dJ4_removeNode_288) ?_ ?_ ?_
        · exact Nat.le_of_ble_eq_true rfl
        · exact Nat.le_of_ble_eq_true rfl
        · rw [hra]
          have hin9 : ∀ a ∈ l1e ++ l2e, a ∈ es := fun a ha => by rw [hes]; exact mem_d ha
          exact ⟨rfl, l1e, l2e, _, hes, ⟨n, t, (va_up f (h % n) r13), lf, hd7, tl7, nx, bf7, af7, ⟨ho7, hbm, ht7, hbt, hn, hE7, fun a ha => hbe a (hin9 a ha), hD7, nd_d hnd, hCHd, fun a ha => hF7.ky (hKy a (hin9 a ha)), fun a ha => hlt a (hin9 a ha), fun a ha b hb => hinj a (hin9 a ha) b (hin9 b hb)⟩, Nat.le_trans (by rw [hes, List.length_append, List.length_append, List.length_cons]; omega) hsz⟩, hF7, hx7⟩
      · refine lv_aload_n (pc := 61) hx hb dJ4_removeNode_61 rfl (lv_at hl 8 rfl) ?_
        refine lv_ifnull (pc := 62) hx hb dJ4_removeNode_62 ?_
        refine lv_aload_n (pc := 65) hx hb dJ4_removeNode_65 rfl (lv_at hl 8 rfl) ?_
        refine lv_aload (pc := 66) hx hb dJ4_removeNode_66 (lv_at hl 0 rfl) ?_
        refine g_callU (pc := 68) (owner := "java/lang/Object") S M G hl.1 [.ref (ky r1v)] [] (metX5_equals l D K w hk (hKy r1v hcur) hh (hlt r1v hcur)) 1 (g_recv M G hk (q := (RX5, TX5, 2)) rfl) q899 q892 q894 (va_Decl.abs (M.1.2.2.1 _ q891 rfl)) q898 q897 q42 (by decide) rfl ⟨Nat.le_of_ble_eq_true rfl, Nat.le_of_ble_eq_true rfl⟩ rfl (Nat.le_of_ble_eq_true rfl) dJ4_removeNode_68 ⟨Nat.le_of_ble_eq_true rfl, Nat.le_of_ble_eq_true rfl⟩ (fun r w2 H locs hp G => ?_)
        obtain ⟨rfl, hw2⟩ := hp
        rw [hw2] at G
        rw [if_pos hqc.symm]
        refine W.eq (g2 := F0 m 71 ls [.int 1]) rfl ?_
        refine lv_if_eq (pc := 71) (tgt := 81) hx hb dJ4_removeNode_71 (by decide) (fun c => absurd c (by decide)) (fun _ => ?_)
        refine lv_aload (pc := 74) hx hb dJ4_removeNode_74 (lv_at hl 2 rfl) ?_
        refine lv_astore (pc := 76) (lv' := [(10, .ref r1v), (12, .ref (ky r1v)), (7, .ref r1v), (9, .int (nI (h % n))), (8, .int (nI n)), (6, .ref t), (0, .ref mp), (1, .int (nI h)), (2, .ref key), (3, .null), (4, .int 0), (5, .int 1)]) hx hb dJ4_removeNode_76 hl (by decide) rfl (fun ls hl => ?_)
        refine lv_goto (pc := 78) (tgt := 171) hx hb dJ4_removeNode_78 (by decide) ?_
        refine lv_aload (pc := 171) hx hb dJ4_removeNode_171 (lv_at hl 0 rfl) ?_
        refine lv_ifnull (pc := 173) hx hb dJ4_removeNode_173 ?_
        refine lv_iload (pc := 176) hx hb dJ4_removeNode_176 (lv_at hl 10 rfl) ?_
        refine lv_if_eq (pc := 178) (tgt := 206) hx hb dJ4_removeNode_178 (by decide) (fun _ => ?_) (fun c => absurd c (by decide))
        refine lv_aload (pc := 206) hx hb dJ4_removeNode_206 (lv_at hl 0 rfl) ?_
        refine va_instNo (pc := 208) hx hb hown (hts _ q766) (M.1.2.2.2.2.1 ("java/util/LinkedHashMap$Entry", "java/util/HashMap$TreeNode") (by decide)) (g_recv M G ce1 (q := (RJ22, TJ22, 6)) rfl) dJ4_removeNode_208 ?_
        refine lv_if_eq (pc := 211) (tgt := 230) hx hb dJ4_removeNode_211 (by decide) (fun _ => ?_) (fun c => absurd c (by decide))
        refine lv_aload (pc := 230) hx hb dJ4_removeNode_230 (lv_at hl 0 rfl) ?_
        refine lv_aload (pc := 232) hx hb dJ4_removeNode_232 (lv_at hl 2 rfl) ?_
        refine lv_acmp_ne (pc := 234) (tgt := 250) (rx := (some r1v)) (ry := (some r1v)) hx hb dJ4_removeNode_234 (by decide) (fun c => absurd rfl c) (fun _ => ?_)
        refine lv_aload (pc := 237) hx hb dJ4_removeNode_237 (lv_at hl 5 rfl) ?_
        refine lv_iload (pc := 239) hx hb dJ4_removeNode_239 (lv_at hl 3 rfl) ?_
        refine lv_aload (pc := 241) hx hb dJ4_removeNode_241 (lv_at hl 0 rfl) ?_
        refine g_get (pc := 243) (v := va_rf (nx r1v)) S M G (C := RJ22) (T := TJ22) (N := 6) (ci := 8) in_J22 ce1 rfl 3 (by decide) q816 (Or.inl rfl) rfl dJ4_removeNode_243 ?_
        obtain ⟨r14, er14⟩ : ∃ z9, z9 = nx r1v := ⟨_, rfl⟩
        rw [← er14]
        refine g_aastR (pc := 246) S M G 3 rfl ht hbt (fun v hv => g_recv M G (hE v (hle v (by rw [hl1]; exact List.mem_cons_of_mem _ (Sg.hmem (by rw [← hv, er14]; exact hsg1))))) (q := (RJ22, TJ22, 6)) rfl) q1591 (p2_in hn) dJ4_removeNode_246 (fun H locs G => ?_)
        rw [p2_cl hn] at G
        obtain ⟨w10_, hw10_⟩ : ∃ z9, z9 = gu w t (.inl (D.1 103, n, .inr (.inr (.inr (.inr (va_up f (h % n) r14)))))) := ⟨_, rfl⟩
        replace G : gS D K w10_ s H locs := by rw [hw10_]; exact G
        have c10_mp : w10_ mp = some (.inr (7, mfl (some t) (nI es.length) md (nI (n / 4 * 3)) lf ks hd tl)) := by rw [hw10_, gu_n (Ne.symm (gne_ao ht ho))]; exact ho
        have c10_key : w10_ key = some (.inr (4, [.int (nI (h / 10)), .int (nI (h % 10))])) := by rw [hw10_, gu_n (Ne.symm (gne_ao ht hk))]; exact hk
        have c10_t : w10_ t = some (.inl (D.1 103, n, .inr (.inr (.inr (.inr (va_up f (h % n) r14)))))) := by rw [hw10_]; exact gu_s
        have hEw10_ : EN w10_ es hN ky vl nx bf af := by rw [hw10_]; exact hE.off (hE.noa ht)
        have hFw10_ : FRM D w w10_ := by rw [hw10_]; exact (FRM.rf (w := w)).tr (FRM.up ht nm_a)
        refine lv_goto (pc := 247) (tgt := 260) hx hb dJ4_removeNode_247 (by decide) ?_
        have hCHd : CHn (l1e ++ l2e) hN n (va_up f (h % n) r14) nx := CHn.del (LL := l1) hch1 hch2 hch3 hnd (by rw [hqc]) (by rw [va_up_self, er14]; exact hsg1)
          (fun a => by
            rw [hl1]
            rw [hl1] at hndL
            exact nd_ne (l1 := []) hndL)
          (by rw [hl1] at hndL; exact (List.nodup_cons.mp hndL).2)
          (fun j hj => va_up_ne _ _ hj) (fun a _ => rfl)
        refine lv_aload_n (pc := 260) hx hb dJ4_removeNode_260 rfl (lv_at hl 6 rfl) ?_
        refine lv_dup (pc := 261) hx hb dJ4_removeNode_261 rfl ?_
        refine g_get (pc := 262) (v := .int md) S M G (C := RJ5) (T := TJ5) (N := 12) (ci := 7) in_J5 c10_mp rfl 3 (by decide) q135 (Or.inl rfl) rfl dJ4_removeNode_262 ?_
        refine lv_iconst (pc := 265) (v := 1) hx hb dJ4_removeNode_265 (by decide) ?_
        refine lv_iadd (pc := 266) hx hb dJ4_removeNode_266 ?_
        refine g_put (pc := 267) (v := .int (md + 1)) S M G (C := RJ5) (T := TJ5) (N := 12) (ci := 7) in_J5 tyJ5 tyJ5_ok nmJ5 c10_mp hbm rfl 3 (by decide) q135 (Or.inl rfl) rfl rfl rfl (Nat.le_of_ble_eq_true rfl) dJ4_removeNode_267 (fun H locs G => ?_)
        obtain ⟨w11_, hw11_⟩ : ∃ z9, z9 = gu w10_ mp (.inr (7, mfl (some t) (nI es.length) (md + 1) (nI (n / 4 * 3)) lf ks hd tl)) := ⟨_, rfl⟩
        replace G : gS D K w11_ s H locs := by rw [hw11_]; exact G
        have c11_t : w11_ t = some (.inl (D.1 103, n, .inr (.inr (.inr (.inr (va_up f (h % n) r14)))))) := by rw [hw11_, gu_n (gne_ao c10_t c10_mp)]; exact c10_t
        have c11_key : w11_ key = some (.inr (4, [.int (nI (h / 10)), .int (nI (h % 10))])) := by rw [hw11_, gu_n (gne_c c10_key c10_mp (by decide))]; exact c10_key
        have c11_mp : w11_ mp = some (.inr (7, mfl (some t) (nI es.length) (md + 1) (nI (n / 4 * 3)) lf ks hd tl)) := by rw [hw11_]; exact gu_s
        have hEw11_ : EN w11_ es hN ky vl nx bf af := by rw [hw11_]; exact hEw10_.off (hEw10_.no c10_mp (by decide))
        have hFw11_ : FRM D w w11_ := by rw [hw11_]; exact hFw10_.tr (FRM.up c10_mp nm_7)
        refine lv_aload_n (pc := 270) hx hb dJ4_removeNode_270 rfl (lv_at hl 6 rfl) ?_
        refine lv_dup (pc := 271) hx hb dJ4_removeNode_271 rfl ?_
        refine g_get (pc := 272) (v := .int (nI es.length)) S M G (C := RJ5) (T := TJ5) (N := 12) (ci := 7) in_J5 c11_mp rfl 2 (by decide) q131 (Or.inl rfl) rfl dJ4_removeNode_272 ?_
        refine lv_iconst (pc := 275) (v := 1) hx hb dJ4_removeNode_275 (by decide) ?_
        refine lv_isub (pc := 276) hx hb dJ4_removeNode_276 ?_
        rw [show nI es.length - 1 = nI (l1e ++ l2e).length by rw [hes]; exact len_d]
        refine g_put (pc := 277) (v := .int (nI (l1e ++ l2e).length)) S M G (C := RJ5) (T := TJ5) (N := 12) (ci := 7) in_J5 tyJ5 tyJ5_ok nmJ5 c11_mp hbm rfl 2 (by decide) q131 (Or.inl rfl) rfl rfl rfl (Nat.le_of_ble_eq_true rfl) dJ4_removeNode_277 (fun H locs G => ?_)
        obtain ⟨w12_, hw12_⟩ : ∃ z9, z9 = gu w11_ mp (.inr (7, mfl (some t) (nI (l1e ++ l2e).length) (md + 1) (nI (n / 4 * 3)) lf ks hd tl)) := ⟨_, rfl⟩
        replace G : gS D K w12_ s H locs := by rw [hw12_]; exact G
        have c12_t : w12_ t = some (.inl (D.1 103, n, .inr (.inr (.inr (.inr (va_up f (h % n) r14)))))) := by rw [hw12_, gu_n (gne_ao c11_t c11_mp)]; exact c11_t
        have c12_key : w12_ key = some (.inr (4, [.int (nI (h / 10)), .int (nI (h % 10))])) := by rw [hw12_, gu_n (gne_c c11_key c11_mp (by decide))]; exact c11_key
        have c12_mp : w12_ mp = some (.inr (7, mfl (some t) (nI (l1e ++ l2e).length) (md + 1) (nI (n / 4 * 3)) lf ks hd tl)) := by rw [hw12_]; exact gu_s
        have hEw12_ : EN w12_ es hN ky vl nx bf af := by rw [hw12_]; exact hEw11_.off (hEw11_.no c11_mp (by decide))
        have hFw12_ : FRM D w w12_ := by rw [hw12_]; exact hFw11_.tr (FRM.up c11_mp nm_7)
        refine lv_aload_n (pc := 280) hx hb dJ4_removeNode_280 rfl (lv_at hl 6 rfl) ?_
        refine lv_aload (pc := 281) hx hb dJ4_removeNode_281 (lv_at hl 0 rfl) ?_
        refine g_callU (pc := 283) (owner := "java/util/HashMap") S M G hl.1 [.ref r1v] [] (metJ5_afterNodeRemoval l D K w12_ (l1 := l1e) (x := r1v) (l2 := l2e) c12_mp hbm (by rw [← hes]; exact hEw12_) (by rw [← hes]; exact hbe) (by rw [← hes]; exact hD) hnd) 1 (g_recv M G c12_mp (q := (RJ5, TJ5, 12)) rfl) q1169 q1164 q1166 (va_Decl.abs (M.1.2.2.1 _ q1170 rfl)) q1168 q1167 q25 (by decide) rfl ⟨Nat.le_of_ble_eq_true rfl, Nat.le_of_ble_eq_true rfl⟩ rfl (Nat.le_of_ble_eq_true rfl) dJ4_removeNode_283 ⟨Nat.le_of_ble_eq_true rfl, Nat.le_of_ble_eq_true rfl⟩ (fun r w7 H locs hp G => ?_)
        obtain ⟨rfl, bf7, af7, hd7, tl7, hD7, ho7, hE7, hMK7, hx7⟩ := hp
        have ht7 : w7 t = some (.inl (D.1 103, n, .inr (.inr (.inr (.inr (va_up f (h % n) r14)))))) := hMK7 t _ c12_t (gne_ao c12_t c12_mp) (hes ▸ hEw12_.noa c12_t)
        have hF7 : FRM D w w7 := hFw12_.tr (FRM.mk hMK7 c12_mp (by rw [← hes]; exact hEw12_))
        refine W.eq (g2 := F0 m 286 ls []) rfl ?_
        refine lv_aload (pc := 286) hx hb dJ4_removeNode_286 (lv_at hl 0 rfl) ?_
        rw [hQ]
        refine g_aret S G (rt := (.object "java/util/HashMap$Node")) (r := some r1v) hr (Or.inl ⟨_, rfl⟩) hlocks (hdg := dJ4_removeNode_288) ?_ ?_ ?_
        · exact Nat.le_of_ble_eq_true rfl
        · exact Nat.le_of_ble_eq_true rfl
        · rw [hra]
          have hin9 : ∀ a ∈ l1e ++ l2e, a ∈ es := fun a ha => by rw [hes]; exact mem_d ha
          exact ⟨rfl, l1e, l2e, _, hes, ⟨n, t, (va_up f (h % n) r14), lf, hd7, tl7, nx, bf7, af7, ⟨ho7, hbm, ht7, hbt, hn, hE7, fun a ha => hbe a (hin9 a ha), hD7, nd_d hnd, hCHd, fun a ha => hF7.ky (hKy a (hin9 a ha)), fun a ha => hlt a (hin9 a ha), fun a ha b hb => hinj a (hin9 a ha) b (hin9 b hb)⟩, Nat.le_trans (by rw [hes, List.length_append, List.length_append, List.length_cons]; omega) hsz⟩, hF7, hx7⟩
abbrev rmJ4_removeP : Room := ({ frames := 2, cells := 0, slots := 0, locals := 57 } : Room)
set_option maxHeartbeats 4000000 in
theorem metJ4_removeP (l : Launch) (D : va_G) (K : Nat → Nat) (w : Gh) {mp n t : Nat} {f : Nat → Option Nat} {lf : UInt32} {hd tl : Option Nat} {nx bf af : Nat → Option Nat} {md : Int32} {ks : Option Nat} {es : List Nat} {hN ky vl : Nat → Nat} {key h : Nat} (hk : KY w key h) (hh : h < 300) (hM : MPQ D K w mp (nI es.length) md ks es hN ky vl n t f lf hd tl nx bf af) (hsz : es.length ≤ n / 4 * 3) {a0 : Nat} (ha0 : a0 ∈ es) (hh0 : hN a0 = h) : gMet l yJ4_remove (ws_ yJ4_remove cJ4_remove 3 (some (.object "java/lang/Object"))) rmJ4_removeP D K [.ref mp, .ref key] w (fun r' w' => r' = some (.ref (vl a0)) ∧ ∃ l1 l2, es = l1 ++ a0 :: l2 ∧ MPF D K w' mp (md + 1) ks (l1 ++ l2) hN ky vl ∧ FRM D w w') := by
  refine gMet.of (by decide) (Nat.le_of_ble_eq_true rfl) ?_
  intro p e s m args below meth c H locs ls S M hr hlocks hname G hl
  have hx := S.1
  have hb := S.2.1
  have hown := S.2.2.2.1
  have hts := S.2.2.2.2
  have hl : lv_has ls 3 [(0, .ref mp), (1, .ref key)] := hl
  obtain ⟨Q, hQ⟩ : ∃ Q, Q = gE below D K (fun r' w' => r' = some (.ref (vl a0)) ∧ ∃ l1 l2, es = l1 ++ a0 :: l2 ∧ MPF D K w' mp (md + 1) ks (l1 ++ l2) hN ky vl ∧ FRM D w w') args s rmJ4_removeP.cells rmJ4_removeP.slots := ⟨_, rfl⟩
  rw [← hQ]
  have hM0 := hM
  obtain ⟨ho, hbm, ht, hbt, hn, hE, hbe, hD, hnd, hCH, hKy, hlt, hinj⟩ := hM
  refine lv_aload_n (pc := 0) hx hb dJ4_remove_0 rfl (lv_at hl 0 rfl) ?_
  refine lv_aload_n (pc := 1) hx hb dJ4_remove_1 rfl (lv_at hl 1 rfl) ?_
  refine g_callS (pc := 2) S M G hl.1 [.ref key] [.ref mp] (metJ4_hash l D K w hk hh) 1 q727 q725 q726 q24 (by decide) rfl ⟨Nat.le_of_ble_eq_true rfl, Nat.le_of_ble_eq_true rfl⟩ rfl (Nat.le_of_ble_eq_true rfl) dJ4_remove_2 ⟨Nat.le_of_ble_eq_true rfl, Nat.le_of_ble_eq_true rfl⟩ (fun r w2 H locs hp G => ?_)
  obtain ⟨rfl, hw2⟩ := hp
  rw [hw2] at G
  refine W.eq (g2 := F0 m 5 ls [.int (nI h), .ref mp]) rfl ?_
  refine lv_aload_n (pc := 5) hx hb dJ4_remove_5 rfl (lv_at hl 1 rfl) ?_
  refine lv_null (pc := 6) hx hb dJ4_remove_6 ?_
  refine lv_iconst (pc := 7) (v := 0) hx hb dJ4_remove_7 (by decide) ?_
  refine lv_iconst (pc := 8) (v := 1) hx hb dJ4_remove_8 (by decide) ?_
  refine g_callU (pc := 9) (owner := "java/util/HashMap") S M G hl.1 [.int (nI h), .ref key, .null, .int 0, .int 1] [] (metJ4_removeNode l D K w hk hh hM0 hsz ha0 hh0) 5 (g_recv M G ho (q := (RJ5, TJ5, 12)) rfl) q1156 q1152 q1154 (va_Decl.of (hts _ q1153) (hts _ q1156)) q1153 q1155 q24 (by decide) rfl ⟨Nat.le_of_ble_eq_true rfl, Nat.le_of_ble_eq_true rfl⟩ rfl (Nat.le_of_ble_eq_true rfl) dJ4_remove_9 ⟨Nat.le_of_ble_eq_true rfl, Nat.le_of_ble_eq_true rfl⟩ (fun r w3 H locs hp G => ?_)
  obtain ⟨rfl, l1, l2, nx9, hes9, hM9, hF9, hc9⟩ := hp
  refine W.eq (g2 := F0 m 12 ls [.ref a0]) rfl ?_
  refine lv_dup (pc := 12) hx hb dJ4_remove_12 rfl ?_
  refine lv_astore_n (pc := 13) (lv' := [(2, .ref a0), (0, .ref mp), (1, .ref key)]) hx hb dJ4_remove_13 rfl hl (by decide) rfl (fun ls hl => ?_)
  refine lv_ifnonnull (pc := 14) (tgt := 21) hx hb dJ4_remove_14 (by decide) ?_
  refine lv_aload_n (pc := 21) hx hb dJ4_remove_21 rfl (lv_at hl 0 rfl) ?_
  refine g_get (pc := 22) (v := .ref (vl a0)) S M G (C := RJ22) (T := TJ22) (N := 6) (ci := 8) in_J22 hc9 rfl 2 (by decide) q810 (Or.inl rfl) rfl dJ4_remove_22 ?_
  rw [hQ]
  refine g_aret S G (rt := (.object "java/lang/Object")) (r := some (vl a0)) hr (Or.inl ⟨_, rfl⟩) hlocks (hdg := dJ4_remove_25) ?_ ?_ ?_
  · exact Nat.le_of_ble_eq_true rfl
  · exact Nat.le_of_ble_eq_true rfl
  · exact ⟨rfl, l1, l2, hes9, hM9, hF9⟩
theorem metJ4_remove (l : Launch) (D : va_G) (K : Nat → Nat) (w : Gh) {mp : Nat} {md : Int32} {ks : Option Nat} {es : List Nat} {hN ky vl : Nat → Nat} {key h : Nat} (hk : KY w key h) (hh : h < 300) (hM : MS D K w mp md ks es hN ky vl) {a0 : Nat} (ha0 : a0 ∈ es) (hh0 : hN a0 = h) : gMet l yJ4_remove (ws_ yJ4_remove cJ4_remove 3 (some (.object "java/lang/Object"))) rmJ4_removeP D K [.ref mp, .ref key] w (fun r' w' => r' = some (.ref (vl a0)) ∧ ∃ l1 l2, es = l1 ++ a0 :: l2 ∧ MPF D K w' mp (md + 1) ks (l1 ++ l2) hN ky vl ∧ FRM D w w') := by
  rcases hM with ⟨n, t, f, lf, hd, tl, nx, bf, af, hM, hsz⟩ | ⟨hes, -⟩
  · exact metJ4_removeP l D K w hk hh hM hsz ha0 hh0
  · rw [hes] at ha0; cases ha0
