/-! rows of library calls over ghost worlds -/
section GL
variable {p : Program} {l : Launch} {e : Env} {R : Room} {s : State} {m : MethodId} {args : Array Value} {below : List Frame} {meth : Method} {c : Code} {H : Heap} {locs : List Loc} {cells slots : Nat} {Q : State → Prop}
variable {cc : ByteArray} {pc nL : Nat} {ls : Array Slot} {rest : List Value} {D : va_G} {K : Nat → Nat} {a : Nat} {w : Gh} {own : String}
theorem g_gets (S : CallFix p m c cc nL s args lw_all own) (G : gS D K w s H locs) {C n d : String} {v : Value} {index : Nat} (hZ : va_Z C n d v (gA K) s s.heap) (hlink : Cond.fieldLink own index C n d ∈ lw_all) (hdg : decode cc pc = .ok (.getstatic index, 3))
    (kk : W p l e R s m args below meth c H locs cells slots Q (F0 m (pc + 3) ls (v :: rest))) : W p l e R s m args below meth c H locs cells slots Q (F0 m pc ls rest) :=
  va_gets S.1 S.2.1 hZ G.2.1 S.2.2.2.1 (S.2.2.2.2 _ hlink) (fun _ h => h) hdg kk
theorem g_tlen (S : CallFix p m c cc nL s args lw_all own) (G : gS D K w s H locs) {ty : FieldType} {t N : Nat} {f : Nat → Value} (hT : va_T ty t N f (gA K) s s.heap) {v : Int32} (hv : Int32.ofNat N = v) (hdg : decode cc pc = .ok (.arraylength, 1))
    (kk : W p l e R s m args below meth c H locs cells slots Q (F0 m (pc + 1) ls (.int v :: rest))) : W p l e R s m args below meth c H locs cells slots Q (F0 m pc ls (.ref t :: rest)) := va_tlen S.1 S.2.1 hT G.2.1 hv hdg kk
theorem g_tald (S : CallFix p m c cc nL s args lw_all own) (G : gS D K w s H locs) {C : String} {t N : Nat} {f : Nat → Value} (hT : va_T (.object C) t N f (gA K) s s.heap) {i : Int32} (hin : vp_in i N) {v : Value} (hv : f i.toNatClampNeg = v) (hdg : decode cc pc = .ok (.aaload, 1))
    (kk : W p l e R s m args below meth c H locs cells slots Q (F0 m (pc + 1) ls (v :: rest))) : W p l e R s m args below meth c H locs cells slots Q (F0 m pc ls (.int i :: .ref t :: rest)) := vb_tq S.1 S.2.1 hT G.2.1 hin hv hdg kk
theorem g_max (S : CallFix p m c cc nL s args lw_all own) (hl : ls.size = nL) {index : Nat} (hlink : Cond.methodLink own index ⟨"java/lang/Math", "max", "(II)I"⟩ ∈ lw_all) (hframes : 1 ≤ R.frames) (hlocals : (rest.map fun v => v.category).sum + 13 ≤ R.locals) (hc : cells ≤ R.cells) (hs : slots ≤ R.slots) {x y : Int32} (hdg : decode cc pc = .ok (.invokestatic index, 3))
    (kk : W p l e R s m args below meth c H locs cells slots Q (F0 m (pc + 3) ls (.int (if x < y then y else x) :: rest))) : W p l e R s m args below meth c H locs cells slots Q (F0 m pc ls (.int y :: .int x :: rest)) :=
  va_mmax S.1 S.2.1 (by rw [S.2.2.1, hl]) S.2.2.2.1 (S.2.2.2.2 _ hlink) (S.2.2.2.2 _ q602) (S.2.2.2.2 _ q37) (S.2.2.2.2 _ q603) hframes hlocals hc hs hdg kk
theorem g_min (S : CallFix p m c cc nL s args lw_all own) (hl : ls.size = nL) {index : Nat} (hlink : Cond.methodLink own index ⟨"java/lang/Math", "min", "(II)I"⟩ ∈ lw_all) (hframes : 1 ≤ R.frames) (hlocals : (rest.map fun v => v.category).sum + 13 ≤ R.locals) (hc : cells ≤ R.cells) (hs : slots ≤ R.slots) {x y : Int32} (hdg : decode cc pc = .ok (.invokestatic index, 3))
    (kk : W p l e R s m args below meth c H locs cells slots Q (F0 m (pc + 3) ls (.int (if y < x then y else x) :: rest))) : W p l e R s m args below meth c H locs cells slots Q (F0 m pc ls (.int y :: .int x :: rest)) :=
  va_mmin S.1 S.2.1 (by rw [S.2.2.1, hl]) S.2.2.2.1 (S.2.2.2.2 _ hlink) (S.2.2.2.2 _ q642) (S.2.2.2.2 _ q37) (S.2.2.2.2 _ q643) hframes hlocals hc hs hdg kk
theorem g_arrRecv (M : Amb D K s) (G : gS D K w s H locs) {n : Nat} {f : Nat → Option Nat} (ha : w a = some (.inl (D.1 102, n, gra f))) : ∃ cell : Cell, H[a]? = some cell ∧ cell.vm.isStatics = false ∧ s.vm.findClass "[Ljava/lang/Object;" = some cell.cls :=
  ⟨_, G.1 a _ ha, rfl, va_nmO (M.1.1.2 2 _ rfl).2 rfl⟩
theorem g_getC (S : CallFix p m c cc nL s args lw_all own) (M : Amb D K s) (G : gS D K w s H locs) (hl : ls.size = nL) {index n : Nat} {f : Nat → Option Nat} (ha : w a = some (.inl (D.1 102, n, gra f))) (hlink : Cond.methodLink own index ⟨"java/lang/Object", "getClass", "()Ljava/lang/Class;"⟩ ∈ lw_all) (hframes : 1 ≤ R.frames) (hlocals : (rest.map fun v => v.category).sum + 14 ≤ R.locals) (hdg : decode cc pc = .ok (.invokevirtual index, 3))
    (k : W p l e R s m args below meth c H locs cells slots Q (F0 m (pc + 3) ls (.ref (K 3) :: rest))) : W p l e R s m args below meth c H locs cells slots Q (F0 m pc ls (.ref a :: rest)) :=
  va_getC S.1 S.2.1 (by rw [S.2.2.1, hl]) S.2.2.2.1 (S.2.2.2.2 _ hlink) (va_Nw.use rfl (M.1.2.2.1 _ q1595 rfl)) (S.2.2.2.2 _ q1594) (S.2.2.2.2 _ q612) (S.2.2.2.2 _ q634) M.1.2.2.2.2.2.1 (g_arrRecv M G ha) hframes hlocals hdg k
theorem g_ldcM (S : CallFix p m c cc nL s args lw_all own) (M : Amb D K s) {index : Nat} (hlink : Cond.classLink own index "[Ljava/lang/Object;" ∈ lw_all) (hdg : decode cc pc = .ok (.ldc index, 2))
    (k : W p l e R s m args below meth c H locs cells slots Q (F0 m (pc + 2) ls (.ref (K 3) :: rest))) : W p l e R s m args below meth c H locs cells slots Q (F0 m pc ls rest) :=
  va_ldcM S.1 S.2.1 S.2.2.2.1 (S.2.2.2.2 _ hlink) M.1.2.2.2.2.2.1 hdg k
/-- System.arraycopy of references, the whole world kept but for the target -/
theorem g_copyq (S : CallFix p m c cc nL s args lw_all own) (M : Amb D K s) (G : gS D K w s H locs) (hl : ls.size = nL) {index : Nat} (hlink : Cond.methodLink own index arraycopyName ∈ lw_all) {b n0 n1 : Nat} {f g : Nat → Option Nat} {C : String} (hb0 : w b = some (.inl (D.1 102, n0, gra f))) (ha0 : w a = some (.inl (D.1 102, n1, gra g))) (hba : K 0 ≤ a) (hC : Cond.castable C "java/lang/Object" ∈ lw_tbl)
    {sp dp n : Int32} (h1 : ¬ sp < 0) (h2 : ¬ dp < 0) (h3 : ¬ n < 0) (h4 : sp.toNatClampNeg + n.toNatClampNeg ≤ n0) (h5 : dp.toNatClampNeg + n.toNatClampNeg ≤ n1) (hel : ∀ i : Nat, i < n.toNatClampNeg → ∀ y : Nat, f (sp.toNatClampNeg + i) = some y → ∃ cellV : Cell, H[y]? = some cellV ∧ cellV.vm.isStatics = false ∧ s.vm.findClass C = some cellV.cls)
    (hframes : 1 ≤ R.frames) (hlocals : (rest.map fun v => v.category).sum + (nativeFrameWords "java/lang/System" "arraycopy" 5 + 11) ≤ R.locals) (hdg : decode cc pc = .ok (.invokestatic index, 3))
    (kk : ∀ (H1 : Heap) (locs1 : List Loc), gS D K (gu w a (.inl (D.1 102, n1, gra (va_cpy f g sp.toNatClampNeg dp.toNatClampNeg n.toNatClampNeg)))) s H1 locs1 → W p l e R s m args below meth c H1 locs1 cells slots Q (F0 m (pc + 3) ls rest)) :
    W p l e R s m args below meth c H locs cells slots Q (F0 m pc ls (.int n :: .int dp :: .ref a :: .int sp :: .ref b :: rest)) := by
  have nn : ∀ z : Int32, ¬ z < 0 → z.toInt = (z.toNatClampNeg : Int) := by
    intro z hz
    have hz0 : (0 : Int) ≤ z.toInt := by
      have := Int32.not_lt.mp hz
      simpa using Int32.le_iff_toInt_le.mp this
    show z.toInt = ((z.toInt.toNat : Nat) : Int)
    omega
  intro T hT X
  have hc0 : H[b]? = some (vp_cell (D.1 102) (n0, gra f)) := G.1 b _ hb0
  have hc1 : H[a]? = some (vp_cell (D.1 102) (n1, gra g)) := G.1 a _ ha0
  have htt := (M.1.1.2 2 _ rfl).2
  obtain ⟨-, k0, hk0, cm0, hkk0⟩ := (M.1.1.2 2 _ rfl).1 n0 (fun j => va_rf (f j))
  obtain ⟨-, k1, hk1, cm1, hkk1⟩ := (M.1.1.2 2 _ rfl).1 n1 (fun j => va_rf (g j))
  have hasg : ∀ comp c0 : ClassId, s.vm.findClass "java/lang/Object" = some comp → s.vm.findClass C = some c0 → s.vm.assignable c0 comp = true := vb_asgC (M.1.2.2.1 _ hC rfl)
  obtain ⟨vm', X', step⟩ := X.arraycopy S.1 S.2.2.2.1 (S.2.2.2.2 _ hlink) (S.2.2.2.2 _ q646) (S.2.2.2.2 _ q645) (S.2.2.2.2 _ q39) (src := b) (dst := a) (cs := vp_cell (D.1 102) (n0, gra f)) (cd := vp_cell (D.1 102) (n1, gra g)) (srcPos := sp) (destPos := dp) (n := n) (by rw [hT]; exact hc0) (by rw [hT]; exact hc1)
    (fun _ h => by cases h) (fun _ h => by cases h) (fun h => by cases h) (fun h => by cases h) hk0 hk1 hkk0 hkk1 rfl h1 h2 h3
    (by rw [nn sp h1, nn n h3]; show ¬ _ > ((arrV (D.1 102) n0 (fun j => va_rf (f j))).slots.size : Int); rw [arrV_size]; omega)
    (by rw [nn dp h2, nn n h3]; show ¬ _ > ((arrV (D.1 102) n1 (fun j => va_rf (g j))).slots.size : Int); rw [arrV_size]; omega)
    (fun vm₁ hal i hi => by
      have e : (vp_cell (D.1 102) (n0, gra f)).slots.getD (sp.toNatClampNeg + i) .null = va_rf (f (sp.toNatClampNeg + i)) := by
        show (arrV (D.1 102) n0 (fun j => va_rf (f j))).slots.getD _ _ = _
        rw [Array.getD_eq_getD_getElem?, arrV_read _ _ (by omega)]
        rfl
      rw [e]
      cases hy : f (sp.toNatClampNeg + i) with
      | none => exact ⟨rfl, trivial⟩
      | some y =>
        obtain ⟨cellV, g1, g2, g3⟩ := hel i hi y hy
        obtain ⟨kA, comp, r1, r2, r3, -⟩ := htt
        cases hk1.symm.trans r1
        cases hkk1.symm.trans r2
        obtain ⟨kC, hkC, -⟩ := Vm.findClass_spec g3
        obtain ⟨kE, hkE, -⟩ := Vm.findClass_spec r3
        obtain ⟨kC', hkC', -⟩ := hal.2.2 _ _ hkC
        obtain ⟨kE', hkE', -⟩ := hal.2.2 _ _ hkE
        refine ⟨rfl, cellV, (show T.heap[y]? = some cellV by rw [hT]; exact g1), (fun q h => by rw [h] at g2; cases g2), ⟨kC', hkC'⟩, ⟨kE', hkE'⟩, ?_⟩
        show vm₁.assignable _ _ = true
        rw [hal.assignable]
        exact hasg _ _ r3 g3)
    (g := F0 m pc ls (.int n :: .int dp :: .ref a :: .int sp :: .ref b :: rest)) rfl (by rw [S.2.2.1]; exact hl) (rest := rest) rfl (by rw [S.2.1]; exact hdg) hframes (by show 2 * 0 + _ + _ ≤ _; omega)
  generalize hcp : va_cpy f g sp.toNatClampNeg dp.toNatClampNeg n.toNatClampNeg = cp at kk
  have e1 : copied (vp_cell (D.1 102) (n0, gra f)) (vp_cell (D.1 102) (n1, gra g)) sp dp n = vp_cell (D.1 102) (n1, gra cp) := by
    rw [vp_cell_q, vp_cell_q, vp_cell_q, ← hcp]
    exact va_copied (fun z => va_rf z) _ _ f g h4
  rw [e1] at X' step
  have hla : a < H.size := (Array.getElem?_eq_some_iff.mp hc1).1
  have hheap : ((T.setVm vm').setCell a (vp_cell (D.1 102) (n1, gra cp))).heap = H.setIfInBounds a (vp_cell (D.1 102) (n1, gra cp)) := by rw [← hT]; rfl
  have oq : ∀ q : Nat, q ≠ a → (H.setIfInBounds a (vp_cell (D.1 102) (n1, gra cp)))[q]? = H[q]? := fun q hq => by simp [Array.getElem?_setIfInBounds, Ne.symm hq]
  obtain ⟨t, a1, b1⟩ := kk _ _ ⟨fun q x hx => by
      by_cases h : q = a
      · subst h
        rw [gu_s] at hx
        cases hx
        show (H.setIfInBounds q _)[q]? = some _
        simp [Array.getElem?_setIfInBounds, hla]
      · rw [gu_n h] at hx
        exact (G.1 q x hx).kept (oq q h), ⟨by simp; exact G.2.1.1, fun q g1 g2 => by
      rw [oq q (fun e => g2 (by rw [e]; exact hba))]
      exact G.2.1.2.1 q g1 g2, fun q hq => by
      rcases List.mem_append.mp hq with h | h
      · exact G.2.1.2.2 q h
      · obtain ⟨z, -, hz⟩ := List.mem_map.mp h
        rw [← hz]
        exact hba⟩, G.2.2⟩ _ hheap X'
  exact ⟨t, step t a1, b1⟩
end GL
