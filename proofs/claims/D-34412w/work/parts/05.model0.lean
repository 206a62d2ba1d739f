/-! THE REFERENCE's STATE: its ints C, its int arrays A, its longs B, each by the field's number; ad: where its object (0) and its arrays (by the field) lie -/
def marr (k : Nat) : Bool := (decide (1 ≤ k) && decide (k ≤ 9)) || (decide (11 ≤ k) && decide (k ≤ 17))
def mlen (k : Nat) : Nat := if k = 8 ∨ k = 9 then 300 else if k = 16 then 10 else if k = 17 then 6 else 30
abbrev mfs (ad : Nat → Nat) (C : Nat → Int32) (B : Nat → Int64) : List Value := [.int (C 0), .ref (ad 1), .ref (ad 2), .ref (ad 3), .ref (ad 4), .ref (ad 5), .ref (ad 6), .ref (ad 7), .ref (ad 8), .ref (ad 9), .int (C 10), .ref (ad 11), .ref (ad 12), .ref (ad 13), .ref (ad 14), .ref (ad 15), .ref (ad 16), .ref (ad 17), .int (C 18), .int (C 19), .long (B 20), .long (B 21), .long (B 22), .int (C 23)]
def mix (k : Nat) : Prop := k = 0 ∨ marr k = true
def updA (A : Nat → Nat → Int32) (k i : Nat) (x : Int32) : Nat → Nat → Int32 := fun j => if j = k then upd (A k) i x else A j
/-- the picture of the reference in the world w -/
def MP (D : va_G) (K : Nat → Nat) (w : Gh) (ad : Nat → Nat) (C : Nat → Int32) (A : Nat → Nat → Int32) (B : Nat → Int64) : Prop :=
  w (ad 0) = some (.inr (2, mfs ad C B)) ∧ (∀ k, marr k = true → w (ad k) = some (.inl (D.1 100, mlen k, .inl (A k)))) ∧ (∀ i j, mix i → mix j → ad i = ad j → i = j) ∧ ∀ k, mix k → K 0 ≤ ad k
/-- what isn't the reference's stays -/
def MF (ad : Nat → Nat) (w w' : Gh) : Prop := ∀ a, (∀ k, mix k → a ≠ ad k) → w' a = w a
theorem MF.rf {ad : Nat → Nat} {w : Gh} : MF ad w w := fun _ _ => rfl
theorem MF.tr {ad : Nat → Nat} {w w1 w2 : Gh} (h : MF ad w w1) (h2 : MF ad w1 w2) : MF ad w w2 := fun a ha => (h2 a ha).trans (h a ha)
theorem MF.up {ad : Nat → Nat} {w w1 : Gh} {k : Nat} {e : va_E} (h : MF ad w w1) (hk : mix k) : MF ad w (gu w1 (ad k) e) := fun a ha => (gu_n (ha k hk)).trans (h a ha)
def MG (D : va_G) (K : Nat → Nat) (s : State) (H : Heap) (locs : List Loc) (w0 : Gh) (ad : Nat → Nat) (C : Nat → Int32) (A : Nat → Nat → Int32) (B : Nat → Int64) : Prop := ∃ w, gS D K w s H locs ∧ MP D K w ad C A B ∧ MF ad w0 w
/-- a contract of the reference's methods -/
def MMet (l : Launch) (y : MethodName) (ws : List Cond) (rm : Room) (D : va_G) (K : Nat → Nat) (As : List Value) (ad : Nat → Nat) (C : Nat → Int32) (A : Nat → Nat → Int32) (B : Nat → Int64) (r : Option Value) (C' : Nat → Int32) (A' : Nat → Nat → Int32) (B' : Nat → Int64) : Prop :=
  ∀ w, MP D K w ad C A B → gMet l y ws rm D K (.ref (ad 0) :: As) w (fun r' w' => r' = r ∧ MP D K w' ad C' A' B' ∧ MF ad w w')
theorem mix0 : mix 0 := Or.inl rfl
theorem MP.putC {D : va_G} {K : Nat → Nat} {w : Gh} {ad : Nat → Nat} {C : Nat → Int32} {A : Nat → Nat → Int32} {B : Nat → Int64} (h : MP D K w ad C A B) {fs : List Value} {C' : Nat → Int32} {B' : Nat → Int64} (e : fs = mfs ad C' B') : MP D K (gu w (ad 0) (.inr (2, fs))) ad C' A B' := by
  subst e
  refine ⟨gu_s, fun k hk => ?_, h.2.2.1, h.2.2.2⟩
  rw [gu_n (fun e => ?_)]
  · exact h.2.1 k hk
  · have h0 := h.2.2.1 k 0 (Or.inr hk) mix0 e
    subst h0
    cases hk
theorem MP.putA {D : va_G} {K : Nat → Nat} {w : Gh} {ad : Nat → Nat} {C : Nat → Int32} {A : Nat → Nat → Int32} {B : Nat → Int64} (h : MP D K w ad C A B) {k i : Nat} {x : Int32} (hk : marr k = true) : MP D K (gu w (ad k) (.inl (D.1 100, mlen k, .inl (upd (A k) i x)))) ad C (updA A k i x) B := by
  refine ⟨?_, fun j hj => ?_, h.2.2.1, h.2.2.2⟩
  · rw [gu_n (fun e => ?_)]
    · exact h.1
    · have h0 := h.2.2.1 0 k mix0 (Or.inr hk) e
      subst h0
      cases hk
  · by_cases e : j = k
    · subst e
      rw [gu_s]
      simp [updA]
    · rw [gu_n (fun e2 => e (h.2.2.1 j k (Or.inr hj) (Or.inr hk) e2)), h.2.1 j hj]
      simp [updA, e]
section MD1
variable {p : Program} {l : Launch} {e : Env} {R : Room} {s : State} {m : MethodId} {args : Array Value} {below : List Frame} {meth : Method} {c : Code} {H : Heap} {locs : List Loc} {cells slots : Nat} {Q : State → Prop}
variable {cc : ByteArray} {pc nL : Nat} {ls : Array Slot} {rest : List Value} {D : va_G} {K : Nat → Nat} {w0 : Gh} {ad : Nat → Nat} {C : Nat → Int32} {A : Nat → Nat → Int32} {B : Nat → Int64} {mc ms : Nat}
theorem MG.of {w : Gh} (G : gS D K w s H locs) (h : MP D K w ad C A B) : MG D K s H locs w ad C A B := ⟨w, G, h, MF.rf⟩
theorem m_get (S : CallFix p m c cc nL s args lw_all RX3) (M : Amb D K s) (G : MG D K s H locs w0 ad C A B) (k : Nat) (hk : k < 24) {index : Nat} (hlink : Cond.fieldLink RX3 index RX3 (TX3 k).2.1 (TX3 k).2.2.1 ∈ lw_all) (hsame : (TX3 k).1 = RX3) {v : Value} (hv : (mfs ad C B)[k]? = some v) (hdg : decode cc pc = .ok (.getfield index, 3))
    (kk : W p l e R s m args below meth c H locs cells slots Q (F0 m (pc + 3) ls (v :: rest))) : W p l e R s m args below meth c H locs cells slots Q (F0 m pc ls (.ref (ad 0) :: rest)) := by
  obtain ⟨w, G, h, -⟩ := G
  exact g_get S M G (C := RX3) (T := TX3) (N := 24) (ci := 2) in_X3 h.1 rfl k hk hlink (Or.inl hsame) hv hdg kk
theorem m_putC (S : CallFix p m c cc nL s args lw_all RX3) (M : Amb D K s) (G : MG D K s H locs w0 ad C A B) (k : Nat) (hk : k < 24) {index : Nat} (hlink : Cond.fieldLink RX3 index RX3 (TX3 k).2.1 (TX3 k).2.2.1 ∈ lw_all) (hsame : (TX3 k).1 = RX3) (hfin : (TX3 k).2.2.2 = false) {v : Value} (hn : narrow (tyX3 k) v = v) (hfit : fits (tyX3 k) v = true) {C' : Nat → Int32} {B' : Nat → Int64} (hfs : (mfs ad C B).set k v = mfs ad C' B') (hdg : decode cc pc = .ok (.putfield index, 3))
    (kk : ∀ (H1 : Heap) (locs1 : List Loc), MG D K s H1 locs1 w0 ad C' A B' → W p l e R s m args below meth c H1 locs1 cells slots Q (F0 m (pc + 3) ls rest)) : W p l e R s m args below meth c H locs cells slots Q (F0 m pc ls (v :: .ref (ad 0) :: rest)) := by
  obtain ⟨w, G, h, hF⟩ := G
  exact g_put S M G (C := RX3) (T := TX3) (N := 24) (ci := 2) in_X3 tyX3 tyX3_ok nmX3 h.1 (h.2.2.2 0 mix0) rfl k hk hlink (Or.inl hsame) hfin hn hfit hk hdg fun H1 locs1 G1 => kk H1 locs1 ⟨_, G1, h.putC hfs, hF.up mix0⟩
theorem m_ald (S : CallFix p m c cc nL s args lw_all RX3) (M : Amb D K s) (G : MG D K s H locs w0 ad C A B) (k : Nat) (hk : marr k = true) {i : Int32} (hin : vp_in i (mlen k)) {v : Int32} (hv : A k i.toNatClampNeg = v) (hdg : decode cc pc = .ok (.iaload, 1))
    (kk : W p l e R s m args below meth c H locs cells slots Q (F0 m (pc + 1) ls (.int v :: rest))) : W p l e R s m args below meth c H locs cells slots Q (F0 m pc ls (.int i :: .ref (ad k) :: rest)) := by
  obtain ⟨w, G, h, -⟩ := G
  subst hv
  exact g_iald S M G (h.2.1 k hk) hin hdg kk
theorem m_ast (S : CallFix p m c cc nL s args lw_all RX3) (M : Amb D K s) (G : MG D K s H locs w0 ad C A B) (k : Nat) (hk : marr k = true) {i x : Int32} (hin : vp_in i (mlen k)) (hdg : decode cc pc = .ok (.iastore, 1))
    (kk : ∀ (H1 : Heap) (locs1 : List Loc), MG D K s H1 locs1 w0 ad C (updA A k i.toNatClampNeg x) B → W p l e R s m args below meth c H1 locs1 cells slots Q (F0 m (pc + 1) ls rest)) : W p l e R s m args below meth c H locs cells slots Q (F0 m pc ls (.int x :: .int i :: .ref (ad k) :: rest)) := by
  obtain ⟨w, G, h, hF⟩ := G
  exact g_iast S M G (h.2.1 k hk) (h.2.2.2 k (Or.inr hk)) hin hdg fun H1 locs1 G1 => kk H1 locs1 ⟨_, G1, h.putA hk, hF.up (Or.inr hk)⟩
theorem m_recv (M : Amb D K s) (G : MG D K s H locs w0 ad C A B) : ∃ cell : Cell, H[ad 0]? = some cell ∧ cell.vm.isStatics = false ∧ s.vm.findClass RX3 = some cell.cls := by
  obtain ⟨w, G, h, -⟩ := G
  exact g_recv M G h.1 (q := (RX3, TX3, 24)) rfl
abbrev mPost (D : va_G) (K : Nat → Nat) (w0 : Gh) (ad : Nat → Nat) (r : Option Value) (C' : Nat → Int32) (A' : Nat → Nat → Int32) (B' : Nat → Int64) : Option Value → Gh → Prop := fun r' w' => r' = r ∧ MP D K w' ad C' A' B' ∧ MF ad w0 w'
abbrev mSp (α : Type) : Type := α × (Nat → Int32) × (Nat → Nat → Int32) × (Nat → Int64)
theorem m_iret (S : CallFix p m c cc nL s args lw_all RX3) (G : MG D K s H locs w0 ad C A B) (hr : meth.sig.returnType = some .int) (hlocks : meth.locks = false) {v : Int32} (hdg : decode cc pc = .ok (.ireturn, 1)) (hc : cells ≤ mc) (hs : slots ≤ ms) {sp : mSp Int32} (hsp : sp = (v, C, A, B)) : W p l e R s m args below meth c H locs cells slots (gE below D K (mPost D K w0 ad (some (.int sp.1)) sp.2.1 sp.2.2.1 sp.2.2.2) args s mc ms) (F0 m pc ls [.int v]) := by
  obtain ⟨w, G, h, hF⟩ := G
  exact g_iret S G hr hlocks hdg hc hs (by rw [hsp]; exact ⟨rfl, h, hF⟩)
theorem m_zret (S : CallFix p m c cc nL s args lw_all RX3) (G : MG D K s H locs w0 ad C A B) (hr : meth.sig.returnType = some .boolean) (hlocks : meth.locks = false) {v : Int32} (hv : v = 0 ∨ v = 1) (hdg : decode cc pc = .ok (.ireturn, 1)) (hc : cells ≤ mc) (hs : slots ≤ ms) {sp : mSp Int32} (hsp : sp = (v, C, A, B)) : W p l e R s m args below meth c H locs cells slots (gE below D K (mPost D K w0 ad (some (.int sp.1)) sp.2.1 sp.2.2.1 sp.2.2.2) args s mc ms) (F0 m pc ls [.int v]) := by
  obtain ⟨w, G, h, hF⟩ := G
  exact g_zret S G hr hlocks hv hdg hc hs (by rw [hsp]; exact ⟨rfl, h, hF⟩)
theorem m_lret (S : CallFix p m c cc nL s args lw_all RX3) (G : MG D K s H locs w0 ad C A B) (hr : meth.sig.returnType = some .long) (hlocks : meth.locks = false) {v : Int64} (hdg : decode cc pc = .ok (.lreturn, 1)) (hc : cells ≤ mc) (hs : slots ≤ ms) {sp : mSp Int64} (hsp : sp = (v, C, A, B)) : W p l e R s m args below meth c H locs cells slots (gE below D K (mPost D K w0 ad (some (.long sp.1)) sp.2.1 sp.2.2.1 sp.2.2.2) args s mc ms) (F0 m pc ls [.long v]) := by
  obtain ⟨w, G, h, hF⟩ := G
  exact g_lret S G hr hlocks hdg hc hs (by rw [hsp]; exact ⟨rfl, h, hF⟩)
theorem m_vret (S : CallFix p m c cc nL s args lw_all RX3) (G : MG D K s H locs w0 ad C A B) (hr : meth.sig.returnType = none) (hlocks : meth.locks = false) (hdg : decode cc pc = .ok (.return_, 1)) (hc : cells ≤ mc) (hs : slots ≤ ms) {sp : mSp Int32} (hsp : sp = (0, C, A, B)) : W p l e R s m args below meth c H locs cells slots (gE below D K (mPost D K w0 ad none sp.2.1 sp.2.2.1 sp.2.2.2) args s mc ms) (F0 m pc ls []) := by
  obtain ⟨w, G, h, hF⟩ := G
  exact g_vret S G hr hlocks hdg hc hs (by rw [hsp]; exact ⟨rfl, h, hF⟩)
/-- a static call that touches nothing -/
theorem m_callS {st0 : List Value} {y : MethodName} {bytes : ByteArray} {maxL index : Nat} {ret : Option FieldType} {rm : Room} {v : Value} (S : CallFix p m c cc nL s args lw_all RX3) (M : Amb D K s) (G : MG D K s H locs w0 ad C A B) (hl : ls.size = nL) (As rest : List Value) (hM : ∀ w, gMet l y (ws_ y bytes maxL ret) rm D K As w (fun r' w' => r' = some v ∧ w' = w)) (n : Nat)
    (hcode : Cond.code y bytes maxL ret ∈ lw_all) (hlink : Cond.methodLink RX3 index y ∈ lw_all) (hstat : Cond.static y ∈ lw_all) (hini : Cond.initialized y.cls ∈ lw_all) (hd : gNmn y n) (hn : As.length = n) (hR : gFit R rm maxL)
    (hst : st0 = As.reverse ++ rest) (hW : (rest.map fun v => v.category).sum ≤ 8) (hdg : decode cc pc = .ok (.invokestatic index, 3)) (hf : cells + rm.cells ≤ R.cells ∧ slots + rm.slots ≤ R.slots)
    (kk : ∀ (H1 : Heap) (locs1 : List Loc), MG D K s H1 locs1 w0 ad C A B → W p l e R s m args below meth c H1 locs1 (cells + rm.cells) (slots + rm.slots) Q (F0 m (pc + 3) ls (v :: rest))) : W p l e R s m args below meth c H locs cells slots Q (F0 m pc ls st0) := by
  obtain ⟨w, G, h, hF⟩ := G
  refine g_callS (ret := ret) S M G hl As rest (hM w) n hcode hlink hstat hini hd hn hR hst hW hdg hf fun r w' H1 locs1 hp G1 => ?_
  obtain ⟨rfl, rfl⟩ := hp
  exact kk H1 locs1 ⟨_, G1, h, hF⟩
/-- a call of the reference's own method -/
theorem m_callV {st0 : List Value} {y : MethodName} {bytes : ByteArray} {maxL index : Nat} {ret : Option FieldType} {rm : Room} {r : Option Value} {C' : Nat → Int32} {A' : Nat → Nat → Int32} {B' : Nat → Int64} (S : CallFix p m c cc nL s args lw_all RX3) (M : Amb D K s) (G : MG D K s H locs w0 ad C A B) (hl : ls.size = nL) (As rest : List Value) (hM : MMet l y (ws_ y bytes maxL ret) rm D K As ad C A B r C' A' B') (n : Nat)
    (hcode : Cond.code y bytes maxL ret ∈ lw_all) (hlink : Cond.methodLink RX3 index y ∈ lw_all) (hinst : Cond.instanceMethod y ∈ lw_all) (hsel : Cond.selects RX3 y y ∈ lw_all) (hini : Cond.initialized y.cls ∈ lw_all) (hd : gNmn y n) (hn : As.length = n) (hR : gFit R rm maxL)
    (hst : st0 = As.reverse ++ .ref (ad 0) :: rest) (hW : (rest.map fun v => v.category).sum ≤ 8) (hdg : decode cc pc = .ok (.invokevirtual index, 3)) (hf : cells + rm.cells ≤ R.cells ∧ slots + rm.slots ≤ R.slots)
    (kk : ∀ (H1 : Heap) (locs1 : List Loc), MG D K s H1 locs1 w0 ad C' A' B' → W p l e R s m args below meth c H1 locs1 (cells + rm.cells) (slots + rm.slots) Q (F0 m (pc + 3) ls (r.toList ++ rest))) : W p l e R s m args below meth c H locs cells slots Q (F0 m pc ls st0) := by
  have hrv := m_recv M G
  obtain ⟨w, G, h, hF⟩ := G
  refine g_callV (ret := ret) S M G hl As rest (hM w h) n hrv hcode hlink hinst hsel hini hd hn hR hst hW hdg hf fun r w' H1 locs1 hp G1 => ?_
  obtain ⟨rfl, hM', hF'⟩ := hp
  exact kk H1 locs1 ⟨_, G1, hM', hF.tr hF'⟩
end MD1
theorem updA_n {A : Nat → Nat → Int32} {k i j : Nat} {x : Int32} (h : j ≠ k) (t : Nat) : updA A k i x j t = A j t := congrFun (if_neg h) t
theorem mfs_C0 (ad : Nat → Nat) (C : Nat → Int32) (B : Nat → Int64) (x : Int32) : (mfs ad C B).set 0 (.int x) = mfs ad (upd C 0 x) B := rfl
theorem mfs_C10 (ad : Nat → Nat) (C : Nat → Int32) (B : Nat → Int64) (x : Int32) : (mfs ad C B).set 10 (.int x) = mfs ad (upd C 10 x) B := rfl
theorem mfs_C18 (ad : Nat → Nat) (C : Nat → Int32) (B : Nat → Int64) (x : Int32) : (mfs ad C B).set 18 (.int x) = mfs ad (upd C 18 x) B := rfl
theorem mfs_C19 (ad : Nat → Nat) (C : Nat → Int32) (B : Nat → Int64) (x : Int32) : (mfs ad C B).set 19 (.int x) = mfs ad (upd C 19 x) B := rfl
theorem mfs_C23 (ad : Nat → Nat) (C : Nat → Int32) (B : Nat → Int64) (x : Int32) : (mfs ad C B).set 23 (.int x) = mfs ad (upd C 23 x) B := rfl
theorem mfs_B20 (ad : Nat → Nat) (C : Nat → Int32) (B : Nat → Int64) (x : Int64) : (mfs ad C B).set 20 (.long x) = mfs ad C (vp_updL B 20 x) := rfl
theorem mfs_B21 (ad : Nat → Nat) (C : Nat → Int32) (B : Nat → Int64) (x : Int64) : (mfs ad C B).set 21 (.long x) = mfs ad C (vp_updL B 21 x) := rfl
theorem mfs_B22 (ad : Nat → Nat) (C : Nat → Int32) (B : Nat → Int64) (x : Int64) : (mfs ad C B).set 22 (.long x) = mfs ad C (vp_updL B 22 x) := rfl
