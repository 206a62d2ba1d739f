/-! GHOST WORLDS: the world of a method is a partial map from addresses to what the cells hold; only cells from K 0 on are ever written. -/
abbrev Gh : Type := Nat → Option va_E
def gu (w : Gh) (a : Nat) (e : va_E) : Gh := fun q => if q = a then some e else w q
theorem gu_s {w : Gh} {a : Nat} {e : va_E} : gu w a e a = some e := if_pos rfl
theorem gu_n {w : Gh} {a q : Nat} {e : va_E} (h : q ≠ a) : gu w a e q = w q := if_neg h
theorem gu_uu {w : Gh} {a : Nat} {e e2 : va_E} : gu (gu w a e) a e2 = gu w a e2 := by
  funext q
  by_cases h : q = a <;> simp [gu, h]
def gP (D : va_G) (cl : List vw_C) (w : Gh) (H : Heap) : Prop := ∀ (a : Nat) (e : va_E), w a = some e → va_at D cl (a, e) H
abbrev gA (K : Nat → Nat) : Nat → Prop := fun q => K 0 ≤ q
abbrev gcl : List vw_C := [(RX1, TX1, 12), (RX2, TX2, 3), (RX3, TX3, 24), (RX4, TX4, 14), (RX5, TX5, 2), (RX6, TX6, 3), (RJ2, TJ2, 3), (RJ5, TJ5, 12), (RJ22, TJ22, 6), (RJ25, TJ25, 2), (RJ27, TJ27, 5), (RJ29, TJ29, 4), (RJ20, TJ20, 1)]
abbrev gtys (D : va_G) : List (ClassId × FieldType) := [(D.1 100, .int), (D.1 101, .long), (D.1 102, .object "java/lang/Object"), (D.1 103, .object "java/util/HashMap$Node")]
def gS (D : va_G) (K : Nat → Nat) (w : Gh) (s : State) (H : Heap) (locs : List Loc) : Prop := gP D gcl w H ∧ va_S (gA K) s.heap H locs ∧ K 0 ≤ s.heap.size
theorem gP.lt {D : va_G} {cl : List vw_C} {w : Gh} {H : Heap} (h : gP D cl w H) {a : Nat} {e : va_E} (ha : w a = some e) : a < H.size := (h a e ha).lt
theorem gP.one {D : va_G} {cl : List vw_C} {w : Gh} {H : Heap} (h : gP D cl w H) {a : Nat} {e : va_E} (ha : w a = some e) : va_P D cl [(a, e)] H := by
  intro k q hk
  have hz : k < 1 := (List.getElem?_eq_some_iff.mp hk).1
  rw [show k = 0 by omega] at hk
  cases hk
  exact h a e ha
theorem gS.one {D : va_G} {K : Nat → Nat} {w : Gh} {s : State} {H : Heap} {locs : List Loc} (G : gS D K w s H locs) {a : Nat} {e : va_E} (ha : w a = some e) : va_P D gcl [(a, e)] H := G.1.one ha
theorem gS.fresh {D : va_G} {K : Nat → Nat} {w : Gh} {s : State} {H : Heap} {locs : List Loc} (G : gS D K w s H locs) : w H.size = none := by
  cases h : w H.size with
  | none => rfl
  | some e => exact absurd (G.1.lt h) (Nat.lt_irrefl _)
theorem gS.put {D : va_G} {K : Nat → Nat} {w : Gh} {s : State} {H H1 : Heap} {locs : List Loc} (G : gS D K w s H locs) {a : Nat} {e : va_E} (k : Nat) (hb : K 0 ≤ a) (he : va_at D gcl (a, e) H1) (z : H1.size = H.size) (oq : ∀ q : Nat, q ≠ a → H1[q]? = H[q]?) : gS D K (gu w a e) s H1 (locs ++ [⟨a, k⟩]) := by
  refine ⟨fun q x hx => ?_, G.2.1.put z oq hb, G.2.2⟩
  by_cases h : q = a
  · subst h
    rw [gu_s] at hx
    cases hx
    exact he
  · rw [gu_n h] at hx
    exact (G.1 q x hx).kept (oq q h)
theorem gS.push {D : va_G} {K : Nat → Nat} {w : Gh} {s : State} {H H1 : Heap} {locs : List Loc} (G : gS D K w s H locs) {e : va_E} (he : va_at D gcl (H.size, e) H1) (z : H1.size = H.size + 1) (oq : ∀ q : Nat, q < H.size → H1[q]? = H[q]?) : gS D K (gu w H.size e) s H1 locs := by
  refine ⟨fun q x hx => ?_, ⟨Nat.le_trans G.2.1.1 (by omega), fun q h1 h2 => (oq q (Nat.lt_of_lt_of_le h1 G.2.1.1)).trans (G.2.1.2.1 q h1 h2), G.2.1.2.2⟩, G.2.2⟩
  by_cases h : q = H.size
  · subst h
    rw [gu_s] at hx
    cases hx
    exact he
  · rw [gu_n h] at hx
    exact (G.1 q x hx).kept (oq q (G.1.lt hx))
/-- fewer cells are spoken of -/
theorem gS.le {D : va_G} {K : Nat → Nat} {w w' : Gh} {s : State} {H : Heap} {locs : List Loc} (G : gS D K w s H locs) (h : ∀ a e, w' a = some e → w a = some e) : gS D K w' s H locs := ⟨fun a e ha => G.1 a e (h a e ha), G.2⟩
/-! ## what holds all through the run: tables, statics that nobody writes -/
def spOK : Cond → Bool
  | .fieldLinkNest .. => true
  | .castable .. => true
  | .declares .. => true
  | .arrayOver (.object _) => true
  | _ => false
theorem spOK_warm {w : Cond} (hw : spOK w = true) {s U : State} (hW : s.WarmedH U.vm) (h : va_Nw w s) : va_Nw w U := by
  cases w with
  | fieldLinkNest a i b n d hh => exact va_Nw.warmF hW h
  | castable C T => exact va_Nw.warmC hW h
  | declares x => exact va_Nw.warmD hW h
  | arrayOver t =>
    cases t with
    | object C => exact va_AO.moved hW.alike h
    | _ => cases hw
  | _ => cases hw
abbrev gNm (x : MethodName) : Prop := x.cls ≠ "java/lang/invoke/MethodHandle" ∧ x.cls ≠ "java/lang/invoke/VarHandle"
abbrev spF (C : String) (x y : MethodName) : Prop := gNm x ∧ Cond.declares x ∈ lw_tbl ∧ Cond.interfaceMethod x.cls x.cls x.name x.desc ∈ lw_tbl ∧ Cond.publicMethod y ∈ lw_tbl ∧ Cond.unhidden C x.name x.desc ∈ lw_tbl ∧ Cond.castable C x.cls ∈ lw_tbl
abbrev spN : List (String × String) := [("java/util/LinkedHashMap$Entry", "java/util/HashMap$TreeNode"), ("java/lang/IllegalArgumentException", "java/lang/IndexOutOfBoundsException"), ("java/lang/IllegalStateException", "java/lang/IndexOutOfBoundsException"), ("java/lang/IllegalStateException", "java/lang/IllegalArgumentException")]
def Amb (D : va_G) (K : Nat → Nat) (U : State) : Prop :=
  (va_K D gcl (gtys D) U ∧ K 0 ≤ U.heap.size ∧ (∀ w, w ∈ lw_tbl → spOK w = true → va_Nw w U) ∧ (∀ (C : String) (x y : MethodName), spF C x y → va_Fw C x y U) ∧ (∀ q ∈ spN, va_Nc q.1 q.2 U) ∧ va_Mi "[Ljava/lang/Object;" (K 3) U ∧ va_Dc U) ∧
  va_Z "java/util/ArrayList" "DEFAULTCAPACITY_EMPTY_ELEMENTDATA" "[Ljava/lang/Object;" (.ref (K 1)) (gA K) U U.heap ∧
  va_T (.object "java/lang/Object") (K 1) 0 (fun _ => .null) (gA K) U U.heap ∧
  va_Z "java/lang/Integer$IntegerCache" "high" "I" (.int 127) (gA K) U U.heap ∧
  va_Z "java/lang/Integer$IntegerCache" "cache" "[Ljava/lang/Integer;" (.ref (K 2)) (gA K) U U.heap ∧
  va_T (.object "java/lang/Integer") (K 2) 256 (fun i => .ref (K (10 + i))) (gA K) U U.heap ∧
  vb_C (fun i => K (10 + i)) (gA K) U U.heap ∧
  vx_Zq Bundle.tN "UNASSIGNED_STACK" Bundle.steD (gA K) U U.heap ∧ vx_Zq Bundle.tN "SUPPRESSED_SENTINEL" Bundle.listD (gA K) U U.heap
theorem Amb.next {D : va_G} {K : Nat → Nat} {s U : State} (hW : s.WarmedH U.vm) (hz : s.heap.size ≤ U.heap.size) (hq : ∀ q : Nat, q < s.heap.size → ¬ gA K q → U.heap[q]? = s.heap[q]?) (h : Amb D K s) : Amb D K U := by
  obtain ⟨⟨a1, a2, a3, a4, a5, a6, a7⟩, b1, b2, b3, b4, b5, b6, b7, b8⟩ := h
  have hA := hW.alike
  refine ⟨⟨va_K.moved hA a1, Nat.le_trans a2 hz, fun w h1 h2 => spOK_warm h2 hW (a3 w h1 h2), fun C x y h => va_Fw.moved h.1 hA (a4 C x y h), fun q h => va_Nc.moved hA (a5 q h), ?_, va_Dc.moved hA a7⟩, ?_⟩
  · exact va_Mi.moved hA a6
  · exact ⟨va_Z.moved hA (b1.kept hq), va_T.moved hA (b2.kept hq), va_Z.moved hA (b3.kept hq), va_Z.moved hA (b4.kept hq), va_T.moved hA (b5.kept hq), vb_C.moved hA (b6.kept hq), vx_Zq.moved hA (b7.kept hq), vx_Zq.moved hA (b8.kept hq)⟩
/-! ## contracts -/
def gQ (D : va_G) (K : Nat → Nat) (post : Option Value → Gh → Prop) : Array Value → State → Outcome → State → Prop := fun _ st oc t => ∃ (r : Option Value) (w' : Gh), oc = .returned r ∧ post r w' ∧ gP D gcl w' t.heap ∧ va_F (gA K) st t
def gPre (D : va_G) (K : Nat → Nat) (av : List Value) (w : Gh) : Array Value → State → Prop := va_Pc av (fun U => Amb D K U ∧ gP D gcl w U.heap)
/-- a contract: called with av in the world w, the method returns r, the world is then w', and post r w' -/
def gMet (l : Launch) (y : MethodName) (ws : List Cond) (rm : Room) (D : va_G) (K : Nat → Nat) (av : List Value) (w : Gh) (post : Option Value → Gh → Prop) : Prop := Met l y ws rm (gPre D K av w) (gQ D K post) rm.cells rm.slots (gA K)
def gX (D : va_G) (K : Nat → Nat) (w : Gh) (px : String → Prop) : String → State → State → Prop := fun E st t => px E ∧ gP D gcl w t.heap ∧ va_F (gA K) st t
/-- .. or throws one of the exceptions px, the world unchanged -/
def gXet (l : Launch) (y : MethodName) (ws : List Cond) (rm : Room) (D : va_G) (K : Nat → Nat) (av : List Value) (w : Gh) (post : Option Value → Gh → Prop) (px : String → Prop) : Prop := vx_Met l y ws rm (gPre D K av w) (gQ D K post) (gX D K w px) rm.cells rm.slots (gA K)
theorem Amb.vm {D : va_G} {K : Nat → Nat} {u U : State} (hv : U.vm = u.vm) (hh : U.heap = u.heap) (h : Amb D K u) : Amb D K U := by
  refine Amb.next (s := u) (U := U) (by rw [hv]; exact State.WarmedH.refl u) (by rw [hh]; exact Nat.le_refl _) (fun q _ _ => by rw [hh]) h
theorem gPre.blind {D : va_G} {K : Nat → Nat} {av : List Value} {w : Gh} : FrameBlind (gPre D K av w) := by
  intro a U g mk h
  obtain ⟨h1, h2, h3⟩ := h
  exact ⟨h1, Amb.vm (u := U) (U := U.calling g mk a) rfl rfl h2, h3⟩
abbrev gE (below : List Frame) (D : va_G) (K : Nat → Nat) (post : Option Value → Gh → Prop) (args : Array Value) (s : State) (mc ms : Nat) : State → Prop := MQ below (gQ D K post) args s mc ms (gA K)
abbrev gXE (below : List Frame) (D : va_G) (K : Nat → Nat) (w : Gh) (post : Option Value → Gh → Prop) (px : String → Prop) (args : Array Value) (s : State) (mc ms : Nat) : State → Prop := vx_MQ below (gQ D K post) (gX D K w px) args s mc ms (gA K)
theorem gMet.of {l : Launch} {y : MethodName} {cc : ByteArray} {maxL : Nat} {ret : Option FieldType} {rm : Room} {D : va_G} {K : Nat → Nat} {av : List Value} {w : Gh} {post : Option Value → Gh → Prop} (hy : plainName y.cls = true) (hlen : (lg_sl av).length ≤ maxL)
    (body : ∀ (p : Program) (e : Env) (s : State) (m : MethodId) (args : Array Value) (below : List Frame) (meth : Method) (c : Code) (H : Heap) (locs : List Loc) (ls : Array Slot), CallFix p m c cc maxL s args lw_all y.cls → Amb D K s → meth.sig.returnType = ret → meth.locks = false → meth.name = y.name → gS D K w s H locs → lv_has ls maxL (lv_args 0 av) →
      W p l e rm s m args below meth c H locs 0 0 (gE below D K post args s rm.cells rm.slots) (F0 m 0 ls [])) : gMet l y (ws_ y cc maxL ret) rm D K av w post := by
  refine Met.ofW (cc := cc) (maxL := maxL) (ret := ret) hy rfl ?_
  intro p e s m args below meth c s₁ B hml hv
  obtain ⟨rfl, hM, hG⟩ := hv
  have hts := atoms_spec (ws := ws_ y cc maxL ret) B.pre
  have hts : ∀ w ∈ lw_all, w.before _ s = true := fun w h => hts w (List.mem_cons_of_mem _ h)
  have hown : s.vm.findClass y.cls = some m.cls := findClass_of_methodNamed B.named
  rw [lg_entry_eq]
  exact body p e s m av.toArray below meth c s.heap [] _ ⟨B.exec, B.bytes, hml, hown, hts⟩ hM B.returns B.notSynchronized (name_of_methodNamed B.named B.method).1 ⟨hG, va_S.rf, hM.1.2.1⟩ (lv_entry av hlen)
theorem gXet.of {l : Launch} {y : MethodName} {cc : ByteArray} {maxL : Nat} {ret : Option FieldType} {rm : Room} {D : va_G} {K : Nat → Nat} {av : List Value} {w : Gh} {post : Option Value → Gh → Prop} {px : String → Prop} (hy : plainName y.cls = true) (hlen : (lg_sl av).length ≤ maxL)
    (body : ∀ (p : Program) (e : Env) (s : State) (m : MethodId) (args : Array Value) (below : List Frame) (meth : Method) (c : Code) (H : Heap) (locs : List Loc) (ls : Array Slot), CallFix p m c cc maxL s args lw_all y.cls → Amb D K s → meth.sig.returnType = ret → meth.locks = false → (∀ x ∈ c.exceptionTable.toList, False) → gS D K w s H locs → lv_has ls maxL (lv_args 0 av) →
      W p l e rm s m args below meth c H locs 0 0 (gXE below D K w post px args s rm.cells rm.slots) (F0 m 0 ls [])) : gXet l y (ws_ y cc maxL ret) rm D K av w post px := by
  refine vx_ofW (cc := cc) (maxL := maxL) (ret := ret) hy rfl ?_
  intro p e s m args below meth c s₁ B hml htab hv
  obtain ⟨rfl, hM, hG⟩ := hv
  have hts := atoms_spec (ws := ws_ y cc maxL ret) B.pre
  have hts : ∀ w ∈ lw_all, w.before _ s = true := fun w h => hts w (List.mem_cons_of_mem _ h)
  have hown : s.vm.findClass y.cls = some m.cls := findClass_of_methodNamed B.named
  rw [lg_entry_eq]
  exact body p e s m av.toArray below meth c s.heap [] _ ⟨B.exec, B.bytes, hml, hown, hts⟩ hM B.returns B.notSynchronized htab ⟨hG, va_S.rf, hM.1.2.1⟩ (lv_entry av hlen)
section GH1
variable {p : Program} {l : Launch} {e : Env} {R : Room} {s : State} {m : MethodId} {args : Array Value} {below : List Frame} {meth : Method} {c : Code} {H : Heap} {locs : List Loc} {cells slots : Nat} {Q : State → Prop}
variable {cc : ByteArray} {pc nL : Nat} {ls : Array Slot} {rest : List Value} {D : va_G} {K : Nat → Nat} {a : Nat} {w : Gh} {own : String}
/-! ## ends -/
variable {post : Option Value → Gh → Prop} {px : String → Prop} {w0 : Gh} {mc ms : Nat}
theorem gQ_ret {r : Option Value} (G : gS D K w s H locs) (hp : post r w) : ∀ t : State, t.heap = H → s.WarmedH t.vm → gQ D K post args s (.returned r) t := fun t ht _ => ⟨r, w, rfl, hp, by rw [ht]; exact G.1, G.2.1.F ht⟩
theorem g_iret (S : CallFix p m c cc nL s args lw_all own) (G : gS D K w s H locs) (hr : meth.sig.returnType = some .int) (hlocks : meth.locks = false) {v : Int32} (hdg : decode cc pc = .ok (.ireturn, 1)) (hc : cells ≤ mc) (hs : slots ≤ ms) (hp : post (some (.int v)) w) : W p l e R s m args below meth c H locs cells slots (gE below D K post args s mc ms) (F0 m pc ls [.int v]) :=
  W.widen hc hs (W.iret S.1 S.2.1 hr (gQ_ret G hp) G.2.1.2.2 hdg hlocks)
theorem g_zret (S : CallFix p m c cc nL s args lw_all own) (G : gS D K w s H locs) (hr : meth.sig.returnType = some .boolean) (hlocks : meth.locks = false) {v : Int32} (hv : v = 0 ∨ v = 1) (hdg : decode cc pc = .ok (.ireturn, 1)) (hc : cells ≤ mc) (hs : slots ≤ ms) (hp : post (some (.int v)) w) : W p l e R s m args below meth c H locs cells slots (gE below D K post args s mc ms) (F0 m pc ls [.int v]) := by
  refine W.widen hc hs (W.zret S.1 S.2.1 hr ?_ (gQ_ret G hp) G.2.1.2.2 hdg hlocks)
  rcases hv with rfl | rfl <;> rfl
theorem g_lret (S : CallFix p m c cc nL s args lw_all own) (G : gS D K w s H locs) (hr : meth.sig.returnType = some .long) (hlocks : meth.locks = false) {v : Int64} (hdg : decode cc pc = .ok (.lreturn, 1)) (hc : cells ≤ mc) (hs : slots ≤ ms) (hp : post (some (.long v)) w) : W p l e R s m args below meth c H locs cells slots (gE below D K post args s mc ms) (F0 m pc ls [.long v]) :=
  W.widen hc hs (W.lret S.1 S.2.1 hr (gQ_ret G hp) G.2.1.2.2 hdg hlocks)
theorem g_vret (S : CallFix p m c cc nL s args lw_all own) (G : gS D K w s H locs) (hr : meth.sig.returnType = none) (hlocks : meth.locks = false) (hdg : decode cc pc = .ok (.return_, 1)) (hc : cells ≤ mc) (hs : slots ≤ ms) (hp : post none w) : W p l e R s m args below meth c H locs cells slots (gE below D K post args s mc ms) (F0 m pc ls []) :=
  W.widen hc hs (W.vret S.1 S.2.1 hr (gQ_ret G hp) G.2.1.2.2 hdg hlocks)
theorem g_aret (S : CallFix p m c cc nL s args lw_all own) (G : gS D K w s H locs) {rt : FieldType} (hr : meth.sig.returnType = some rt) (hrt : (∃ n, rt = .object n) ∨ ∃ t, rt = .array t) (hlocks : meth.locks = false) {r : Option Nat} (hdg : decode cc pc = .ok (.areturn, 1)) (hc : cells ≤ mc) (hs : slots ≤ ms) (hp : post (some (va_rf r)) w) : W p l e R s m args below meth c H locs cells slots (gE below D K post args s mc ms) (F0 m pc ls [va_rf r]) :=
  W.widen hc hs (W.aret S.1 S.2.1 hr hrt (by cases r with | none => exact Or.inl rfl | some x => exact Or.inr ⟨x, rfl⟩) (gQ_ret G hp) G.2.1.2.2 hdg hlocks)
theorem gx_iret (S : CallFix p m c cc nL s args lw_all own) (G : gS D K w s H locs) (hr : meth.sig.returnType = some .int) (hlocks : meth.locks = false) {v : Int32} (hdg : decode cc pc = .ok (.ireturn, 1)) (hc : cells ≤ mc) (hs : slots ≤ ms) (hp : post (some (.int v)) w) : W p l e R s m args below meth c H locs cells slots (gXE below D K w0 post px args s mc ms) (F0 m pc ls [.int v]) := vx_ret (g_iret S G hr hlocks hdg hc hs hp)
theorem gx_zret (S : CallFix p m c cc nL s args lw_all own) (G : gS D K w s H locs) (hr : meth.sig.returnType = some .boolean) (hlocks : meth.locks = false) {v : Int32} (hv : v = 0 ∨ v = 1) (hdg : decode cc pc = .ok (.ireturn, 1)) (hc : cells ≤ mc) (hs : slots ≤ ms) (hp : post (some (.int v)) w) : W p l e R s m args below meth c H locs cells slots (gXE below D K w0 post px args s mc ms) (F0 m pc ls [.int v]) := vx_ret (g_zret S G hr hlocks hv hdg hc hs hp)
theorem gx_lret (S : CallFix p m c cc nL s args lw_all own) (G : gS D K w s H locs) (hr : meth.sig.returnType = some .long) (hlocks : meth.locks = false) {v : Int64} (hdg : decode cc pc = .ok (.lreturn, 1)) (hc : cells ≤ mc) (hs : slots ≤ ms) (hp : post (some (.long v)) w) : W p l e R s m args below meth c H locs cells slots (gXE below D K w0 post px args s mc ms) (F0 m pc ls [.long v]) := vx_ret (g_lret S G hr hlocks hdg hc hs hp)
theorem gx_vret (S : CallFix p m c cc nL s args lw_all own) (G : gS D K w s H locs) (hr : meth.sig.returnType = none) (hlocks : meth.locks = false) (hdg : decode cc pc = .ok (.return_, 1)) (hc : cells ≤ mc) (hs : slots ≤ ms) (hp : post none w) : W p l e R s m args below meth c H locs cells slots (gXE below D K w0 post px args s mc ms) (F0 m pc ls []) := vx_ret (g_vret S G hr hlocks hdg hc hs hp)
theorem gx_aret (S : CallFix p m c cc nL s args lw_all own) (G : gS D K w s H locs) {rt : FieldType} (hr : meth.sig.returnType = some rt) (hrt : (∃ n, rt = .object n) ∨ ∃ t, rt = .array t) (hlocks : meth.locks = false) {r : Option Nat} (hdg : decode cc pc = .ok (.areturn, 1)) (hc : cells ≤ mc) (hs : slots ≤ ms) (hp : post (some (va_rf r)) w) : W p l e R s m args below meth c H locs cells slots (gXE below D K w0 post px args s mc ms) (F0 m pc ls [va_rf r]) := vx_ret (g_aret S G hr hrt hlocks hdg hc hs hp)
/-! ## references that may be null -/
theorem isRef_rf (r : Option Nat) : (va_rf r).isRef = true := by cases r <;> rfl
theorem cat_rf (r : Option Nat) : (va_rf r).category = 1 := by cases r <;> rfl
theorem gv_aload_n (S : CallFix p m c cc nL s args lw_all own) {k : Fin 4} {i : Nat} {r : Option Nat} (hdg : decode cc pc = .ok (.aload_n k, 1)) (hi : (k : Nat) = i) (hl : ls[i]? = some (.val (va_rf r)))
    (k : W p l e R s m args below meth c H locs cells slots Q (F0 m (pc + 1) ls (va_rf r :: rest))) : W p l e R s m args below meth c H locs cells slots Q (F0 m pc ls rest) := by
  cases r with
  | none => exact lv_aload_nN S.1 S.2.1 hdg hi hl k
  | some x => exact lv_aload_n S.1 S.2.1 hdg hi hl k
theorem gv_aload (S : CallFix p m c cc nL s args lw_all own) {i : Nat} {r : Option Nat} (hdg : decode cc pc = .ok (.aload i, 2)) (hl : ls[i]? = some (.val (va_rf r)))
    (k : W p l e R s m args below meth c H locs cells slots Q (F0 m (pc + 2) ls (va_rf r :: rest))) : W p l e R s m args below meth c H locs cells slots Q (F0 m pc ls rest) := by
  cases r with
  | none => exact lv_aloadN S.1 S.2.1 hdg hl k
  | some x => exact lv_aload S.1 S.2.1 hdg hl k
theorem gv_astore_n (S : CallFix p m c cc nL s args lw_all own) {k : Fin 4} {i nL2 : Nat} {r : Option Nat} {lv lv' : List (Nat × Value)} (hdg : decode cc pc = .ok (.astore_n k, 1)) (hi : (k : Nat) = i) (h : lv_has ls nL2 lv) (hn : i < nL2) (hl : (i, va_rf r) :: lv.filter (fun q => !(q.1 == i) && !(q.1 + 1 == i && q.2.category == 2)) = lv')
    (kk : ∀ ls' : Array Slot, lv_has ls' nL2 lv' → W p l e R s m args below meth c H locs cells slots Q (F0 m (pc + 1) ls' rest)) : W p l e R s m args below meth c H locs cells slots Q (F0 m pc ls (va_rf r :: rest)) := by
  cases r with
  | none => exact lv_astore_nN S.1 S.2.1 hdg hi h hn hl kk
  | some x => exact lv_astore_n S.1 S.2.1 hdg hi h hn hl kk
theorem gv_astore (S : CallFix p m c cc nL s args lw_all own) {i nL2 : Nat} {r : Option Nat} {lv lv' : List (Nat × Value)} (hdg : decode cc pc = .ok (.astore i, 2)) (h : lv_has ls nL2 lv) (hn : i < nL2) (hl : (i, va_rf r) :: lv.filter (fun q => !(q.1 == i) && !(q.1 + 1 == i && q.2.category == 2)) = lv')
    (kk : ∀ ls' : Array Slot, lv_has ls' nL2 lv' → W p l e R s m args below meth c H locs cells slots Q (F0 m (pc + 2) ls' rest)) : W p l e R s m args below meth c H locs cells slots Q (F0 m pc ls (va_rf r :: rest)) := by
  cases r with
  | none => exact lv_astoreN S.1 S.2.1 hdg h hn hl kk
  | some x => exact lv_astore S.1 S.2.1 hdg h hn hl kk
theorem gv_ifnull (S : CallFix p m c cc nL s args lw_all own) {r : Option Nat} {off : Int} {tgt : Nat} (hdg : decode cc pc = .ok (.ifnull off, 3)) (ht : (pc : Int) + off = (tgt : Int))
    (kn : r = none → W p l e R s m args below meth c H locs cells slots Q (F0 m tgt ls rest)) (ks : ∀ x : Nat, r = some x → W p l e R s m args below meth c H locs cells slots Q (F0 m (pc + 3) ls rest)) : W p l e R s m args below meth c H locs cells slots Q (F0 m pc ls (va_rf r :: rest)) := by
  cases r with
  | none => exact lv_ifnullN S.1 S.2.1 hdg ht (kn rfl)
  | some x => exact lv_ifnull S.1 S.2.1 hdg (ks x rfl)
theorem gv_ifnonnull (S : CallFix p m c cc nL s args lw_all own) {r : Option Nat} {off : Int} {tgt : Nat} (hdg : decode cc pc = .ok (.ifnonnull off, 3)) (ht : (pc : Int) + off = (tgt : Int))
    (ks : ∀ x : Nat, r = some x → W p l e R s m args below meth c H locs cells slots Q (F0 m tgt ls rest)) (kn : r = none → W p l e R s m args below meth c H locs cells slots Q (F0 m (pc + 3) ls rest)) : W p l e R s m args below meth c H locs cells slots Q (F0 m pc ls (va_rf r :: rest)) := by
  cases r with
  | none => exact lv_ifnonnullN S.1 S.2.1 hdg (kn rfl)
  | some x => exact lv_ifnonnull S.1 S.2.1 hdg ht (ks x rfl)
/-! ## fields -/
theorem g_get (S : CallFix p m c cc nL s args lw_all own) (M : Amb D K s) (G : gS D K w s H locs) {ref C : String} {T : u_T} {N ci index : Nat} (hin : ∀ w ∈ u_ws C T N, w ∈ lw_all) {fs : List Value} (ha : w a = some (.inr (ci, fs))) (hc : gcl[ci]? = some (C, T, N)) (k : Nat) (hk : k < N) (hlink : Cond.fieldLink own index ref (T k).2.1 (T k).2.2.1 ∈ lw_all) (hsame : (T k).1 = ref ∨ Cond.sameField ref (T k).1 (T k).2.1 (T k).2.2.1 ∈ lw_all) {v : Value} (hv : fs[k]? = some v) (hdg : decode cc pc = .ok (.getfield index, 3))
    (kk : W p l e R s m args below meth c H locs cells slots Q (F0 m (pc + 3) ls (v :: rest))) : W p l e R s m args below meth c H locs cells slots Q (F0 m pc ls (.ref a :: rest)) :=
  va_get S.1 S.2.1 S.2.2.2.2 hin S.2.2.2.1 M.1.1 (G.one ha) 0 rfl hc k hk (S.2.2.2.2 _ hlink) (fun x hx => by
    rcases hsame with e | e
    · rw [← e]; exact hx
    · exact u_same (S.2.2.2.2 _ e) x hx) hv hdg kk
theorem g_getN (S : CallFix p m c cc nL s args lw_all own) (M : Amb D K s) (G : gS D K w s H locs) {ref C host : String} {T : u_T} {N ci index : Nat} (hin : ∀ w ∈ u_ws C T N, w ∈ lw_all) {fs : List Value} (ha : w a = some (.inr (ci, fs))) (hc : gcl[ci]? = some (C, T, N)) (k : Nat) (hk : k < N) (hlink : Cond.fieldLinkNest own index ref (T k).2.1 (T k).2.2.1 host ∈ lw_tbl) (hsame : (T k).1 = ref) {v : Value} (hv : fs[k]? = some v) (hdg : decode cc pc = .ok (.getfield index, 3))
    (kk : W p l e R s m args below meth c H locs cells slots Q (F0 m (pc + 3) ls (v :: rest))) : W p l e R s m args below meth c H locs cells slots Q (F0 m pc ls (.ref a :: rest)) :=
  va_getN S.1 S.2.1 S.2.2.2.2 hin S.2.2.2.1 M.1.1 (G.one ha) 0 rfl hc k hk (va_Nw.use rfl (M.1.2.2.1 _ hlink rfl)) (fun x hx => by rw [← hsame]; exact hx) hv hdg kk
theorem g_put (S : CallFix p m c cc nL s args lw_all own) (M : Amb D K s) (G : gS D K w s H locs) {ref C : String} {T : u_T} {N ci index : Nat} (hin : ∀ w ∈ u_ws C T N, w ∈ lw_all) (ty0 : Nat → FieldType) (hty : ∀ k, k < N → parseFieldDescriptor (T k).2.2.1 = some (ty0 k)) (hnm : ∀ a, a < N → ∀ b, b < N → a ≠ b → (T a).2.1 ≠ (T b).2.1) {fs : List Value} (ha : w a = some (.inr (ci, fs))) (hba : K 0 ≤ a) (hc : gcl[ci]? = some (C, T, N)) (k : Nat) (hk : k < N) (hlink : Cond.fieldLink own index ref (T k).2.1 (T k).2.2.1 ∈ lw_all) (hsame : (T k).1 = ref ∨ Cond.sameField ref (T k).1 (T k).2.1 (T k).2.2.1 ∈ lw_all) (hfin : (T k).2.2.2 = false) {v : Value} (hn : narrow (ty0 k) v = v) (hfit : fits (ty0 k) v = true) (hl : k < fs.length)
    (hdg : decode cc pc = .ok (.putfield index, 3)) (kk : ∀ (H1 : Heap) (locs1 : List Loc), gS D K (gu w a (.inr (ci, fs.set k v))) s H1 locs1 → W p l e R s m args below meth c H1 locs1 cells slots Q (F0 m (pc + 3) ls rest)) : W p l e R s m args below meth c H locs cells slots Q (F0 m pc ls (v :: .ref a :: rest)) := by
  have hap := va_apart (own := own) S.2.2.2.2 hin ty0 hty hnm M.1.1 hc
  obtain ⟨r, h1, cell, q1, q2, q3, q4⟩ := G.1 a _ ha
  have hr : r = (C, T, N) := Option.some.inj (h1.symm.trans hc)
  subst hr
  obtain ⟨hS, hfc, kC, hkC, hkind⟩ := M.1.1.1 ci _ hc
  obtain ⟨cf, kf, fi, f, hi, hsl⟩ := hS k hk
  have hi' : s.fieldFound? ref (T k).2.1 (T k).2.2.1 = some (cf, kf, fi, f) := by
    rcases hsame with e | e
    · rw [← e]; exact hi
    · exact u_same (S.2.2.2.2 _ e) _ hi
  have hlay := S.2.2.2.2 _ (hin _ (u_in_lay hk))
  unfold u_lay at hlay
  rw [if_neg (by rw [hfin]; decide)] at hlay
  have hst := (u_facts hfc hkC (u_lays S.2.2.2.2 hin hk) hi).1
  have h6 := u_store hfc hkC hkind hlay hi (hty k hk) hn hfit
  refine W.putK S.1 S.2.1 (f := f) ⟨S.2.2.2.1, S.2.2.2.2 _ hlink, ⟨_, _, _, hi'⟩, hst⟩ (by rw [q2]; exact h6) q1 q3 (by rw [hsl]; exact k2_hasslot (q4 k hk)) rfl rfl hdg fun H' e1 e2 e3 => ?_
  rw [hsl] at e1 ⊢
  exact kk H' _ (G.put _ hba ⟨_, hc, t_OB.to (V := updV (vp_V fs) k v) ⟨_, e1, q2, q3, t_set q4 hap hk v⟩ (fun j _ => vp_updV_set hl v j)⟩ e2 e3)
theorem g_putN (S : CallFix p m c cc nL s args lw_all own) (M : Amb D K s) (G : gS D K w s H locs) {ref C host : String} {T : u_T} {N ci index : Nat} (hin : ∀ w ∈ u_ws C T N, w ∈ lw_all) (ty0 : Nat → FieldType) (hty : ∀ k, k < N → parseFieldDescriptor (T k).2.2.1 = some (ty0 k)) (hnm : ∀ a, a < N → ∀ b, b < N → a ≠ b → (T a).2.1 ≠ (T b).2.1) {fs : List Value} (ha : w a = some (.inr (ci, fs))) (hba : K 0 ≤ a) (hc : gcl[ci]? = some (C, T, N)) (k : Nat) (hk : k < N) (hlink : Cond.fieldLinkNest own index ref (T k).2.1 (T k).2.2.1 host ∈ lw_tbl) (hsame : (T k).1 = ref) (hfin : (T k).2.2.2 = false) {v : Value} (hn : narrow (ty0 k) v = v) (hfit : fits (ty0 k) v = true) (hl : k < fs.length)
    (hdg : decode cc pc = .ok (.putfield index, 3)) (kk : ∀ (H1 : Heap) (locs1 : List Loc), gS D K (gu w a (.inr (ci, fs.set k v))) s H1 locs1 → W p l e R s m args below meth c H1 locs1 cells slots Q (F0 m (pc + 3) ls rest)) : W p l e R s m args below meth c H locs cells slots Q (F0 m pc ls (v :: .ref a :: rest)) := by
  have hap := va_apart (own := own) S.2.2.2.2 hin ty0 hty hnm M.1.1 hc
  obtain ⟨r, h1, cell, q1, q2, q3, q4⟩ := G.1 a _ ha
  have hr : r = (C, T, N) := Option.some.inj (h1.symm.trans hc)
  subst hr
  obtain ⟨hS, hfc, kC, hkC, hkind⟩ := M.1.1.1 ci _ hc
  obtain ⟨cf, kf, fi, f, hi, hsl⟩ := hS k hk
  have hi' : s.fieldFound? ref (T k).2.1 (T k).2.2.1 = some (cf, kf, fi, f) := by rw [← hsame]; exact hi
  have hlay := S.2.2.2.2 _ (hin _ (u_in_lay hk))
  unfold u_lay at hlay
  rw [if_neg (by rw [hfin]; decide)] at hlay
  have hst := (u_facts hfc hkC (u_lays S.2.2.2.2 hin hk) hi).1
  have h6 := u_store hfc hkC hkind hlay hi (hty k hk) hn hfit
  refine va_WputK S.1 S.2.1 (f := f) S.2.2.2.1 (va_Nw.use rfl (M.1.2.2.1 _ hlink rfl)) hi' hst (by rw [q2]; exact h6) q1 q3 (by rw [hsl]; exact k2_hasslot (q4 k hk)) rfl rfl hdg fun H' e1 e2 e3 => ?_
  rw [hsl] at e1 ⊢
  exact kk H' _ (G.put _ hba ⟨_, hc, t_OB.to (V := updV (vp_V fs) k v) ⟨_, e1, q2, q3, t_set q4 hap hk v⟩ (fun j _ => vp_updV_set hl v j)⟩ e2 e3)
theorem g_putF (S : CallFix p m c cc nL s args lw_all own) (M : Amb D K s) (G : gS D K w s H locs) {ref C : String} {T : u_T} {N ci index : Nat} (hin : ∀ w ∈ u_ws C T N, w ∈ lw_all) (ty0 : Nat → FieldType) (hty : ∀ k, k < N → parseFieldDescriptor (T k).2.2.1 = some (ty0 k)) (hnm : ∀ a, a < N → ∀ b, b < N → a ≠ b → (T a).2.1 ≠ (T b).2.1) {fs : List Value} (ha : w a = some (.inr (ci, fs))) (hba : K 0 ≤ a) (hc : gcl[ci]? = some (C, T, N)) (k : Nat) (hk : k < N) (hlink : Cond.fieldLink own index ref (T k).2.1 (T k).2.2.1 ∈ lw_all) (hsame : (T k).1 = ref ∨ Cond.sameField ref (T k).1 (T k).2.1 (T k).2.2.1 ∈ lw_all) (hfin : (T k).2.2.2 = true) (hin2 : meth.name = "<init>") (hdecl : (T k).1 = own) {v : Value} (hn : narrow (ty0 k) v = v) (hfit : fits (ty0 k) v = true) (hl : k < fs.length)
    (hdg : decode cc pc = .ok (.putfield index, 3)) (kk : ∀ (H1 : Heap) (locs1 : List Loc), gS D K (gu w a (.inr (ci, fs.set k v))) s H1 locs1 → W p l e R s m args below meth c H1 locs1 cells slots Q (F0 m (pc + 3) ls rest)) : W p l e R s m args below meth c H locs cells slots Q (F0 m pc ls (v :: .ref a :: rest)) := by
  have hap := va_apart (own := own) S.2.2.2.2 hin ty0 hty hnm M.1.1 hc
  obtain ⟨r, h1, cell, q1, q2, q3, q4⟩ := G.1 a _ ha
  have hr : r = (C, T, N) := Option.some.inj (h1.symm.trans hc)
  subst hr
  obtain ⟨hS, hfc, kC, hkC, hkind⟩ := M.1.1.1 ci _ hc
  obtain ⟨cf, kf, fi, f, hi, hsl⟩ := hS k hk
  have hi' : s.fieldFound? ref (T k).2.1 (T k).2.2.1 = some (cf, kf, fi, f) := by
    rcases hsame with e | e
    · rw [← e]; exact hi
    · exact u_same (S.2.2.2.2 _ e) _ hi
  have hlay := S.2.2.2.2 _ (hin _ (u_in_lay hk))
  unfold u_lay at hlay
  rw [if_pos hfin] at hlay
  have hst := (u_facts hfc hkC (u_lays S.2.2.2.2 hin hk) hi).1
  have hcf : m.cls = cf := by
    obtain ⟨_, _, c', _, _, _, -, -, hf', -, -, -, hown2, -⟩ := Cond.laysFinal_spec hlay
    have e1 : c' = cf := by have := hi.symm.trans hf'; simp at this; exact this.1.symm
    rw [hdecl] at hown2
    rw [← e1]; exact Option.some.inj (S.2.2.2.1.symm.trans hown2)
  have h6 := u_fits hfc hkC hkind (Or.inr hlay) hi (hty k hk) hn hfit
  refine W.putFinK S.1 S.2.1 S.2.2.2.1 (S.2.2.2.2 _ hlink) hi' hst hcf hin2 (by rw [q2]; exact h6) q1 q3 (by rw [hsl]; exact k2_hasslot (q4 k hk)) rfl rfl hdg fun H' e1 e2 e3 => ?_
  rw [hsl] at e1 ⊢
  exact kk H' _ (G.put _ hba ⟨_, hc, t_OB.to (V := updV (vp_V fs) k v) ⟨_, e1, q2, q3, t_set q4 hap hk v⟩ (fun j _ => vp_updV_set hl v j)⟩ e2 e3)
/-- an object of a class of the list: what a call, a cast or a store in an array asks of it -/
theorem g_recv (M : Amb D K s) (G : gS D K w s H locs) {ci : Nat} {fs : List Value} {q : vw_C} (ha : w a = some (.inr (ci, fs))) (hc : gcl[ci]? = some q) : ∃ cell : Cell, H[a]? = some cell ∧ cell.vm.isStatics = false ∧ s.vm.findClass q.1 = some cell.cls := va_recv M.1.1 (G.one ha) (q0 := 0) hc rfl
/-! ## arrays -/
theorem g_iald (S : CallFix p m c cc nL s args lw_all own) (M : Amb D K s) (G : gS D K w s H locs) {n : Nat} {f : Nat → Int32} (ha : w a = some (.inl (D.1 100, n, .inl f))) {i : Int32} (hin : vp_in i n) (hdg : decode cc pc = .ok (.iaload, 1))
    (kk : W p l e R s m args below meth c H locs cells slots Q (F0 m (pc + 1) ls (.int (f i.toNatClampNeg) :: rest))) : W p l e R s m args below meth c H locs cells slots Q (F0 m pc ls (.int i :: .ref a :: rest)) := va_iald S.1 S.2.1 M.1.1 (G.one ha) 0 0 rfl rfl hin hdg kk
theorem g_lald (S : CallFix p m c cc nL s args lw_all own) (M : Amb D K s) (G : gS D K w s H locs) {n : Nat} {f : Nat → Int64} (ha : w a = some (.inl (D.1 101, n, .inr (.inl f)))) {i : Int32} (hin : vp_in i n) (hdg : decode cc pc = .ok (.laload, 1))
    (kk : W p l e R s m args below meth c H locs cells slots Q (F0 m (pc + 1) ls (.long (f i.toNatClampNeg) :: rest))) : W p l e R s m args below meth c H locs cells slots Q (F0 m pc ls (.int i :: .ref a :: rest)) := va_lald S.1 S.2.1 M.1.1 (G.one ha) 0 1 rfl rfl hin hdg kk
theorem g_aald (S : CallFix p m c cc nL s args lw_all own) (M : Amb D K s) (G : gS D K w s H locs) (t0 : Nat) {C : String} {cA : ClassId} (ht : (gtys D)[t0]? = some (cA, .object C)) {n : Nat} {f : Nat → Option Nat} (ha : w a = some (.inl (cA, n, .inr (.inr (.inr (.inr f)))))) {i : Int32} (hin : vp_in i n) (hdg : decode cc pc = .ok (.aaload, 1))
    (kk : W p l e R s m args below meth c H locs cells slots Q (F0 m (pc + 1) ls (va_rf (f i.toNatClampNeg) :: rest))) : W p l e R s m args below meth c H locs cells slots Q (F0 m pc ls (.int i :: .ref a :: rest)) := va_aldq S.1 S.2.1 M.1.1 (G.one ha) 0 t0 rfl ht hin hdg kk
theorem g_alen (S : CallFix p m c cc nL s args lw_all own) (M : Amb D K s) (G : gS D K w s H locs) (t0 : Nat) {ty : FieldType} {cA : ClassId} (ht : (gtys D)[t0]? = some (cA, ty)) {x : vp_A} (ha : w a = some (.inl (cA, x))) {v : Int32} (hv : Int32.ofNat x.1 = v) (hdg : decode cc pc = .ok (.arraylength, 1))
    (kk : W p l e R s m args below meth c H locs cells slots Q (F0 m (pc + 1) ls (.int v :: rest))) : W p l e R s m args below meth c H locs cells slots Q (F0 m pc ls (.ref a :: rest)) := va_alen S.1 S.2.1 M.1.1 (G.one ha) 0 t0 rfl ht hv hdg kk
theorem g_iast (S : CallFix p m c cc nL s args lw_all own) (M : Amb D K s) (G : gS D K w s H locs) {n : Nat} {f : Nat → Int32} (ha : w a = some (.inl (D.1 100, n, .inl f))) (hba : K 0 ≤ a) {i x : Int32} (hin : vp_in i n) (hdg : decode cc pc = .ok (.iastore, 1))
    (kk : ∀ (H1 : Heap) (locs1 : List Loc), gS D K (gu w a (.inl (D.1 100, n, .inl (upd f i.toNatClampNeg x)))) s H1 locs1 → W p l e R s m args below meth c H1 locs1 cells slots Q (F0 m (pc + 1) ls rest)) : W p l e R s m args below meth c H locs cells slots Q (F0 m pc ls (.int x :: .int i :: .ref a :: rest)) := by
  refine W.iast S.1 S.2.1 (G.1 a _ ha) ((M.1.1.2 0 _ rfl).1 n (fun j => .int (f j))) (fun q => by cases q) (by show ¬ (i < 0 ∨ (arrV _ _ _).slots.size ≤ _); rw [arrV_size]; exact hin) rfl rfl hdg fun H1 e z oq => ?_
  refine kk H1 _ (G.put _ hba ?_ z oq)
  show H1[a]? = some (vp_cell _ _)
  rw [e, vp_cell_i, vp_cell_i, arrV_store]
  congr 2
  funext q
  by_cases hq : q = i.toNatClampNeg
  · subst hq; simp [updV, upd]
  · simp [updV, upd, hq]
theorem g_last (S : CallFix p m c cc nL s args lw_all own) (M : Amb D K s) (G : gS D K w s H locs) {n : Nat} {f : Nat → Int64} (ha : w a = some (.inl (D.1 101, n, .inr (.inl f)))) (hba : K 0 ≤ a) {i : Int32} {x : Int64} (hin : vp_in i n) (hdg : decode cc pc = .ok (.lastore, 1))
    (kk : ∀ (H1 : Heap) (locs1 : List Loc), gS D K (gu w a (.inl (D.1 101, n, .inr (.inl (vp_updL f i.toNatClampNeg x))))) s H1 locs1 → W p l e R s m args below meth c H1 locs1 cells slots Q (F0 m (pc + 1) ls rest)) : W p l e R s m args below meth c H locs cells slots Q (F0 m pc ls (.long x :: .int i :: .ref a :: rest)) := by
  refine W.last S.1 S.2.1 (G.1 a _ ha) ((M.1.1.2 1 _ rfl).1 n (fun j => .long (f j))) (fun q => by cases q) (by show ¬ (i < 0 ∨ (arrV _ _ _).slots.size ≤ _); rw [arrV_size]; exact hin) rfl rfl hdg fun H1 e z oq => ?_
  refine kk H1 _ (G.put _ hba ?_ z oq)
  show H1[a]? = some (vp_cell _ _)
  rw [e, vp_cell_l, vp_cell_l, arrV_store]
  congr 2
  funext q
  by_cases hq : q = i.toNatClampNeg
  · subst hq; simp [updV, vp_updL]
  · simp [updV, vp_updL, hq]
/-- a store of an object of a class C in an array of E: hasg says that C is an E -/
theorem g_aast (S : CallFix p m c cc nL s args lw_all own) (M : Amb D K s) (G : gS D K w s H locs) (t0 : Nat) {E C : String} {cA : ClassId} (ht : (gtys D)[t0]? = some (cA, .object E)) {n v : Nat} {f : Nat → Option Nat} (ha : w a = some (.inl (cA, n, .inr (.inr (.inr (.inr f)))))) (hba : K 0 ≤ a) (hr : ∃ cellV : Cell, H[v]? = some cellV ∧ cellV.vm.isStatics = false ∧ s.vm.findClass C = some cellV.cls) (hCE : Cond.castable C E ∈ lw_tbl) {i : Int32} (hin : vp_in i n) (hdg : decode cc pc = .ok (.aastore, 1))
    (kk : ∀ (H1 : Heap) (locs1 : List Loc), gS D K (gu w a (.inl (cA, n, .inr (.inr (.inr (.inr (va_up f i.toNatClampNeg (some v)))))))) s H1 locs1 → W p l e R s m args below meth c H1 locs1 cells slots Q (F0 m (pc + 1) ls rest)) : W p l e R s m args below meth c H locs cells slots Q (F0 m pc ls (.ref v :: .int i :: .ref a :: rest)) := by
  have hlt : i.toNatClampNeg < n := Nat.not_le.mp fun q => hin (Or.inr q)
  have h0 : ¬ i < 0 := fun q => hin (Or.inl q)
  obtain ⟨cellV, g1, g2, g3⟩ := hr
  obtain ⟨kA, comp, k1, k2, k3, -⟩ := (M.1.1.2 t0 _ ht).2
  obtain ⟨kC, hkC, -⟩ := Vm.findClass_spec g3
  obtain ⟨kE, hkE, -⟩ := Vm.findClass_spec k3
  have hasg : s.vm.assignable cellV.cls comp = true := vb_asgC (M.1.2.2.1 _ hCE rfl) comp cellV.cls k3 g3
  refine W.aast S.1 S.2.1 (G.1 a _ ha) (fun q h => by cases h) (fun h => by cases h) k1 k2 rfl hkE ⟨h0, by show _ < (arrV _ _ _).slots.size; rw [arrV_size]; exact hlt⟩ g1 (fun q h => by rw [h] at g2; cases g2) hkC hasg rfl rfl hdg fun H1 e z oq => ?_
  refine kk H1 _ (G.put _ hba ?_ z oq)
  show H1[a]? = some (vp_cell _ _)
  rw [e, vp_cell_q, vp_cell_q, arrV_store]
  congr 2
  funext q
  by_cases hq : q = i.toNatClampNeg
  · subst hq; simp [updV, va_up, va_rf]
  · simp [updV, va_up, hq]
theorem g_aastN (S : CallFix p m c cc nL s args lw_all own) (M : Amb D K s) (G : gS D K w s H locs) (t0 : Nat) {E : String} {cA : ClassId} (ht : (gtys D)[t0]? = some (cA, .object E)) {n : Nat} {f : Nat → Option Nat} (ha : w a = some (.inl (cA, n, .inr (.inr (.inr (.inr f)))))) (hba : K 0 ≤ a) {i : Int32} (hin : vp_in i n) (hdg : decode cc pc = .ok (.aastore, 1))
    (kk : ∀ (H1 : Heap) (locs1 : List Loc), gS D K (gu w a (.inl (cA, n, .inr (.inr (.inr (.inr (va_up f i.toNatClampNeg none))))))) s H1 locs1 → W p l e R s m args below meth c H1 locs1 cells slots Q (F0 m (pc + 1) ls rest)) : W p l e R s m args below meth c H locs cells slots Q (F0 m pc ls (.null :: .int i :: .ref a :: rest)) := by
  refine va_WaastN (C := E) S.1 S.2.1 (G.1 a _ ha) ((M.1.1.2 t0 _ ht).1 n (fun j => va_rf (f j))) (fun h => by cases h) (by show ¬ (i < 0 ∨ (arrV _ _ _).slots.size ≤ _); rw [arrV_size]; exact hin) rfl rfl hdg fun H1 e z oq => ?_
  refine kk H1 _ (G.put _ hba ?_ z oq)
  show H1[a]? = some (vp_cell _ _)
  rw [e, vp_cell_q, vp_cell_q, arrV_store]
  congr 2
  funext q
  by_cases hq : q = i.toNatClampNeg
  · subst hq; simp [updV, va_up, va_rf]
  · simp [updV, va_up, hq]
/-! ## new objects and arrays -/
theorem g_new (S : CallFix p m c cc nL s args lw_all own) (M : Amb D K s) (G : gS D K w s H locs) {C : String} {T : u_T} {N ci index : Nat} (hin : ∀ w ∈ u_ws C T N, w ∈ lw_all) (ty : Nat → FieldType) (hty : ∀ k, k < N → parseFieldDescriptor (T k).2.2.1 = some (ty k)) (hcl : Cond.classLink own index C ∈ lw_all) (hinst : Cond.instantiable C N ∈ lw_all) (hini : Cond.initialized C ∈ lw_all)
    (hc : gcl[ci]? = some (C, T, N)) {fs : List Value} (hfs : ∀ j, j < N → defaultValue (ty j) = vp_V fs j) (hcells : cells + 1 ≤ R.cells) (hslots : slots + N ≤ R.slots) (hdg : decode cc pc = .ok (.new index, 3))
    (kk : ∀ (q : Nat) (H1 : Heap), w q = none → K 0 ≤ q → q = H.size → H1.size = q + 1 → gS D K (gu w q (.inr (ci, fs))) s H1 locs → W p l e R s m args below meth c H1 locs (cells + 1) (slots + N) Q (F0 m (pc + 3) ls (.ref q :: rest))) : W p l e R s m args below meth c H locs cells slots Q (F0 m pc ls rest) := by
  have hKn := M.1.1.1 ci _ hc
  refine W.newcK S.1 S.2.1 S.2.2.2.1 (S.2.2.2.2 _ hcl) (S.2.2.2.2 _ hinst) (S.2.2.2.2 _ hini) rfl hdg hcells hslots hKn.2.1 rfl fun H1 kC hkC e1 z1 o1 => ?_
  exact kk H.size H1 G.fresh (Nat.le_trans G.2.2 G.2.1.1) rfl z1 (G.push ⟨_, hc, (u_born ty S.2.2.2.2 hin hKn hkC e1 hty).to hfs⟩ z1 o1)
theorem g_newi (S : CallFix p m c cc nL s args lw_all own) (M : Amb D K s) (G : gS D K w s H locs) (harr : Cond.arrayClass .int ∈ lw_all) {n : Int32} {N' : Nat} (hn : ¬ n < 0) (hN : n.toNatClampNeg = N') (hbytes : N' * 4 ≤ 536870912) (hcells : cells + 1 ≤ R.cells) (hslots : slots + N' ≤ R.slots) (hdg : decode cc pc = .ok (.newarray .int, 2))
    (kk : ∀ (q : Nat) (H1 : Heap), w q = none → K 0 ≤ q → q = H.size → H1.size = q + 1 → gS D K (gu w q (.inl (D.1 100, N', .inl (fun _ => 0)))) s H1 locs → W p l e R s m args below meth c H1 locs (cells + 1) (slots + N') Q (F0 m (pc + 2) ls (.ref q :: rest))) : W p l e R s m args below meth c H locs cells slots Q (F0 m pc ls (.int n :: rest)) := by
  refine va_newaK (atype := .int) S.1 S.2.1 (S.2.2.2.2 _ harr) rfl hdg rfl hn hN hbytes hcells hslots rfl fun H1 cA e1 z1 o1 hAr hNm => ?_
  have hcA : cA = D.1 100 := Option.some.inj (hNm.symm.trans (M.1.1.2 0 _ rfl).2)
  subst hcA
  exact kk H.size H1 G.fresh (Nat.le_trans G.2.2 G.2.1.1) rfl z1 (G.push (show H1[H.size]? = some (vp_cell _ _) from e1) z1 o1)
theorem g_newl (S : CallFix p m c cc nL s args lw_all own) (M : Amb D K s) (G : gS D K w s H locs) (harr : Cond.arrayClass .long ∈ lw_all) {n : Int32} {N' : Nat} (hn : ¬ n < 0) (hN : n.toNatClampNeg = N') (hbytes : N' * 8 ≤ 536870912) (hcells : cells + 1 ≤ R.cells) (hslots : slots + N' ≤ R.slots) (hdg : decode cc pc = .ok (.newarray .long, 2))
    (kk : ∀ (q : Nat) (H1 : Heap), w q = none → K 0 ≤ q → q = H.size → H1.size = q + 1 → gS D K (gu w q (.inl (D.1 101, N', .inr (.inl (fun _ => 0))))) s H1 locs → W p l e R s m args below meth c H1 locs (cells + 1) (slots + N') Q (F0 m (pc + 2) ls (.ref q :: rest))) : W p l e R s m args below meth c H locs cells slots Q (F0 m pc ls (.int n :: rest)) := by
  refine va_newaK (atype := .long) S.1 S.2.1 (S.2.2.2.2 _ harr) rfl hdg rfl hn hN hbytes hcells hslots rfl fun H1 cA e1 z1 o1 hAr hNm => ?_
  have hcA : cA = D.1 101 := Option.some.inj (hNm.symm.trans (M.1.1.2 1 _ rfl).2)
  subst hcA
  exact kk H.size H1 G.fresh (Nat.le_trans G.2.2 G.2.1.1) rfl z1 (G.push (show H1[H.size]? = some (vp_cell _ _) from e1) z1 o1)
theorem g_newq (S : CallFix p m c cc nL s args lw_all own) (M : Amb D K s) (G : gS D K w s H locs) {C : String} {index : Nat} (t0 : Nat) {cA : ClassId} (ht : (gtys D)[t0]? = some (cA, .object C)) (hcl : Cond.classLink own index C ∈ lw_all) (hover : Cond.arrayOver (.object C) ∈ lw_tbl) {n : Int32} {N' : Nat} (hn : ¬ n < 0) (hN : n.toNatClampNeg = N') (hbytes : N' * 4 ≤ 536870912) (hcells : cells + 1 ≤ R.cells) (hslots : slots + N' ≤ R.slots) (hdg : decode cc pc = .ok (.anewarray index, 3))
    (kk : ∀ (q : Nat) (H1 : Heap), w q = none → K 0 ≤ q → q = H.size → H1.size = q + 1 → gS D K (gu w q (.inl (cA, N', .inr (.inr (.inr (.inr (fun _ => none))))))) s H1 locs → W p l e R s m args below meth c H1 locs (cells + 1) (slots + N') Q (F0 m (pc + 3) ls (.ref q :: rest))) : W p l e R s m args below meth c H locs cells slots Q (F0 m pc ls (.int n :: rest)) := by
  subst hN
  refine W.anew S.1 S.2.1 S.2.2.2.1 (S.2.2.2.2 _ hcl) (va_AO.use (M.1.2.2.1 _ hover rfl)) rfl hdg rfl hn hbytes hcells hslots fun cA' kA comp f1 f2 f3 f4 => ?_
  have hcA : cA' = cA := Option.some.inj (f1.symm.trans (va_nmO (M.1.1.2 t0 _ ht).2 rfl))
  subst hcA
  generalize hH1 : H.push ({ cls := cA', slots := Array.replicate n.toNatClampNeg .null, vm := .none } : Cell) = H1
  have z1 : H1.size = H.size + 1 := by rw [← hH1, Array.size_push]
  have e1 : H1[H.size]? = some (arrV cA' n.toNatClampNeg (fun _ => .null)) := by rw [← hH1, Array.getElem?_push_size, ← arrV_new]
  have o1 : ∀ q : Nat, q < H.size → H1[q]? = H[q]? := fun q hq => by rw [← hH1, Array.getElem?_push, if_neg (Nat.ne_of_lt hq)]
  exact kk H.size H1 G.fresh (Nat.le_trans G.2.2 G.2.1.1) rfl z1 (G.push (by show H1[H.size]? = some (vp_cell _ _); rw [vp_cell_q]; exact e1) z1 o1)
end GH1
/-! ## calls -/
section GH2
variable {p : Program} {l : Launch} {e : Env} {R : Room} {s : State} {m : MethodId} {args : Array Value} {below : List Frame} {meth : Method} {c : Code} {H : Heap} {locs : List Loc} {cells slots : Nat} {Q : State → Prop}
variable {cc : ByteArray} {pc nL : Nat} {ls : Array Slot} {rest st0 As : List Value} {D : va_G} {K : Nat → Nat} {b : Nat} {w : Gh} {own : String}
variable {y : MethodName} {bytes : ByteArray} {maxL n index : Nat} {ret : Option FieldType} {ws : List Cond} {rm : Room} {post : Option Value → Gh → Prop} {px : String → Prop} {C : String}
theorem gpre (M : Amb D K s) (G : gS D K w s H locs) (av : List Value) : FrameBlind (gPre D K av w) ∧ ∀ U : State, U.heap = H → s.WarmedH U.vm → gPre D K av w av.toArray U :=
  ⟨gPre.blind, fun U hU hW => ⟨rfl, Amb.next hW (by rw [hU]; exact G.2.1.1) (fun q h1 h2 => by rw [hU]; exact G.2.1.2.1 q h1 h2) M, by rw [hU]; exact G.1⟩⟩
theorem gS.back {w' : Gh} {st₀ t T' : State} {L : List Loc} (G : gS D K w s H locs) (h0 : st₀.heap = H) (e1 : T'.heap = t.heap) (hL : ∀ q ∈ L, gA K q.base) (hP : gP D gcl w' t.heap) (hF : va_F (gA K) st₀ t) : gS D K w' s T'.heap (locs ++ L) :=
  ⟨by rw [e1]; exact hP, (vx_keep h0 e1 G.2.1 (fun _ _ h => h) (fun _ h => h) hL hF).2.2, G.2.2⟩
/-- a call that returns, however it was made -/
theorem g_ran {av : Array Value} (G : gS D K w s H locs) (hr : va_Run p l e R s m args below meth c H locs cells slots rm.cells rm.slots (F0 m pc ls st0) rest (gQ D K post av) (gA K))
    (kk : ∀ (r : Option Value) (w' : Gh) (H1 : Heap) (locs1 : List Loc), post r w' → gS D K w' s H1 locs1 → W p l e R s m args below meth c H1 locs1 (cells + rm.cells) (slots + rm.slots) Q (F0 m (pc + 3) ls (r.toList ++ rest))) : W p l e R s m args below meth c H locs cells slots Q (F0 m pc ls st0) := by
  intro T hT X
  obtain ⟨v, st₀, t, T', L, h0, X', hL, e1, e2, ⟨r, w', hv, hp, hP, hF⟩, st⟩ := hr T hT X
  cases hv
  obtain ⟨t2, a1, b1⟩ := kk v w' T'.heap (locs ++ L) hp (G.back h0 e1 hL hP hF) T' rfl X'
  exact ⟨t2, st t2 a1, b1⟩
theorem g_ran5 {av : Array Value} (G : gS D K w s H locs) (hr : va_Run5 p l e R s m args below meth c H locs cells slots rm.cells rm.slots (F0 m pc ls st0) rest (gQ D K post av) (gA K))
    (kk : ∀ (r : Option Value) (w' : Gh) (H1 : Heap) (locs1 : List Loc), post r w' → gS D K w' s H1 locs1 → W p l e R s m args below meth c H1 locs1 (cells + rm.cells) (slots + rm.slots) Q (F0 m (pc + 5) ls (r.toList ++ rest))) : W p l e R s m args below meth c H locs cells slots Q (F0 m pc ls st0) := by
  intro T hT X
  obtain ⟨v, st₀, t, T', L, h0, X', hL, e1, e2, ⟨r, w', hv, hp, hP, hF⟩, st⟩ := hr T hT X
  cases hv
  obtain ⟨t2, a1, b1⟩ := kk v w' T'.heap (locs ++ L) hp (G.back h0 e1 hL hP hF) T' rfl X'
  exact ⟨t2, st t2 a1, b1⟩
/-- .. or throws -/
theorem gx_ran {av : Array Value} (G : gS D K w s H locs) (hr : vx_Run p l e R s m args below meth c H locs cells slots rm.cells rm.slots (F0 m pc ls st0) rest (gQ D K post av) (gX D K w px) (gA K))
    (kx : ∀ (E : String) (ce : Cell) (q : Addr) (H1 : Heap) (locs1 : List Loc), px E → gS D K w s H1 locs1 → H1[q]? = some ce → ce.vm = .none → s.vm.findClass E = some ce.cls → vx_W p l e R s m args below meth c H1 locs1 (cells + rm.cells) (slots + rm.slots) Q (F0 m pc ls rest) q)
    (kk : ∀ (r : Option Value) (w' : Gh) (H1 : Heap) (locs1 : List Loc), post r w' → gS D K w' s H1 locs1 → W p l e R s m args below meth c H1 locs1 (cells + rm.cells) (slots + rm.slots) Q (F0 m (pc + 3) ls (r.toList ++ rest))) : W p l e R s m args below meth c H locs cells slots Q (F0 m pc ls st0) := by
  intro T hT X
  rcases hr T hT X with ⟨v, st₀, t, T', L, h0, X', hL, e1, e2, ⟨r, w', hv, hp, hP, hF⟩, st⟩ | ⟨q, st₀, t, T', L, E, ce, h0, X', hL, e1, e2, ⟨hp, hP, hF⟩, hce, hcv, hcl, st⟩
  · cases hv
    obtain ⟨t2, a1, b1⟩ := kk v w' T'.heap (locs ++ L) hp (G.back h0 e1 hL hP hF) T' rfl X'
    exact ⟨t2, st t2 a1, b1⟩
  · obtain ⟨t2, a1, b1⟩ := kx E ce q T'.heap (locs ++ L) hp (G.back h0 e1 hL hP hF) (by rw [e1]; exact hce) hcv hcl T' rfl X'
    exact ⟨t2, st.trans a1, b1⟩
/-- the four words of an ordinary call -/
abbrev gFit (R rm : Room) (maxL : Nat) : Prop := rm.frames + 1 ≤ R.frames ∧ 8 + (maxL + 11) + rm.locals ≤ R.locals
abbrev gNmn (y : MethodName) (n : Nat) : Prop := y.cls ≠ "java/lang/invoke/MethodHandle" ∧ y.cls ≠ "java/lang/invoke/VarHandle" ∧ (parseMethodDescriptor y.desc).map (fun d => d.parameters.length) = some n
theorem gcw (S : CallFix p m c cc nL s args lw_all own) (hcode : Cond.code y bytes maxL ret ∈ lw_all) (hlink : Cond.methodLink own index y ∈ lw_all) (hini : Cond.initialized y.cls ∈ lw_all) (hd : gNmn y n) (hR : gFit R rm maxL) : CallB R s args own index y bytes maxL ret (ws_ y bytes maxL ret) rm rm.cells rm.slots n :=
  callB_of (ret := ret) n S.2.2.2.2 (lw_meth hcode) rfl rfl rfl (S.2.2.2.2 _ hini) (S.2.2.2.2 _ hlink) hd hR
theorem g_callV (S : CallFix p m c cc nL s args lw_all own) (M : Amb D K s) (G : gS D K w s H locs) (hl : ls.size = nL) (As rest : List Value) (hM : gMet l y (ws_ y bytes maxL ret) rm D K (.ref b :: As) w post) (n : Nat)
    (hrecv : ∃ cell : Cell, H[b]? = some cell ∧ cell.vm.isStatics = false ∧ s.vm.findClass C = some cell.cls) (hcode : Cond.code y bytes maxL ret ∈ lw_all) (hlink : Cond.methodLink own index y ∈ lw_all) (hinst : Cond.instanceMethod y ∈ lw_all) (hsel : Cond.selects C y y ∈ lw_all) (hini : Cond.initialized y.cls ∈ lw_all) (hd : gNmn y n) (hn : As.length = n) (hR : gFit R rm maxL)
    (hst : st0 = As.reverse ++ .ref b :: rest) (hW : (rest.map fun v => v.category).sum ≤ 8) (hdg : decode cc pc = .ok (.invokevirtual index, 3)) (hf : cells + rm.cells ≤ R.cells ∧ slots + rm.slots ≤ R.slots)
    (kk : ∀ (r : Option Value) (w' : Gh) (H1 : Heap) (locs1 : List Loc), post r w' → gS D K w' s H1 locs1 → W p l e R s m args below meth c H1 locs1 (cells + rm.cells) (slots + rm.slots) Q (F0 m (pc + 3) ls (r.toList ++ rest))) : W p l e R s m args below meth c H locs cells slots Q (F0 m pc ls st0) :=
  g_ran (rest := rest) G (va_runV (As := As) (b := b) S hM ⟨gcw (ret := ret) S hcode hlink hini hd hR, S.2.2.2.2 _ hinst, S.2.2.2.2 _ hsel⟩ ⟨(gpre M G _).1, hrecv, (gpre M G _).2⟩ rfl hn hl hst (lv_room hW) hdg hf) kk
theorem gx_callV (S : CallFix p m c cc nL s args lw_all own) (M : Amb D K s) (G : gS D K w s H locs) (hl : ls.size = nL) (As rest : List Value) (hM : gXet l y (ws_ y bytes maxL ret) rm D K (.ref b :: As) w post px) (n : Nat)
    (hrecv : ∃ cell : Cell, H[b]? = some cell ∧ cell.vm.isStatics = false ∧ s.vm.findClass C = some cell.cls) (hcode : Cond.code y bytes maxL ret ∈ lw_all) (hlink : Cond.methodLink own index y ∈ lw_all) (hinst : Cond.instanceMethod y ∈ lw_all) (hsel : Cond.selects C y y ∈ lw_all) (hini : Cond.initialized y.cls ∈ lw_all) (hd : gNmn y n) (hn : As.length = n) (hR : gFit R rm maxL)
    (hst : st0 = As.reverse ++ .ref b :: rest) (hW : (rest.map fun v => v.category).sum ≤ 8) (hdg : decode cc pc = .ok (.invokevirtual index, 3)) (hf : cells + rm.cells ≤ R.cells ∧ slots + rm.slots ≤ R.slots)
    (kx : ∀ (E : String) (ce : Cell) (q : Addr) (H1 : Heap) (locs1 : List Loc), px E → gS D K w s H1 locs1 → H1[q]? = some ce → ce.vm = .none → s.vm.findClass E = some ce.cls → vx_W p l e R s m args below meth c H1 locs1 (cells + rm.cells) (slots + rm.slots) Q (F0 m pc ls rest) q)
    (kk : ∀ (r : Option Value) (w' : Gh) (H1 : Heap) (locs1 : List Loc), post r w' → gS D K w' s H1 locs1 → W p l e R s m args below meth c H1 locs1 (cells + rm.cells) (slots + rm.slots) Q (F0 m (pc + 3) ls (r.toList ++ rest))) : W p l e R s m args below meth c H locs cells slots Q (F0 m pc ls st0) :=
  gx_ran (rest := rest) G (vx_runV (As := As) (b := b) S hM ⟨gcw (ret := ret) S hcode hlink hini hd hR, S.2.2.2.2 _ hinst, S.2.2.2.2 _ hsel⟩ ⟨(gpre M G _).1, hrecv, (gpre M G _).2⟩ rfl hn hl hst (lv_room hW) hdg hf) kx kk
theorem g_callS (S : CallFix p m c cc nL s args lw_all own) (M : Amb D K s) (G : gS D K w s H locs) (hl : ls.size = nL) (As rest : List Value) (hM : gMet l y (ws_ y bytes maxL ret) rm D K As w post) (n : Nat)
    (hcode : Cond.code y bytes maxL ret ∈ lw_all) (hlink : Cond.methodLink own index y ∈ lw_all) (hstat : Cond.static y ∈ lw_all) (hini : Cond.initialized y.cls ∈ lw_all) (hd : gNmn y n) (hn : As.length = n) (hR : gFit R rm maxL)
    (hst : st0 = As.reverse ++ rest) (hW : (rest.map fun v => v.category).sum ≤ 8) (hdg : decode cc pc = .ok (.invokestatic index, 3)) (hf : cells + rm.cells ≤ R.cells ∧ slots + rm.slots ≤ R.slots)
    (kk : ∀ (r : Option Value) (w' : Gh) (H1 : Heap) (locs1 : List Loc), post r w' → gS D K w' s H1 locs1 → W p l e R s m args below meth c H1 locs1 (cells + rm.cells) (slots + rm.slots) Q (F0 m (pc + 3) ls (r.toList ++ rest))) : W p l e R s m args below meth c H locs cells slots Q (F0 m pc ls st0) :=
  g_ran (rest := rest) G (va_runS (As := As) S hM ⟨gcw (ret := ret) S hcode hlink hini hd hR, S.2.2.2.2 _ hstat⟩ (gpre M G _) rfl hn hl hst (lv_room hW) hdg hf) kk
theorem gx_callS (S : CallFix p m c cc nL s args lw_all own) (M : Amb D K s) (G : gS D K w s H locs) (hl : ls.size = nL) (As rest : List Value) (hM : gXet l y (ws_ y bytes maxL ret) rm D K As w post px) (n : Nat)
    (hcode : Cond.code y bytes maxL ret ∈ lw_all) (hlink : Cond.methodLink own index y ∈ lw_all) (hstat : Cond.static y ∈ lw_all) (hini : Cond.initialized y.cls ∈ lw_all) (hd : gNmn y n) (hn : As.length = n) (hR : gFit R rm maxL)
    (hst : st0 = As.reverse ++ rest) (hW : (rest.map fun v => v.category).sum ≤ 8) (hdg : decode cc pc = .ok (.invokestatic index, 3)) (hf : cells + rm.cells ≤ R.cells ∧ slots + rm.slots ≤ R.slots)
    (kx : ∀ (E : String) (ce : Cell) (q : Addr) (H1 : Heap) (locs1 : List Loc), px E → gS D K w s H1 locs1 → H1[q]? = some ce → ce.vm = .none → s.vm.findClass E = some ce.cls → vx_W p l e R s m args below meth c H1 locs1 (cells + rm.cells) (slots + rm.slots) Q (F0 m pc ls rest) q)
    (kk : ∀ (r : Option Value) (w' : Gh) (H1 : Heap) (locs1 : List Loc), post r w' → gS D K w' s H1 locs1 → W p l e R s m args below meth c H1 locs1 (cells + rm.cells) (slots + rm.slots) Q (F0 m (pc + 3) ls (r.toList ++ rest))) : W p l e R s m args below meth c H locs cells slots Q (F0 m pc ls st0) :=
  gx_ran (rest := rest) G (vx_runS (As := As) S hM ⟨gcw (ret := ret) S hcode hlink hini hd hR, S.2.2.2.2 _ hstat⟩ (gpre M G _) rfl hn hl hst (lv_room hW) hdg hf) kx kk
theorem g_callI (S : CallFix p m c cc nL s args lw_all own) (M : Amb D K s) (G : gS D K w s H locs) (hl : ls.size = nL) (As rest : List Value) (hM : gMet l y (ws_ y bytes maxL none) rm D K (.ref b :: As) w post) (n : Nat)
    (hcode : Cond.code y bytes maxL none ∈ lw_all) (hlink : Cond.methodLink own index y ∈ lw_all) (hinst : Cond.instanceMethod y ∈ lw_all) (hini : Cond.initialized y.cls ∈ lw_all) (hy1 : y.name = "<init>") (hd : gNmn y n) (hn : As.length = n) (hR : gFit R rm maxL)
    (hst : st0 = As.reverse ++ .ref b :: rest) (hW : (rest.map fun v => v.category).sum ≤ 8) (hdg : decode cc pc = .ok (.invokespecial index, 3)) (hf : cells + rm.cells ≤ R.cells ∧ slots + rm.slots ≤ R.slots)
    (kk : ∀ (r : Option Value) (w' : Gh) (H1 : Heap) (locs1 : List Loc), post r w' → gS D K w' s H1 locs1 → W p l e R s m args below meth c H1 locs1 (cells + rm.cells) (slots + rm.slots) Q (F0 m (pc + 3) ls (r.toList ++ rest))) : W p l e R s m args below meth c H locs cells slots Q (F0 m pc ls st0) :=
  g_ran (rest := rest) G (va_runI (As := As) (b := b) S hM ⟨gcw (ret := none) S hcode hlink hini hd hR, hy1, S.2.2.2.2 _ hinst⟩ (gpre M G _) rfl hn hl hst (lv_room hW) hdg hf) kk
/-- the method that the reference names is another's (abstract, overridden or native): x, declared in owner; y runs -/
theorem g_callU {x : MethodName} {owner : String} (S : CallFix p m c cc nL s args lw_all own) (M : Amb D K s) (G : gS D K w s H locs) (hl : ls.size = nL) (As rest : List Value) (hM : gMet l y (ws_ y bytes maxL ret) rm D K (.ref b :: As) w post) (n : Nat)
    (hrecv : ∃ cell : Cell, H[b]? = some cell ∧ cell.vm.isStatics = false ∧ s.vm.findClass C = some cell.cls) (hcode : Cond.code y bytes maxL ret ∈ lw_all) (hlink : Cond.methodLink own index x ∈ lw_all) (hsame : Cond.sameMethod x.cls owner x.name x.desc ∈ lw_all) (hdecl : va_Decl s ⟨owner, x.name, x.desc⟩) (hinst : Cond.instanceMethod y ∈ lw_all) (hsel : Cond.selects C x y ∈ lw_all) (hini : Cond.initialized y.cls ∈ lw_all)
    (hd : owner ≠ "java/lang/invoke/MethodHandle" ∧ owner ≠ "java/lang/invoke/VarHandle" ∧ (parseMethodDescriptor x.desc).map (fun d => d.parameters.length) = some n) (hn : As.length = n) (hR : gFit R rm maxL)
    (hst : st0 = As.reverse ++ .ref b :: rest) (hW : (rest.map fun v => v.category).sum ≤ 8) (hdg : decode cc pc = .ok (.invokevirtual index, 3)) (hf : cells + rm.cells ≤ R.cells ∧ slots + rm.slots ≤ R.slots)
    (kk : ∀ (r : Option Value) (w' : Gh) (H1 : Heap) (locs1 : List Loc), post r w' → gS D K w' s H1 locs1 → W p l e R s m args below meth c H1 locs1 (cells + rm.cells) (slots + rm.slots) Q (F0 m (pc + 3) ls (r.toList ++ rest))) : W p l e R s m args below meth c H locs cells slots Q (F0 m pc ls st0) := by
  have cw : va_CU R s args own C owner index x y bytes maxL ret (ws_ y bytes maxL ret) rm rm.cells rm.slots n := by
    refine ⟨⟨rfl, rfl, hR.1, hR.2, pay_in S.2.2.2.2 (lw_meth hcode), List.mem_cons_self⟩, S.2.2.2.2 _ hcode, S.2.2.2.2 _ hini, ⟨hd.1, hd.2.1⟩, fun sig h => ?_, S.2.2.2.2 _ hlink, S.2.2.2.2 _ hsame, hdecl, S.2.2.2.2 _ hsel, S.2.2.2.2 _ hinst⟩
    have h2 := hd.2.2
    rw [h] at h2
    exact (Option.some.inj h2).symm
  exact g_ran (rest := rest) G (va_runU (As := As) (b := b) S hM cw ⟨(gpre M G _).1, hrecv, (gpre M G _).2⟩ rfl hn hl hst (lv_room hW) hdg hf) kk
theorem g_callF {x : MethodName} {count : Nat} {cC : ClassId} (S : CallFix p m c cc nL s args lw_all own) (M : Amb D K s) (G : gS D K w s H locs) (hl : ls.size = nL) (As rest : List Value) (hM : gMet l y (ws_ y bytes maxL ret) rm D K (.ref b :: As) w post) (n : Nat)
    (hrecv : ∃ cell : Cell, H[b]? = some cell ∧ cell.vm.isStatics = false ∧ s.vm.findClass C = some cell.cls) (hC : ClassAt s C cC) (hcode : Cond.code y bytes maxL ret ∈ lw_all) (hlink : Cond.methodLink own index x ∈ lw_all) (hface : spF C x y) (hinst : Cond.instanceMethod y ∈ lw_all) (hsel : Cond.selects C x y ∈ lw_all) (hini : Cond.initialized y.cls ∈ lw_all) (hd : (parseMethodDescriptor x.desc).map (fun d => d.parameters.length) = some n) (hn : As.length = n) (hR : gFit R rm maxL)
    (hst : st0 = As.reverse ++ .ref b :: rest) (hW : (rest.map fun v => v.category).sum ≤ 8) (hdg : decode cc pc = .ok (.invokeinterface index count, 5)) (hf : cells + rm.cells ≤ R.cells ∧ slots + rm.slots ≤ R.slots)
    (kk : ∀ (r : Option Value) (w' : Gh) (H1 : Heap) (locs1 : List Loc), post r w' → gS D K w' s H1 locs1 → W p l e R s m args below meth c H1 locs1 (cells + rm.cells) (slots + rm.slots) Q (F0 m (pc + 5) ls (r.toList ++ rest))) : W p l e R s m args below meth c H locs cells slots Q (F0 m pc ls st0) := by
  have hF : va_Fw C x y s := M.1.2.2.2.1 C x y hface
  have cw : va_CI R s args own C index x y bytes maxL ret (ws_ y bytes maxL ret) rm rm.cells rm.slots n := by
    refine ⟨⟨rfl, rfl, hR.1, hR.2, pay_in S.2.2.2.2 (lw_meth hcode), List.mem_cons_self⟩, S.2.2.2.2 _ hlink, va_any rfl hF.1, va_any rfl hF.2.1, S.2.2.2.2 _ hsel, S.2.2.2.2 _ hinst, va_any rfl hF.2.2.1, va_any rfl hF.2.2.2.1, va_any rfl hF.2.2.2.2, S.2.2.2.2 _ hini, S.2.2.2.2 _ hcode, hface.1, fun sig h => ?_⟩
    rw [h] at hd
    exact (Option.some.inj hd).symm
  exact g_ran5 (rest := rest) G (va_runF (As := As) (b := b) hC S hM cw ⟨(gpre M G _).1, hrecv, (gpre M G _).2⟩ rfl hn hl hst (lv_room hW) hdg hf) kk
end GH2
