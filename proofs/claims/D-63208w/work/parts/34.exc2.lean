-- ===== calls of methods that throw =====
section BT
variable {l : Launch} {R : Room} {p : Program} {e : Env} {below : List Frame} {s : State} {sargs : Array Value} {y : MethodName} {len W0 : Nat}
theorem backT {ws : List Cond} {rm : Room} {Pc : Array Value → State → Prop} {XN : String} {bytes : ByteArray} {maxL : Nat} {ret : Option FieldType}
    (hM : MetT l y ws rm Pc XN) (hblind : FrameBlind Pc) (hrc : rm.cells = 1) (hrs : rm.slots = 6)
    (hframes : rm.frames + 1 ≤ R.frames) (hlocals : W0 + (maxL + 11) + rm.locals ≤ R.locals)
    (hws : ∀ w ∈ ws, ∀ a' U, s.WarmedH U.vm → w.before a' U = true) (hcode : Cond.code y bytes maxL ret ∈ ws) (hinit : ∀ a' U, s.WarmedH U.vm → (Cond.initialized y.cls).before a' U = true)
    {m : MethodId} {meth : Method} {c : Code} {U : State} {Ls : List Loc} {c0 s0 : Nat} (X : Stand p l e R s m sargs below meth c U Ls c0 s0) {g : JFrame} {ig : Instr} {mk : MethodId} {a : Array Value} (hg : g.method = m) (hsize : g.locals.size = c.maxLocals) (hdg : decode c.code g.pc = .ok (ig, len))
    (hW : 2 * g.monitorRoom + (g.stack.map fun v => v.category).sum ≤ W0) (hn : U.methodNamed? y = some mk) (hp : Pc a U) (hc0 : c0 + 1 ≤ R.cells) (hs0 : s0 + 6 ≤ R.slots) :
    ∃ (x : Addr) (T' : State), Stand p l e R s m sargs below meth c T' (Ls ++ []) (c0 + 1) (s0 + 6) ∧ U.WarmedH T'.vm ∧ U.sameButNew (T'.setVm U.vm) [] 1 6 ∧ (∃ ce : Cell, T'.heap[x]? = some ce ∧ U.vm.findClass XN = some ce.cls ∧ ce.vm = .none) ∧
      Steps p.tables e below (doInvoke e (U.setTop g) [] mk a).1 ((T'.setTop g).pushFrame (.throwing x)) := by
  have h2 := hws _ hcode a U X.warmed
  have h3 := hinit a U X.warmed
  obtain ⟨methY, cY, hmY, hcY, -, hlY, -, -, -, -⟩ := Cond.code_spec hn h2
  obtain ⟨kY, hkY, -⟩ := className_of_methodNamed hn
  have hinitY : kY.init = .initialized := Cond.initialized_spec (findClass_of_methodNamed hn) hkY h3
  have h : At U g.method c below := by rw [hg]; exact X.here
  have happ : (headSpec ws rm).appliesLoose y e.platform (U.calling g mk a) = true :=
    Spec.appliesLoose_calling (g := g) h hdg hn hkY hinitY
      (X.room_calling (g := g) (R' := (headSpec ws rm).room) hsize hmY hcY hframes (by rw [hlY]; exact Nat.le_trans (Nat.add_le_add_right (Nat.add_le_add_right hW _) _) hlocals) (by rw [show (headSpec ws rm).room.cells = 1 from hrc]; exact hc0) (by rw [show (headSpec ws rm).room.slots = 6 from hrs]; exact hs0)) (atoms_intro fun w hw => hws w hw _ _ X.warmed)
  obtain ⟨mid, hmid⟩ := h.above
  have hfr : (U.setTop g).frames = (.java g :: mid) ++ below := by rw [State.frames_setTop' g h.top, hmid]; rfl
  obtain ⟨o, s₂, hsteps, -, hend, hq⟩ := Steps.callFree hM p X.admits X.cas X.clock (acts := []) hfr happ (hblind a U g mk hp) trivial
  obtain ⟨x, rfl, hW2, hsame, ce, hce, hcc, hvm⟩ : TQ XN (U.calling g mk a) o s₂ := hq
  have hend' : Ended s₂ (.java g :: below) (.threw x) := by
    rw [State.frames_setTop' g h.top] at hend
    rw [X.tail] at hend
    exact hend
  obtain ⟨T', X', hWT, hsT, ht⟩ := X.outOfThrown hg hend' hW2 hsame
  refine ⟨x, T', X', hWT, hsT, ⟨ce, ?_, hcc, hvm⟩, by rw [← ht]; exact hsteps⟩
  rw [ht, Stand.throwing_heap] at hce
  exact hce
end BT
theorem same_old {s t : State} {k n : Nat} (h : s.sameButNew t [] k n) : ∀ (q : Nat) (c : Cell), s.heap[q]? = some c → t.heap[q]? = some c := by
  intro q c hc
  obtain ⟨c', h1, h2, h3, h4⟩ := h.2.2.2.2.2 q c hc
  have : c'.slots = c.slots := Array.ext_getElem? (fun i => h4 i (by simp))
  rw [h1, h2, this]
/-- the call throws: nothing old has changed, the exception is a new cell of class XN -/
def RunT (p : Program) (l : Launch) (e : Env) (R : Room) (s : State) (m : MethodId) (args : Array Value) (below : List Frame) (meth : Method) (c : Code) (H : Heap) (locs : List Loc) (cells slots : Nat) (g : JFrame) (rest : List Value) (XN : String) : Prop :=
  ∀ T : State, T.heap = H → Stand p l e R s m args below meth c T locs cells slots → ∃ (x : Addr) (T' : State), Stand p l e R s m args below meth c T' locs (cells + 1) (slots + 6) ∧ (∀ (q : Nat) (d : Cell), H[q]? = some d → T'.heap[q]? = some d) ∧ (∃ ce : Cell, T'.heap[x]? = some ce ∧ s.vm.findClass XN = some ce.cls ∧ ce.vm = .none) ∧
    ∀ target, Steps p.tables e below ((T'.setTop { g with stack := rest }).pushFrame (.throwing x)) target → Steps p.tables e below (T.setTop g) target
section KT
variable {p : Program} {l : Launch} {e : Env} {R : Room} {s : State} {m : MethodId} {args : Array Value} {below : List Frame} {meth : Method} {c : Code} {H : Heap} {locs : List Loc} {cells slots : Nat} {Q : State → Prop}
variable {cc : ByteArray} {nL pc : Nat} {own : String} {ls : Array Slot} {rest st0 : List Value} {D : va_G} {ac : Nat → ClassId} {A : Nat → Prop} {ws0 wc : va_W} {H0 : Heap}
variable {y : MethodName} {bytes : ByteArray} {maxL n index : Nat} {ret : Option FieldType} {rm : Room} {C XN : String} {b : Addr} {As : List Value}
theorem kpreT (X : Cx cc nL own D ac p m args c s) (w : Wo D A (ws0 ++ wc) H0 H locs) (hS : ∀ U : State, U.heap = H → s.WarmedH U.vm → SP (fun _ => False) U U.heap) (av : List Value) : ∀ U : State, U.heap = H → s.WarmedH U.vm → va_Pc av (CPreT D ac wc H.size) av.toArray U := fun U hU hW =>
  ⟨rfl, (kpre X w av U hU hW).2, hS U hU hW⟩
theorem krunVT (X : Cx cc nL own D ac p m args c s) (w : Wo D A (ws0 ++ wc) H0 H locs) (hS : ∀ U : State, U.heap = H → s.WarmedH U.vm → SP (fun _ => False) U U.heap) (hM : MetT l y [Cond.code y bytes maxL ret] rm (va_Pc (.ref b :: As) (CPreT D ac wc H.size)) XN)
    (hk : Cond.code y bytes maxL ret ∈ lw_tbl ∧ okw (Cond.code y bytes maxL ret) = true) (hi : Cond.initialized y.cls ∈ lw_tbl ∧ okw (Cond.initialized y.cls) = true) (hl : Cond.methodLink own index y ∈ lw_tbl ∧ okw (Cond.methodLink own index y) = true) (hx : Cond.instanceMethod y ∈ lw_tbl ∧ okw (Cond.instanceMethod y) = true) (hs : Cond.selects C y y ∈ lw_tbl ∧ okw (Cond.selects C y y) = true)
    (hd : (y.cls ≠ "java/lang/invoke/MethodHandle" ∧ y.cls ≠ "java/lang/invoke/VarHandle") ∧ (parseMethodDescriptor y.desc).map (fun d => d.parameters.length) = some n) (hrc : rm.cells = 1) (hrs : rm.slots = 6) (hR : rm.frames + 1 ≤ R.frames ∧ 8 + (maxL + 11) + rm.locals ≤ R.locals) (hf : cells + 1 ≤ R.cells ∧ slots + 6 ≤ R.slots)
    (hr : ∃ cellB : Cell, H[b]? = some cellB ∧ cellB.vm.isStatics = false ∧ s.vm.findClass C = some cellB.cls) (hn : As.length = n) (hz : ls.size = nL) (hst : st0 = As.reverse ++ .ref b :: rest) (hW : (rest.map fun v => v.category).sum ≤ 8) (hdg : decode cc pc = .ok (.invokevirtual index, 3)) :
    RunT p l e R s m args below meth c H locs cells slots (F0 m pc ls st0) rest XN := by
  obtain ⟨hxx, hb, hml, ho, hT, hK⟩ := id X
  intro T hheap X0
  obtain ⟨mk, methM, hnamed, hmethM, hstM, habM⟩ := Cond.instanceMethod_spec (hT.at (a := args) hx)
  obtain ⟨methM', cM, hmethM', -, -, -, -, -, -, hsigM⟩ := Cond.code_spec hnamed (hT.at (a := args) hk)
  cases hmethM.symm.trans hmethM'
  obtain ⟨c2, r2, m2, q1, q2, q3, q4, kP, hkP, hkPi⟩ := Cond.selects_spec (hT.at (a := args) hs)
  obtain ⟨cellB, hcB, hoB, hcls⟩ := hr
  cases hcls.symm.trans q1
  cases (State.methodFound?_of_named hnamed hd.1).symm.trans q2
  cases hnamed.symm.trans q3
  have hselP : selectMethod e.platform s.vm cellB.cls mk = .method mk := by rw [Launch.admits_selectMethod X0.admits]; exact q4
  obtain ⟨vm₁, X₁, hstep₁⟩ := X0.invokevirtual hxx ho (hT.at hl) hnamed hmethM hstM hkP hkPi hd.1 (a := b) (cell := cellB) (by rw [hheap]; exact hcB)
    (fun z h => by rw [h] at hoB; cases hoB) hselP hmethM habM hkP hkPi (g := F0 m pc ls st0) rfl (argsL := As) (rest := rest) (hn.trans (ksig hd.2 _ hsigM)) hst (by rw [hb]; exact hdg)
  obtain ⟨x, T', X', hWT, hsT, ⟨ce, hce, hcc, hvm⟩, hsteps⟩ := backT (W0 := 8) (len := 3) hM preT_blind hrc hrs hR.1 hR.2 (kwords hT hk) (List.mem_singleton.mpr rfl) (fun a' U hW => (hT.moved hW).at hi) X₁ (g := { F0 m pc ls st0 with stack := rest }) (ig := .invokevirtual index) (mk := mk) (a := (Value.ref b :: As).toArray) rfl (hz.trans hml.symm) (by rw [hb]; exact hdg) (lv_room hW) (X₁.named hnamed) (kpreT X w hS _ _ hheap X₁.warmed) hf.1 hf.2
  rw [List.append_nil] at X'
  refine ⟨x, T', X', fun q d h => ?_, ⟨ce, hce, ?_, hvm⟩, fun target h => hstep₁ _ fun acts => by rw [doInvoke_state]; exact hsteps.trans h⟩
  · have := same_old hsT q d (by show T.heap[q]? = some d; rw [hheap]; exact h)
    exact this
  · rw [← X₁.warmed.alike.findClass]; exact hcc
theorem krunST (X : Cx cc nL own D ac p m args c s) (w : Wo D A (ws0 ++ wc) H0 H locs) (hS : ∀ U : State, U.heap = H → s.WarmedH U.vm → SP (fun _ => False) U U.heap) (hM : MetT l y [Cond.code y bytes maxL ret] rm (va_Pc As (CPreT D ac wc H.size)) XN)
    (hk : Cond.code y bytes maxL ret ∈ lw_tbl ∧ okw (Cond.code y bytes maxL ret) = true) (hi : Cond.initialized y.cls ∈ lw_tbl ∧ okw (Cond.initialized y.cls) = true) (hl : Cond.methodLink own index y ∈ lw_tbl ∧ okw (Cond.methodLink own index y) = true) (hx : Cond.static y ∈ lw_tbl ∧ okw (Cond.static y) = true)
    (hd : (y.cls ≠ "java/lang/invoke/MethodHandle" ∧ y.cls ≠ "java/lang/invoke/VarHandle") ∧ (parseMethodDescriptor y.desc).map (fun d => d.parameters.length) = some n) (hrc : rm.cells = 1) (hrs : rm.slots = 6) (hR : rm.frames + 1 ≤ R.frames ∧ 8 + (maxL + 11) + rm.locals ≤ R.locals) (hf : cells + 1 ≤ R.cells ∧ slots + 6 ≤ R.slots)
    (hn : As.length = n) (hz : ls.size = nL) (hst : st0 = As.reverse ++ rest) (hW : (rest.map fun v => v.category).sum ≤ 8) (hdg : decode cc pc = .ok (.invokestatic index, 3)) :
    RunT p l e R s m args below meth c H locs cells slots (F0 m pc ls st0) rest XN := by
  obtain ⟨hxx, hb, hml, ho, hT, hK⟩ := id X
  intro T hheap X0
  obtain ⟨mk, hnamed⟩ := Cond.code_named (hT.at (a := args) hk)
  obtain ⟨methM, cM, hmethM, -, -, -, -, -, -, hsigM⟩ := Cond.code_spec hnamed (hT.at (a := args) hk)
  have hstatic : methM.isStatic = true := Cond.static_spec hnamed hmethM (hT.at (a := args) hx)
  obtain ⟨kP, hkP, -⟩ := className_of_methodNamed hnamed
  have hinitP : kP.init = .initialized := Cond.initialized_spec (findClass_of_methodNamed hnamed) hkP (hT.at (a := args) hi)
  obtain ⟨vm₁, X₁, hstep₁⟩ := X0.invokestatic hxx ho (hT.at hl) hnamed hmethM hstatic hkP hinitP hd.1 (g := F0 m pc ls st0) rfl (argsL := As) (rest := rest) (hn.trans (ksig hd.2 _ hsigM)) hst (by rw [hb]; exact hdg)
  obtain ⟨x, T', X', hWT, hsT, ⟨ce, hce, hcc, hvm⟩, hsteps⟩ := backT (W0 := 8) (len := 3) hM preT_blind hrc hrs hR.1 hR.2 (kwords hT hk) (List.mem_singleton.mpr rfl) (fun a' U hW => (hT.moved hW).at hi) X₁ (g := { F0 m pc ls st0 with stack := rest }) (ig := .invokestatic index) (mk := mk) (a := As.toArray) rfl (hz.trans hml.symm) (by rw [hb]; exact hdg) (lv_room hW) (X₁.named hnamed) (kpreT X w hS _ _ hheap X₁.warmed) hf.1 hf.2
  rw [List.append_nil] at X'
  refine ⟨x, T', X', fun q d h => ?_, ⟨ce, hce, ?_, hvm⟩, fun target h => hstep₁ _ fun acts => by rw [doInvoke_state]; exact hsteps.trans h⟩
  · have := same_old hsT q d (by show T.heap[q]? = some d; rw [hheap]; exact h)
    exact this
  · rw [← X₁.warmed.alike.findClass]; exact hcc
/-- what the callee throws leaves the method -/
theorem kprop (hr : RunT p l e R s m args below meth c s.heap [] 0 0 (F0 m pc ls st0) rest XN) (hnoh : c.exceptionTable.isEmpty = true) (hlocks : meth.locks = false) : W p l e R s m args below meth c s.heap [] 0 0 (MQT below XN s) (F0 m pc ls st0) := by
  intro T hheap X0
  obtain ⟨x, T', X', hold, hce, st⟩ := hr T hheap X0
  obtain ⟨h1, h2, h3, h4, h5⟩ := X'.leaveThrown x (g := { F0 m pc ls st0 with stack := rest }) rfl rfl rfl (covers_of_empty hnoh _) hlocks
  exact ⟨_, st _ h1, .threw x, h2, h3, x, rfl, h4, h5, hce⟩
end KT
