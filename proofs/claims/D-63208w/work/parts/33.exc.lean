-- ===== exceptions: what is thrown is a new cell of its class, nothing else has changed =====
def xcA : List (String × Nat × String) := [("LeaseCores", 76, "java/util/NoSuchElementException"), ("LeaseCores", 101, "java/lang/IllegalArgumentException"), ("LeaseCores", 114, "java/lang/IllegalStateException")]
def xcUp : List String := ["java/lang/RuntimeException", "java/lang/Exception"]
def srw : List Cond := [.laysStatic "java/lang/Throwable" "UNASSIGNED_STACK" "[Ljava/lang/StackTraceElement;", .laysStatic "java/lang/Throwable" "SUPPRESSED_SENTINEL" "Ljava/util/List;", .isRef (.static "java/lang/Throwable" "UNASSIGNED_STACK" "[Ljava/lang/StackTraceElement;"), .isRef (.static "java/lang/Throwable" "SUPPRESSED_SENTINEL" "Ljava/util/List;")]
theorem xc_in : ∀ q ∈ xcA, ∀ a ∈ Bundle.ownAtoms0 q.1 q.2.1 q.2.2 xcUp, (a ∈ lw_tbl ∧ okw a = true) ∨ a ∈ srw := by decide +kernel
theorem xc_fit : ∀ q ∈ xcA, Bundle.fit q.2.2 = true := by decide +kernel
theorem xc_fitUp : ∀ n ∈ xcUp, Bundle.fit n = true := by decide +kernel
/-- a static of Throwable that holds a reference or null -/
def SQ (n d : String) (A : Nat → Prop) (U : State) (H : Heap) : Prop := ∃ (c : ClassId) (k : Class) (i : Nat) (f : Field) (a : Nat) (cell : Cell) (v : Value), U.vm.findClass "java/lang/Throwable" = some c ∧ U.fieldFound? "java/lang/Throwable" n d = some (c, k, i, f) ∧ f.isStatic = true ∧ k.statics = some a ∧ H[a]? = some cell ∧ cell.vm.isStatics = true ∧ cell.cls = c ∧ f.slot < cell.slots.size ∧ k.staticTypes[f.slot]? = some f.type ∧ cell.slots[f.slot]? = some v ∧ (v = .null ∨ ∃ t, v = .ref t) ∧ ¬ A a
theorem SQ.of {args : Array Value} {s : State} {n d : String} {A : Nat → Prop} (hl : (Cond.laysStatic "java/lang/Throwable" n d).before args s = true) (h : (Cond.isRef (.static "java/lang/Throwable" n d)).before args s = true) (hA : ∀ a : Nat, a < s.heap.size → ¬ A a) : SQ n d A s s.heap := by
  obtain ⟨c, k, i, f, a, cell, hc, hi, hst, ha, hcell, hs, hcls, hlt, hty⟩ := Cond.laysStatic_spec hl
  cases hv : (Term.static "java/lang/Throwable" n d).eval args s none [] s with
  | none => simp [Cond.before, Cond.holds, Cond.value, hv] at h
  | some w =>
    obtain ⟨-, a', cell', ha', hcell', -, hslot⟩ := Term.static_spec hi hv
    cases ha.symm.trans ha'
    cases hcell.symm.trans hcell'
    refine ⟨c, k, i, f, a, cell, w, hc, hi, hst, ha, hcell, hs, hcls, hlt, hty, hslot, ?_, hA a (Array.getElem?_eq_some_iff.mp hcell).1⟩
    simp only [Cond.before, Cond.holds, Cond.value, hv] at h
    cases w with
    | null => exact Or.inl rfl
    | ref t => exact Or.inr ⟨t, rfl⟩
    | _ => simp at h
theorem SQ.moved {n d : String} {A : Nat → Prop} {u U : State} {H : Heap} (hvm : u.vm.Alike U.vm) (h : SQ n d A u H) : SQ n d A U H := by
  obtain ⟨c, k, i, f, a, cell, v, hc, hi, hst, ha, hcell, hs, hcls, hlt, hty, hr⟩ := h
  obtain ⟨k', hi', he⟩ := State.fieldFound?_setVm hvm hi
  exact ⟨c, k', i, f, a, cell, v, by rw [hvm.findClass]; exact hc, hi', hst, by rw [he]; exact ha, hcell, hs, hcls, hlt, by rw [he]; exact hty, hr⟩
theorem SQ.kept {n d : String} {A : Nat → Prop} {U : State} {H H1 : Heap} (h : SQ n d A U H) (hq : ∀ a : Nat, a < H.size → ¬ A a → H1[a]? = H[a]?) : SQ n d A U H1 := by
  obtain ⟨c, k, i, f, a, cell, v, hc, hi, hst, ha, hcell, hs, hcls, hlt, hty, h7, h8, h9⟩ := h
  exact ⟨c, k, i, f, a, cell, v, hc, hi, hst, ha, by rw [hq a (Array.getElem?_eq_some_iff.mp hcell).1 h9]; exact hcell, hs, hcls, hlt, hty, h7, h8, h9⟩
theorem SQ.narrow {n d : String} {A B : Nat → Prop} {U : State} {H : Heap} (h : SQ n d A U H) (hAB : ∀ q, B q → A q) : SQ n d B U H := by
  obtain ⟨c, k, i, f, a, cell, v, hc, hi, hst, ha, hcell, hs, hcls, hlt, hty, h7, h8, h9⟩ := h
  exact ⟨c, k, i, f, a, cell, v, hc, hi, hst, ha, hcell, hs, hcls, hlt, hty, h7, h8, fun z => h9 (hAB a z)⟩
theorem SQ.lays {n d : String} {A : Nat → Prop} {U : State} (h : SQ n d A U U.heap) (args : Array Value) : (Cond.laysStatic "java/lang/Throwable" n d).before args U = true := by
  obtain ⟨c, k, i, f, a, cell, v, hc, hi, hst, ha, hcell, hs, hcls, hlt, hty, -⟩ := h
  exact Cond.laysStatic_of hc hi hst ha hcell hs hcls hlt hty
theorem SQ.isRef {n d : String} {A : Nat → Prop} {U : State} (h : SQ n d A U U.heap) (args : Array Value) : (Cond.isRef (.static "java/lang/Throwable" n d)).before args U = true := by
  obtain ⟨c, k, i, f, a, cell, v, hc, hi, hst, ha, hcell, hs, hcls, hlt, hty, hv, hr, -⟩ := h
  have he := Term.static_eval (args := args) (first := U) (o := none) (idx := []) hi hst ha hcell hs hv
  simp only [Cond.before, Cond.holds, Cond.value, he]
  rcases hr with rfl | ⟨t, rfl⟩ <;> rfl
def SP (A : Nat → Prop) (U : State) (H : Heap) : Prop := SQ "UNASSIGNED_STACK" "[Ljava/lang/StackTraceElement;" A U H ∧ SQ "SUPPRESSED_SENTINEL" "Ljava/util/List;" A U H
theorem SP.moved {A : Nat → Prop} {u U : State} {H : Heap} (hvm : u.vm.Alike U.vm) (h : SP A u H) : SP A U H := ⟨h.1.moved hvm, h.2.moved hvm⟩
theorem SP.kept {A : Nat → Prop} {U : State} {H H1 : Heap} (h : SP A U H) (hq : ∀ a : Nat, a < H.size → ¬ A a → H1[a]? = H[a]?) : SP A U H1 := ⟨h.1.kept hq, h.2.kept hq⟩
theorem SP.narrow {A B : Nat → Prop} {U : State} {H : Heap} (h : SP A U H) (hAB : ∀ q, B q → A q) : SP B U H := ⟨h.1.narrow hAB, h.2.narrow hAB⟩
theorem SP.words {A : Nat → Prop} {U : State} (h : SP A U U.heap) (args : Array Value) : ∀ w ∈ srw, w.before args U = true := by
  intro w hw
  simp only [srw, List.mem_cons, List.not_mem_nil, or_false] at hw
  rcases hw with rfl | rfl | rfl | rfl
  · exact h.1.lays args
  · exact h.2.lays args
  · exact h.1.isRef args
  · exact h.2.isRef args
theorem xc_words {s : State} (hT : TW s) (hS : SP (fun _ => False) s s.heap) {q : String × Nat × String} (hq : q ∈ xcA) (args : Array Value) : ∀ a ∈ Bundle.ownAtoms0 q.1 q.2.1 q.2.2 xcUp, a.before args s = true := by
  intro a ha
  rcases xc_in q hq a ha with h | h
  · exact hT.at h
  · exact hS.words args a h
/-- how a throwing method ends -/
def TQ (X : String) (st : State) (o : Outcome) (t : State) : Prop := ∃ x : Addr, o = .threw x ∧ st.WarmedH t.vm ∧ st.sameButNew ({ t with vm := st.vm } : State) [] 1 6 ∧ ∃ ce : Cell, t.heap[x]? = some ce ∧ st.vm.findClass X = some ce.cls ∧ ce.vm = .none
def MetT (l : Launch) (y : MethodName) (ws : List Cond) (rm : Room) (Pc : Array Value → State → Prop) (X : String) : Prop := MetFree l y (headSpec ws rm) Pc (fun _ _ _ _ _ => True) (fun _ st o t => TQ X st o t)
def MQT (below : List Frame) (X : String) (s : State) : State → Prop := fun t => ∃ o, t.status = .running ∧ Ended t below o ∧ TQ X s o t
theorem MetT.ofW {l : Launch} {y : MethodName} {ws ws' : List Cond} {rm : Room} {Pc : Array Value → State → Prop} {XN : String} {cc : ByteArray} {maxL : Nat} {ret : Option FieldType}
    (hy : plainName y.cls = true) (hw : ws = Cond.code y cc maxL ret :: ws')
    (body : ∀ p e s m args below meth c s₁, BodyLoose p l y (headSpec ws rm) cc maxL ret e s m args below meth c s₁ → c.maxLocals = maxL → Pc args s →
      W p l e (headSpec ws rm).room s m args below meth c s.heap [] 0 0 (MQT below XN s) (entryFrame m args maxL)) : MetT l y ws rm Pc XN := by
  refine MetFree.of_bodyS (code := cc) (maxLocals := maxL) (ret := ret) hy ?_ ?_
  · intro args s m h hn
    obtain ⟨meth, c, h1, h2, h3, h4, h5, h6, -, -⟩ := Cond.code_spec hn (atoms_spec (ws := ws) h _ (by rw [hw]; exact List.mem_cons_self))
    exact ⟨meth, c, h1, h2, h3, h4, h5, h6⟩
  · intro p e s m args below meth c s₁ B hml hP _
    have hh0 : s₁.heap = s.heap := by rw [B.state]; rfl
    obtain ⟨t, a1, o, b1, b2, b3⟩ := body p e s m args below meth c s₁ B hml hP s₁ hh0 (Stand.of_body B)
    exact ⟨t, o, a1, b1, b2, b3⟩
def CPreT (D : va_G) (ac : Nat → ClassId) (ws : va_W) (sz : Nat) (U : State) : Prop := CPre D ac ws sz U ∧ SP (fun _ => False) U U.heap
theorem preT_blind {D : va_G} {ac : Nat → ClassId} {ws : va_W} {sz : Nat} {av : List Value} : FrameBlind (va_Pc av (CPreT D ac ws sz)) := fun a U g mk q => ⟨q.1, q.2.1.calling g mk a, SP.moved (u := U) (U := U.calling g mk a) (Vm.Alike.refl U.vm) q.2.2⟩
theorem kofT {l : Launch} {D : va_G} {ac : Nat → ClassId} {ws : va_W} {sz : Nat} {argv : List Value} {rm : Room} {y : MethodName} {cc : ByteArray} {maxL : Nat} {ret : Option FieldType} {XN : String}
    (hy : plainName y.cls = true) (hln : (lg_sl argv).length ≤ maxL)
    (body : ∀ (p : Program) (e : Env) (s : State) (m : MethodId) (args : Array Value) (below : List Frame) (meth : Method) (c : Code) (ls : Array Slot), Cx cc maxL y.cls D ac p m args c s → meth.sig.returnType = ret → meth.locks = false → c.exceptionTable.isEmpty = true → SP (fun _ => False) s s.heap → Wo D (va_A ws sz) ws s.heap s.heap [] → lv_has ls maxL (lv_args 0 argv) →
      W p l e rm s m args below meth c s.heap [] 0 0 (MQT below XN s) (F0 m 0 ls [])) :
    MetT l y [Cond.code y cc maxL ret] rm (va_Pc argv (CPreT D ac ws sz)) XN := by
  refine MetT.ofW (cc := cc) (maxL := maxL) (ret := ret) hy rfl ?_
  intro p e s m args below meth c s₁ B hml hv
  obtain ⟨rfl, ⟨hT, hsz, hP, hK, hD0⟩, hS⟩ := hv
  have hl := lv_entry argv (n := maxL) hln
  rw [lg_entry_eq]
  have hnh : c.exceptionTable.isEmpty = true := B.noHandlers (atoms_spec (ws := [Cond.code y cc maxL ret]) B.pre _ List.mem_cons_self)
  exact body p e s m _ below meth c _ ⟨B.exec, B.bytes, hml, findClass_of_methodNamed B.named, hT, hK⟩ B.returns B.notSynchronized hnh hS
    ⟨hP, hD0.self (sz := sz), va_S.rf, fun q h => Or.inr (by rw [← hsz]; exact h)⟩ hl
section KX
variable {p : Program} {l : Launch} {e : Env} {R : Room} {s : State} {m : MethodId} {args : Array Value} {below : List Frame} {meth : Method} {c : Code}
variable {cc : ByteArray} {nL pc : Nat} {own : String} {ls : Array Slot} {rest : List Value} {D : va_G} {ac : Nat → ClassId}
/-- new, dup, the constructor, athrow -/
theorem kthrow0 (X : Cx cc nL own D ac p m args c s) (hfl : l.flags = pinnedFlags ++ [noTraceFlag]) (hS : SP (fun _ => False) s s.heap) (hnoh : c.exceptionTable.isEmpty = true) (hlocks : meth.locks = false) {ic inew : Nat} {XN : String} (hq : (own, ic, XN) ∈ xcA)
    (hcl : Cond.classLink own inew XN ∈ lw_tbl ∧ okw (Cond.classLink own inew XN) = true) (hins : Cond.instantiable XN 6 ∈ lw_tbl ∧ okw (Cond.instantiable XN 6) = true) (hini : Cond.initialized XN ∈ lw_tbl ∧ okw (Cond.initialized XN) = true)
    (hz : ls.size = nL) (hRf : 5 < R.frames) (hRl : (rest.map fun v => v.category).sum + 82 ≤ R.locals) (hRc : 1 ≤ R.cells) (hRs : 6 ≤ R.slots)
    (hd0 : decode cc pc = .ok (.new inew, 3)) (hd3 : decode cc (pc + 3) = .ok (.dup, 1)) (hd4 : decode cc (pc + 4) = .ok (.invokespecial ic, 3)) (hd7 : decode cc (pc + 7) = .ok (.athrow, 1)) :
    W p l e R s m args below meth c s.heap [] 0 0 (MQT below XN s) (F0 m pc ls rest) := by
  obtain ⟨hx, hb, hml, ho, hT, hK⟩ := X
  intro T hheap X0
  have htr : e.platform.stackTraces = false := Launch.traces_off hfl X0.admits
  obtain ⟨vm1, cX, kX, hfX, hkX, -, -, X1, st1⟩ := X0.newCold hx ho (hT.at hcl) (hT.at hins) (hT.at hini) (g := F0 m pc ls rest) rfl (by rw [hb]; exact hd0) (by omega) (by omega)
  generalize hTT : (T.setVm vm1).pushCell { cls := cX, slots := kX.instanceTypes.map defaultValue, vm := .none } = T1 at X1 st1
  have hcellA : T1.heap[T.heap.size]? = some (freshCell cX kX) := by rw [← hTT]; exact State.heap_pushCell_size _ _
  obtain ⟨U, hsteps, hrun, hend, hW, hsame, ce, hce, K⟩ := X1.ctorThrow0 hx htr (own := own) (cls := XN) (names := xcUp) (ic := ic) ho (xc_fit _ hq) xc_fitUp (xc_words hT hS hq args) (fun y hy => by cases hy) hfX hkX hcellA (by rw [hheap]; exact Nat.le_refl _)
    (g := F0 m (pc + 4) ls (.ref T.heap.size :: .ref T.heap.size :: rest)) rfl (hz.trans hml.symm) rfl rfl (rest := rest) rfl (by rw [hb]; exact hd4) (by rw [hb]; exact hd7) (covers_of_empty hnoh _) (by show 2 + 3 < R.frames; omega)
    (by show 2 * 0 + (Value.category (.ref T.heap.size) + (rest.map fun v => v.category).sum) + (13 * (2 + 1) + 41) ≤ R.locals; show 2 * 0 + (1 + _) + _ ≤ _; omega) hlocks
  refine ⟨U, st1 _ ?_, .threw T.heap.size, hrun, hend, T.heap.size, rfl, hW, hsame, ce, hce, K.cls, K.vm⟩
  show Steps p.tables e below (T1.setTop (F0 m (pc + 3) ls (.ref T.heap.size :: rest))) _
  jvm_step X1.here [X1.here.top, hx, hb, hd3, Value.category]
  exact hsteps
end KX
