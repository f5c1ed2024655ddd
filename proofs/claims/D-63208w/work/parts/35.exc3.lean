-- ===== catching: the handlers' classes may not be resolved yet =====
section XF
variable {e : Env} {s : State} {f : JFrame} {a : Addr}
theorem xgo {E : CtlPost} {d : Bool} {acts : List Action} {Q : Handler → Pre} {x : ExceptionTableEntry} {t : List ExceptionTableEntry} {c : ClassId} {vm' : Vm} (hx : covers x f.pc = true) (h0 : x.catchType ≠ 0)
    (hg : (Jvm.resolveClass f.method.cls x.catchType).Gives e.toSetting s.vm (.ok c) vm') (hr : vm'.classReady f.method.cls x.catchType c) (hsz : vm'.classes.size ≤ s.vm.classes.size) :
    wp (findHandler.go f a (x :: t)) Q E e d acts s ↔ wp (findHandler.go f a (x :: t)) Q E e d acts (s.setVm vm') := by
  obtain ⟨ha, ht⟩ := hg.op (op := VmOp.resolveClass f.method.cls x.catchType) rfl
  obtain ⟨k, hkd, hres⟩ := hr
  have hm := resolveClass_memo e hkd hres
  simp only [covers] at hx
  simp [findHandler.go, hx, h0, ha, ht, hm, hsz, VmOp.dirties, VmOp.acts]
  exact Iff.rfl
def FindsTo (e : Env) (s : State) (f : JFrame) (a : Addr) (pc : Nat) (vm' : Vm) : Prop := ∀ (Q : Handler → Pre) (E : CtlPost) (d : Bool) (acts : List Action), wp (findHandler f a) Q E e d acts s ↔ Q (.found pc) d acts (s.setVm vm')
theorem stepTo {r : List Frame} {pc : Nat} {vm' : Vm} (hfind : FindsTo e s f a pc vm') : (stepThrowing e s a (.java f :: r)).Is ((s.setVm vm').setFrames (.java { f with pc := pc, stack := [.ref a] } :: r)) [] := by
  simp only [stepThrowing, searchFrame, vmDo]
  generalize hr : Sem.go _ e false [] s = res
  obtain ⟨as, rfl, ha⟩ := Sem.eq_ok_of hr (a := Handler.found pc) (s' := s.setVm vm') (acts' := []) (by simp [hfind _ _ _ _])
  exact ⟨rfl, ha⟩
theorem caughtTo {tb : Tables} {T target : State} {g : JFrame} {c : Code} {below : List Frame} (h : At T g.method c below) {pc : Nat} {vm' : Vm} (hfind : FindsTo e ((T.setTop g).pushFrame (.throwing a)) g a pc vm')
    (hrest : Steps tb e below ((T.setVm vm').setTop { g with pc := pc, stack := [.ref a] }) target) : Steps tb e below ((T.setTop g).pushFrame (.throwing a)) target := by
  obtain ⟨hgo, hw⟩ := h.throwing a
  refine Steps.head hgo hw ?_
  rw [stepThread_throwing (frames_entered h.top _), (stepTo (s := (T.setTop g).pushFrame (.throwing a)) hfind).1]
  obtain ⟨g₀, hg⟩ := Option.isSome_iff_exists.mp h.top
  obtain ⟨r, hr⟩ := State.topJava?_eq_some.mp hg
  have hr' : (T.setVm vm').frames = .java g₀ :: r := hr
  rw [State.setTop_of_frames _ hr'] at hrest
  rw [State.pushFrame, show ∀ (S : State) (A B : List Frame), ((S.setFrames A).setVm vm').setFrames B = ((S.setFrames A).setFrames B).setVm vm' from fun _ _ _ => rfl, State.setFrames_setFrames, State.setTop_of_frames _ hr, State.setFrames_setFrames, hr]
  exact hrest
end XF
section KCT
variable {p : Program} {l : Launch} {e : Env} {R : Room} {s : State} {m : MethodId} {args : Array Value} {below : List Frame} {meth : Method} {c : Code} {H : Heap} {locs : List Loc} {cells slots : Nat} {Q : State → Prop}
variable {cc : ByteArray} {nL pc : Nat} {own : String} {ls : Array Slot} {rest st0 : List Value} {D : va_G} {ac : Nat → ClassId} {XN XA : String}
theorem old_size {H H1 : Heap} (h : ∀ (q : Nat) (d : Cell), H[q]? = some d → H1[q]? = some d) : H.size ≤ H1.size := by
  refine Nat.le_of_not_lt fun hlt => ?_
  have := h (H1.size) H[H1.size] (Array.getElem?_eq_getElem hlt)
  exact absurd (Array.getElem?_eq_some_iff.mp this).1 (Nat.lt_irrefl _)
/-- one entry's class resolved, cold or warm -/
theorem xres {T : State} (X : Stand p l e R s m args below meth c T locs cells slots) (ho : s.vm.findClass own = some m.cls) {ct : Nat} {XA : String} (hl : (Cond.classLink own ct XA).before args s = true) :
    ∃ (cT : ClassId) (vm' : Vm), s.vm.findClass XA = some cT ∧ (Jvm.resolveClass m.cls ct).Gives e.toSetting T.vm (.ok cT) vm' ∧ vm'.classReady m.cls ct cT ∧ vm'.classes.size ≤ T.vm.classes.size ∧ s.WarmedH vm' ∧ (∃ k, vm'.classes[cT]? = some k) := by
  have hpl : e.platform.magicAccessors = ({} : Platform).magicAccessors := by rw [X.admits.platform]
  obtain ⟨cT, hc', hcl⟩ := Cond.classLink_spec ho hl e.platform hpl
  obtain ⟨dk, _, _, kt, hd, _, _, _, _, hkt, _, hopen⟩ := hcl.here
  have hcl₀ := X.warmed.classLinks hcl
  have hW' : s.WarmedH (T.vm.noted m.cls ct (.cls cT)) := X.warmed.noted hd hopen (State.rightAt_cls hcl)
  obtain ⟨kt', hkt', -⟩ := hW'.alike.2.2 _ _ hkt
  exact ⟨cT, _, hc', resolveClass_links e.toSetting hcl₀, hcl₀.ready, by no_record, hW', kt', hkt'⟩
theorem kcatch1 (X : Cx cc nL own D ac p m args c s) (hr : RunT p l e R s m args below meth c H locs cells slots (F0 m pc ls st0) rest XN) {st en hp ct : Nat} {tl : List (Nat × Nat × Nat × Nat)} (hh : c.exceptionTable.toList.map (fun h => (h.startPc, h.endPc, h.handlerPc, h.catchType)) = (st, en, hp, ct) :: tl) (hcov : st ≤ pc ∧ pc < en) (hct : ct ≠ 0)
    (hl : Cond.classLink own ct XN ∈ lw_tbl ∧ okw (Cond.classLink own ct XN) = true) (hca : Cond.castable XN XN ∈ lw_tbl ∧ okw (Cond.castable XN XN) = true)
    (kk : ∀ (x : Nat) (H1 : Heap), (∀ (q : Nat) (d : Cell), H[q]? = some d → H1[q]? = some d) → W p l e R s m args below meth c H1 locs (cells + 1) (slots + 6) Q (F0 m hp ls [.ref x])) : W p l e R s m args below meth c H locs cells slots Q (F0 m pc ls st0) := by
  intro T hheap X0
  obtain ⟨x, T', X', hold, ⟨ce, hce, hcc, hvm⟩, st1⟩ := hr T hheap X0
  obtain ⟨ho, hT⟩ : s.vm.findClass own = some m.cls ∧ TW s := ⟨X.2.2.2.1, X.2.2.2.2.1⟩
  obtain ⟨cT, vm', hcT, hg, hrd, hsz, hW', hkT⟩ := xres X' ho (hT.at hl)
  obtain ⟨t, a1, b1⟩ := kk x T'.heap hold (T'.setVm vm') rfl (X'.noted hW')
  refine ⟨t, st1 _ (caughtTo X'.here (pc := hp) (vm' := vm') ?_ a1), b1⟩
  obtain ⟨y, ys, hy, hy2⟩ : ∃ y ys, c.exceptionTable.toList = y :: ys ∧ (y.startPc, y.endPc, y.handlerPc, y.catchType) = (st, en, hp, ct) := by
    cases hc : c.exceptionTable.toList with
    | nil => rw [hc] at hh; cases hh
    | cons y ys => rw [hc, List.map_cons] at hh; exact ⟨y, ys, rfl, (List.cons.inj hh).1⟩
  simp only [Prod.mk.injEq] at hy2
  obtain ⟨e1, e2, e3, e4⟩ := hy2
  have hcovers : covers y pc = true := by simp only [covers, e1, e2]; simp [hcov.1, hcov.2]
  obtain ⟨c0, t0, f1, f2, f3⟩ := Cond.castable_spec (hT.at (a := args) hca)
  cases hcc.symm.trans f1
  cases f1.symm.trans f2
  cases hcT.symm.trans f1
  intro Q E d acts
  have hS0h : ((T'.setTop { F0 m pc ls st0 with stack := rest }).pushFrame (.throwing x)).heap = T'.heap := Stand.throwing_heap T' _ x
  have hS0v : ((T'.setTop { F0 m pc ls st0 with stack := rest }).pushFrame (.throwing x)).vm = T'.vm := Stand.throwing_vm T' _ x
  generalize ((T'.setTop { F0 m pc ls st0 with stack := rest }).pushFrame (.throwing x)) = S0 at hS0h hS0v ⊢
  have hm0 : S0.vm.method? m = some meth := by rw [hS0v]; exact X'.method'
  rw [W.findHandler_eq (f := { F0 m pc ls st0 with stack := rest }) hm0 X'.code, hy]
  rw [xgo (f := { F0 m pc ls st0 with stack := rest }) (vm' := vm') (c := ce.cls) hcovers (by rw [e4]; exact hct) (by rw [hS0v, e4]; exact hg) (by rw [e4]; exact hrd) (by rw [hS0v]; exact hsz)]
  rw [W.findHandler_go_class (f := { F0 m pc ls st0 with stack := rest }) (s := S0.setVm vm') (c := ce.cls) (cell := ce) hcovers (by rw [e4]; exact hct) (by rw [e4]; exact hrd) (show S0.heap[x]? = some ce by rw [hS0h]; exact hce) (by rw [hvm]; intro k; simp) hkT hkT]
  rw [if_pos (by show vm'.assignable ce.cls ce.cls = true; rw [hW'.alike.assignable]; exact f3), e3]
theorem kcatch2 (X : Cx cc nL own D ac p m args c s) (hr : RunT p l e R s m args below meth c H locs cells slots (F0 m pc ls st0) rest XN) {st en hp ct st2 en2 hp2 ct2 : Nat} {tl : List (Nat × Nat × Nat × Nat)} (hh : c.exceptionTable.toList.map (fun h => (h.startPc, h.endPc, h.handlerPc, h.catchType)) = (st, en, hp, ct) :: (st2, en2, hp2, ct2) :: tl) (hcov : st ≤ pc ∧ pc < en) (hcov2 : st2 ≤ pc ∧ pc < en2) (hct : ct ≠ 0) (hct2 : ct2 ≠ 0)
    (hl : Cond.classLink own ct XA ∈ lw_tbl ∧ okw (Cond.classLink own ct XA) = true) (hno : (XN, XA) ∈ ncs) (hl2 : Cond.classLink own ct2 XN ∈ lw_tbl ∧ okw (Cond.classLink own ct2 XN) = true) (hca : Cond.castable XN XN ∈ lw_tbl ∧ okw (Cond.castable XN XN) = true)
    (kk : ∀ (x : Nat) (H1 : Heap), (∀ (q : Nat) (d : Cell), H[q]? = some d → H1[q]? = some d) → W p l e R s m args below meth c H1 locs (cells + 1) (slots + 6) Q (F0 m hp2 ls [.ref x])) : W p l e R s m args below meth c H locs cells slots Q (F0 m pc ls st0) := by
  intro T hheap X0
  obtain ⟨x, T', X', hold, ⟨ce, hce, hcc, hvm⟩, st1⟩ := hr T hheap X0
  obtain ⟨ho, hT⟩ : s.vm.findClass own = some m.cls ∧ TW s := ⟨X.2.2.2.1, X.2.2.2.2.1⟩
  obtain ⟨cA, vm1, hcA, hg1, hrd1, hsz1, hW1, hkA⟩ := xres X' ho (hT.at hl)
  have X1 := X'.noted hW1
  obtain ⟨cT, vm', hcT, hg, hrd, hsz, hW', hkT⟩ := xres X1 ho (hT.at hl2)
  obtain ⟨t, a1, b1⟩ := kk x T'.heap hold ((T'.setVm vm1).setVm vm') rfl (X1.noted hW')
  refine ⟨t, st1 _ (caughtTo X'.here (pc := hp2) (vm' := vm') ?_ a1), b1⟩
  obtain ⟨y, y2, ys, hy, hy2, hy3⟩ : ∃ y y2 ys, c.exceptionTable.toList = y :: y2 :: ys ∧ (y.startPc, y.endPc, y.handlerPc, y.catchType) = (st, en, hp, ct) ∧ (y2.startPc, y2.endPc, y2.handlerPc, y2.catchType) = (st2, en2, hp2, ct2) := by
    cases hc : c.exceptionTable.toList with
    | nil => rw [hc] at hh; cases hh
    | cons y ys =>
      cases ys with
      | nil => rw [hc] at hh; cases hh
      | cons y2 ys => rw [hc, List.map_cons, List.map_cons] at hh; exact ⟨y, y2, ys, rfl, (List.cons.inj hh).1, (List.cons.inj (List.cons.inj hh).2).1⟩
  simp only [Prod.mk.injEq] at hy2 hy3
  obtain ⟨e1, e2, e3, e4⟩ := hy2
  obtain ⟨u1, u2, u3, u4⟩ := hy3
  have hcovers : covers y pc = true := by simp only [covers, e1, e2]; simp [hcov.1, hcov.2]
  have hcovers2 : covers y2 pc = true := by simp only [covers, u1, u2]; simp [hcov2.1, hcov2.2]
  obtain ⟨c0, t0, f1, f2, f3⟩ := Cond.castable_spec (hT.at (a := args) hca)
  cases hcc.symm.trans f1
  cases f1.symm.trans f2
  cases hcT.symm.trans f1
  obtain ⟨c9, t9, n1, n2, n3⟩ : va_Nc XN XA s := hT.2 _ hno
  cases hcc.symm.trans n1
  cases hcA.symm.trans n2
  obtain ⟨kc, hkc⟩ : ∃ k, s.vm.classes[ce.cls]? = some k := Vm.classAt_of_findClass hcc
  obtain ⟨kc1, hkc1, -⟩ := hW1.alike.2.2 _ _ hkc
  intro Q E d acts
  have hS0h : ((T'.setTop { F0 m pc ls st0 with stack := rest }).pushFrame (.throwing x)).heap = T'.heap := Stand.throwing_heap T' _ x
  have hS0v : ((T'.setTop { F0 m pc ls st0 with stack := rest }).pushFrame (.throwing x)).vm = T'.vm := Stand.throwing_vm T' _ x
  generalize ((T'.setTop { F0 m pc ls st0 with stack := rest }).pushFrame (.throwing x)) = S0 at hS0h hS0v ⊢
  have hm0 : S0.vm.method? m = some meth := by rw [hS0v]; exact X'.method'
  rw [W.findHandler_eq (f := { F0 m pc ls st0 with stack := rest }) hm0 X'.code, hy]
  rw [xgo (f := { F0 m pc ls st0 with stack := rest }) (vm' := vm1) (c := cA) hcovers (by rw [e4]; exact hct) (by rw [hS0v, e4]; exact hg1) (by rw [e4]; exact hrd1) (by rw [hS0v]; exact hsz1)]
  rw [W.findHandler_go_class (f := { F0 m pc ls st0 with stack := rest }) (s := S0.setVm vm1) (c := cA) (cell := ce) hcovers (by rw [e4]; exact hct) (by rw [e4]; exact hrd1) (show S0.heap[x]? = some ce by rw [hS0h]; exact hce) (by rw [hvm]; intro k; simp) ⟨kc1, hkc1⟩ hkA]
  rw [if_neg (by show ¬ vm1.assignable ce.cls cA = true; rw [hW1.alike.assignable, n3]; decide)]
  rw [xgo (f := { F0 m pc ls st0 with stack := rest }) (s := S0.setVm vm1) (vm' := vm') (c := ce.cls) hcovers2 (by rw [u4]; exact hct2) (by rw [u4]; exact hg) (by rw [u4]; exact hrd) hsz]
  rw [W.findHandler_go_class (f := { F0 m pc ls st0 with stack := rest }) (s := (S0.setVm vm1).setVm vm') (c := ce.cls) (cell := ce) hcovers2 (by rw [u4]; exact hct2) (by rw [u4]; exact hrd) (show S0.heap[x]? = some ce by rw [hS0h]; exact hce) (by rw [hvm]; intro k; simp) hkT hkT]
  rw [if_pos (by show vm'.assignable ce.cls ce.cls = true; rw [hW'.alike.assignable]; exact f3), u3]
  rfl
end KCT
