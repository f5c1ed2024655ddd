-- ===== the law's helpers: static, with handlers =====
theorem wo_old {D : va_G} {A : Nat → Prop} {ws : va_W} {H0 H H1 : Heap} {locs : List Loc} (w : Wo D A ws H0 H locs) (hold : ∀ (q : Nat) (d : Cell), H[q]? = some d → H1[q]? = some d) : Wo D A ws H0 H1 locs := by
  have hs := old_size hold
  have hk : ∀ q : Nat, q < H.size → H1[q]? = H[q]? := fun q hq => by rw [Array.getElem?_eq_getElem hq]; exact hold q _ (Array.getElem?_eq_getElem hq)
  refine ⟨fun k q hq => (w.1 k q hq).kept (hk q.1 (w.1 k q hq).lt), w.2.1, ⟨Nat.le_trans w.2.2.1.1 hs, fun q hq hA => ?_, w.2.2.1.2.2⟩, w.2.2.2⟩
  rw [hk q (Nat.lt_of_lt_of_le hq w.2.2.1.1)]
  exact w.2.2.1.2.1 q hq hA
theorem kofH {l : Launch} {D : va_G} {ac : Nat → ClassId} {ws : va_W} {sz : Nat} {argv : List Value} {rm : Room} {mc ms : Nat} {y : MethodName} {cc : ByteArray} {maxL : Nat} {ret : Option FieldType} {hh : List (Nat × Nat × Nat × Nat)} {Qc : Array Value → State → Outcome → State → Prop}
    (hy : plainName y.cls = true) (hln : (lg_sl argv).length ≤ maxL)
    (body : ∀ (p : Program) (e : Env) (s : State) (m : MethodId) (args : Array Value) (below : List Frame) (meth : Method) (c : Code) (ls : Array Slot), Cx cc maxL y.cls D ac p m args c s → meth.sig.returnType = ret → meth.locks = false → c.exceptionTable.toList.map (fun h => (h.startPc, h.endPc, h.handlerPc, h.catchType)) = hh → SP (fun _ => False) s s.heap → Wo D (va_A ws sz) ws s.heap s.heap [] → lv_has ls maxL (lv_args 0 argv) →
      W p l e rm s m args below meth c s.heap [] 0 0 (MQ below Qc args s mc ms (va_A ws sz)) (F0 m 0 ls [])) :
    Met l y [Cond.codeWith y cc maxL ret hh] rm (va_Pc argv (CPreT D ac ws sz)) Qc mc ms (va_A ws sz) := by
  refine va_MetW (cc := cc) (maxL := maxL) (ret := ret) (hh := hh) hy rfl ?_
  intro p e s m args below meth c s₁ B hml hv
  obtain ⟨rfl, ⟨hT, hsz, hP, hK, hD0⟩, hS⟩ := hv
  have hl := lv_entry argv (n := maxL) hln
  rw [lg_entry_eq]
  have hex : c.exceptionTable.toList.map (fun h => (h.startPc, h.endPc, h.handlerPc, h.catchType)) = hh := by
    obtain ⟨m9, meth9, c9, hn9, h1, h2, -, -, h4, -⟩ := Cond.codeWith_spec (atoms_spec (ws := [Cond.codeWith y cc maxL ret hh]) B.pre _ List.mem_cons_self)
    cases B.named.symm.trans hn9
    have e1 : meth = meth9 := Option.some.inj (B.method.symm.trans h1)
    subst e1
    have e2 : c = c9 := Option.some.inj ((Stand.of_body B).code.symm.trans h2)
    rw [e2]
    exact h4
  exact body p e s m _ below meth c _ ⟨B.exec, B.bytes, hml, findClass_of_methodNamed B.named, hT, hK⟩ B.returns B.notSynchronized hex hS
    ⟨hP, hD0.self (sz := sz), va_S.rf, fun q h => Or.inr (by rw [← hsz]; exact h)⟩ hl
