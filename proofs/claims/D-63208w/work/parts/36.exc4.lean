-- ===== read-only calls: the heap is as it was =====
def Qro (rv : Option Value) : Array Value → State → Outcome → State → Prop := fun _ st o t => o = .returned rv ∧ t.heap = st.heap
theorem kofR {l : Launch} {D : va_G} {ac : Nat → ClassId} {ws : va_W} {sz : Nat} {argv : List Value} {rm : Room} {y : MethodName} {cc : ByteArray} {maxL : Nat} {ret : Option FieldType} {Qc : Array Value → State → Outcome → State → Prop}
    (hy : plainName y.cls = true) (hln : (lg_sl argv).length ≤ maxL)
    (body : ∀ (p : Program) (e : Env) (s : State) (m : MethodId) (args : Array Value) (below : List Frame) (meth : Method) (c : Code) (ls : Array Slot), Cx cc maxL y.cls D ac p m args c s → meth.sig.returnType = ret → meth.locks = false → Wo D (va_A ws sz) ws s.heap s.heap [] → lv_has ls maxL (lv_args 0 argv) →
      W p l e rm s m args below meth c s.heap [] 0 0 (MQ below Qc args s 0 0 (fun _ => False)) (F0 m 0 ls [])) :
    Met l y [Cond.code y cc maxL ret] rm (va_Pc argv (CPre D ac ws sz)) Qc 0 0 (fun _ => False) := by
  refine Met.ofW (cc := cc) (maxL := maxL) (ret := ret) hy rfl ?_
  intro p e s m args below meth c s₁ B hml hv
  obtain ⟨rfl, hT, hsz, hP, hK, hD0⟩ := hv
  have hl := lv_entry argv (n := maxL) hln
  rw [lg_entry_eq]
  exact body p e s m _ below meth c _ ⟨B.exec, B.bytes, hml, findClass_of_methodNamed B.named, hT, hK⟩ B.returns B.notSynchronized
    ⟨hP, hD0.self (sz := sz), va_S.rf, fun q h => Or.inr (by rw [← hsz]; exact h)⟩ hl
section KRO
variable {p : Program} {l : Launch} {e : Env} {R : Room} {s : State} {m : MethodId} {args : Array Value} {below : List Frame} {meth : Method} {c : Code} {H : Heap} {locs : List Loc} {cells slots : Nat} {Q : State → Prop}
variable {cc : ByteArray} {nL pc : Nat} {own : String} {ls : Array Slot} {rest st0 : List Value} {D : va_G} {ac : Nat → ClassId} {A : Nat → Prop} {ws0 wc : va_W} {H0 : Heap}
variable {y : MethodName} {bytes : ByteArray} {maxL n index : Nat} {ret : Option FieldType} {rm : Room} {C : String} {b : Addr} {As : List Value} {rv : Option Value} {av : Array Value}
theorem krunVr (X : Cx cc nL own D ac p m args c s) (w : Wo D A (ws0 ++ wc) H0 H locs) (hM : Met l y [Cond.code y bytes maxL ret] rm (va_Pc (.ref b :: As) (CPre D ac wc H.size)) (Qro rv) 0 0 (fun _ => False))
    (hk : Cond.code y bytes maxL ret ∈ lw_tbl ∧ okw (Cond.code y bytes maxL ret) = true) (hi : Cond.initialized y.cls ∈ lw_tbl ∧ okw (Cond.initialized y.cls) = true) (hl : Cond.methodLink own index y ∈ lw_tbl ∧ okw (Cond.methodLink own index y) = true) (hx : Cond.instanceMethod y ∈ lw_tbl ∧ okw (Cond.instanceMethod y) = true) (hs : Cond.selects C y y ∈ lw_tbl ∧ okw (Cond.selects C y y) = true)
    (hd : (y.cls ≠ "java/lang/invoke/MethodHandle" ∧ y.cls ≠ "java/lang/invoke/VarHandle") ∧ (parseMethodDescriptor y.desc).map (fun d => d.parameters.length) = some n) (hrc : rm.cells = 0) (hrs : rm.slots = 0) (hR : rm.frames + 1 ≤ R.frames ∧ 8 + (maxL + 11) + rm.locals ≤ R.locals) (hf : cells + 0 ≤ R.cells ∧ slots + 0 ≤ R.slots)
    (hr : ∃ cellB : Cell, H[b]? = some cellB ∧ cellB.vm.isStatics = false ∧ s.vm.findClass C = some cellB.cls) (hn : As.length = n) (hz : ls.size = nL) (hst : st0 = As.reverse ++ .ref b :: rest) (hW : (rest.map fun v => v.category).sum ≤ 8) (hdg : decode cc pc = .ok (.invokevirtual index, 3)) :
    va_Run p l e R s m args below meth c H locs cells slots 0 0 (F0 m pc ls st0) rest (Qro rv (Value.ref b :: As).toArray) (fun _ => False) :=
  va_runV (Ts := okt) ⟨X.1, X.2.1, X.2.2.1, X.2.2.2.1, X.2.2.2.2.1.hts⟩ hM ⟨⟨hrc, hrs, hR.1, hR.2, kwords X.2.2.2.2.1 hk, List.mem_singleton.mpr rfl, X.2.2.2.2.1.at hk, X.2.2.2.2.1.at hi, hd.1, ksig hd.2, X.2.2.2.2.1.at hl⟩, X.2.2.2.2.1.at hx, X.2.2.2.2.1.at hs⟩
    ⟨pre_blind, hr, kpre X w _⟩ rfl hn hz hst (lv_room hW) hdg hf
theorem krunSr (X : Cx cc nL own D ac p m args c s) (w : Wo D A (ws0 ++ wc) H0 H locs) (hM : Met l y [Cond.code y bytes maxL ret] rm (va_Pc As (CPre D ac wc H.size)) (Qro rv) 0 0 (fun _ => False))
    (hk : Cond.code y bytes maxL ret ∈ lw_tbl ∧ okw (Cond.code y bytes maxL ret) = true) (hi : Cond.initialized y.cls ∈ lw_tbl ∧ okw (Cond.initialized y.cls) = true) (hl : Cond.methodLink own index y ∈ lw_tbl ∧ okw (Cond.methodLink own index y) = true) (hx : Cond.static y ∈ lw_tbl ∧ okw (Cond.static y) = true)
    (hd : (y.cls ≠ "java/lang/invoke/MethodHandle" ∧ y.cls ≠ "java/lang/invoke/VarHandle") ∧ (parseMethodDescriptor y.desc).map (fun d => d.parameters.length) = some n) (hrc : rm.cells = 0) (hrs : rm.slots = 0) (hR : rm.frames + 1 ≤ R.frames ∧ 8 + (maxL + 11) + rm.locals ≤ R.locals) (hf : cells + 0 ≤ R.cells ∧ slots + 0 ≤ R.slots)
    (hn : As.length = n) (hz : ls.size = nL) (hst : st0 = As.reverse ++ rest) (hW : (rest.map fun v => v.category).sum ≤ 8) (hdg : decode cc pc = .ok (.invokestatic index, 3)) :
    va_Run p l e R s m args below meth c H locs cells slots 0 0 (F0 m pc ls st0) rest (Qro rv As.toArray) (fun _ => False) :=
  va_runS (Ts := okt) ⟨X.1, X.2.1, X.2.2.1, X.2.2.2.1, X.2.2.2.2.1.hts⟩ hM ⟨⟨hrc, hrs, hR.1, hR.2, kwords X.2.2.2.2.1 hk, List.mem_singleton.mpr rfl, X.2.2.2.2.1.at hk, X.2.2.2.2.1.at hi, hd.1, ksig hd.2, X.2.2.2.2.1.at hl⟩, X.2.2.2.2.1.at hx⟩
    ⟨pre_blind, kpre X w _⟩ rfl hn hz hst (lv_room hW) hdg hf
theorem kcallro (hr : va_Run p l e R s m args below meth c H locs cells slots 0 0 (F0 m pc ls st0) rest (Qro rv av) (fun _ => False))
    (kk : W p l e R s m args below meth c H locs cells slots Q (F0 m (pc + 3) ls (rv.toList ++ rest))) : W p l e R s m args below meth c H locs cells slots Q (F0 m pc ls st0) := by
  intro T hT X
  obtain ⟨v, st1, t, T', L, e0, X', hL, eh, ev, ⟨hv, hh⟩, hg⟩ := hr T hT X
  have hL0 : L = [] := List.eq_nil_iff_forall_not_mem.mpr (fun q hq => hL q hq)
  subst hL0
  rw [List.append_nil] at X'
  cases hv
  obtain ⟨t2, a1, b1⟩ := kk T' (by rw [eh, hh, e0]) X'
  exact ⟨t2, hg t2 a1, b1⟩
theorem krvret (X : Cx cc nL own D ac p m args c s) (hr : meth.sig.returnType = none) (hlocks : meth.locks = false) (hdg : decode cc pc = .ok (.return_, 1)) :
    W p l e R s m args below meth c s.heap [] cells slots (MQ below (Qro none) args s cells slots (fun _ => False)) (F0 m pc ls []) :=
  W.vret X.1 X.2.1 hr (fun t ht hW => ⟨rfl, ht⟩) (fun q h => by cases h) hdg
theorem krqret {r r' : Option Nat} {rt : String} (X : Cx cc nL own D ac p m args c s) (hr : meth.sig.returnType = some (.object rt)) (hlocks : meth.locks = false) (he : r' = r) (hdg : decode cc pc = .ok (.areturn, 1)) :
    W p l e R s m args below meth c s.heap [] cells slots (MQ below (Qro (some (va_rf r'))) args s cells slots (fun _ => False)) (F0 m pc ls [va_rf r]) := by
  subst he
  exact W.aret X.1 X.2.1 hr (Or.inl ⟨_, rfl⟩) (va_rf_or r') (fun t ht hW => ⟨rfl, ht⟩) (fun q h => by cases h) hdg
end KRO
