-- ===== the law's own rows =====
theorem wo_swap {D : va_G} {A : Nat → Prop} {w1 w2 : va_W} {H0 H : Heap} {locs : List Loc} (w : Wo D A (w1 ++ w2) H0 H locs) : Wo D A (w2 ++ w1) H0 H locs := by
  refine ⟨va_P.app (vp_right w.1) (vp_left w.1), va_D.app (vd_right w.2.1) (vd_left w.2.1) (fun i j x y hx hy hxy => ?_), w.2.2.1, w.2.2.2⟩
  have hl := (List.getElem?_eq_some_iff.mp hy).1
  have := w.2.1.1 j (w1.length + i) y x (by rw [List.getElem?_append_left hl]; exact hy) (by rw [List.getElem?_append_right (Nat.le_add_right _ _), Nat.add_sub_cancel_left]; exact hx) hxy.symm
  omega
theorem kwordsW {s : State} {y : MethodName} {bytes : ByteArray} {maxL : Nat} {ret : Option FieldType} {hh : List (Nat × Nat × Nat × Nat)} (hT : TW s) (hk : Cond.codeWith y bytes maxL ret hh ∈ lw_tbl ∧ okw (Cond.codeWith y bytes maxL ret hh) = true) : ∀ w ∈ [Cond.codeWith y bytes maxL ret hh], ∀ (a' : Array Value) (U : State), s.WarmedH U.vm → w.before a' U = true := by
  intro w hw a' U hW
  cases List.mem_singleton.mp hw
  exact (hT.moved hW).at hk
section KSW
variable {p : Program} {l : Launch} {e : Env} {R : Room} {s : State} {m : MethodId} {args : Array Value} {below : List Frame} {meth : Method} {c : Code} {H : Heap} {locs : List Loc} {cells slots : Nat} {Q : State → Prop}
variable {cc : ByteArray} {nL pc : Nat} {own : String} {ls : Array Slot} {rest st0 : List Value} {D : va_G} {ac : Nat → ClassId} {A : Nat → Prop} {ws0 wc : va_W} {H0 : Heap}
variable {y : MethodName} {bytes : ByteArray} {maxL mc ms n index : Nat} {ret : Option FieldType} {rm : Room} {Qc : Array Value → State → Outcome → State → Prop} {As : List Value} {hh : List (Nat × Nat × Nat × Nat)} {b L : Nat} {xs : Nat → Int32}
theorem krunSW (X : Cx cc nL own D ac p m args c s) (w : Wo D A (ws0 ++ wc) H0 H locs) (hS : ∀ U : State, U.heap = H → s.WarmedH U.vm → SP (fun _ => False) U U.heap) (hM : Met l y [Cond.codeWith y bytes maxL ret hh] rm (va_Pc As (CPreT D ac wc H.size)) Qc mc ms (va_A wc H.size))
    (hk : Cond.codeWith y bytes maxL ret hh ∈ lw_tbl ∧ okw (Cond.codeWith y bytes maxL ret hh) = true) (hi : Cond.initialized y.cls ∈ lw_tbl ∧ okw (Cond.initialized y.cls) = true) (hl : Cond.methodLink own index y ∈ lw_tbl ∧ okw (Cond.methodLink own index y) = true) (hx : Cond.static y ∈ lw_tbl ∧ okw (Cond.static y) = true)
    (hd : (y.cls ≠ "java/lang/invoke/MethodHandle" ∧ y.cls ≠ "java/lang/invoke/VarHandle") ∧ (parseMethodDescriptor y.desc).map (fun d => d.parameters.length) = some n) (hrc : rm.cells = mc) (hrs : rm.slots = ms) (hR : rm.frames + 1 ≤ R.frames ∧ 8 + (maxL + 11) + rm.locals ≤ R.locals) (hf : cells + mc ≤ R.cells ∧ slots + ms ≤ R.slots)
    (hn : As.length = n) (hz : ls.size = nL) (hst : st0 = As.reverse ++ rest) (hW : (rest.map fun v => v.category).sum ≤ 8) (hdg : decode cc pc = .ok (.invokestatic index, 3)) :
    va_Run p l e R s m args below meth c H locs cells slots mc ms (F0 m pc ls st0) rest (Qc As.toArray) (va_A wc H.size) := by
  obtain ⟨hxx, hb, hml, ho, hT, hK⟩ := id X
  have hB : Back l R p e below s args y 3 8 (PreOf R mc ms (va_Pc As (CPreT D ac wc H.size))) (PostOf Qc mc ms (va_A wc H.size)) := va_backW (hh := hh) (bytes := bytes) (maxL := maxL) (ret := ret) hM preT_blind hrc hrs hR.1 hR.2 (kwordsW hT hk) (List.mem_singleton.mpr rfl) (fun a' U hW => (hT.moved hW).at hi)
  intro T hheap X0
  obtain ⟨mk, methM, cM, hnamed, hmethM, -, -, -, -, -, -, hsigM⟩ := Cond.codeWith_spec (hT.at (a := args) hk)
  have hstatic : methM.isStatic = true := Cond.static_spec hnamed hmethM (hT.at (a := args) hx)
  obtain ⟨kP, hkP, -⟩ := className_of_methodNamed hnamed
  have hinitP : kP.init = .initialized := Cond.initialized_spec (findClass_of_methodNamed hnamed) hkP (hT.at (a := args) hi)
  obtain ⟨vm₁, X₁, hstep₁⟩ := X0.invokestatic hxx ho (hT.at hl) hnamed hmethM hstatic hkP hinitP hd.1 (g := F0 m pc ls st0) rfl (argsL := As) (rest := rest) (hn.trans (ksig hd.2 _ hsigM)) hst (by rw [hb]; exact hdg)
  obtain ⟨v, ⟨U', l2, c2, s2⟩, X', ⟨g', mk', t, L, e1, e2, hq, h1, hL, h2, h3⟩, hsteps⟩ := hB m meth c ⟨T.setVm vm₁, locs, cells, slots⟩ { F0 m pc ls st0 with stack := rest } (.invokestatic index) mk As.toArray X₁ rfl (hz.trans hml.symm) (by rw [hb]; exact hdg) (lv_room hW) (X₁.named hnamed) ⟨hf.1, hf.2, kpreT X w hS _ _ hheap X₁.warmed⟩
  dsimp only [Pt.U, Pt.locs, Pt.cells, Pt.slots] at X' e1 e2 h1 h2 h3 hsteps
  subst h1; subst h2; subst h3
  exact ⟨v, (T.setVm vm₁).calling g' mk' As.toArray, t, U', L, hheap, X', hL, e1, e2, hq, fun target h => hstep₁ _ fun acts => by rw [doInvoke_state]; exact hsteps.trans h⟩
/-- the script's ints -/
theorem ksld (X : Cx cc nL own D ac p m args c s) (hX : va_X b L xs s s.heap) (hbl : b < s.heap.size) (w : Wo D A ws0 s.heap H locs) (hbA : ¬ A b) (j : Nat) {i v : Int32} (hj : j < L) (hL : L < 2 ^ 31) (hi : i = nI j) (hv : xs j = v) (hdg : decode cc pc = .ok (.iaload, 1))
    (kk : W p l e R s m args below meth c H locs cells slots Q (F0 m (pc + 1) ls (.int v :: rest))) : W p l e R s m args below meth c H locs cells slots Q (F0 m pc ls (.int i :: .ref b :: rest)) := by
  subst hi; subst hv
  refine va_sld X.1 X.2.1 hX hbl hbA w.2.2.1 (vp_in_nI hj hL) hdg ?_
  rw [nI_clamp (by omega)]
  exact kk
end KSW
