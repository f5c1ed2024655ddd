-- ===== calls over a world ws0 ++ wc, the callee's contract over wc =====
theorem vp_right {D : va_G} {ws0 wc : va_W} {H : Heap} (h : va_P D classes (ws0 ++ wc) H) : va_P D classes wc H := fun k q hk => h (ws0.length + k) q (by rw [List.getElem?_append_right (Nat.le_add_right _ _), Nat.add_sub_cancel_left]; exact hk)
theorem vd_right {A : Nat → Prop} {ws0 wc : va_W} (h : va_D A (ws0 ++ wc)) : va_D A wc := by
  have f : ∀ (k : Nat) (q : Nat × va_E), wc[k]? = some q → (ws0 ++ wc)[ws0.length + k]? = some q := fun k q hk => by rw [List.getElem?_append_right (Nat.le_add_right _ _), Nat.add_sub_cancel_left]; exact hk
  exact ⟨fun i j x y hi hj hxy => by have := h.1 _ _ x y (f i x hi) (f j y hj) hxy; omega, fun k q hk => h.2 _ q (f k q hk)⟩
theorem vd_left {A : Nat → Prop} {ws0 wc : va_W} (h : va_D A (ws0 ++ wc)) : va_D A ws0 := by
  have f : ∀ (k : Nat) (q : Nat × va_E), ws0[k]? = some q → (ws0 ++ wc)[k]? = some q := fun k q hk => by rw [List.getElem?_append_left (List.getElem?_eq_some_iff.mp hk).1]; exact hk
  exact ⟨fun i j x y hi hj hxy => h.1 _ _ x y (f i x hi) (f j y hj) hxy, fun k q hk => h.2 _ q (f k q hk)⟩
theorem vp_left {D : va_G} {ws0 wc : va_W} {H : Heap} (h : va_P D classes (ws0 ++ wc) H) : va_P D classes ws0 H := fun k q hk => h k q (by rw [List.getElem?_append_left (List.getElem?_eq_some_iff.mp hk).1]; exact hk)
theorem kfree {D : va_G} {A : Nat → Prop} {ws0 wc : va_W} {H0 H : Heap} {locs : List Loc} (w : Wo D A (ws0 ++ wc) H0 H locs) : ∀ q, va_A wc H.size q → A q := by
  intro q h
  rcases h with ⟨k, e, h⟩ | h
  · exact (vd_right w.2.1).2 k (q, e) h
  · exact w.2.2.2 q (Nat.le_trans w.2.2.1.1 h)
theorem kjoin {D : va_G} {A : Nat → Prop} {ws0 wc u : va_W} {H0 H H1 : Heap} {locs locs1 : List Loc} (w : Wo D A (ws0 ++ wc) H0 H locs) (hk : ∀ q : Nat, q < H.size → ¬ va_A wc H.size q → H1[q]? = H[q]?) (hP1 : va_P D classes u H1) (hD1 : va_D (va_A wc H.size) u) (hS1 : va_S A H0 H1 locs1) : Wo D A (ws0 ++ u) H0 H1 locs1 := by
  have apart : ∀ (k : Nat) (q : Nat × va_E), ws0[k]? = some q → q.1 < H.size ∧ ¬ va_A wc H.size q.1 := by
    intro k q hq
    refine ⟨(vp_left w.1 k q hq).lt, fun h => ?_⟩
    have hl := (List.getElem?_eq_some_iff.mp hq).1
    rcases h with ⟨k2, e, h⟩ | h
    · have := w.2.1.1 k (ws0.length + k2) q (q.1, e) (by rw [List.getElem?_append_left hl]; exact hq) (by rw [List.getElem?_append_right (Nat.le_add_right _ _), Nat.add_sub_cancel_left]; exact h) rfl
      omega
    · exact absurd (vp_left w.1 k q hq).lt (Nat.not_lt.mpr h)
  refine ⟨va_P.app (fun k q hq => ?_) hP1, va_D.app (vd_left w.2.1) (hD1.weaken (fun k q _ h => kfree w q.1 h)) (fun i j x y hx hy hxy => ?_), hS1, w.2.2.2⟩
  · exact (vp_left w.1 k q hq).kept (hk q.1 (apart k q hq).1 (apart k q hq).2)
  · exact (apart i x hx).2 (by rw [hxy]; exact hD1.2 j y hy)
section KC
variable {p : Program} {l : Launch} {e : Env} {R : Room} {s : State} {m : MethodId} {args : Array Value} {below : List Frame} {meth : Method} {c : Code} {H : Heap} {locs : List Loc} {cells slots : Nat} {Q : State → Prop}
variable {cc : ByteArray} {nL pc : Nat} {own : String} {ls : Array Slot} {rest st0 : List Value} {D : va_G} {ac : Nat → ClassId} {A : Nat → Prop} {a : Nat} {ws0 wc : va_W} {H0 : Heap}
variable {y x : MethodName} {bytes : ByteArray} {maxL mc ms n index : Nat} {ret : Option FieldType} {rm : Room} {Qc : Array Value → State → Outcome → State → Prop} {C : String} {b : Addr} {As : List Value} {av : Array Value}
theorem kpre (X : Cx cc nL own D ac p m args c s) (w : Wo D A (ws0 ++ wc) H0 H locs) (av : List Value) : ∀ U : State, U.heap = H → s.WarmedH U.vm → va_Pc av (CPre D ac wc H.size) av.toArray U := fun U hU hW =>
  ⟨rfl, X.2.2.2.2.1.moved hW, by rw [hU], by rw [hU]; exact vp_right w.1, va_K.moved hW.alike X.2.2.2.2.2, (vd_right w.2.1).weaken (fun _ _ _ _ => trivial)⟩
theorem kwords (hT : TW s) (hk : Cond.code y bytes maxL ret ∈ lw_tbl ∧ okw (Cond.code y bytes maxL ret) = true) : ∀ w ∈ [Cond.code y bytes maxL ret], ∀ (a' : Array Value) (U : State), s.WarmedH U.vm → w.before a' U = true := by
  intro w hw a' U hW
  cases List.mem_singleton.mp hw
  exact (hT.moved hW).at hk
theorem krecv (X : Cx cc nL own D ac p m args c s) (w : Wo D A (ws0 ++ wc) H0 H locs) {ci : Nat} {T : u_T} {N : Nat} {fs : List Value} (q0 : Nat) (he : wc[q0]? = some (b, .inr (ci, fs))) (hc : classes[ci]? = some (C, T, N)) : ∃ cellB : Cell, H[b]? = some cellB ∧ cellB.vm.isStatics = false ∧ s.vm.findClass C = some cellB.cls :=
  va_recv (q := (C, T, N)) X.2.2.2.2.2 (vp_right w.1) hc he
theorem ksig (hd : (parseMethodDescriptor y.desc).map (fun d => d.parameters.length) = some n) : ∀ sig, parseMethodDescriptor y.desc = some sig → n = sig.parameters.length := fun sig h => by
  rw [h] at hd
  exact (Option.some.inj hd).symm
/-- a call of a method of the receiver's own class -/
theorem krunV (X : Cx cc nL own D ac p m args c s) (w : Wo D A (ws0 ++ wc) H0 H locs) (hM : Met l y [Cond.code y bytes maxL ret] rm (va_Pc (.ref b :: As) (CPre D ac wc H.size)) Qc mc ms (va_A wc H.size))
    (hk : Cond.code y bytes maxL ret ∈ lw_tbl ∧ okw (Cond.code y bytes maxL ret) = true) (hi : Cond.initialized y.cls ∈ lw_tbl ∧ okw (Cond.initialized y.cls) = true) (hl : Cond.methodLink own index y ∈ lw_tbl ∧ okw (Cond.methodLink own index y) = true) (hx : Cond.instanceMethod y ∈ lw_tbl ∧ okw (Cond.instanceMethod y) = true) (hs : Cond.selects C y y ∈ lw_tbl ∧ okw (Cond.selects C y y) = true)
    (hd : (y.cls ≠ "java/lang/invoke/MethodHandle" ∧ y.cls ≠ "java/lang/invoke/VarHandle") ∧ (parseMethodDescriptor y.desc).map (fun d => d.parameters.length) = some n) (hrc : rm.cells = mc) (hrs : rm.slots = ms) (hR : rm.frames + 1 ≤ R.frames ∧ 8 + (maxL + 11) + rm.locals ≤ R.locals) (hf : cells + mc ≤ R.cells ∧ slots + ms ≤ R.slots)
    (hr : ∃ cellB : Cell, H[b]? = some cellB ∧ cellB.vm.isStatics = false ∧ s.vm.findClass C = some cellB.cls) (hn : As.length = n) (hz : ls.size = nL) (hst : st0 = As.reverse ++ .ref b :: rest) (hW : (rest.map fun v => v.category).sum ≤ 8) (hdg : decode cc pc = .ok (.invokevirtual index, 3)) :
    va_Run p l e R s m args below meth c H locs cells slots mc ms (F0 m pc ls st0) rest (Qc (Value.ref b :: As).toArray) (va_A wc H.size) :=
  va_runV (Ts := okt) ⟨X.1, X.2.1, X.2.2.1, X.2.2.2.1, X.2.2.2.2.1.hts⟩ hM ⟨⟨hrc, hrs, hR.1, hR.2, kwords X.2.2.2.2.1 hk, List.mem_singleton.mpr rfl, X.2.2.2.2.1.at hk, X.2.2.2.2.1.at hi, hd.1, ksig hd.2, X.2.2.2.2.1.at hl⟩, X.2.2.2.2.1.at hx, X.2.2.2.2.1.at hs⟩
    ⟨pre_blind, hr, kpre X w _⟩ rfl hn hz hst (lv_room hW) hdg hf
theorem krunVN {host : String} (X : Cx cc nL own D ac p m args c s) (w : Wo D A (ws0 ++ wc) H0 H locs) (hM : Met l y [Cond.code y bytes maxL ret] rm (va_Pc (.ref b :: As) (CPre D ac wc H.size)) Qc mc ms (va_A wc H.size))
    (hk : Cond.code y bytes maxL ret ∈ lw_tbl ∧ okw (Cond.code y bytes maxL ret) = true) (hi : Cond.initialized y.cls ∈ lw_tbl ∧ okw (Cond.initialized y.cls) = true) (hl : Cond.methodLinkNest own index y host ∈ lw_tbl ∧ okw (Cond.methodLinkNest own index y host) = true) (hx : Cond.instanceMethod y ∈ lw_tbl ∧ okw (Cond.instanceMethod y) = true) (hs : Cond.selects C y y ∈ lw_tbl ∧ okw (Cond.selects C y y) = true)
    (hd : (y.cls ≠ "java/lang/invoke/MethodHandle" ∧ y.cls ≠ "java/lang/invoke/VarHandle") ∧ (parseMethodDescriptor y.desc).map (fun d => d.parameters.length) = some n) (hrc : rm.cells = mc) (hrs : rm.slots = ms) (hR : rm.frames + 1 ≤ R.frames ∧ 8 + (maxL + 11) + rm.locals ≤ R.locals) (hf : cells + mc ≤ R.cells ∧ slots + ms ≤ R.slots)
    (hr : ∃ cellB : Cell, H[b]? = some cellB ∧ cellB.vm.isStatics = false ∧ s.vm.findClass C = some cellB.cls) (hn : As.length = n) (hz : ls.size = nL) (hst : st0 = As.reverse ++ .ref b :: rest) (hW : (rest.map fun v => v.category).sum ≤ 8) (hdg : decode cc pc = .ok (.invokevirtual index, 3)) :
    va_Run p l e R s m args below meth c H locs cells slots mc ms (F0 m pc ls st0) rest (Qc (Value.ref b :: As).toArray) (va_A wc H.size) :=
  va_runVN (Ts := okt) ⟨X.1, X.2.1, X.2.2.1, X.2.2.2.1, X.2.2.2.2.1.hts⟩ hM ⟨⟨⟨hrc, hrs, hR.1, hR.2, kwords X.2.2.2.2.1 hk, List.mem_singleton.mpr rfl⟩, X.2.2.2.2.1.at hk, X.2.2.2.2.1.at hi, hd.1, ksig hd.2, X.2.2.2.2.1.at hl⟩, X.2.2.2.2.1.at hx, X.2.2.2.2.1.at hs⟩
    ⟨pre_blind, hr, kpre X w _⟩ rfl hn hz hst (lv_room hW) hdg hf
/-- a call by a name x whose method, declared at 'owner', the receiver's class C answers by y -/
theorem krunU {owner : String} (X : Cx cc nL own D ac p m args c s) (w : Wo D A (ws0 ++ wc) H0 H locs) (hM : Met l y [Cond.code y bytes maxL ret] rm (va_Pc (.ref b :: As) (CPre D ac wc H.size)) Qc mc ms (va_A wc H.size))
    (hk : Cond.code y bytes maxL ret ∈ lw_tbl ∧ okw (Cond.code y bytes maxL ret) = true) (hi : Cond.initialized y.cls ∈ lw_tbl ∧ okw (Cond.initialized y.cls) = true) (hl : Cond.methodLink own index x ∈ lw_tbl ∧ okw (Cond.methodLink own index x) = true) (hsm : Cond.sameMethod x.cls owner x.name x.desc ∈ lw_tbl ∧ okw (Cond.sameMethod x.cls owner x.name x.desc) = true) (hdc : va_Decl s ⟨owner, x.name, x.desc⟩) (hx : Cond.instanceMethod y ∈ lw_tbl ∧ okw (Cond.instanceMethod y) = true) (hs : Cond.selects C x y ∈ lw_tbl ∧ okw (Cond.selects C x y) = true)
    (hd : (owner ≠ "java/lang/invoke/MethodHandle" ∧ owner ≠ "java/lang/invoke/VarHandle") ∧ (parseMethodDescriptor x.desc).map (fun d => d.parameters.length) = some n) (hrc : rm.cells = mc) (hrs : rm.slots = ms) (hR : rm.frames + 1 ≤ R.frames ∧ 8 + (maxL + 11) + rm.locals ≤ R.locals) (hf : cells + mc ≤ R.cells ∧ slots + ms ≤ R.slots)
    (hr : ∃ cellB : Cell, H[b]? = some cellB ∧ cellB.vm.isStatics = false ∧ s.vm.findClass C = some cellB.cls) (hn : As.length = n) (hz : ls.size = nL) (hst : st0 = As.reverse ++ .ref b :: rest) (hW : (rest.map fun v => v.category).sum ≤ 8) (hdg : decode cc pc = .ok (.invokevirtual index, 3)) :
    va_Run p l e R s m args below meth c H locs cells slots mc ms (F0 m pc ls st0) rest (Qc (Value.ref b :: As).toArray) (va_A wc H.size) :=
  va_runU (Ts := okt) (x := x) (owner := owner) ⟨X.1, X.2.1, X.2.2.1, X.2.2.2.1, X.2.2.2.2.1.hts⟩ hM ⟨⟨hrc, hrs, hR.1, hR.2, kwords X.2.2.2.2.1 hk, List.mem_singleton.mpr rfl⟩, X.2.2.2.2.1.at hk, X.2.2.2.2.1.at hi, hd.1, ksig hd.2, X.2.2.2.2.1.at hl, X.2.2.2.2.1.at hsm, hdc, X.2.2.2.2.1.at hs, X.2.2.2.2.1.at hx⟩
    ⟨pre_blind, hr, kpre X w _⟩ rfl hn hz hst (lv_room hW) hdg hf
theorem krunS (X : Cx cc nL own D ac p m args c s) (w : Wo D A (ws0 ++ wc) H0 H locs) (hM : Met l y [Cond.code y bytes maxL ret] rm (va_Pc As (CPre D ac wc H.size)) Qc mc ms (va_A wc H.size))
    (hk : Cond.code y bytes maxL ret ∈ lw_tbl ∧ okw (Cond.code y bytes maxL ret) = true) (hi : Cond.initialized y.cls ∈ lw_tbl ∧ okw (Cond.initialized y.cls) = true) (hl : Cond.methodLink own index y ∈ lw_tbl ∧ okw (Cond.methodLink own index y) = true) (hx : Cond.static y ∈ lw_tbl ∧ okw (Cond.static y) = true)
    (hd : (y.cls ≠ "java/lang/invoke/MethodHandle" ∧ y.cls ≠ "java/lang/invoke/VarHandle") ∧ (parseMethodDescriptor y.desc).map (fun d => d.parameters.length) = some n) (hrc : rm.cells = mc) (hrs : rm.slots = ms) (hR : rm.frames + 1 ≤ R.frames ∧ 8 + (maxL + 11) + rm.locals ≤ R.locals) (hf : cells + mc ≤ R.cells ∧ slots + ms ≤ R.slots)
    (hn : As.length = n) (hz : ls.size = nL) (hst : st0 = As.reverse ++ rest) (hW : (rest.map fun v => v.category).sum ≤ 8) (hdg : decode cc pc = .ok (.invokestatic index, 3)) :
    va_Run p l e R s m args below meth c H locs cells slots mc ms (F0 m pc ls st0) rest (Qc As.toArray) (va_A wc H.size) :=
  va_runS (Ts := okt) ⟨X.1, X.2.1, X.2.2.1, X.2.2.2.1, X.2.2.2.2.1.hts⟩ hM ⟨⟨hrc, hrs, hR.1, hR.2, kwords X.2.2.2.2.1 hk, List.mem_singleton.mpr rfl, X.2.2.2.2.1.at hk, X.2.2.2.2.1.at hi, hd.1, ksig hd.2, X.2.2.2.2.1.at hl⟩, X.2.2.2.2.1.at hx⟩
    ⟨pre_blind, kpre X w _⟩ rfl hn hz hst (lv_room hW) hdg hf
theorem krunI (X : Cx cc nL own D ac p m args c s) (w : Wo D A (ws0 ++ wc) H0 H locs) (hM : Met l y [Cond.code y bytes maxL none] rm (va_Pc (.ref b :: As) (CPre D ac wc H.size)) Qc mc ms (va_A wc H.size))
    (hk : Cond.code y bytes maxL none ∈ lw_tbl ∧ okw (Cond.code y bytes maxL none) = true) (hi : Cond.initialized y.cls ∈ lw_tbl ∧ okw (Cond.initialized y.cls) = true) (hl : Cond.methodLink own index y ∈ lw_tbl ∧ okw (Cond.methodLink own index y) = true) (hx : Cond.instanceMethod y ∈ lw_tbl ∧ okw (Cond.instanceMethod y) = true) (hy1 : y.name = "<init>")
    (hd : (y.cls ≠ "java/lang/invoke/MethodHandle" ∧ y.cls ≠ "java/lang/invoke/VarHandle") ∧ (parseMethodDescriptor y.desc).map (fun d => d.parameters.length) = some n) (hrc : rm.cells = mc) (hrs : rm.slots = ms) (hR : rm.frames + 1 ≤ R.frames ∧ 8 + (maxL + 11) + rm.locals ≤ R.locals) (hf : cells + mc ≤ R.cells ∧ slots + ms ≤ R.slots)
    (hn : As.length = n) (hz : ls.size = nL) (hst : st0 = As.reverse ++ .ref b :: rest) (hW : (rest.map fun v => v.category).sum ≤ 8) (hdg : decode cc pc = .ok (.invokespecial index, 3)) :
    va_Run p l e R s m args below meth c H locs cells slots mc ms (F0 m pc ls st0) rest (Qc (Value.ref b :: As).toArray) (va_A wc H.size) :=
  va_runI (Ts := okt) ⟨X.1, X.2.1, X.2.2.1, X.2.2.2.1, X.2.2.2.2.1.hts⟩ hM ⟨⟨hrc, hrs, hR.1, hR.2, kwords X.2.2.2.2.1 hk, List.mem_singleton.mpr rfl, X.2.2.2.2.1.at hk, X.2.2.2.2.1.at hi, hd.1, ksig hd.2, X.2.2.2.2.1.at hl⟩, hy1, X.2.2.2.2.1.at hx⟩
    ⟨pre_blind, kpre X w _⟩ rfl hn hz hst (lv_room hW) hdg hf
theorem krunIN {host : String} (X : Cx cc nL own D ac p m args c s) (w : Wo D A (ws0 ++ wc) H0 H locs) (hM : Met l y [Cond.code y bytes maxL none] rm (va_Pc (.ref b :: As) (CPre D ac wc H.size)) Qc mc ms (va_A wc H.size))
    (hk : Cond.code y bytes maxL none ∈ lw_tbl ∧ okw (Cond.code y bytes maxL none) = true) (hi : Cond.initialized y.cls ∈ lw_tbl ∧ okw (Cond.initialized y.cls) = true) (hl : Cond.methodLinkNest own index y host ∈ lw_tbl ∧ okw (Cond.methodLinkNest own index y host) = true) (hx : Cond.instanceMethod y ∈ lw_tbl ∧ okw (Cond.instanceMethod y) = true) (hy1 : y.name = "<init>")
    (hd : (y.cls ≠ "java/lang/invoke/MethodHandle" ∧ y.cls ≠ "java/lang/invoke/VarHandle") ∧ (parseMethodDescriptor y.desc).map (fun d => d.parameters.length) = some n) (hrc : rm.cells = mc) (hrs : rm.slots = ms) (hR : rm.frames + 1 ≤ R.frames ∧ 8 + (maxL + 11) + rm.locals ≤ R.locals) (hf : cells + mc ≤ R.cells ∧ slots + ms ≤ R.slots)
    (hn : As.length = n) (hz : ls.size = nL) (hst : st0 = As.reverse ++ .ref b :: rest) (hW : (rest.map fun v => v.category).sum ≤ 8) (hdg : decode cc pc = .ok (.invokespecial index, 3)) :
    va_Run p l e R s m args below meth c H locs cells slots mc ms (F0 m pc ls st0) rest (Qc (Value.ref b :: As).toArray) (va_A wc H.size) :=
  va_runIN (Ts := okt) ⟨X.1, X.2.1, X.2.2.1, X.2.2.2.1, X.2.2.2.2.1.hts⟩ hM ⟨⟨⟨hrc, hrs, hR.1, hR.2, kwords X.2.2.2.2.1 hk, List.mem_singleton.mpr rfl⟩, X.2.2.2.2.1.at hk, X.2.2.2.2.1.at hi, hd.1, ksig hd.2, X.2.2.2.2.1.at hl⟩, hy1, X.2.2.2.2.1.at hx⟩
    ⟨pre_blind, kpre X w _⟩ rfl hn hz hst (lv_room hW) hdg hf
-- behind the call
theorem kcallv {post : va_W → Prop} (w : Wo D A (ws0 ++ wc) H0 H locs) (hr : va_Run p l e R s m args below meth c H locs cells slots mc ms (F0 m pc ls st0) rest (va_Qv post (CPost D wc H.size) (va_A wc H.size) av) (va_A wc H.size))
    (kk : ∀ (u : va_W) (H1 : Heap) (locs1 : List Loc), post u → Wo D A (ws0 ++ u) H0 H1 locs1 → W p l e R s m args below meth c H1 locs1 (cells + mc) (slots + ms) Q (F0 m (pc + 3) ls rest)) : W p l e R s m args below meth c H locs cells slots Q (F0 m pc ls st0) :=
  va_callv hr w.2.2.1 (fun q _ h => kfree w q h) (kfree w) (fun u t H1 locs1 ht _ hp hB _ hk hS => kk u H1 locs1 hp (kjoin w hk (by rw [← ht]; exact hB.1) hB.2 hS))
theorem kcalli {post : Int32 → va_W → Prop} (w : Wo D A (ws0 ++ wc) H0 H locs) (hr : va_Run p l e R s m args below meth c H locs cells slots mc ms (F0 m pc ls st0) rest (va_Qi post (CPost D wc H.size) (va_A wc H.size) av) (va_A wc H.size))
    (kk : ∀ (r : Int32) (u : va_W) (H1 : Heap) (locs1 : List Loc), post r u → Wo D A (ws0 ++ u) H0 H1 locs1 → W p l e R s m args below meth c H1 locs1 (cells + mc) (slots + ms) Q (F0 m (pc + 3) ls (.int r :: rest))) : W p l e R s m args below meth c H locs cells slots Q (F0 m pc ls st0) :=
  va_calli hr w.2.2.1 (fun q _ h => kfree w q h) (kfree w) (fun r u t H1 locs1 ht _ hp hB _ hk hS => kk r u H1 locs1 hp (kjoin w hk (by rw [← ht]; exact hB.1) hB.2 hS))
theorem kcalll {post : Int64 → va_W → Prop} (w : Wo D A (ws0 ++ wc) H0 H locs) (hr : va_Run p l e R s m args below meth c H locs cells slots mc ms (F0 m pc ls st0) rest (va_Ql post (CPost D wc H.size) (va_A wc H.size) av) (va_A wc H.size))
    (kk : ∀ (r : Int64) (u : va_W) (H1 : Heap) (locs1 : List Loc), post r u → Wo D A (ws0 ++ u) H0 H1 locs1 → W p l e R s m args below meth c H1 locs1 (cells + mc) (slots + ms) Q (F0 m (pc + 3) ls (.long r :: rest))) : W p l e R s m args below meth c H locs cells slots Q (F0 m pc ls st0) :=
  va_calll hr w.2.2.1 (fun q _ h => kfree w q h) (kfree w) (fun r u t H1 locs1 ht _ hp hB _ hk hS => kk r u H1 locs1 hp (kjoin w hk (by rw [← ht]; exact hB.1) hB.2 hS))
theorem kcallq {post : Option Nat → va_W → Prop} (w : Wo D A (ws0 ++ wc) H0 H locs) (hr : va_Run p l e R s m args below meth c H locs cells slots mc ms (F0 m pc ls st0) rest (va_Qq post (CPost D wc H.size) (va_A wc H.size) av) (va_A wc H.size))
    (kk : ∀ (r : Option Nat) (u : va_W) (H1 : Heap) (locs1 : List Loc), post r u → Wo D A (ws0 ++ u) H0 H1 locs1 → W p l e R s m args below meth c H1 locs1 (cells + mc) (slots + ms) Q (F0 m (pc + 3) ls (va_rf r :: rest))) : W p l e R s m args below meth c H locs cells slots Q (F0 m pc ls st0) :=
  va_callq hr w.2.2.1 (fun q _ h => kfree w q h) (kfree w) (fun r u t H1 locs1 ht _ hp hB _ hk hS => kk r u H1 locs1 hp (kjoin w hk (by rw [← ht]; exact hB.1) hB.2 hS))
theorem kqret {post : Option Nat → va_W → Prop} {ws ws0 : va_W} {sz : Nat} {r : Option Nat} {rt : String} (X : Cx cc nL own D ac p m args c s) (w : Wo D (va_A ws0 sz) ws s.heap H locs) (hr : meth.sig.returnType = some (.object rt)) (hlocks : meth.locks = false) (hp : post r ws) (hdg : decode cc pc = .ok (.areturn, 1)) :
    W p l e R s m args below meth c H locs cells slots (MQ below (va_Qq post (CPost D ws0 sz) (va_A ws0 sz)) args s cells slots (va_A ws0 sz)) (F0 m pc ls [va_rf r]) :=
  W.aret X.1 X.2.1 hr (Or.inl ⟨_, rfl⟩) (va_rf_or r) (fun t ht hW => ⟨⟨r, ws, rfl, hp, by rw [ht]; exact w.1, w.2.1⟩, w.2.2.1.F ht⟩) w.2.2.1.2.2 hdg
end KC
