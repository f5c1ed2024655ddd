-- ===== bundles: the fixed context of a walk, the world of a walk, contracts over a world =====
def up2 {α : Type} (F : Nat → Nat → α) (k j : Nat) (v : α) : Nat → Nat → α := fun a => if a = k then (fun b => if b = j then v else F a b) else F a
theorem up2_s {α : Type} (F : Nat → Nat → α) (k j : Nat) (v : α) : up2 F k j v k j = v := by simp [up2]
theorem up2_j {α : Type} (F : Nat → Nat → α) (k j i : Nat) (v : α) (h : i ≠ j) : up2 F k j v k i = F k i := by simp [up2, h]
theorem up2_k {α : Type} (F : Nat → Nat → α) (k j a : Nat) (v : α) (h : a ≠ k) : up2 F k j v a = F a := by simp [up2, h]
abbrev tys (ac : Nat → ClassId) : List (ClassId × FieldType) := [(ac 0, .int), (ac 1, .long), (ac 2, .boolean), (ac 3, .object "LeaseCores$Core"), (ac 4, .object "LeaseCores$Entry"), (ac 5, .object "LeaseCores$Message"), (ac 6, .object "LeaseCores$Place"), (ac 7, .object "LeaseCores$Request")]
abbrev okt : List Cond := lw_tbl.filter okw
theorem TW.hts {s : State} {args : Array Value} (h : TW s) : ∀ w ∈ okt, w.before args s = true := fun w hw => h.1 w (List.mem_filter.mp hw).1 (List.mem_filter.mp hw).2 args
def Cx (cc : ByteArray) (nL : Nat) (own : String) (D : va_G) (ac : Nat → ClassId) (p : Program) (m : MethodId) (args : Array Value) (c : Code) (s : State) : Prop :=
  p.tables.exec = Jvm.exec ∧ c.code = cc ∧ c.maxLocals = nL ∧ s.vm.findClass own = some m.cls ∧ TW s ∧ va_K D classes (tys ac) s
def Wo (D : va_G) (A : Nat → Prop) (ws : va_W) (H0 H : Heap) (locs : List Loc) : Prop := va_P D classes ws H ∧ va_D A ws ∧ va_S A H0 H locs ∧ ∀ q, H0.size ≤ q → A q
def CPre (D : va_G) (ac : Nat → ClassId) (ws : va_W) (sz : Nat) (U : State) : Prop := TW U ∧ U.heap.size = sz ∧ va_P D classes ws U.heap ∧ va_K D classes (tys ac) U ∧ va_D (fun _ => True) ws
def CPost (D : va_G) (ws : va_W) (sz : Nat) (u : va_W) (t : State) : Prop := va_P D classes u t.heap ∧ va_D (va_A ws sz) u
theorem CPre.calling {D : va_G} {ac : Nat → ClassId} {ws : va_W} {sz : Nat} {U : State} (h : CPre D ac ws sz U) (g : JFrame) (mk : MethodId) (a : Array Value) : CPre D ac ws sz (U.calling g mk a) := by
  obtain ⟨h1, h2, h3, h4, h5⟩ := h
  exact ⟨h1.calling g mk a, h2, h3, va_K.moved (u := U) (U := U.calling g mk a) (Vm.Alike.refl U.vm) h4, h5⟩
theorem pre_blind {D : va_G} {ac : Nat → ClassId} {ws : va_W} {sz : Nat} {av : List Value} : FrameBlind (va_Pc av (CPre D ac ws sz)) := fun a U g mk q => ⟨q.1, q.2.calling g mk a⟩
section KB
variable {l : Launch} {D : va_G} {ac : Nat → ClassId} {ws : va_W} {sz : Nat} {argv : List Value} {rm : Room} {mc ms : Nat}
theorem kofW {y : MethodName} {cc : ByteArray} {maxL : Nat} {ret : Option FieldType} {Qc : Array Value → State → Outcome → State → Prop}
    (hy : plainName y.cls = true) (hln : (lg_sl argv).length ≤ maxL)
    (body : ∀ (p : Program) (e : Env) (s : State) (m : MethodId) (args : Array Value) (below : List Frame) (meth : Method) (c : Code) (ls : Array Slot), Cx cc maxL y.cls D ac p m args c s → meth.sig.returnType = ret → meth.locks = false → meth.name = y.name → c.exceptionTable.isEmpty = true → s.heap.size = sz → Wo D (va_A ws sz) ws s.heap s.heap [] → lv_has ls maxL (lv_args 0 argv) →
      W p l e rm s m args below meth c s.heap [] 0 0 (MQ below Qc args s mc ms (va_A ws sz)) (F0 m 0 ls [])) :
    Met l y [Cond.code y cc maxL ret] rm (va_Pc argv (CPre D ac ws sz)) Qc mc ms (va_A ws sz) := by
  refine Met.ofW (cc := cc) (maxL := maxL) (ret := ret) hy rfl ?_
  intro p e s m args below meth c s₁ B hml hv
  obtain ⟨rfl, hT, hsz, hP, hK, hD0⟩ := hv
  have hl := lv_entry argv (n := maxL) hln
  rw [lg_entry_eq]
  have hnh : c.exceptionTable.isEmpty = true := B.noHandlers (atoms_spec (ws := [Cond.code y cc maxL ret]) B.pre _ List.mem_cons_self)
  exact body p e s m _ below meth c _ ⟨B.exec, B.bytes, hml, findClass_of_methodNamed B.named, hT, hK⟩ B.returns B.notSynchronized (name_of_methodNamed B.named B.method).1 hnh hsz
    ⟨hP, hD0.self (sz := sz), va_S.rf, fun q h => Or.inr (by rw [← hsz]; exact h)⟩ hl
end KB
section KR
variable {p : Program} {l : Launch} {e : Env} {R : Room} {s : State} {m : MethodId} {args : Array Value} {below : List Frame} {meth : Method} {c : Code} {H : Heap} {locs : List Loc} {cells slots : Nat} {Q : State → Prop}
variable {cc : ByteArray} {nL pc : Nat} {own : String} {ls : Array Slot} {rest : List Value} {D : va_G} {ac : Nat → ClassId} {A : Nat → Prop} {a : Nat} {ws : va_W} {H0 : Heap}
/-- getfield, own link -/
theorem kget (X : Cx cc nL own D ac p m args c s) (w : Wo D A ws H0 H locs) {C ref : String} {T : u_T} {N ci index : Nat} (hc : classes[ci]? = some (C, T, N)) (hi : ∀ w ∈ u_ws C T N, w ∈ lw_tbl ∧ okw w = true) (k : Nat) (hk : k < N) (hlink : Cond.fieldLink own index ref (T k).2.1 (T k).2.2.1 ∈ lw_tbl ∧ okw (Cond.fieldLink own index ref (T k).2.1 (T k).2.2.1) = true)
    (hsame : ref = (T k).1 ∨ (Cond.sameField ref (T k).1 (T k).2.1 (T k).2.2.1 ∈ lw_tbl ∧ okw (Cond.sameField ref (T k).1 (T k).2.1 (T k).2.2.1) = true)) (q0 : Nat) {fs : List Value} {v : Value} (he : ws[q0]? = some (a, .inr (ci, fs))) (hv : fs[k]? = some v) (hdg : decode cc pc = .ok (.getfield index, 3))
    (kk : W p l e R s m args below meth c H locs cells slots Q (F0 m (pc + 3) ls (v :: rest))) : W p l e R s m args below meth c H locs cells slots Q (F0 m pc ls (.ref a :: rest)) := by
  obtain ⟨hx, hb, -, ho, hT, hK⟩ := X
  refine va_get (D := D) (own := own) (ref := ref) hx hb hT.hts (fun w h => List.mem_filter.mpr (hi w h)) ho hK w.1 q0 he hc k hk (hT.at hlink) ?_ hv hdg kk
  rcases hsame with rfl | h
  · exact fun _ h9 => h9
  · exact fun x h9 => u_same (args := args) (hT.at h) x h9
/-- getfield, a nest mate's -/
theorem kgetN (X : Cx cc nL own D ac p m args c s) (w : Wo D A ws H0 H locs) {C ref host : String} {T : u_T} {N ci index : Nat} (hc : classes[ci]? = some (C, T, N)) (hi : ∀ w ∈ u_ws C T N, w ∈ lw_tbl ∧ okw w = true) (k : Nat) (hk : k < N) (hlink : Cond.fieldLinkNest own index ref (T k).2.1 (T k).2.2.1 host ∈ lw_tbl ∧ okw (Cond.fieldLinkNest own index ref (T k).2.1 (T k).2.2.1 host) = true)
    (hsame : ref = (T k).1 ∨ (Cond.sameField ref (T k).1 (T k).2.1 (T k).2.2.1 ∈ lw_tbl ∧ okw (Cond.sameField ref (T k).1 (T k).2.1 (T k).2.2.1) = true)) (q0 : Nat) {fs : List Value} {v : Value} (he : ws[q0]? = some (a, .inr (ci, fs))) (hv : fs[k]? = some v) (hdg : decode cc pc = .ok (.getfield index, 3))
    (kk : W p l e R s m args below meth c H locs cells slots Q (F0 m (pc + 3) ls (v :: rest))) : W p l e R s m args below meth c H locs cells slots Q (F0 m pc ls (.ref a :: rest)) := by
  obtain ⟨hx, hb, -, ho, hT, hK⟩ := X
  refine va_getN (D := D) (own := own) (ref := ref) (host := host) hx hb hT.hts (fun w h => List.mem_filter.mpr (hi w h)) ho hK w.1 q0 he hc k hk (hT.at hlink) ?_ hv hdg kk
  rcases hsame with rfl | h
  · exact fun _ h9 => h9
  · exact fun x h9 => u_same (args := args) (hT.at h) x h9
/-- putfield, own link, not final -/
theorem kput (X : Cx cc nL own D ac p m args c s) (w : Wo D A ws H0 H locs) {C ref : String} {T : u_T} {N ci index : Nat} (hc : classes[ci]? = some (C, T, N)) (hi : ∀ w ∈ u_ws C T N, w ∈ lw_tbl ∧ okw w = true) (ty0 : Nat → FieldType) (hty : ∀ k, k < N → parseFieldDescriptor (T k).2.2.1 = some (ty0 k)) (hnm : ∀ a, a < N → ∀ b, b < N → a ≠ b → (T a).2.1 ≠ (T b).2.1) (k : Nat) (hk : k < N) (hlink : Cond.fieldLink own index ref (T k).2.1 (T k).2.2.1 ∈ lw_tbl ∧ okw (Cond.fieldLink own index ref (T k).2.1 (T k).2.2.1) = true)
    (hsame : ref = (T k).1 ∨ (Cond.sameField ref (T k).1 (T k).2.1 (T k).2.2.1 ∈ lw_tbl ∧ okw (Cond.sameField ref (T k).1 (T k).2.1 (T k).2.2.1) = true)) (hfin : (T k).2.2.2 = false) (q0 : Nat) {fs : List Value} {v : Value} {ws' : va_W} (he : ws[q0]? = some (a, .inr (ci, fs))) (hset : ws.set q0 (a, .inr (ci, fs.set k v)) = ws') (hn : narrow (ty0 k) v = v) (hfit : fits (ty0 k) v = true) (hl : k < fs.length) (hdg : decode cc pc = .ok (.putfield index, 3))
    (kk : ∀ (H1 : Heap) (locs1 : List Loc), Wo D A ws' H0 H1 locs1 → W p l e R s m args below meth c H1 locs1 cells slots Q (F0 m (pc + 3) ls rest)) : W p l e R s m args below meth c H locs cells slots Q (F0 m pc ls (v :: .ref a :: rest)) := by
  obtain ⟨hx, hb, -, ho, hT, hK⟩ := X
  obtain ⟨hP, hD, hS, hA⟩ := w
  subst hset
  refine va_put (D := D) (own := own) (ref := ref) hx hb hT.hts (fun w h => List.mem_filter.mpr (hi w h)) ty0 hty hnm ho hK hP hD hS q0 he hc k hk (hT.at hlink) ?_ hfin (hty k hk) hn hfit hl hdg (fun H1 locs1 h1 h2 h3 => kk H1 locs1 ⟨h1, h2, h3, hA⟩)
  rcases hsame with rfl | h
  · exact fun _ h9 => h9
  · exact fun x h9 => u_same (args := args) (hT.at h) x h9
theorem kputN (X : Cx cc nL own D ac p m args c s) (w : Wo D A ws H0 H locs) {C ref host : String} {T : u_T} {N ci index : Nat} (hc : classes[ci]? = some (C, T, N)) (hi : ∀ w ∈ u_ws C T N, w ∈ lw_tbl ∧ okw w = true) (ty0 : Nat → FieldType) (hty : ∀ k, k < N → parseFieldDescriptor (T k).2.2.1 = some (ty0 k)) (hnm : ∀ a, a < N → ∀ b, b < N → a ≠ b → (T a).2.1 ≠ (T b).2.1) (k : Nat) (hk : k < N) (hlink : Cond.fieldLinkNest own index ref (T k).2.1 (T k).2.2.1 host ∈ lw_tbl ∧ okw (Cond.fieldLinkNest own index ref (T k).2.1 (T k).2.2.1 host) = true)
    (hsame : ref = (T k).1 ∨ (Cond.sameField ref (T k).1 (T k).2.1 (T k).2.2.1 ∈ lw_tbl ∧ okw (Cond.sameField ref (T k).1 (T k).2.1 (T k).2.2.1) = true)) (hfin : (T k).2.2.2 = false) (q0 : Nat) {fs : List Value} {v : Value} {ws' : va_W} (he : ws[q0]? = some (a, .inr (ci, fs))) (hset : ws.set q0 (a, .inr (ci, fs.set k v)) = ws') (hn : narrow (ty0 k) v = v) (hfit : fits (ty0 k) v = true) (hl : k < fs.length) (hdg : decode cc pc = .ok (.putfield index, 3))
    (kk : ∀ (H1 : Heap) (locs1 : List Loc), Wo D A ws' H0 H1 locs1 → W p l e R s m args below meth c H1 locs1 cells slots Q (F0 m (pc + 3) ls rest)) : W p l e R s m args below meth c H locs cells slots Q (F0 m pc ls (v :: .ref a :: rest)) := by
  obtain ⟨hx, hb, -, ho, hT, hK⟩ := X
  obtain ⟨hP, hD, hS, hA⟩ := w
  subst hset
  refine va_putN (D := D) (own := own) (ref := ref) (host := host) hx hb hT.hts (fun w h => List.mem_filter.mpr (hi w h)) ty0 hty hnm ho hK hP hD hS q0 he hc k hk (hT.at hlink) ?_ hfin (hty k hk) hn hfit hl hdg (fun H1 locs1 h1 h2 h3 => kk H1 locs1 ⟨h1, h2, h3, hA⟩)
  rcases hsame with rfl | h
  · exact fun _ h9 => h9
  · exact fun x h9 => u_same (args := args) (hT.at h) x h9
theorem kputF (X : Cx cc nL own D ac p m args c s) (w : Wo D A ws H0 H locs) (hin : meth.name = "<init>") {C ref : String} {T : u_T} {N ci index : Nat} (hc : classes[ci]? = some (C, T, N)) (hi : ∀ w ∈ u_ws C T N, w ∈ lw_tbl ∧ okw w = true) (ty0 : Nat → FieldType) (hty : ∀ k, k < N → parseFieldDescriptor (T k).2.2.1 = some (ty0 k)) (hnm : ∀ a, a < N → ∀ b, b < N → a ≠ b → (T a).2.1 ≠ (T b).2.1) (k : Nat) (hk : k < N) (hlink : Cond.fieldLink own index ref (T k).2.1 (T k).2.2.1 ∈ lw_tbl ∧ okw (Cond.fieldLink own index ref (T k).2.1 (T k).2.2.1) = true)
    (hsame : ref = (T k).1 ∨ (Cond.sameField ref (T k).1 (T k).2.1 (T k).2.2.1 ∈ lw_tbl ∧ okw (Cond.sameField ref (T k).1 (T k).2.1 (T k).2.2.1) = true)) (hfin : (T k).2.2.2 = true) (hdecl : (T k).1 = own) (q0 : Nat) {fs : List Value} {v : Value} {ws' : va_W} (he : ws[q0]? = some (a, .inr (ci, fs))) (hset : ws.set q0 (a, .inr (ci, fs.set k v)) = ws') (hn : narrow (ty0 k) v = v) (hfit : fits (ty0 k) v = true) (hl : k < fs.length) (hdg : decode cc pc = .ok (.putfield index, 3))
    (kk : ∀ (H1 : Heap) (locs1 : List Loc), Wo D A ws' H0 H1 locs1 → W p l e R s m args below meth c H1 locs1 cells slots Q (F0 m (pc + 3) ls rest)) : W p l e R s m args below meth c H locs cells slots Q (F0 m pc ls (v :: .ref a :: rest)) := by
  obtain ⟨hx, hb, -, ho, hT, hK⟩ := X
  obtain ⟨hP, hD, hS, hA⟩ := w
  subst hset
  refine va_putF (D := D) (own := own) (ref := ref) hx hb hT.hts (fun w h => List.mem_filter.mpr (hi w h)) ty0 hty hnm ho hK hP hD hS q0 he hc k hk (hT.at hlink) ?_ hfin hin hdecl (hty k hk) hn hfit hl hdg (fun H1 locs1 h1 h2 h3 => kk H1 locs1 ⟨h1, h2, h3, hA⟩)
  rcases hsame with rfl | h
  · exact fun _ h9 => h9
  · exact fun x h9 => u_same (args := args) (hT.at h) x h9
-- arrays, by a place j < n that the index names
theorem kiald (X : Cx cc nL own D ac p m args c s) (w : Wo D A ws H0 H locs) (q0 : Nat) {n : Nat} {f : Nat → Int32} {i v : Int32} (he : ws[q0]? = some (a, .inl (ac 0, n, .inl f))) (j : Nat) (hj : j < n) (hn : n < 1000) (hi : i = nI j) (hv : f j = v) (hdg : decode cc pc = .ok (.iaload, 1))
    (kk : W p l e R s m args below meth c H locs cells slots Q (F0 m (pc + 1) ls (.int v :: rest))) : W p l e R s m args below meth c H locs cells slots Q (F0 m pc ls (.int i :: .ref a :: rest)) := by
  subst hi; subst hv
  refine va_iald X.1 X.2.1 X.2.2.2.2.2 w.1 q0 0 he rfl (vp_in_nI hj (by omega)) hdg ?_
  rw [nI_clamp (by omega)]
  exact kk
theorem kzald (X : Cx cc nL own D ac p m args c s) (w : Wo D A ws H0 H locs) (q0 : Nat) {n : Nat} {f : Nat → Int32} {i v : Int32} (he : ws[q0]? = some (a, .inl (ac 2, n, .inl f))) (j : Nat) (hj : j < n) (hn : n < 1000) (hi : i = nI j) (hv : f j = v) (hdg : decode cc pc = .ok (.baload, 1))
    (kk : W p l e R s m args below meth c H locs cells slots Q (F0 m (pc + 1) ls (.int v :: rest))) : W p l e R s m args below meth c H locs cells slots Q (F0 m pc ls (.int i :: .ref a :: rest)) := by
  subst hi; subst hv
  refine va_zald X.1 X.2.1 X.2.2.2.2.2 w.1 q0 2 he rfl (vp_in_nI hj (by omega)) hdg ?_
  rw [nI_clamp (by omega)]
  exact kk
theorem klald (X : Cx cc nL own D ac p m args c s) (w : Wo D A ws H0 H locs) (q0 : Nat) {n : Nat} {f : Nat → Int64} {i : Int32} {v : Int64} (he : ws[q0]? = some (a, .inl (ac 1, n, .inr (.inl f)))) (j : Nat) (hj : j < n) (hn : n < 1000) (hi : i = nI j) (hv : f j = v) (hdg : decode cc pc = .ok (.laload, 1))
    (kk : W p l e R s m args below meth c H locs cells slots Q (F0 m (pc + 1) ls (.long v :: rest))) : W p l e R s m args below meth c H locs cells slots Q (F0 m pc ls (.int i :: .ref a :: rest)) := by
  subst hi; subst hv
  refine va_lald X.1 X.2.1 X.2.2.2.2.2 w.1 q0 1 he rfl (vp_in_nI hj (by omega)) hdg ?_
  rw [nI_clamp (by omega)]
  exact kk
theorem kqald (X : Cx cc nL own D ac p m args c s) (w : Wo D A ws H0 H locs) (q0 t0 : Nat) {C : String} {n : Nat} {f : Nat → Option Nat} {i : Int32} {v : Value} (he : ws[q0]? = some (a, .inl (ac t0, n, .inr (.inr (.inr (.inr f)))))) (ht : (tys ac)[t0]? = some (ac t0, .object C)) (j : Nat) (hj : j < n) (hn : n < 1000) (hi : i = nI j) (hv : va_rf (f j) = v) (hdg : decode cc pc = .ok (.aaload, 1))
    (kk : W p l e R s m args below meth c H locs cells slots Q (F0 m (pc + 1) ls (v :: rest))) : W p l e R s m args below meth c H locs cells slots Q (F0 m pc ls (.int i :: .ref a :: rest)) := by
  subst hi; subst hv
  refine va_aldq X.1 X.2.1 X.2.2.2.2.2 w.1 q0 t0 he ht (vp_in_nI hj (by omega)) hdg ?_
  rw [nI_clamp (by omega)]
  exact kk
theorem kiast (X : Cx cc nL own D ac p m args c s) (w : Wo D A ws H0 H locs) (q0 : Nat) {n : Nat} {f f' : Nat → Int32} {i v : Int32} {ws' : va_W} (he : ws[q0]? = some (a, .inl (ac 0, n, .inl f))) (j : Nat) (hj : j < n) (hn : n < 1000) (hi : i = nI j) (hset : ws.set q0 (a, .inl (ac 0, n, .inl (upd f j v))) = ws') (hdg : decode cc pc = .ok (.iastore, 1))
    (kk : ∀ (H1 : Heap) (locs1 : List Loc), Wo D A ws' H0 H1 locs1 → W p l e R s m args below meth c H1 locs1 cells slots Q (F0 m (pc + 1) ls rest)) : W p l e R s m args below meth c H locs cells slots Q (F0 m pc ls (.int v :: .int i :: .ref a :: rest)) := by
  subst hi; subst hset
  obtain ⟨hP, hD, hS, hA⟩ := w
  refine va_iast X.1 X.2.1 X.2.2.2.2.2 hP hD hS q0 0 he rfl (vp_in_nI hj (by omega)) hdg ?_
  rw [nI_clamp (by omega)]
  exact fun H1 locs1 h1 h2 h3 => kk H1 locs1 ⟨h1, h2, h3, hA⟩
theorem kzast (X : Cx cc nL own D ac p m args c s) (w : Wo D A ws H0 H locs) (q0 : Nat) {n : Nat} {f f' : Nat → Int32} {i v : Int32} {ws' : va_W} (he : ws[q0]? = some (a, .inl (ac 2, n, .inl f))) (j : Nat) (hj : j < n) (hn : n < 1000) (hi : i = nI j) (hb : v = 0 ∨ v = 1) (hset : ws.set q0 (a, .inl (ac 2, n, .inl (upd f j v))) = ws') (hdg : decode cc pc = .ok (.bastore, 1))
    (kk : ∀ (H1 : Heap) (locs1 : List Loc), Wo D A ws' H0 H1 locs1 → W p l e R s m args below meth c H1 locs1 cells slots Q (F0 m (pc + 1) ls rest)) : W p l e R s m args below meth c H locs cells slots Q (F0 m pc ls (.int v :: .int i :: .ref a :: rest)) := by
  subst hi; subst hset
  obtain ⟨hP, hD, hS, hA⟩ := w
  refine va_zast X.1 X.2.1 X.2.2.2.2.2 hP hD hS q0 2 he rfl (vp_in_nI hj (by omega)) hdg ?_
  rw [nI_clamp (by omega), show vp_nar .boolean v = v by rcases hb with rfl | rfl <;> rfl]
  exact fun H1 locs1 h1 h2 h3 => kk H1 locs1 ⟨h1, h2, h3, hA⟩
theorem klast (X : Cx cc nL own D ac p m args c s) (w : Wo D A ws H0 H locs) (q0 : Nat) {n : Nat} {f f' : Nat → Int64} {i : Int32} {v : Int64} {ws' : va_W} (he : ws[q0]? = some (a, .inl (ac 1, n, .inr (.inl f)))) (j : Nat) (hj : j < n) (hn : n < 1000) (hi : i = nI j) (hset : ws.set q0 (a, .inl (ac 1, n, .inr (.inl (vp_updL f j v)))) = ws') (hdg : decode cc pc = .ok (.lastore, 1))
    (kk : ∀ (H1 : Heap) (locs1 : List Loc), Wo D A ws' H0 H1 locs1 → W p l e R s m args below meth c H1 locs1 cells slots Q (F0 m (pc + 1) ls rest)) : W p l e R s m args below meth c H locs cells slots Q (F0 m pc ls (.long v :: .int i :: .ref a :: rest)) := by
  subst hi; subst hset
  obtain ⟨hP, hD, hS, hA⟩ := w
  refine va_last X.1 X.2.1 X.2.2.2.2.2 hP hD hS q0 1 he rfl (vp_in_nI hj (by omega)) hdg ?_
  rw [nI_clamp (by omega)]
  exact fun H1 locs1 h1 h2 h3 => kk H1 locs1 ⟨h1, h2, h3, hA⟩
-- ends
theorem kvret {Qc : Array Value → State → Outcome → State → Prop} {post : va_W → Prop} {ws0 : va_W} {sz : Nat} (X : Cx cc nL own D ac p m args c s) (w : Wo D (va_A ws0 sz) ws s.heap H locs) (hr : meth.sig.returnType = none) (hlocks : meth.locks = false) (hp : post ws) (hdg : decode cc pc = .ok (.return_, 1)) :
    W p l e R s m args below meth c H locs cells slots (MQ below (va_Qv post (CPost D ws0 sz) (va_A ws0 sz)) args s cells slots (va_A ws0 sz)) (F0 m pc ls []) :=
  W.vret X.1 X.2.1 hr (fun t ht hW => ⟨⟨ws, rfl, hp, by rw [ht]; exact w.1, w.2.1⟩, w.2.2.1.F ht⟩) w.2.2.1.2.2 hdg
theorem kiret {post : Int32 → va_W → Prop} {ws0 : va_W} {sz : Nat} {v : Int32} (X : Cx cc nL own D ac p m args c s) (w : Wo D (va_A ws0 sz) ws s.heap H locs) (hr : meth.sig.returnType = some .int) (hlocks : meth.locks = false) (hp : post v ws) (hdg : decode cc pc = .ok (.ireturn, 1)) :
    W p l e R s m args below meth c H locs cells slots (MQ below (va_Qi post (CPost D ws0 sz) (va_A ws0 sz)) args s cells slots (va_A ws0 sz)) (F0 m pc ls [.int v]) :=
  W.iret X.1 X.2.1 hr (fun t ht hW => ⟨⟨v, ws, rfl, hp, by rw [ht]; exact w.1, w.2.1⟩, w.2.2.1.F ht⟩) w.2.2.1.2.2 hdg
theorem kzret {post : Int32 → va_W → Prop} {ws0 : va_W} {sz : Nat} {v : Int32} (X : Cx cc nL own D ac p m args c s) (w : Wo D (va_A ws0 sz) ws s.heap H locs) (hr : meth.sig.returnType = some .boolean) (hlocks : meth.locks = false) (hz : v = 0 ∨ v = 1) (hp : post v ws) (hdg : decode cc pc = .ok (.ireturn, 1)) :
    W p l e R s m args below meth c H locs cells slots (MQ below (va_Qi post (CPost D ws0 sz) (va_A ws0 sz)) args s cells slots (va_A ws0 sz)) (F0 m pc ls [.int v]) :=
  W.zret X.1 X.2.1 hr (by rcases hz with rfl | rfl <;> rfl) (fun t ht hW => ⟨⟨v, ws, rfl, hp, by rw [ht]; exact w.1, w.2.1⟩, w.2.2.1.F ht⟩) w.2.2.1.2.2 hdg
theorem klret {post : Int64 → va_W → Prop} {ws0 : va_W} {sz : Nat} {v : Int64} (X : Cx cc nL own D ac p m args c s) (w : Wo D (va_A ws0 sz) ws s.heap H locs) (hr : meth.sig.returnType = some .long) (hlocks : meth.locks = false) (hp : post v ws) (hdg : decode cc pc = .ok (.lreturn, 1)) :
    W p l e R s m args below meth c H locs cells slots (MQ below (va_Ql post (CPost D ws0 sz) (va_A ws0 sz)) args s cells slots (va_A ws0 sz)) (F0 m pc ls [.long v]) :=
  W.lret X.1 X.2.1 hr (fun t ht hW => ⟨⟨v, ws, rfl, hp, by rw [ht]; exact w.1, w.2.1⟩, w.2.2.1.F ht⟩) w.2.2.1.2.2 hdg
end KR
