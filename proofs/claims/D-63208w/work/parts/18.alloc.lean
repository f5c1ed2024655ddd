-- ===== making cells =====
section KN
variable {p : Program} {l : Launch} {e : Env} {R : Room} {s : State} {m : MethodId} {args : Array Value} {below : List Frame} {meth : Method} {c : Code} {H : Heap} {locs : List Loc} {cells slots : Nat} {Q : State → Prop}
variable {cc : ByteArray} {nL pc : Nat} {own : String} {ls : Array Slot} {rest : List Value} {D : va_G} {ac : Nat → ClassId} {A : Nat → Prop} {a : Nat} {ws : va_W} {H0 : Heap}
theorem kobj (X : Cx cc nL own D ac p m args c s) {idx : Nat} (hl : Cond.methodLink own idx Lib.objectInit ∈ lw_tbl ∧ okw (Cond.methodLink own idx Lib.objectInit) = true) (hz : ls.size = nL) (hf : 1 ≤ R.frames) (hlo : (rest.map fun v => v.category).sum + 12 ≤ R.locals) (hdg : decode cc pc = .ok (.invokespecial idx, 3))
    (kk : W p l e R s m args below meth c H locs cells slots Q (F0 m (pc + 3) ls rest)) : W p l e R s m args below meth c H locs cells slots Q (F0 m pc ls (.ref a :: rest)) :=
  W.objInit X.1 X.2.1 X.2.2.2.1 (X.2.2.2.2.1.at hl) (X.2.2.2.2.1.at wx_Object_init) (X.2.2.2.2.1.at wk_Object_init) rfl (hz.trans X.2.2.1.symm) rfl hdg hf (by show 2 * 0 + _ + 12 ≤ _; omega) kk
theorem knewa (X : Cx cc nL own D ac p m args c s) (w : Wo D A ws H0 H locs) {atype : ArrayType} (harr : Cond.arrayClass (newarray.typeOf atype) ∈ lw_tbl ∧ okw (Cond.arrayClass (newarray.typeOf atype)) = true) {ty : FieldType} (hty : newarray.typeOf atype = ty) (t0 : Nat) (ht : (tys ac)[t0]? = some (ac t0, ty))
    {n : Int32} {N' : Nat} {a0 : vp_A} (ha : ∀ cA : ClassId, vp_cell cA a0 = arrV cA N' (fun _ => defaultValue ty)) (hn : ¬ n < 0) (hN : n.toNatClampNeg = N') (hbytes : N' * componentBytes ty ≤ 536870912) (hcells : cells + 1 ≤ R.cells) (hslots : slots + N' ≤ R.slots) (hdg : decode cc pc = .ok (.newarray atype, 2))
    (kk : ∀ (q : Nat) (H1 : Heap), Wo D A (ws ++ [(q, .inl (ac t0, a0))]) H0 H1 locs → W p l e R s m args below meth c H1 locs (cells + 1) (slots + N') Q (F0 m (pc + 2) ls (.ref q :: rest))) : W p l e R s m args below meth c H locs cells slots Q (F0 m pc ls (.int n :: rest)) := by
  obtain ⟨hx, hb, -, ho, hT, hK⟩ := X
  obtain ⟨hP, hD, hS, hA⟩ := w
  refine va_newa hx hb (hT.at harr) hty hK hP hD hS hA ha hn hN hbytes hcells hslots hdg (fun q cA H1 hK1 hP1 hD1 hS1 => ?_)
  have h1 := (hK1.2 8 (cA, ty) rfl).2
  have h2 := (hK.2 t0 _ ht).2
  have he : cA = ac t0 := by
    subst hty
    cases atype <;> exact Option.some.inj (h1.symm.trans h2)
  subst he
  exact kk q H1 ⟨hP1, hD1, hS1, hA⟩
theorem knewq (X : Cx cc nL own D ac p m args c s) (w : Wo D A ws H0 H locs) {C : String} {index : Nat} (hcl : Cond.classLink own index C ∈ lw_tbl ∧ okw (Cond.classLink own index C) = true) (hov : Cond.arrayOver (.object C) ∈ lw_tbl ∧ okw (Cond.arrayOver (.object C)) = true) (t0 : Nat) (ht : (tys ac)[t0]? = some (ac t0, .object C))
    {n : Int32} {N' : Nat} (hn : ¬ n < 0) (hN : n.toNatClampNeg = N') (hbytes : N' * 4 ≤ 536870912) (hcells : cells + 1 ≤ R.cells) (hslots : slots + N' ≤ R.slots) (hdg : decode cc pc = .ok (.anewarray index, 3))
    (kk : ∀ (q : Nat) (H1 : Heap), Wo D A (ws ++ [(q, .inl (ac t0, N', .inr (.inr (.inr (.inr (fun _ => none))))))]) H0 H1 locs → W p l e R s m args below meth c H1 locs (cells + 1) (slots + N') Q (F0 m (pc + 3) ls (.ref q :: rest))) : W p l e R s m args below meth c H locs cells slots Q (F0 m pc ls (.int n :: rest)) := by
  obtain ⟨hx, hb, -, ho, hT, hK⟩ := X
  obtain ⟨hP, hD, hS, hA⟩ := w
  refine va_newq hx hb ho (hT.at hcl) (va_AO.of (A := #[]) (hT.at hov)) hK hP hD hS hA hn hN hbytes hcells hslots hdg (fun q cA H1 hK1 hP1 hD1 hS1 => ?_)
  have h1 := (hK1.2 8 (cA, .object C) rfl).2
  have h2 := (hK.2 t0 _ ht).2
  have he : cA = ac t0 := by
    obtain ⟨-, -, -, -, -, g1⟩ := h1
    obtain ⟨-, -, -, -, -, g2⟩ := h2
    exact Option.some.inj (g1.symm.trans g2)
  subst he
  exact kk q H1 ⟨hP1, hD1, hS1, hA⟩
theorem knew (X : Cx cc nL own D ac p m args c s) (w : Wo D A ws H0 H locs) {C : String} {T : u_T} {N ci index : Nat} (hc : classes[ci]? = some (C, T, N)) (hi : ∀ w ∈ u_ws C T N, w ∈ lw_tbl ∧ okw w = true) (ty : Nat → FieldType) (hty : ∀ k, k < N → parseFieldDescriptor (T k).2.2.1 = some (ty k)) (hcl : Cond.classLink own index C ∈ lw_tbl ∧ okw (Cond.classLink own index C) = true) (hin : Cond.instantiable C N ∈ lw_tbl ∧ okw (Cond.instantiable C N) = true) (hini : Cond.initialized C ∈ lw_tbl ∧ okw (Cond.initialized C) = true)
    {fs : List Value} (hfs : ∀ j, j < N → defaultValue (ty j) = vp_V fs j) (hcells : cells + 1 ≤ R.cells) (hslots : slots + N ≤ R.slots) (hdg : decode cc pc = .ok (.new index, 3))
    (kk : ∀ (q : Nat) (H1 : Heap), Wo D A (ws ++ [(q, .inr (ci, fs))]) H0 H1 locs → W p l e R s m args below meth c H1 locs (cells + 1) (slots + N) Q (F0 m (pc + 3) ls (.ref q :: rest))) : W p l e R s m args below meth c H locs cells slots Q (F0 m pc ls rest) := by
  obtain ⟨hx, hb, -, ho, hT, hK⟩ := X
  obtain ⟨hP, hD, hS, hA⟩ := w
  exact va_new (own := own) hx hb hT.hts (fun w h => List.mem_filter.mpr (hi w h)) ty hty ho (hT.at hcl) (hT.at hin) (hT.at hini) hK hP hD hS hA hc hfs hcells hslots hdg (fun q H1 h1 h2 h3 => kk q H1 ⟨h1, h2, h3, hA⟩)
end KN
