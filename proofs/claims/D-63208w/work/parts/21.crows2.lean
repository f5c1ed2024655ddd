abbrev Msg : Type := Nat × Int32 × Int32 × Option Nat × Int32 × Int64 × Int64 × Int32
abbrev mcls (m : Msg) : Nat := m.1
abbrev mkind (m : Msg) : Int32 := m.2.1
abbrev mline (m : Msg) : Int32 := m.2.2.1
abbrev mcore (m : Msg) : Option Nat := m.2.2.2.1
abbrev mword (m : Msg) : Int32 := m.2.2.2.2.1
abbrev mta (m : Msg) : Int64 := m.2.2.2.2.2.1
abbrev mtb (m : Msg) : Int64 := m.2.2.2.2.2.2.1
abbrev mown (m : Msg) : Int32 := m.2.2.2.2.2.2.2
abbrev fRequest (ad : Nat → Nat) (m : Msg) : List Value := [.int (mkind m), .int (mline m), va_rf (rC ad (mcore m)), .long (mta m), .long (mtb m)]
abbrev fAnswer (ad : Nat → Nat) (m : Msg) : List Value := [.int (mkind m), .int (mline m), va_rf (rC ad (mcore m)), .int (mword m), .long (mta m), .long (mtb m), .int (mown m)]
abbrev fCall (ad : Nat → Nat) (m : Msg) : List Value := [.int (mkind m), .int (mline m), va_rf (rC ad (mcore m)), .long (mta m)]
abbrev fReturn (ad : Nat → Nat) (m : Msg) : List Value := [.int (mkind m), .int (mline m), va_rf (rC ad (mcore m)), .int (mword m), .long (mta m), .long (mtb m)]
def mcell (ad : Nat → Nat) (m : Msg) : va_E := if mcls m = 4 then .inr (4, fRequest ad m) else if mcls m = 5 then .inr (5, fAnswer ad m) else if mcls m = 6 then .inr (6, fCall ad m) else .inr (7, fReturn ad m)
def mtl (ad al : Nat → Nat) (M : Nat → Msg) (n : Nat) : va_W := (List.range n).map (fun i => (al i, mcell ad (M i)))
def upM (M : Nat → Msg) (q : Nat) (m : Msg) : Nat → Msg := fun x => if x = q then m else M x
theorem upM_s (M : Nat → Msg) (q : Nat) (m : Msg) : upM M q m q = m := by simp [upM]
theorem upM_j (M : Nat → Msg) (q x : Nat) (m : Msg) (h : x ≠ q) : upM M q m x = M x := by simp [upM, h]
def mapR (al : Nat → Nat) (CR : Nat → Nat → Option Nat) : Nat → Nat → Option Nat := fun k => if k = 0 then CR 0 else fun j => (CR k j).map al
theorem mapR_ne (al : Nat → Nat) (CR : Nat → Nat → Option Nat) {k : Nat} (h : k ≠ 0) (j : Nat) : mapR al CR k j = (CR k j).map al := by simp [mapR, h]
theorem mapR_up0 (al : Nat → Nat) (CR : Nat → Nat → Option Nat) (j : Nat) (x : Option Nat) : up2 (mapR al CR) 0 j x = mapR al (up2 CR 0 j x) := by
  funext a b
  by_cases h : a = 0
  · subst h; simp [up2, mapR]
  · simp [up2, mapR, h]
theorem mapR_up (al : Nat → Nat) (CR : Nat → Nat → Option Nat) {k : Nat} (hk : k ≠ 0) (j : Nat) (x : Option Nat) : up2 (mapR al CR) k j (x.map al) = mapR al (up2 CR k j x) := by
  funext a b
  by_cases h : a = 0
  · subst h; simp [up2, mapR, Ne.symm hk]
  · by_cases h2 : a = k
    · subst h2
      by_cases h3 : b = j
      · subst h3; simp [up2, mapR, h]
      · simp [up2, mapR, h, h3]
    · simp [up2, mapR, h, h2]
/-- every message that is named somewhere has been made -/
def CRok (CR : Nat → Nat → Option Nat) (n : Nat) : Prop := ∀ k j i, k ≠ 0 → CR k j = some i → i < n
theorem crok_up {CR : Nat → Nat → Option Nat} {n k j : Nat} {x : Option Nat} (h : CRok CR n) (hx : k = 0 ∨ ∀ i, x = some i → i < n) : CRok (up2 CR k j x) n := by
  intro a b i ha hi
  by_cases h1 : a = k
  · subst h1
    by_cases h2 : b = j
    · subst h2
      rw [up2_s] at hi
      exact hx.elim (fun q => absurd q ha) (fun q => q i hi)
    · rw [up2_j _ _ _ _ _ h2] at hi
      exact h a b i ha hi
  · rw [up2_k _ _ _ _ _ h1] at hi
    exact h a b i ha hi
theorem crok_le {CR : Nat → Nat → Option Nat} {n n' : Nat} (h : CRok CR n) (hn : n ≤ n') : CRok CR n' := fun k j i hk hi => Nat.lt_of_lt_of_le (h k j i hk hi) hn
theorem mapR_al {al al' : Nat → Nat} {CR : Nat → Nat → Option Nat} {n : Nat} (h : CRok CR n) (ha : ∀ i, i < n → al' i = al i) : mapR al CR = mapR al' CR := by
  funext k j
  by_cases hk : k = 0
  · subst hk; simp [mapR]
  · rw [mapR_ne _ _ hk, mapR_ne _ _ hk]
    cases e : CR k j with
    | none => rfl
    | some i => exact congrArg some (ha i (h k j i hk e)).symm
/-- the class's world: its registers, and the n messages made so far -/
abbrev cwm (ac : Nat → ClassId) (o : Nat) (ad al : Nat → Nat) (CI : Nat → Nat → Int32) (CL : Nat → Nat → Int64) (CR : Nat → Nat → Option Nat) (M : Nat → Msg) (n : Nat) : va_W := cws ac o ad CI CL (mapR al CR) (mtl ad al M n)
theorem kmapR {D : va_G} {A : Nat → Prop} {ac : Nat → ClassId} {o : Nat} {ad : Nat → Nat} {CI : Nat → Nat → Int32} {CL : Nat → Nat → Int64} {CR : Nat → Nat → Option Nat} {al : Nat → Nat} {tl : va_W} {k j : Nat} {x : Option Nat} {H0 H : Heap} {locs : List Loc} (hk : k ≠ 0) (w : Wo D A (cws ac o ad CI CL (up2 (mapR al CR) k j (x.map al)) tl) H0 H locs) : Wo D A (cws ac o ad CI CL (mapR al (up2 CR k j x)) tl) H0 H locs := by
  rw [mapR_up _ _ hk] at w
  exact w
theorem mcell4 {ad : Nat → Nat} {m : Msg} (h : mcls m = 4) : mcell ad m = .inr (4, fRequest ad m) := by simp [mcell, h]
theorem mcell5 {ad : Nat → Nat} {m : Msg} (h : mcls m = 5) : mcell ad m = .inr (5, fAnswer ad m) := by simp [mcell, h]
theorem mcell6 {ad : Nat → Nat} {m : Msg} (h : mcls m = 6) : mcell ad m = .inr (6, fCall ad m) := by simp [mcell, h]
theorem mcell7 {ad : Nat → Nat} {m : Msg} (h : mcls m = 7) : mcell ad m = .inr (7, fReturn ad m) := by simp [mcell, h]
theorem mcell_cases (ad : Nat → Nat) (m : Msg) : (mcls m = 4 ∧ mcell ad m = .inr (4, fRequest ad m)) ∨ (mcls m = 5 ∧ mcell ad m = .inr (5, fAnswer ad m)) ∨ (mcls m = 6 ∧ mcell ad m = .inr (6, fCall ad m)) ∨ (mcls m ≠ 6 ∧ mcell ad m = .inr (7, fReturn ad m)) := by
  by_cases h4 : mcls m = 4
  · exact Or.inl ⟨h4, mcell4 h4⟩
  by_cases h5 : mcls m = 5
  · exact Or.inr (Or.inl ⟨h5, mcell5 h5⟩)
  by_cases h6 : mcls m = 6
  · exact Or.inr (Or.inr (Or.inl ⟨h6, mcell6 h6⟩))
  exact Or.inr (Or.inr (Or.inr ⟨h6, by simp [mcell, h4, h5, h6]⟩))
def Hs (ws : va_W) (q : Nat) (e : va_E) : Prop := ∃ i : Nat, ws[i]? = some (q, e)
theorem mtl_get {ad al : Nat → Nat} {M : Nat → Msg} {n i : Nat} (h : i < n) : (mtl ad al M n)[i]? = some (al i, mcell ad (M i)) := by
  rw [mtl, List.getElem?_map, List.getElem?_range h] <;> rfl
theorem mtl_len (ad al : Nat → Nat) (M : Nat → Msg) (n : Nat) : (mtl ad al M n).length = n := by rw [mtl, List.length_map, List.length_range]
theorem hs_mem {ac : Nat → ClassId} {o : Nat} {ad : Nat → Nat} {CI : Nat → Nat → Int32} {CL : Nat → Nat → Int64} {CR : Nat → Nat → Option Nat} {al : Nat → Nat} {M : Nat → Msg} {n : Nat} {x : va_W} {i : Nat} (h : i < n) : Hs (cws ac o ad CI CL CR (mtl ad al M n ++ x)) (al i) (mcell ad (M i)) := by
  refine ⟨35 + i, ?_⟩
  rw [cw_tl, List.getElem?_append_left (by rw [mtl_len]; exact h)]
  exact mtl_get h
theorem hs_mem0 {ac : Nat → ClassId} {o : Nat} {ad : Nat → Nat} {CI : Nat → Nat → Int32} {CL : Nat → Nat → Int64} {CR : Nat → Nat → Option Nat} {al : Nat → Nat} {M : Nat → Msg} {n : Nat} {i : Nat} (h : i < n) : Hs (cws ac o ad CI CL CR (mtl ad al M n)) (al i) (mcell ad (M i)) := by
  refine ⟨35 + i, ?_⟩
  rw [cw_tl]
  exact mtl_get h
def upA (al : Nat → Nat) (n q : Nat) : Nat → Nat := fun i => if i = n then q else al i
theorem mtl_add {ad al : Nat → Nat} {M : Nat → Msg} {n q : Nat} (m : Msg) : mtl ad al M n ++ [(q, mcell ad m)] = mtl ad (upA al n q) (upM M n m) (n + 1) := by
  rw [mtl, mtl, List.range_succ, List.map_append]
  congr 1
  · refine List.map_congr_left (fun x hx => ?_)
    have h := List.mem_range.mp hx
    have h2 : x ≠ n := by omega
    simp [upA, upM, h2]
  · simp [upM, upA]
theorem kjoinM {ac : Nat → ClassId} {o : Nat} {ad : Nat → Nat} {CI : Nat → Nat → Int32} {CL : Nat → Nat → Int64} {CR : Nat → Nat → Option Nat} {D : va_G} {A : Nat → Prop} {al : Nat → Nat} {M : Nat → Msg} {n q : Nat} {m : Msg} {e : va_E} {H0 H : Heap} {locs : List Loc} (w : Wo D A (cws ac o ad CI CL (mapR al CR) (mtl ad al M n ++ [(q, e)])) H0 H locs) (he : e = mcell ad m) (hok : CRok CR n) : ∃ al', (∀ i, i < n → al' i = al i) ∧ q = al' n ∧ Wo D A (cwm ac o ad al' CI CL CR (upM M n m) (n + 1)) H0 H locs := by
  have ha : ∀ i, i < n → upA al n q i = al i := fun i h => if_neg (Nat.ne_of_lt h)
  refine ⟨upA al n q, ha, by simp [upA], ?_⟩
  subst he
  rw [mtl_add m, mapR_al hok ha] at w
  exact w
section CRM
variable {p : Program} {l : Launch} {e : Env} {R : Room} {s : State} {m : MethodId} {args : Array Value} {below : List Frame} {meth : Method} {c : Code} {H : Heap} {locs : List Loc} {cells slots : Nat} {Q : State → Prop} {cc : ByteArray} {nL pc : Nat} {ls : Array Slot} {rest : List Value} {D : va_G} {ac : Nat → ClassId} {A : Nat → Prop} {H0 : Heap} {ws : va_W} {ad : Nat → Nat} {q : Nat} {m9 : Msg}
theorem qg_Answer_9 (X : Cx cc nL R_Answer D ac p m args c s) (w : Wo D A ws H0 H locs) (he : Hs ws q (mcell ad m9)) (hc : mcls m9 = 4) (hdg : decode cc pc = .ok (.getfield 9, 3)) (kk : W p l e R s m args below meth c H locs cells slots Q (F0 m (pc + 3) ls (va_rf (rC ad (mcore m9)) :: rest))) : W p l e R s m args below meth c H locs cells slots Q (F0 m pc ls (.ref q :: rest)) := by
  obtain ⟨i, hi⟩ := he
  rw [mcell4 hc] at hi
  exact gf_Answer_9 X w i hi rfl hdg kk
theorem qg_Answer_24 (X : Cx cc nL R_Answer D ac p m args c s) (w : Wo D A ws H0 H locs) (he : Hs ws q (mcell ad m9)) (hc : mcls m9 = 5) (hdg : decode cc pc = .ok (.getfield 24, 3)) (kk : W p l e R s m args below meth c H locs cells slots Q (F0 m (pc + 3) ls (.int (mword m9) :: rest))) : W p l e R s m args below meth c H locs cells slots Q (F0 m pc ls (.ref q :: rest)) := by
  obtain ⟨i, hi⟩ := he
  rw [mcell5 hc] at hi
  exact gf_Answer_24 X w i hi rfl hdg kk
theorem qg_Answer_31 (X : Cx cc nL R_Answer D ac p m args c s) (w : Wo D A ws H0 H locs) (he : Hs ws q (mcell ad m9)) (hc : mcls m9 = 5) (hdg : decode cc pc = .ok (.getfield 31, 3)) (kk : W p l e R s m args below meth c H locs cells slots Q (F0 m (pc + 3) ls (.long (mta m9) :: rest))) : W p l e R s m args below meth c H locs cells slots Q (F0 m pc ls (.ref q :: rest)) := by
  obtain ⟨i, hi⟩ := he
  rw [mcell5 hc] at hi
  exact gf_Answer_31 X w i hi rfl hdg kk
theorem qg_Answer_35 (X : Cx cc nL R_Answer D ac p m args c s) (w : Wo D A ws H0 H locs) (he : Hs ws q (mcell ad m9)) (hc : mcls m9 = 5) (hdg : decode cc pc = .ok (.getfield 35, 3)) (kk : W p l e R s m args below meth c H locs cells slots Q (F0 m (pc + 3) ls (.long (mtb m9) :: rest))) : W p l e R s m args below meth c H locs cells slots Q (F0 m pc ls (.ref q :: rest)) := by
  obtain ⟨i, hi⟩ := he
  rw [mcell5 hc] at hi
  exact gf_Answer_35 X w i hi rfl hdg kk
theorem qg_Answer_36 (X : Cx cc nL R_Answer D ac p m args c s) (w : Wo D A ws H0 H locs) (he : Hs ws q (mcell ad m9)) (hc : mcls m9 = 4) (hdg : decode cc pc = .ok (.getfield 36, 3)) (kk : W p l e R s m args below meth c H locs cells slots Q (F0 m (pc + 3) ls (.int (mkind m9) :: rest))) : W p l e R s m args below meth c H locs cells slots Q (F0 m pc ls (.ref q :: rest)) := by
  obtain ⟨i, hi⟩ := he
  rw [mcell4 hc] at hi
  exact gf_Answer_36 X w i hi rfl hdg kk
theorem qg_Answer_39 (X : Cx cc nL R_Answer D ac p m args c s) (w : Wo D A ws H0 H locs) (he : Hs ws q (mcell ad m9)) (hc : mcls m9 = 5) (hdg : decode cc pc = .ok (.getfield 39, 3)) (kk : W p l e R s m args below meth c H locs cells slots Q (F0 m (pc + 3) ls (.int (mown m9) :: rest))) : W p l e R s m args below meth c H locs cells slots Q (F0 m pc ls (.ref q :: rest)) := by
  obtain ⟨i, hi⟩ := he
  rw [mcell5 hc] at hi
  exact gf_Answer_39 X w i hi rfl hdg kk
theorem qg_Answer_43 (X : Cx cc nL R_Answer D ac p m args c s) (w : Wo D A ws H0 H locs) (he : Hs ws q (mcell ad m9)) (hc : mcls m9 = 5) (hdg : decode cc pc = .ok (.getfield 43, 3)) (kk : W p l e R s m args below meth c H locs cells slots Q (F0 m (pc + 3) ls (va_rf (rC ad (mcore m9)) :: rest))) : W p l e R s m args below meth c H locs cells slots Q (F0 m pc ls (.ref q :: rest)) := by
  obtain ⟨i, hi⟩ := he
  rw [mcell5 hc] at hi
  exact gf_Answer_43 X w i hi rfl hdg kk
theorem qg_Answer_44 (X : Cx cc nL R_Answer D ac p m args c s) (w : Wo D A ws H0 H locs) (he : Hs ws q (mcell ad m9)) (hc : mcls m9 = 5) (hdg : decode cc pc = .ok (.getfield 44, 3)) (kk : W p l e R s m args below meth c H locs cells slots Q (F0 m (pc + 3) ls (.int (mline m9) :: rest))) : W p l e R s m args below meth c H locs cells slots Q (F0 m pc ls (.ref q :: rest)) := by
  obtain ⟨i, hi⟩ := he
  rw [mcell5 hc] at hi
  exact gf_Answer_44 X w i hi rfl hdg kk
theorem qg_Answer_51 (X : Cx cc nL R_Answer D ac p m args c s) (w : Wo D A ws H0 H locs) (he : Hs ws q (mcell ad m9)) (hc : mcls m9 = 5) (hdg : decode cc pc = .ok (.getfield 51, 3)) (kk : W p l e R s m args below meth c H locs cells slots Q (F0 m (pc + 3) ls (.int (mkind m9) :: rest))) : W p l e R s m args below meth c H locs cells slots Q (F0 m pc ls (.ref q :: rest)) := by
  obtain ⟨i, hi⟩ := he
  rw [mcell5 hc] at hi
  exact gf_Answer_51 X w i hi rfl hdg kk
theorem qg_Call_19 (X : Cx cc nL R_Call D ac p m args c s) (w : Wo D A ws H0 H locs) (he : Hs ws q (mcell ad m9)) (hc : mcls m9 = 6) (hdg : decode cc pc = .ok (.getfield 19, 3)) (kk : W p l e R s m args below meth c H locs cells slots Q (F0 m (pc + 3) ls (.long (mta m9) :: rest))) : W p l e R s m args below meth c H locs cells slots Q (F0 m pc ls (.ref q :: rest)) := by
  obtain ⟨i, hi⟩ := he
  rw [mcell6 hc] at hi
  exact gf_Call_19 X w i hi rfl hdg kk
theorem qg_Call_25 (X : Cx cc nL R_Call D ac p m args c s) (w : Wo D A ws H0 H locs) (he : Hs ws q (mcell ad m9)) (hc : mcls m9 = 6) (hdg : decode cc pc = .ok (.getfield 25, 3)) (kk : W p l e R s m args below meth c H locs cells slots Q (F0 m (pc + 3) ls (va_rf (rC ad (mcore m9)) :: rest))) : W p l e R s m args below meth c H locs cells slots Q (F0 m pc ls (.ref q :: rest)) := by
  obtain ⟨i, hi⟩ := he
  rw [mcell6 hc] at hi
  exact gf_Call_25 X w i hi rfl hdg kk
theorem qg_Call_28 (X : Cx cc nL R_Call D ac p m args c s) (w : Wo D A ws H0 H locs) (he : Hs ws q (mcell ad m9)) (hc : mcls m9 = 6) (hdg : decode cc pc = .ok (.getfield 28, 3)) (kk : W p l e R s m args below meth c H locs cells slots Q (F0 m (pc + 3) ls (.int (mline m9) :: rest))) : W p l e R s m args below meth c H locs cells slots Q (F0 m pc ls (.ref q :: rest)) := by
  obtain ⟨i, hi⟩ := he
  rw [mcell6 hc] at hi
  exact gf_Call_28 X w i hi rfl hdg kk
theorem qg_Call_45 (X : Cx cc nL R_Call D ac p m args c s) (w : Wo D A ws H0 H locs) (he : Hs ws q (mcell ad m9)) (hc : mcls m9 = 6) (hdg : decode cc pc = .ok (.getfield 45, 3)) (kk : W p l e R s m args below meth c H locs cells slots Q (F0 m (pc + 3) ls (.int (mkind m9) :: rest))) : W p l e R s m args below meth c H locs cells slots Q (F0 m pc ls (.ref q :: rest)) := by
  obtain ⟨i, hi⟩ := he
  rw [mcell6 hc] at hi
  exact gf_Call_45 X w i hi rfl hdg kk
theorem qg_LC_56 (X : Cx cc nL R_LC D ac p m args c s) (w : Wo D A ws H0 H locs) (he : Hs ws q (mcell ad m9)) (hdg : decode cc pc = .ok (.getfield 56, 3)) (kk : W p l e R s m args below meth c H locs cells slots Q (F0 m (pc + 3) ls (.int (mline m9) :: rest))) : W p l e R s m args below meth c H locs cells slots Q (F0 m pc ls (.ref q :: rest)) := by
  obtain ⟨i, hi⟩ := he
  rcases mcell_cases ad m9 with ⟨-, h⟩ | ⟨-, h⟩ | ⟨-, h⟩ | ⟨-, h⟩ <;> rw [h] at hi
  · exact gf_LC_56_Request X w i hi rfl hdg kk
  · exact gf_LC_56_Answer X w i hi rfl hdg kk
  · exact gf_LC_56_Call X w i hi rfl hdg kk
  · exact gf_LC_56_Return X w i hi rfl hdg kk
theorem qg_LC_199 (X : Cx cc nL R_LC D ac p m args c s) (w : Wo D A ws H0 H locs) (he : Hs ws q (mcell ad m9)) (hc : mcls m9 = 4) (hdg : decode cc pc = .ok (.getfield 199, 3)) (kk : W p l e R s m args below meth c H locs cells slots Q (F0 m (pc + 3) ls (.int (mkind m9) :: rest))) : W p l e R s m args below meth c H locs cells slots Q (F0 m pc ls (.ref q :: rest)) := by
  obtain ⟨i, hi⟩ := he
  rw [mcell4 hc] at hi
  exact gf_LC_199 X w i hi rfl hdg kk
theorem qg_LC_200 (X : Cx cc nL R_LC D ac p m args c s) (w : Wo D A ws H0 H locs) (he : Hs ws q (mcell ad m9)) (hc : mcls m9 = 4) (hdg : decode cc pc = .ok (.getfield 200, 3)) (kk : W p l e R s m args below meth c H locs cells slots Q (F0 m (pc + 3) ls (.long (mta m9) :: rest))) : W p l e R s m args below meth c H locs cells slots Q (F0 m pc ls (.ref q :: rest)) := by
  obtain ⟨i, hi⟩ := he
  rw [mcell4 hc] at hi
  exact gf_LC_200 X w i hi rfl hdg kk
theorem qg_LC_202 (X : Cx cc nL R_LC D ac p m args c s) (w : Wo D A ws H0 H locs) (he : Hs ws q (mcell ad m9)) (hc : mcls m9 = 4) (hdg : decode cc pc = .ok (.getfield 202, 3)) (kk : W p l e R s m args below meth c H locs cells slots Q (F0 m (pc + 3) ls (va_rf (rC ad (mcore m9)) :: rest))) : W p l e R s m args below meth c H locs cells slots Q (F0 m pc ls (.ref q :: rest)) := by
  obtain ⟨i, hi⟩ := he
  rw [mcell4 hc] at hi
  exact gf_LC_202 X w i hi rfl hdg kk
theorem qg_LC_207 (X : Cx cc nL R_LC D ac p m args c s) (w : Wo D A ws H0 H locs) (he : Hs ws q (mcell ad m9)) (hc : mcls m9 = 4) (hdg : decode cc pc = .ok (.getfield 207, 3)) (kk : W p l e R s m args below meth c H locs cells slots Q (F0 m (pc + 3) ls (.long (mtb m9) :: rest))) : W p l e R s m args below meth c H locs cells slots Q (F0 m pc ls (.ref q :: rest)) := by
  obtain ⟨i, hi⟩ := he
  rw [mcell4 hc] at hi
  exact gf_LC_207 X w i hi rfl hdg kk
theorem qg_LC_211 (X : Cx cc nL R_LC D ac p m args c s) (w : Wo D A ws H0 H locs) (he : Hs ws q (mcell ad m9)) (hdg : decode cc pc = .ok (.getfield 211, 3)) (kk : W p l e R s m args below meth c H locs cells slots Q (F0 m (pc + 3) ls (.int (mkind m9) :: rest))) : W p l e R s m args below meth c H locs cells slots Q (F0 m pc ls (.ref q :: rest)) := by
  obtain ⟨i, hi⟩ := he
  rcases mcell_cases ad m9 with ⟨-, h⟩ | ⟨-, h⟩ | ⟨-, h⟩ | ⟨-, h⟩ <;> rw [h] at hi
  · exact gf_LC_211_Request X w i hi rfl hdg kk
  · exact gf_LC_211_Answer X w i hi rfl hdg kk
  · exact gf_LC_211_Call X w i hi rfl hdg kk
  · exact gf_LC_211_Return X w i hi rfl hdg kk
theorem qg_LC_212 (X : Cx cc nL R_LC D ac p m args c s) (w : Wo D A ws H0 H locs) (he : Hs ws q (mcell ad m9)) (hdg : decode cc pc = .ok (.getfield 212, 3)) (kk : W p l e R s m args below meth c H locs cells slots Q (F0 m (pc + 3) ls (va_rf (rC ad (mcore m9)) :: rest))) : W p l e R s m args below meth c H locs cells slots Q (F0 m pc ls (.ref q :: rest)) := by
  obtain ⟨i, hi⟩ := he
  rcases mcell_cases ad m9 with ⟨-, h⟩ | ⟨-, h⟩ | ⟨-, h⟩ | ⟨-, h⟩ <;> rw [h] at hi
  · exact gf_LC_212_Request X w i hi rfl hdg kk
  · exact gf_LC_212_Answer X w i hi rfl hdg kk
  · exact gf_LC_212_Call X w i hi rfl hdg kk
  · exact gf_LC_212_Return X w i hi rfl hdg kk
theorem qg_Request_16 (X : Cx cc nL R_Request D ac p m args c s) (w : Wo D A ws H0 H locs) (he : Hs ws q (mcell ad m9)) (hc : mcls m9 = 4) (hdg : decode cc pc = .ok (.getfield 16, 3)) (kk : W p l e R s m args below meth c H locs cells slots Q (F0 m (pc + 3) ls (.int (mline m9) :: rest))) : W p l e R s m args below meth c H locs cells slots Q (F0 m pc ls (.ref q :: rest)) := by
  obtain ⟨i, hi⟩ := he
  rw [mcell4 hc] at hi
  exact gf_Request_16 X w i hi rfl hdg kk
theorem qg_Return_16 (X : Cx cc nL R_Return D ac p m args c s) (w : Wo D A ws H0 H locs) (he : Hs ws q (mcell ad m9)) (hc : mcls m9 = 7) (hdg : decode cc pc = .ok (.getfield 16, 3)) (kk : W p l e R s m args below meth c H locs cells slots Q (F0 m (pc + 3) ls (.int (mword m9) :: rest))) : W p l e R s m args below meth c H locs cells slots Q (F0 m pc ls (.ref q :: rest)) := by
  obtain ⟨i, hi⟩ := he
  rw [mcell7 hc] at hi
  exact gf_Return_16 X w i hi rfl hdg kk
theorem qg_Return_23 (X : Cx cc nL R_Return D ac p m args c s) (w : Wo D A ws H0 H locs) (he : Hs ws q (mcell ad m9)) (hc : mcls m9 = 7) (hdg : decode cc pc = .ok (.getfield 23, 3)) (kk : W p l e R s m args below meth c H locs cells slots Q (F0 m (pc + 3) ls (.long (mta m9) :: rest))) : W p l e R s m args below meth c H locs cells slots Q (F0 m pc ls (.ref q :: rest)) := by
  obtain ⟨i, hi⟩ := he
  rw [mcell7 hc] at hi
  exact gf_Return_23 X w i hi rfl hdg kk
theorem qg_Return_27 (X : Cx cc nL R_Return D ac p m args c s) (w : Wo D A ws H0 H locs) (he : Hs ws q (mcell ad m9)) (hc : mcls m9 = 7) (hdg : decode cc pc = .ok (.getfield 27, 3)) (kk : W p l e R s m args below meth c H locs cells slots Q (F0 m (pc + 3) ls (.long (mtb m9) :: rest))) : W p l e R s m args below meth c H locs cells slots Q (F0 m pc ls (.ref q :: rest)) := by
  obtain ⟨i, hi⟩ := he
  rw [mcell7 hc] at hi
  exact gf_Return_27 X w i hi rfl hdg kk
theorem qg_Return_28 (X : Cx cc nL R_Return D ac p m args c s) (w : Wo D A ws H0 H locs) (he : Hs ws q (mcell ad m9)) (hc : mcls m9 = 7) (hdg : decode cc pc = .ok (.getfield 28, 3)) (kk : W p l e R s m args below meth c H locs cells slots Q (F0 m (pc + 3) ls (.int (mline m9) :: rest))) : W p l e R s m args below meth c H locs cells slots Q (F0 m pc ls (.ref q :: rest)) := by
  obtain ⟨i, hi⟩ := he
  rw [mcell7 hc] at hi
  exact gf_Return_28 X w i hi rfl hdg kk
end CRM
section CRS
variable {p : Program} {l : Launch} {e : Env} {R : Room} {s : State} {m : MethodId} {args : Array Value} {below : List Frame} {meth : Method} {c : Code} {H : Heap} {locs : List Loc} {cells slots : Nat} {Q : State → Prop} {cc : ByteArray} {nL pc : Nat} {ls : Array Slot} {rest : List Value} {D : va_G} {A : Nat → Prop} {H0 : Heap} {own : String} {ac : Nat → ClassId} {o : Nat} {ad : Nat → Nat} {CI : Nat → Nat → Int32} {CL : Nat → Nat → Int64} {CR : Nat → Nat → Option Nat} {al : Nat → Nat} {M : Nat → Msg} {n9 : Nat}
theorem cm_LC_158 (X : Cx cc nL R_LC D ac p m args c s) (w : Wo D A (cwm ac o ad al CI CL CR M n9) H0 H locs) (i : Nat) (h : i < 6) {x : Option Nat} (hdg : decode cc pc = .ok (.putfield 158, 3)) (kk : ∀ (H1 : Heap) (locs1 : List Loc), Wo D A (cwm ac o ad al CI CL (up2 CR 0 i x) M n9) H0 H1 locs1 → W p l e R s m args below meth c H1 locs1 cells slots Q (F0 m (pc + 3) ls rest)) : W p l e R s m args below meth c H locs cells slots Q (F0 m pc ls (va_rf (rC ad x) :: .ref (ad (22 + i)) :: rest)) :=
  cp_LC_158 X w i h hdg (fun H1 locs1 w1 => kk H1 locs1 (by rw [mapR_up0] at w1; exact w1))
theorem cm_LC_162 (X : Cx cc nL R_LC D ac p m args c s) (w : Wo D A (cwm ac o ad al CI CL CR M n9) H0 H locs) (i : Nat) (h : i < 6) {x : Option Nat} (hdg : decode cc pc = .ok (.putfield 162, 3)) (kk : ∀ (H1 : Heap) (locs1 : List Loc), Wo D A (cwm ac o ad al CI CL (up2 CR 1 i x) M n9) H0 H1 locs1 → W p l e R s m args below meth c H1 locs1 cells slots Q (F0 m (pc + 3) ls rest)) : W p l e R s m args below meth c H locs cells slots Q (F0 m pc ls (va_rf (x.map al) :: .ref (ad (22 + i)) :: rest)) :=
  cp_LC_162 X w i h hdg (fun H1 locs1 w1 => kk H1 locs1 (by rw [mapR_up _ _ (by decide)] at w1; exact w1))
theorem cm_Return_41 (X : Cx cc nL R_Return D ac p m args c s) (w : Wo D A (cwm ac o ad al CI CL CR M n9) H0 H locs) (i : Nat) (h : i < 6) {x : Option Nat} (hdg : decode cc pc = .ok (.putfield 41, 3)) (kk : ∀ (H1 : Heap) (locs1 : List Loc), Wo D A (cwm ac o ad al CI CL (up2 CR 0 i x) M n9) H0 H1 locs1 → W p l e R s m args below meth c H1 locs1 cells slots Q (F0 m (pc + 3) ls rest)) : W p l e R s m args below meth c H locs cells slots Q (F0 m pc ls (va_rf (rC ad x) :: .ref (ad (22 + i)) :: rest)) :=
  cp_Return_41 X w i h hdg (fun H1 locs1 w1 => kk H1 locs1 (by rw [mapR_up0] at w1; exact w1))
theorem cm_Return_53 (X : Cx cc nL R_Return D ac p m args c s) (w : Wo D A (cwm ac o ad al CI CL CR M n9) H0 H locs) (i : Nat) (h : i < 6) {x : Option Nat} (hdg : decode cc pc = .ok (.putfield 53, 3)) (kk : ∀ (H1 : Heap) (locs1 : List Loc), Wo D A (cwm ac o ad al CI CL (up2 CR 1 i x) M n9) H0 H1 locs1 → W p l e R s m args below meth c H1 locs1 cells slots Q (F0 m (pc + 3) ls rest)) : W p l e R s m args below meth c H locs cells slots Q (F0 m pc ls (va_rf (x.map al) :: .ref (ad (22 + i)) :: rest)) :=
  cp_Return_53 X w i h hdg (fun H1 locs1 w1 => kk H1 locs1 (by rw [mapR_up _ _ (by decide)] at w1; exact w1))
theorem cl_queueM (X : Cx cc nL own D ac p m args c s) (w : Wo D A (cwm ac o ad al CI CL CR M n9) H0 H locs) (i : Nat) (h : i < 6) (j : Nat) {i0 : Int32} (hj : j < 2) (hi : i0 = nI j) (hdg : decode cc pc = .ok (.aaload, 1)) (kk : W p l e R s m args below meth c H locs cells slots Q (F0 m (pc + 1) ls (va_rf ((CR (10 + i) j).map al) :: rest))) : W p l e R s m args below meth c H locs cells slots Q (F0 m pc ls (.int i0 :: .ref (ad (28 + i)) :: rest)) :=
  cl_queue X w i h j hj hi hdg (by rw [mapR_ne _ _ (by omega)]; exact kk)
theorem ct_messages (X : Cx cc nL own D ac p m args c s) (w : Wo D A (cwm ac o ad al CI CL CR M n9) H0 H locs) (j : Nat) {i0 : Int32} {x : Option Nat} (hx : ∀ q, x = some q → q < n9) (hj : j < 24) (hi : i0 = nI j) (hdg : decode cc pc = .ok (.aastore, 1)) (kk : ∀ (H1 : Heap) (locs1 : List Loc), Wo D A (cwm ac o ad al CI CL (up2 CR 3 j x) M n9) H0 H1 locs1 → W p l e R s m args below meth c H1 locs1 cells slots Q (F0 m (pc + 1) ls rest)) : W p l e R s m args below meth c H locs cells slots Q (F0 m pc ls (va_rf (x.map al) :: .int i0 :: .ref (ad 3) :: rest)) := by
  subst hi
  cases x with
  | none =>
    refine va_astqN X.1 X.2.1 X.2.2.2.2.2 w.1 w.2.1 w.2.2.1 4 5 (ha := rfl) rfl (vp_in_nI hj (by decide)) hdg ?_
    rw [nI_clamp (by omega)]
    exact fun H1 locs1 h1 h2 h3 => kk H1 locs1 (kmapR (x := none) (by decide) ⟨h1, h2, h3, w.2.2.2⟩)
  | some q =>
    obtain ⟨i, hi9⟩ := hs_mem0 (ac := ac) (o := o) (ad := ad) (al := al) (CI := CI) (CL := CL) (CR := mapR al CR) (M := M) (hx q rfl)
    rcases mcell_cases ad (M q) with ⟨-, h⟩ | ⟨-, h⟩ | ⟨-, h⟩ | ⟨-, h⟩ <;> rw [h] at hi9
    · refine va_astqO X.1 X.2.1 X.2.2.2.2.2 w.1 w.2.1 w.2.2.1 4 5 i 4 (ha := rfl) rfl (r := (R_Request, F_Request, 5)) (X.2.2.2.2.1.at wv_Request_Message) hi9 rfl (vp_in_nI hj (by decide)) hdg ?_
      rw [nI_clamp (by omega)]
      exact fun H1 locs1 h1 h2 h3 => kk H1 locs1 (kmapR (x := some q) (by decide) ⟨h1, h2, h3, w.2.2.2⟩)
    · refine va_astqO X.1 X.2.1 X.2.2.2.2.2 w.1 w.2.1 w.2.2.1 4 5 i 5 (ha := rfl) rfl (r := (R_Answer, F_Answer, 7)) (X.2.2.2.2.1.at wv_Answer_Message) hi9 rfl (vp_in_nI hj (by decide)) hdg ?_
      rw [nI_clamp (by omega)]
      exact fun H1 locs1 h1 h2 h3 => kk H1 locs1 (kmapR (x := some q) (by decide) ⟨h1, h2, h3, w.2.2.2⟩)
    · refine va_astqO X.1 X.2.1 X.2.2.2.2.2 w.1 w.2.1 w.2.2.1 4 5 i 6 (ha := rfl) rfl (r := (R_Call, F_Call, 4)) (X.2.2.2.2.1.at wv_Call_Message) hi9 rfl (vp_in_nI hj (by decide)) hdg ?_
      rw [nI_clamp (by omega)]
      exact fun H1 locs1 h1 h2 h3 => kk H1 locs1 (kmapR (x := some q) (by decide) ⟨h1, h2, h3, w.2.2.2⟩)
    · refine va_astqO X.1 X.2.1 X.2.2.2.2.2 w.1 w.2.1 w.2.2.1 4 5 i 7 (ha := rfl) rfl (r := (R_Return, F_Return, 6)) (X.2.2.2.2.1.at wv_Return_Message) hi9 rfl (vp_in_nI hj (by decide)) hdg ?_
      rw [nI_clamp (by omega)]
      exact fun H1 locs1 h1 h2 h3 => kk H1 locs1 (kmapR (x := some q) (by decide) ⟨h1, h2, h3, w.2.2.2⟩)
theorem ct_queue (X : Cx cc nL own D ac p m args c s) (w : Wo D A (cwm ac o ad al CI CL CR M n9) H0 H locs) (e9 : Nat) (h : e9 < 6) (j : Nat) {i0 : Int32} {x : Option Nat} (hx : ∀ q, x = some q → q < n9 ∧ mcls (M q) = 4) (hj : j < 2) (hi : i0 = nI j) (hdg : decode cc pc = .ok (.aastore, 1)) (kk : ∀ (H1 : Heap) (locs1 : List Loc), Wo D A (cwm ac o ad al CI CL (up2 CR (10 + e9) j x) M n9) H0 H1 locs1 → W p l e R s m args below meth c H1 locs1 cells slots Q (F0 m (pc + 1) ls rest)) : W p l e R s m args below meth c H locs cells slots Q (F0 m pc ls (va_rf (x.map al) :: .int i0 :: .ref (ad (28 + e9)) :: rest)) := by
  subst hi
  have hne : 10 + e9 ≠ 0 := by omega
  cases x with
  | none =>
    refine va_astqN X.1 X.2.1 X.2.2.2.2.2 w.1 w.2.1 w.2.2.1 (29 + e9) 7 (ha := cw_Q e9 h) rfl (vp_in_nI hj (by decide)) hdg ?_
    rw [nI_clamp (by omega), cs_Q e9 h]
    exact fun H1 locs1 h1 h2 h3 => kk H1 locs1 (kmapR (x := none) hne ⟨h1, h2, h3, w.2.2.2⟩)
  | some q =>
    obtain ⟨i, hi9⟩ := hs_mem0 (ac := ac) (o := o) (ad := ad) (al := al) (CI := CI) (CL := CL) (CR := mapR al CR) (M := M) (hx q rfl).1
    rw [mcell4 (hx q rfl).2] at hi9
    refine va_astq X.1 X.2.1 X.2.2.2.2.2 w.1 w.2.1 w.2.2.1 (29 + e9) 7 i 4 (r := (R_Request, F_Request, 5)) (ha := cw_Q e9 h) rfl hi9 rfl (vp_in_nI hj (by decide)) hdg ?_
    rw [nI_clamp (by omega), cs_Q e9 h]
    exact fun H1 locs1 h1 h2 h3 => kk H1 locs1 (kmapR (x := some q) hne ⟨h1, h2, h3, w.2.2.2⟩)
theorem kinst (X : Cx cc nL own D ac p m args c s) (w : Wo D A (cwm ac o ad al CI CL CR M n9) H0 H locs) {idx q : Nat} (hq : q < n9) (hl : Cond.classLink own idx R_Call ∈ lw_tbl ∧ okw (Cond.classLink own idx R_Call) = true) (hdg : decode cc pc = .ok (.instanceof idx, 3)) (k1 : mcls (M q) = 6 → W p l e R s m args below meth c H locs cells slots Q (F0 m (pc + 3) ls (.int 1 :: rest))) (k0 : ¬ mcls (M q) = 6 → W p l e R s m args below meth c H locs cells slots Q (F0 m (pc + 3) ls (.int 0 :: rest))) : W p l e R s m args below meth c H locs cells slots Q (F0 m pc ls (.ref (al q) :: rest)) := by
  obtain ⟨i, hi⟩ := hs_mem0 (ac := ac) (o := o) (ad := ad) (al := al) (CI := CI) (CL := CL) (CR := mapR al CR) (M := M) hq
  rcases mcell_cases ad (M q) with ⟨h1, h⟩ | ⟨h1, h⟩ | ⟨h1, h⟩ | ⟨h1, h⟩ <;> rw [h] at hi
  · exact va_instNo X.1 X.2.1 X.2.2.2.1 (X.2.2.2.2.1.at hl) (X.2.2.2.2.1.2 (R_Request, R_Call) (by decide)) (krecv (ws0 := []) X w i hi rfl) hdg (k0 (by rw [h1]; decide))
  · exact va_instNo X.1 X.2.1 X.2.2.2.1 (X.2.2.2.2.1.at hl) (X.2.2.2.2.1.2 (R_Answer, R_Call) (by decide)) (krecv (ws0 := []) X w i hi rfl) hdg (k0 (by rw [h1]; decide))
  · exact va_instY X.1 X.2.1 X.2.2.2.1 (X.2.2.2.2.1.at hl) (X.2.2.2.2.1.at wv_Call_Call) (krecv (ws0 := []) X w i hi rfl) hdg (k1 h1)
  · exact va_instNo X.1 X.2.1 X.2.2.2.1 (X.2.2.2.2.1.at hl) (X.2.2.2.2.1.2 (R_Return, R_Call) (by decide)) (krecv (ws0 := []) X w i hi rfl) hdg (k0 (by exact h1))
theorem mrecvC (X : Cx cc nL own D ac p m args c s) (w : Wo D A (cwm ac o ad al CI CL CR M n9) H0 H locs) {q ci : Nat} {C : String} {T : u_T} {N : Nat} {fs : List Value} (hq : q < n9) (hc : mcell ad (M q) = .inr (ci, fs)) (hcl : classes[ci]? = some (C, T, N)) : ∃ cellB : Cell, H[al q]? = some cellB ∧ cellB.vm.isStatics = false ∧ s.vm.findClass C = some cellB.cls := by
  obtain ⟨i, hi⟩ := hs_mem0 (ac := ac) (o := o) (ad := ad) (al := al) (CI := CI) (CL := CL) (CR := mapR al CR) (M := M) hq
  rw [hc] at hi
  exact krecv (ws0 := []) X w i hi hcl
theorem kmaxJ (X : Cx cc nL own D ac p m args c s) {idx : Nat} (hl : Cond.methodLink own idx y_Math_maxJ ∈ lw_tbl ∧ okw (Cond.methodLink own idx y_Math_maxJ) = true) (hz : ls.size = nL) (hf : 1 ≤ R.frames) (hlo : (rest.map fun v => v.category).sum + 15 ≤ R.locals) (hc : cells ≤ R.cells) (hs : slots ≤ R.slots) {x y v : Int64} (hv : (if y < x then x else y) = v) (hdg : decode cc pc = .ok (.invokestatic idx, 3)) (kk : W p l e R s m args below meth c H locs cells slots Q (F0 m (pc + 3) ls (.long v :: rest))) : W p l e R s m args below meth c H locs cells slots Q (F0 m pc ls (.long y :: .long x :: rest)) := by
  subst hv
  exact va_mmax_long X.1 X.2.1 (X.2.2.1.trans hz.symm) X.2.2.2.1 (X.2.2.2.2.1.at hl) (X.2.2.2.2.1.at wt_Math_maxJ) (X.2.2.2.2.1.at wi_Math) (X.2.2.2.2.1.at wk_Math_maxJ) hf hlo hc hs hdg kk
theorem kmaxI (X : Cx cc nL own D ac p m args c s) {idx : Nat} (hl : Cond.methodLink own idx y_Math_maxI ∈ lw_tbl ∧ okw (Cond.methodLink own idx y_Math_maxI) = true) (hz : ls.size = nL) (hf : 1 ≤ R.frames) (hlo : (rest.map fun v => v.category).sum + 13 ≤ R.locals) (hc : cells ≤ R.cells) (hs : slots ≤ R.slots) {x y v : Int32} (hv : (if x < y then y else x) = v) (hdg : decode cc pc = .ok (.invokestatic idx, 3)) (kk : W p l e R s m args below meth c H locs cells slots Q (F0 m (pc + 3) ls (.int v :: rest))) : W p l e R s m args below meth c H locs cells slots Q (F0 m pc ls (.int y :: .int x :: rest)) := by
  subst hv
  exact va_mmax X.1 X.2.1 (X.2.2.1.trans hz.symm) X.2.2.2.1 (X.2.2.2.2.1.at hl) (X.2.2.2.2.1.at wt_Math_maxI) (X.2.2.2.2.1.at wi_Math) (X.2.2.2.2.1.at wk_Math_maxI) hf hlo hc hs hdg kk
theorem kminI (X : Cx cc nL own D ac p m args c s) {idx : Nat} (hl : Cond.methodLink own idx y_Math_min ∈ lw_tbl ∧ okw (Cond.methodLink own idx y_Math_min) = true) (hz : ls.size = nL) (hf : 1 ≤ R.frames) (hlo : (rest.map fun v => v.category).sum + 13 ≤ R.locals) (hc : cells ≤ R.cells) (hs : slots ≤ R.slots) {x y v : Int32} (hv : (if y < x then y else x) = v) (hdg : decode cc pc = .ok (.invokestatic idx, 3)) (kk : W p l e R s m args below meth c H locs cells slots Q (F0 m (pc + 3) ls (.int v :: rest))) : W p l e R s m args below meth c H locs cells slots Q (F0 m pc ls (.int y :: .int x :: rest)) := by
  subst hv
  exact va_mmin X.1 X.2.1 (X.2.2.1.trans hz.symm) X.2.2.2.1 (X.2.2.2.2.1.at hl) (X.2.2.2.2.1.at wt_Math_min) (X.2.2.2.2.1.at wi_Math) (X.2.2.2.2.1.at wk_Math_min) hf hlo hc hs hdg kk
end CRS
section CRL
variable {p : Program} {l : Launch} {e : Env} {R : Room} {s : State} {m : MethodId} {args : Array Value} {below : List Frame} {meth : Method} {c : Code} {H : Heap} {locs : List Loc} {cells slots : Nat} {Q : State → Prop} {cc : ByteArray} {pc : Nat} {ls : Array Slot} {rest : List Value}
theorem kaload_n (hexec : p.tables.exec = Jvm.exec) (hb : c.code = cc) {k : Fin 4} {i : Nat} {x : Option Nat} (hdg : decode cc pc = .ok (.aload_n k, 1)) (hi : (k : Nat) = i) (hl : ls[i]? = some (.val (va_rf x)))
    (kk : W p l e R s m args below meth c H locs cells slots Q (F0 m (pc + 1) ls (va_rf x :: rest))) : W p l e R s m args below meth c H locs cells slots Q (F0 m pc ls (rest)) := by
  cases x with
  | none => exact lv_aload_nN hexec hb hdg hi hl kk
  | some x => exact lv_aload_n hexec hb hdg hi hl kk
end CRL
