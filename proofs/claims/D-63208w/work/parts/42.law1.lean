theorem kstart {s : State} (hT : TW s) : ∃ (D : va_G) (ac : Nat → ClassId), va_K D classes (tys ac) s := by
  obtain ⟨c0, i0, k0⟩ := u_known (args := #[]) (C := R_LC) (T := F_LC) (N := 9) hT.hts (fun w h => List.mem_filter.mpr (i_LC w h)) (hT.at wn_LC)
  obtain ⟨c1, i1, k1⟩ := u_known (args := #[]) (C := R_Core) (T := F_Core) (N := 12) hT.hts (fun w h => List.mem_filter.mpr (i_Core w h)) (hT.at wn_Core)
  obtain ⟨c2, i2, k2⟩ := u_known (args := #[]) (C := R_Place) (T := F_Place) (N := 6) hT.hts (fun w h => List.mem_filter.mpr (i_Place w h)) (hT.at wn_Place)
  obtain ⟨c3, i3, k3⟩ := u_known (args := #[]) (C := R_Entry) (T := F_Entry) (N := 9) hT.hts (fun w h => List.mem_filter.mpr (i_Entry w h)) (hT.at wn_Entry)
  obtain ⟨c4, i4, k4⟩ := u_known (args := #[]) (C := R_Request) (T := F_Request) (N := 5) hT.hts (fun w h => List.mem_filter.mpr (i_Request w h)) (hT.at wn_Request)
  obtain ⟨c5, i5, k5⟩ := u_known (args := #[]) (C := R_Answer) (T := F_Answer) (N := 7) hT.hts (fun w h => List.mem_filter.mpr (i_Answer w h)) (hT.at wn_Answer)
  obtain ⟨c6, i6, k6⟩ := u_known (args := #[]) (C := R_Call) (T := F_Call) (N := 4) hT.hts (fun w h => List.mem_filter.mpr (i_Call w h)) (hT.at wn_Call)
  obtain ⟨c7, i7, k7⟩ := u_known (args := #[]) (C := R_Return) (T := F_Return) (N := 6) hT.hts (fun w h => List.mem_filter.mpr (i_Return w h)) (hT.at wn_Return)
  obtain ⟨c8, i8, k8⟩ := u_known (args := #[]) (C := R_Model) (T := F_Model) (N := 40) hT.hts (fun w h => List.mem_filter.mpr (i_Model w h)) (hT.at wn_Model)
  obtain ⟨a0, ka0, co0, x0, y0, z0⟩ := Cond.arrayClass_spec (hT.at (a := #[]) wa_int)
  obtain ⟨a1, ka1, co1, x1, y1, z1⟩ := Cond.arrayClass_spec (hT.at (a := #[]) wa_long)
  obtain ⟨a2, ka2, co2, x2, y2, z2⟩ := Cond.arrayClass_spec (hT.at (a := #[]) wa_boolean)
  obtain ⟨co3, a3, ka3, u3, -, y3, z3, x3⟩ := Cond.arrayOver_spec (hT.at (a := #[]) wo_Core)
  obtain ⟨co4, a4, ka4, u4, -, y4, z4, x4⟩ := Cond.arrayOver_spec (hT.at (a := #[]) wo_Entry)
  obtain ⟨co5, a5, ka5, u5, -, y5, z5, x5⟩ := Cond.arrayOver_spec (hT.at (a := #[]) wo_Message)
  obtain ⟨co6, a6, ka6, u6, -, y6, z6, x6⟩ := Cond.arrayOver_spec (hT.at (a := #[]) wo_Place)
  obtain ⟨co7, a7, ka7, u7, -, y7, z7, x7⟩ := Cond.arrayOver_spec (hT.at (a := #[]) wo_Request)
  refine ⟨(fun c => [c0, c1, c2, c3, c4, c5, c6, c7, c8].getD c 0, fun c => [i0, i1, i2, i3, i4, i5, i6, i7, i8].getD c (fun _ => 0)), fun k => [a0, a1, a2, a3, a4, a5, a6, a7].getD k 0, fun c q hq => ?_, fun k q hq => ?_⟩
  · match c, hq with
    | 0, hq => cases hq; exact k0
    | 1, hq => cases hq; exact k1
    | 2, hq => cases hq; exact k2
    | 3, hq => cases hq; exact k3
    | 4, hq => cases hq; exact k4
    | 5, hq => cases hq; exact k5
    | 6, hq => cases hq; exact k6
    | 7, hq => cases hq; exact k7
    | 8, hq => cases hq; exact k8
    | c + 9, hq => cases hq
  · match k, hq with
    | 0, hq => cases hq; exact ⟨fun n z => ⟨fun k h => (by cases h), ka0, y0, co0, z0⟩, x0⟩
    | 1, hq => cases hq; exact ⟨fun n z => ⟨fun k h => (by cases h), ka1, y1, co1, z1⟩, x1⟩
    | 2, hq => cases hq; exact ⟨fun n z => ⟨fun k h => (by cases h), ka2, y2, co2, z2⟩, x2⟩
    | 3, hq => cases hq; exact ⟨fun n z => ⟨fun k h => (by cases h), ka3, y3, co3, z3⟩, ka3, co3, y3, z3, u3, x3⟩
    | 4, hq => cases hq; exact ⟨fun n z => ⟨fun k h => (by cases h), ka4, y4, co4, z4⟩, ka4, co4, y4, z4, u4, x4⟩
    | 5, hq => cases hq; exact ⟨fun n z => ⟨fun k h => (by cases h), ka5, y5, co5, z5⟩, ka5, co5, y5, z5, u5, x5⟩
    | 6, hq => cases hq; exact ⟨fun n z => ⟨fun k h => (by cases h), ka6, y6, co6, z6⟩, ka6, co6, y6, z6, u6, x6⟩
    | 7, hq => cases hq; exact ⟨fun n z => ⟨fun k h => (by cases h), ka7, y7, co7, z7⟩, ka7, co7, y7, z7, u7, x7⟩
    | k + 8, hq => cases hq
def CellP (D : va_G) (ac : Nat → ClassId) (b L : Nat) (xs : Nat → Int32) (U : State) : Prop := TW U ∧ va_K D classes (tys ac) U ∧ va_X b L xs U U.heap
theorem cell_blind {D : va_G} {ac : Nat → ClassId} {b L : Nat} {xs : Nat → Int32} {av : List Value} : FrameBlind (va_Pc av (CellP D ac b L xs)) := fun a U g mk q => ⟨q.1, q.2.1.calling g mk a, va_K.moved (u := U) (U := U.calling g mk a) (Vm.Alike.refl U.vm) q.2.2.1, va_X.moved (u := U) (U := U.calling g mk a) (Vm.Alike.refl U.vm) q.2.2.2⟩
theorem c_Law_cell (l : Launch) (D : va_G) (ac : Nat → ClassId) (b L : Nat) (xs : Nat → Int32) (k : Nat) (hL : L ≤ 3074) (hk : k < 2) : Met l y_Law_cell [Cond.code y_Law_cell b_Law_cell 2 (some .int)] { frames := 0, cells := 0, slots := 0, locals := 0 } (va_Pc [.ref b, .int (nI k)] (CellP D ac b L xs)) (Qro (some (.int (if k < L then xs k else 0)))) 0 0 (fun _ => False) := by
  refine Met.ofW (cc := b_Law_cell) (maxL := 2) (ret := some .int) (by decide) rfl ?_
  intro p e s m args below meth c s₁ B hml hv
  obtain ⟨rfl, hT, hK, hX⟩ := hv
  have hl := lv_entry [.ref b, .int (nI k)] (n := 2) (Nat.le_of_ble_eq_true rfl)
  rw [lg_entry_eq]
  have hx := B.exec
  have hb := B.bytes
  have hr := B.returns
  have hlk := B.notSynchronized
  generalize (lg_sl [Value.ref b, Value.int (nI k)] ++ List.replicate (2 - (lg_sl [Value.ref b, Value.int (nI k)]).length) Slot.unset).toArray = ls at hl ⊢
  have hl : lv_has ls 2 [(0, .ref b), (1, .int (nI k))] := hl
  obtain ⟨scr, h1, -⟩ := id hX
  have hbl : b < s.heap.size := (Array.getElem?_eq_some_iff.mp h1).1
  refine lv_iload_n hx hb d_Law_cell_0 rfl (lv_at hl 1 rfl) ?_
  refine lv_aload_n hx hb d_Law_cell_1 rfl (lv_at hl 0 rfl) ?_
  refine va_slen (A := fun _ => False) hx hb hX hbl (fun h => h) va_S.rf d_Law_cell_2 ?_
  refine lv_icmp_ge (tgt := 12) hx hb d_Law_cell_3 (by decide) (fun h => ?_) (fun h => ?_)
  · have hk2 : ¬ k < L := fun h2 => absurd h (nI_ge h2 (by omega))
    refine lv_iconst (v := 0) hx hb d_Law_cell_12 (by decide) ?_
    rw [if_neg hk2]
    exact W.iret hx hb hr (fun t ht hW => ⟨rfl, ht⟩) (fun q h => by cases h) d_Law_cell_13
  · have hk2 : k < L := Nat.lt_of_not_le fun h2 => h (nI_le h2 (by omega))
    refine lv_aload_n hx hb d_Law_cell_6 rfl (lv_at hl 0 rfl) ?_
    refine lv_iload_n hx hb d_Law_cell_7 rfl (lv_at hl 1 rfl) ?_
    refine va_sld (A := fun _ => False) hx hb hX hbl (fun h => h) va_S.rf (vp_in_nI hk2 (by omega)) d_Law_cell_8 ?_
    rw [nI_clamp (by omega)]
    refine lv_goto (tgt := 13) hx hb d_Law_cell_9 (by decide) ?_
    rw [if_pos hk2]
    exact W.iret hx hb hr (fun t ht hW => ⟨rfl, ht⟩) (fun q h => by cases h) d_Law_cell_13
