theorem f_Model_entryOf_4_congr {MI MI' : Nat → Nat → Int32} {ML ML' : Nat → Nat → Int64} (h : MI 16 = MI' 16) (li : Int32) : ∀ (d k : Nat) (f : Option Nat), f_Model_entryOf_4 d MI ML li f k = f_Model_entryOf_4 d MI' ML' li f k := by
  intro d
  induction d with
  | zero => intro k f; rfl
  | succ d ih => intro k f; rw [f_Model_entryOf_4_s, f_Model_entryOf_4_s, h, ih, ih]
theorem f_Model_entryOf_congr {MI MI' : Nat → Nat → Int32} {ML ML' : Nat → Nat → Int64} (h : MI 16 = MI' 16) (li : Int32) : f_Model_entryOf MI ML li = f_Model_entryOf MI' ML' li := f_Model_entryOf_4_congr h li 6 0 none
/-- what the model's rows must hold so that every call comes back -/
def MOK (MI : Nat → Nat → Int32) (ML : Nat → Nat → Int64) : Prop :=
  MI 38 0 = nI (tn (MI 38 0)) ∧ tn (MI 38 0) < 20 ∧ (∀ j, MI 31 j = 0 ∨ MI 31 j = 1) ∧ (∀ k, k < 6 → MI 16 k = -1 ∨ (MI 16 k = nI (tn (MI 16 k)) ∧ tn (MI 16 k) < 12)) ∧ (∀ e, e < 6 → MI 22 e = nI (tn (MI 22 e)) ∧ tn (MI 22 e) ≤ 3) ∧ (∀ j, j < 6 → MI 15 j = nI (tn (MI 15 j)) ∧ tn (MI 15 j) < 2) ∧ (∀ k, k < tn (MI 38 0) → MI 30 k = nI (tn (MI 30 k)) ∧ tn (MI 30 k) < 3) ∧ (∀ k, k < tn (MI 38 0) → MI 29 k = nI (tn (MI 29 k)) ∧ tn (MI 29 k) < 12) ∧ (∀ k e, k < tn (MI 38 0) → ¬ 3 ≤ MI 28 k → f_Model_entryOf MI ML (MI 29 k) = some e → tn (MI 22 e) < 3) ∧ (∀ k, k < tn (MI 38 0) → ¬ MI 28 k ≤ 6 → f_Model_entryOf MI ML (MI 29 k) ≠ none) ∧ ¬ MI 37 0 = 0
theorem f_Model_does_keep {MI : Nat → Nat → Int32} {ML : Nat → Nat → Int64} {c q k : Nat} (h1 : k ≠ 1) (h2 : k ≠ 7) (h3 : k ≠ 8) (h4 : k ≠ 9) (h5 : k ≠ 12) (h6 : k ≠ 15) : (f_Model_does MI ML c q).1 k = MI k := by
  unfold f_Model_does
  repeat' split
  all_goals
    unfold f_Model_does_41
    repeat' split
    all_goals
      unfold f_Model_does_67
      repeat' split
      all_goals simp [f_Model_does_184, up2, h1, h2, h3, h4, h5, h6]
theorem f_Model_room_75_38 (MI : Nat → Nat → Int32) (ML : Nat → Nat → Int64) (c li q : Nat) : (f_Model_room_75 MI ML c li q).2.1 38 0 = MI 38 0 ∨ (f_Model_room_75 MI ML c li q).2.1 38 0 = nI (tn (MI 38 0) + 1) := by
  unfold f_Model_room_75
  repeat' split
  · exact Or.inl rfl
  · exact Or.inl rfl
  · refine Or.inr ?_
    simp [up2]
theorem f_Model_room_75_31 (MI : Nat → Nat → Int32) (ML : Nat → Nat → Int64) (c li q : Nat) (h : ∀ j, MI 31 j = 0 ∨ MI 31 j = 1) (j : Nat) : (f_Model_room_75 MI ML c li q).2.1 31 j = 0 ∨ (f_Model_room_75 MI ML c li q).2.1 31 j = 1 := by
  unfold f_Model_room_75
  repeat' split
  · exact h j
  · exact h j
  · by_cases e : j = tn (MI 38 0) <;> simp [up2, e]
    exact h j
theorem f_Model_room_38 (MI : Nat → Nat → Int32) (ML : Nat → Nat → Int64) (c li : Nat) : (f_Model_room MI ML c li).2.1 38 0 = MI 38 0 ∨ (f_Model_room MI ML c li).2.1 38 0 = nI (tn (MI 38 0) + 1) := by
  unfold f_Model_room
  cases f_Model_placeOf MI ML c li with
  | some y => exact Or.inl rfl
  | none =>
    rw [oc_none]
    repeat' split
    all_goals exact f_Model_room_75_38 _ _ _ _ _
theorem f_Model_room_31 (MI : Nat → Nat → Int32) (ML : Nat → Nat → Int64) (c li : Nat) (h : ∀ j, MI 31 j = 0 ∨ MI 31 j = 1) (j : Nat) : (f_Model_room MI ML c li).2.1 31 j = 0 ∨ (f_Model_room MI ML c li).2.1 31 j = 1 := by
  unfold f_Model_room
  cases f_Model_placeOf MI ML c li with
  | some y => exact h j
  | none =>
    rw [oc_none]
    repeat' split
    all_goals exact f_Model_room_75_31 _ _ _ _ _ h j
theorem f_Model_answered_36_keep {MI : Nat → Nat → Int32} {ML : Nat → Nat → Int64} {k c q r : Nat} {b : Int32} (h1 : r = 38 ∨ r = 31) : (f_Model_answered_36 MI ML k c q b).1 r = MI r := by
  unfold f_Model_answered_36
  rcases h1 with rfl | rfl <;> (repeat' split) <;> (simp only []; rw [f_Model_does_keep (by decide) (by decide) (by decide) (by decide) (by decide) (by decide)]; rfl)
theorem f_Model_answered_keep {MI : Nat → Nat → Int32} {ML : Nat → Nat → Int64} {k r : Nat} (h1 : r = 38 ∨ r = 31) : (f_Model_answered MI ML k).1 r = MI r ∨ (f_Model_answered MI ML k).1 r = (f_Model_room MI ML (tn (MI 30 k)) (tn (MI 29 k))).2.1 r := by
  unfold f_Model_answered
  cases (f_Model_room MI ML (tn (MI 30 k)) (tn (MI 29 k))).1 with
  | none => exact Or.inl rfl
  | some y =>
    rw [oc_some]
    split
    · exact Or.inr (f_Model_answered_36_keep h1)
    · exact Or.inr (f_Model_answered_36_keep h1)
theorem f_Model_answered_38 (MI : Nat → Nat → Int32) (ML : Nat → Nat → Int64) (k : Nat) : (f_Model_answered MI ML k).1 38 0 = MI 38 0 ∨ (f_Model_answered MI ML k).1 38 0 = nI (tn (MI 38 0) + 1) := by
  rcases f_Model_answered_keep (MI := MI) (ML := ML) (k := k) (Or.inl rfl) with q | q
  · rw [q]; exact Or.inl rfl
  · rw [q]; exact f_Model_room_38 _ _ _ _
theorem f_Model_answered_31 (MI : Nat → Nat → Int32) (ML : Nat → Nat → Int64) (k : Nat) (h : ∀ j, MI 31 j = 0 ∨ MI 31 j = 1) (j : Nat) : (f_Model_answered MI ML k).1 31 j = 0 ∨ (f_Model_answered MI ML k).1 31 j = 1 := by
  rcases f_Model_answered_keep (MI := MI) (ML := ML) (k := k) (Or.inr rfl) with q | q
  · rw [q]; exact h j
  · rw [q]; exact f_Model_room_31 _ _ _ _ h j
theorem f_Model_answered_hm {MI : Nat → Nat → Int32} {ML : Nat → Nat → Int64} {k : Nat} (hm : MI 38 0 = nI (tn (MI 38 0))) (h : tn (MI 38 0) < 20) : (f_Model_answered MI ML k).1 38 0 = nI (tn ((f_Model_answered MI ML k).1 38 0)) ∧ tn (MI 38 0) ≤ tn ((f_Model_answered MI ML k).1 38 0) ∧ tn ((f_Model_answered MI ML k).1 38 0) < 26 := by
  rcases f_Model_answered_38 MI ML k with q | q
  · rw [q]; exact ⟨hm, Nat.le_refl _, by omega⟩
  · rw [q, tn_nI (by omega)]; exact ⟨rfl, by omega, by omega⟩
theorem f_Model_takesRequest_01 (MI : Nat → Nat → Int32) (ML : Nat → Nat → Int64) (k : Nat) : (f_Model_takesRequest MI ML k).1 = 0 ∨ (f_Model_takesRequest MI ML k).1 = 1 := by
  have h110 : ∀ (I : Nat → Nat → Int32) (L : Nat → Nat → Int64) (e : Nat), (f_Model_takesRequest_110 I L e).1 = 1 := by
    intro I L e
    unfold f_Model_takesRequest_110
    split <;> rfl
  have h36 : ∀ (I : Nat → Nat → Int32) (L : Nat → Nat → Int64) (e : Nat), (f_Model_takesRequest_36 I L k e).1 = 1 := fun I L e => h110 _ _ _
  unfold f_Model_takesRequest
  cases f_Model_entryOf MI ML (MI 29 k) with
  | some y => rw [oc_some]; exact Or.inr (h36 _ _ _)
  | none =>
    rw [oc_none]
    cases (f_Model_open MI ML (tn (MI 29 k))).1 with
    | some y => rw [oc_some]; exact Or.inr (h36 _ _ _)
    | none => exact Or.inl rfl
theorem f_Model_gives_01 (MI : Nat → Nat → Int32) (ML : Nat → Nat → Int64) (k : Nat) : (f_Model_gives MI ML k).1 = 0 ∨ (f_Model_gives MI ML k).1 = 1 := by
  have h107 : ∀ (I : Nat → Nat → Int32) (L : Nat → Nat → Int64) (c li q : Nat) (b : Int32) (t : Int64), (f_Model_gives_107 I L c li q b t).1 = 1 := by
    intro I L c li q b t
    unfold f_Model_gives_107
    repeat' split
    all_goals rfl
  unfold f_Model_gives
  cases f_Model_placeOf MI ML (tn (MI 30 k)) (tn (MI 29 k)) with
  | none =>
    rw [oc_none]
    repeat' split
    all_goals first | exact Or.inl rfl | exact Or.inr rfl | exact Or.inr (h107 _ _ _ _ _ _ _)
  | some y =>
    rw [oc_some]
    repeat' split
    all_goals first | exact Or.inl rfl | exact Or.inr rfl | exact Or.inr (h107 _ _ _ _ _ _ _)
def f_Model_deliver (MI : Nat → Nat → Int32) (ML : Nat → Nat → Int64) (x1 : Int32) : Int32 × (Nat → Nat → Int32) × (Nat → Nat → Int64) :=
  if (f_Model_within x1 0 ((MI 38 0) - 1)) = 0 then
    (0, up2 (up2 MI 35 0 0) 35 0 1, ML)
  else
    if 3 ≤ (MI 28 (tn x1)) then
      if (MI 28 (tn x1)) ≤ 6 then
        if (MI 28 (tn x1)) ≤ 4 then
          (1, (f_Model_remove ((f_Model_answered (up2 MI 35 0 0) ML (tn x1)).1) ((f_Model_answered (up2 MI 35 0 0) ML (tn x1)).2) (tn x1)).1, (f_Model_remove ((f_Model_answered (up2 MI 35 0 0) ML (tn x1)).1) ((f_Model_answered (up2 MI 35 0 0) ML (tn x1)).2) (tn x1)).2)
        else
          ((f_Model_gives (up2 MI 35 0 0) ML (tn x1)).1, (f_Model_gives (up2 MI 35 0 0) ML (tn x1)).2.1, (f_Model_gives (up2 MI 35 0 0) ML (tn x1)).2.2)
      else
        (1, (f_Model_takesBack (up2 MI 35 0 0) ML (tn x1)).1, (f_Model_takesBack (up2 MI 35 0 0) ML (tn x1)).2)
    else
      ((f_Model_takesRequest (up2 MI 35 0 0) ML (tn x1)).1, (f_Model_takesRequest (up2 MI 35 0 0) ML (tn x1)).2.1, (f_Model_takesRequest (up2 MI 35 0 0) ML (tn x1)).2.2)
set_option maxHeartbeats 4000000 in
set_option maxRecDepth 100000 in
theorem c_Model_deliver (l : Launch) (D : va_G) (ac : Nat → ClassId) (o : Nat) (ad : Nat → Nat) (MI : Nat → Nat → Int32) (ML : Nat → Nat → Int64) (sz : Nat) (x1 : Int32) (hok : MOK MI ML) : Met l y_Model_deliver [Cond.code y_Model_deliver b_Model_deliver 2 (some .boolean)] { frames := 3, cells := 0, slots := 0, locals := 81 } (va_Pc [.ref o, .int x1] (CPre D ac (mws ac o ad MI ML) sz)) (va_Qi (fun r u => r = (f_Model_deliver MI ML x1).1 ∧ u = mws ac o ad (f_Model_deliver MI ML x1).2.1 (f_Model_deliver MI ML x1).2.2) (CPost D (mws ac o ad MI ML) sz) (va_A (mws ac o ad MI ML) sz)) 0 0 (va_A (mws ac o ad MI ML) sz) := by
  refine kofW (by decide) (Nat.le_of_ble_eq_true rfl) ?_
  intro p ev s m args below meth c0 ls X hr hk hnm hex hsz w hl
  have X : Cx b_Model_deliver 2 R_Model D ac p m args c0 s := X
  have hx := X.1
  have hb := X.2.1
  have hl : lv_has ls 2 [(0, .ref o), (1, .int x1)] := hl
  obtain ⟨hm, hm20, hup, hel, hask, hlat, hw, hli, hreq, hret, hpace⟩ := hok
  refine lv_aload_n hx hb d_Model_deliver_0 rfl (lv_at hl 0 rfl) ?_
  refine lv_iconst (v := 0) hx hb d_Model_deliver_1 (by decide) ?_
  refine mp_124 X w d_Model_deliver_2 (fun H locs w => ?_)
  refine lv_iload_n hx hb d_Model_deliver_5 rfl (lv_at hl 1 rfl) ?_
  refine lv_iconst (v := 0) hx hb d_Model_deliver_6 (by decide) ?_
  refine lv_aload_n hx hb d_Model_deliver_7 rfl (lv_at hl 0 rfl) ?_
  refine mg_127 X w (v := MI 38 0) rfl d_Model_deliver_8 ?_
  refine lv_iconst (v := 1) hx hb d_Model_deliver_11 (by decide) ?_
  refine lv_isub hx hb d_Model_deliver_12 ?_
  refine kcalli (ws0 := []) w (krunS (ws0 := []) (wc := mws ac o ad (up2 MI 35 0 0) ML) (n := 3) (As := [.int x1, .int 0, .int ((MI 38 0) - 1)]) (rest := []) X w (c_Model_within l D ac o ad (up2 MI 35 0 0) ML _ x1 0 ((MI 38 0) - 1)) wk_Model_within wi_Model wm_Model_149 wt_Model_within (by decide +kernel) rfl rfl ⟨(Nat.le_of_ble_eq_true rfl), (Nat.le_of_ble_eq_true rfl)⟩ ⟨(Nat.le_of_ble_eq_true rfl), (Nat.le_of_ble_eq_true rfl)⟩ rfl hl.1 rfl (Nat.le_of_ble_eq_true rfl) d_Model_deliver_13) (fun r1 u H locs hp w => ?_)
  obtain ⟨rfl, rfl⟩ := hp
  have w : Wo D _ (mws ac o ad (up2 MI 35 0 0) ML) s.heap H locs := w
  refine lv_if_ne (tgt := 33) hx hb d_Model_deliver_16 (by decide) (fun h2 => ?_) (fun h2 => ?_)
  · skip
    have hx1 := within_many hm (by omega) h2
    refine lv_aload_n hx hb d_Model_deliver_33 rfl (lv_at hl 0 rfl) ?_
    refine mg_96 X w d_Model_deliver_34 ?_
    refine lv_iload_n hx hb d_Model_deliver_37 rfl (lv_at hl 1 rfl) ?_
    refine ald_28 X w (tn x1) (v := MI 28 (tn x1)) (by omega) hx1.1 rfl d_Model_deliver_38 ?_
    refine lv_iconst (v := 3) hx hb d_Model_deliver_39 (by decide) ?_
    refine lv_icmp_ge (tgt := 49) hx hb d_Model_deliver_40 (by decide) (fun h3 => ?_) (fun h3 => ?_)
    · skip
      refine lv_aload_n hx hb d_Model_deliver_49 rfl (lv_at hl 0 rfl) ?_
      refine mg_96 X w d_Model_deliver_50 ?_
      refine lv_iload_n hx hb d_Model_deliver_53 rfl (lv_at hl 1 rfl) ?_
      refine ald_28 X w (tn x1) (v := MI 28 (tn x1)) (by omega) hx1.1 rfl d_Model_deliver_54 ?_
      refine lv_bipush (v := 6) hx hb d_Model_deliver_55 (by decide) ?_
      refine lv_icmp_le (tgt := 67) hx hb d_Model_deliver_57 (by decide) (fun h4 => ?_) (fun h4 => ?_)
      · skip
        refine lv_aload_n hx hb d_Model_deliver_67 rfl (lv_at hl 0 rfl) ?_
        refine mg_96 X w d_Model_deliver_68 ?_
        refine lv_iload_n hx hb d_Model_deliver_71 rfl (lv_at hl 1 rfl) ?_
        refine ald_28 X w (tn x1) (v := MI 28 (tn x1)) (by omega) hx1.1 rfl d_Model_deliver_72 ?_
        refine lv_iconst (v := 4) hx hb d_Model_deliver_73 (by decide) ?_
        refine lv_icmp_le (tgt := 83) hx hb d_Model_deliver_74 (by decide) (fun h5 => ?_) (fun h5 => ?_)
        · skip
          refine lv_aload_n hx hb d_Model_deliver_83 rfl (lv_at hl 0 rfl) ?_
          refine lv_iload_n hx hb d_Model_deliver_84 rfl (lv_at hl 1 rfl) ?_
          refine W.eq (g2 := F0 m 85 ls [.int (nI (tn x1)), .ref o]) (by rw [← hx1.1]) ?_
          refine kcallv (ws0 := []) w (krunV (ws0 := []) (wc := mws ac o ad (up2 MI 35 0 0) ML) (n := 1) (As := [.int (nI (tn x1))]) (rest := []) (C := R_Model) X w (c_Model_answered l D ac o ad (up2 MI 35 0 0) ML _ (tn x1) (by omega) hm hm20 (hw _ hx1.2) (hli _ hx1.2) hlat) wk_Model_answered wi_Model wm_Model_203 wx_Model_answered ws_Model_Model_answered (by decide +kernel) rfl rfl ⟨(Nat.le_of_ble_eq_true rfl), (Nat.le_of_ble_eq_true rfl)⟩ ⟨(Nat.le_of_ble_eq_true rfl), (Nat.le_of_ble_eq_true rfl)⟩ (mrecv X w) rfl hl.1 rfl (Nat.le_of_ble_eq_true rfl) d_Model_deliver_85) (fun u H locs hp w => ?_)
          obtain rfl := hp
          have w : Wo D _ (mws ac o ad ((f_Model_answered (up2 MI 35 0 0) ML (tn x1)).1) ((f_Model_answered (up2 MI 35 0 0) ML (tn x1)).2)) s.heap H locs := w
          refine lv_aload_n hx hb d_Model_deliver_88 rfl (lv_at hl 0 rfl) ?_
          refine lv_iload_n hx hb d_Model_deliver_89 rfl (lv_at hl 1 rfl) ?_
          refine W.eq (g2 := F0 m 90 ls [.int (nI (tn x1)), .ref o]) (by rw [← hx1.1]) ?_
          refine kcallv (ws0 := []) w (krunV (ws0 := []) (wc := mws ac o ad ((f_Model_answered (up2 MI 35 0 0) ML (tn x1)).1) ((f_Model_answered (up2 MI 35 0 0) ML (tn x1)).2)) (n := 1) (As := [.int (nI (tn x1))]) (rest := []) (C := R_Model) X w (c_Model_remove l D ac o ad ((f_Model_answered (up2 MI 35 0 0) ML (tn x1)).1) ((f_Model_answered (up2 MI 35 0 0) ML (tn x1)).2) _ (tn x1) (f_Model_answered_hm (MI := up2 MI 35 0 0) (ML := ML) (k := tn x1) hm hm20).1 (Nat.lt_of_lt_of_le hx1.2 (f_Model_answered_hm (MI := up2 MI 35 0 0) (ML := ML) (k := tn x1) hm hm20).2.1) (f_Model_answered_hm (MI := up2 MI 35 0 0) (ML := ML) (k := tn x1) hm hm20).2.2 (f_Model_answered_31 (up2 MI 35 0 0) ML (tn x1) hup)) wk_Model_remove wi_Model wm_Model_130 wx_Model_remove ws_Model_Model_remove (by decide +kernel) rfl rfl ⟨(Nat.le_of_ble_eq_true rfl), (Nat.le_of_ble_eq_true rfl)⟩ ⟨(Nat.le_of_ble_eq_true rfl), (Nat.le_of_ble_eq_true rfl)⟩ (mrecv X w) rfl hl.1 rfl (Nat.le_of_ble_eq_true rfl) d_Model_deliver_90) (fun u H locs hp w => ?_)
          obtain rfl := hp
          have w : Wo D _ (mws ac o ad ((f_Model_remove ((f_Model_answered (up2 MI 35 0 0) ML (tn x1)).1) ((f_Model_answered (up2 MI 35 0 0) ML (tn x1)).2) (tn x1)).1) ((f_Model_remove ((f_Model_answered (up2 MI 35 0 0) ML (tn x1)).1) ((f_Model_answered (up2 MI 35 0 0) ML (tn x1)).2) (tn x1)).2)) s.heap H locs := w
          refine lv_iconst (v := 1) hx hb d_Model_deliver_93 (by decide) ?_
          have hF : f_Model_deliver MI ML x1 = (1, (f_Model_remove ((f_Model_answered (up2 MI 35 0 0) ML (tn x1)).1) ((f_Model_answered (up2 MI 35 0 0) ML (tn x1)).2) (tn x1)).1, (f_Model_remove ((f_Model_answered (up2 MI 35 0 0) ML (tn x1)).1) ((f_Model_answered (up2 MI 35 0 0) ML (tn x1)).2) (tn x1)).2) := by unfold f_Model_deliver; rw [if_neg h2, if_pos h3, if_pos h4, if_pos h5]
          exact kzret X w hr hk (by decide) ⟨by rw [hF], by rw [hF]⟩ d_Model_deliver_94
        · skip
          refine lv_aload_n hx hb d_Model_deliver_77 rfl (lv_at hl 0 rfl) ?_
          refine lv_iload_n hx hb d_Model_deliver_78 rfl (lv_at hl 1 rfl) ?_
          refine W.eq (g2 := F0 m 79 ls [.int (nI (tn x1)), .ref o]) (by rw [← hx1.1]) ?_
          refine kcalli (ws0 := []) w (krunV (ws0 := []) (wc := mws ac o ad (up2 MI 35 0 0) ML) (n := 1) (As := [.int (nI (tn x1))]) (rest := []) (C := R_Model) X w (c_Model_gives l D ac o ad (up2 MI 35 0 0) ML _ (tn x1) hx1.2 hm hm20 hup (hw _ hx1.2) (hli _ hx1.2)) wk_Model_gives wi_Model wm_Model_200 wx_Model_gives ws_Model_Model_gives (by decide +kernel) rfl rfl ⟨(Nat.le_of_ble_eq_true rfl), (Nat.le_of_ble_eq_true rfl)⟩ ⟨(Nat.le_of_ble_eq_true rfl), (Nat.le_of_ble_eq_true rfl)⟩ (mrecv X w) rfl hl.1 rfl (Nat.le_of_ble_eq_true rfl) d_Model_deliver_79) (fun r6 u H locs hp w => ?_)
          obtain ⟨rfl, rfl⟩ := hp
          have w : Wo D _ (mws ac o ad ((f_Model_gives (up2 MI 35 0 0) ML (tn x1)).2.1) ((f_Model_gives (up2 MI 35 0 0) ML (tn x1)).2.2)) s.heap H locs := w
          have hF : f_Model_deliver MI ML x1 = ((f_Model_gives (up2 MI 35 0 0) ML (tn x1)).1, (f_Model_gives (up2 MI 35 0 0) ML (tn x1)).2.1, (f_Model_gives (up2 MI 35 0 0) ML (tn x1)).2.2) := by unfold f_Model_deliver; rw [if_neg h2, if_pos h3, if_pos h4, if_neg h5]
          exact kzret X w hr hk (f_Model_gives_01 _ _ _) ⟨by rw [hF], by rw [hF]⟩ d_Model_deliver_82
      · skip
        refine lv_aload_n hx hb d_Model_deliver_60 rfl (lv_at hl 0 rfl) ?_
        refine lv_iload_n hx hb d_Model_deliver_61 rfl (lv_at hl 1 rfl) ?_
        refine W.eq (g2 := F0 m 62 ls [.int (nI (tn x1)), .ref o]) (by rw [← hx1.1]) ?_
        refine kcallv (ws0 := []) w (krunV (ws0 := []) (wc := mws ac o ad (up2 MI 35 0 0) ML) (n := 1) (As := [.int (nI (tn x1))]) (rest := []) (C := R_Model) X w (c_Model_takesBack l D ac o ad (up2 MI 35 0 0) ML _ (tn x1) hx1.2 hm hm20 hup (by rw [(f_Model_entryOf_congr (MI := up2 MI 35 0 0) (MI' := MI) (ML := ML) (ML' := ML) rfl _)]; exact hret _ hx1.2 h4) hask) wk_Model_takesBack wi_Model wm_Model_197 wx_Model_takesBack ws_Model_Model_takesBack (by decide +kernel) rfl rfl ⟨(Nat.le_of_ble_eq_true rfl), (Nat.le_of_ble_eq_true rfl)⟩ ⟨(Nat.le_of_ble_eq_true rfl), (Nat.le_of_ble_eq_true rfl)⟩ (mrecv X w) rfl hl.1 rfl (Nat.le_of_ble_eq_true rfl) d_Model_deliver_62) (fun u H locs hp w => ?_)
        obtain rfl := hp
        have w : Wo D _ (mws ac o ad ((f_Model_takesBack (up2 MI 35 0 0) ML (tn x1)).1) ((f_Model_takesBack (up2 MI 35 0 0) ML (tn x1)).2)) s.heap H locs := w
        refine lv_iconst (v := 1) hx hb d_Model_deliver_65 (by decide) ?_
        have hF : f_Model_deliver MI ML x1 = (1, (f_Model_takesBack (up2 MI 35 0 0) ML (tn x1)).1, (f_Model_takesBack (up2 MI 35 0 0) ML (tn x1)).2) := by unfold f_Model_deliver; rw [if_neg h2, if_pos h3, if_neg h4]
        exact kzret X w hr hk (by decide) ⟨by rw [hF], by rw [hF]⟩ d_Model_deliver_66
    · skip
      refine lv_aload_n hx hb d_Model_deliver_43 rfl (lv_at hl 0 rfl) ?_
      refine lv_iload_n hx hb d_Model_deliver_44 rfl (lv_at hl 1 rfl) ?_
      refine W.eq (g2 := F0 m 45 ls [.int (nI (tn x1)), .ref o]) (by rw [← hx1.1]) ?_
      refine kcalli (ws0 := []) w (krunV (ws0 := []) (wc := mws ac o ad (up2 MI 35 0 0) ML) (n := 1) (As := [.int (nI (tn x1))]) (rest := []) (C := R_Model) X w (c_Model_takesRequest l D ac o ad (up2 MI 35 0 0) ML _ (tn x1) hx1.2 hm hm20 hup (hli _ hx1.2) hel (fun e h9 => by rw [(f_Model_entryOf_congr (MI := up2 MI 35 0 0) (MI' := MI) (ML := ML) (ML' := ML) rfl _)] at h9; exact ⟨(hask e (f_Model_entryOf_lt h9)).1, hreq _ e hx1.2 h3 h9⟩)) wk_Model_takesRequest wi_Model wm_Model_194 wx_Model_takesRequest ws_Model_Model_takesRequest (by decide +kernel) rfl rfl ⟨(Nat.le_of_ble_eq_true rfl), (Nat.le_of_ble_eq_true rfl)⟩ ⟨(Nat.le_of_ble_eq_true rfl), (Nat.le_of_ble_eq_true rfl)⟩ (mrecv X w) rfl hl.1 rfl (Nat.le_of_ble_eq_true rfl) d_Model_deliver_45) (fun r7 u H locs hp w => ?_)
      obtain ⟨rfl, rfl⟩ := hp
      have w : Wo D _ (mws ac o ad ((f_Model_takesRequest (up2 MI 35 0 0) ML (tn x1)).2.1) ((f_Model_takesRequest (up2 MI 35 0 0) ML (tn x1)).2.2)) s.heap H locs := w
      have hF : f_Model_deliver MI ML x1 = ((f_Model_takesRequest (up2 MI 35 0 0) ML (tn x1)).1, (f_Model_takesRequest (up2 MI 35 0 0) ML (tn x1)).2.1, (f_Model_takesRequest (up2 MI 35 0 0) ML (tn x1)).2.2) := by unfold f_Model_deliver; rw [if_neg h2, if_neg h3]
      exact kzret X w hr hk (f_Model_takesRequest_01 _ _ _) ⟨by rw [hF], by rw [hF]⟩ d_Model_deliver_48
  · skip
    refine lv_aload_n hx hb d_Model_deliver_19 rfl (lv_at hl 0 rfl) ?_
    refine lv_iconst (v := 1) hx hb d_Model_deliver_20 (by decide) ?_
    refine kcalli (ws0 := []) w (krunV (ws0 := []) (wc := mws ac o ad (up2 MI 35 0 0) ML) (n := 1) (As := [.int 1]) (rest := []) (C := R_Model) X w (c_Model_fail l D ac o ad (up2 MI 35 0 0) ML _ 1) wk_Model_fail wi_Model wm_Model_153 wx_Model_fail ws_Model_Model_fail (by decide +kernel) rfl rfl ⟨(Nat.le_of_ble_eq_true rfl), (Nat.le_of_ble_eq_true rfl)⟩ ⟨(Nat.le_of_ble_eq_true rfl), (Nat.le_of_ble_eq_true rfl)⟩ (mrecv X w) rfl hl.1 rfl (Nat.le_of_ble_eq_true rfl) d_Model_deliver_21) (fun r8 u H locs hp w => ?_)
    obtain ⟨rfl, rfl⟩ := hp
    have w : Wo D _ (mws ac o ad (up2 (up2 MI 35 0 0) 35 0 1) ML) s.heap H locs := w
    refine W.eq (g2 := F0 m 24 ls (.int 0 :: [])) rfl ?_
    refine lv_if_le (tgt := 31) hx hb d_Model_deliver_24 (by decide) (fun _ => ?_) (fun h => absurd h (by decide))
    refine lv_iconst (v := 0) hx hb d_Model_deliver_31 (by decide) ?_
    have hF : f_Model_deliver MI ML x1 = (0, up2 (up2 MI 35 0 0) 35 0 1, ML) := by unfold f_Model_deliver; rw [if_pos h2]
    exact kzret X w hr hk (by decide) ⟨by rw [hF], by rw [hF]⟩ d_Model_deliver_32
-- END
