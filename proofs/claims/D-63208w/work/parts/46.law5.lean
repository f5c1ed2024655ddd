set_option maxHeartbeats 8000000 in
set_option maxRecDepth 100000 in
theorem whole_from {p : Program} {e : Env} {s : State} {m : MethodId} {below : List Frame} {meth : Method} {c : Code} (l : Launch) (hfl : l.flags = pinnedFlags ++ [noTraceFlag]) {b L : Nat} {xs : Nat → Int32} (hL : L ≤ 3074) (C0 : lw_At p s m meth c b L xs) (Rl : CRel) (hpre : ∀ t CI CL CR M n MI ML, Rl t CI CL CR M n MI ML → (MI 38 0 = nI (tn (MI 38 0)) ∧ tn (MI 38 0) < 20 ∧ ¬ MI 37 0 = 0) ∧ MOK MI ML) (s_operate : ∀ p0 p1 p2 p3 p4 : Int32, Sim Rl y_Law_operate b_Law_operate 8 [(0, 23, 26, 13), (0, 23, 30, 15)] [.int p0, .int p1, .int p2, .int p3, .int p4] (fun MI ML => f_Model_operate MI ML p0 p1 p2 p3 p4) (fun b : Int32 => if b = 0 then (0 : Int64) else 1)) (s_deliver : ∀ p0 : Int32, Sim Rl y_Law_deliver b_Law_deliver 4 [(0, 16, 19, 21)] [.int p0] (fun MI ML => f_Model_deliver MI ML p0) (fun b : Int32 => if b = 0 then (0 : Int64) else 1)) (s_message : ∀ p0 p1 : Int32, Sim Rl y_Law_message b_Law_message 5 [(0, 10, 13, 21), (0, 10, 17, 13)] [.int p0, .int p1] (fun MI ML => f_Model_message MI ML p0 p1) (fun b : Int32 => b.toInt64)) (s_core : ∀ p0 p1 : Int32, Sim Rl y_Law_core b_Law_core 5 [(0, 10, 13, 13)] [.int p0, .int p1] (fun MI ML => f_Model_core MI ML p0 p1) (fun b : Int32 => b.toInt64)) (s_time : ∀ p0 : Int32, Sim Rl y_Law_time b_Law_time 4 [(0, 8, 11, 13)] [.int p0] (fun MI ML => f_Model_time MI ML p0) (fun b : Int64 => b)) (s_cached : ∀ p0 p1 p2 : Int32, Sim Rl y_Law_cached b_Law_cached 6 [(0, 11, 14, 13), (0, 11, 18, 21)] [.int p0, .int p1, .int p2] (fun MI ML => f_Model_cached MI ML p0 p1 p2) (fun b : Int64 => b)) (s_entry : ∀ p0 p1 : Int32, Sim Rl y_Law_entry b_Law_entry 5 [(0, 9, 12, 13), (0, 9, 16, 21)] [.int p0, .int p1] (fun MI ML => f_Model_entry MI ML p0 p1) (fun b : Int64 => b)) (s_memory : ∀ p0 : Int32, Sim Rl y_Law_memory b_Law_memory 4 [(0, 9, 12, 13)] [.int p0] (fun MI ML => f_Model_memory MI ML p0) (fun b : Int32 => b.toInt64)) (s_messages : ∀ t CI CL CR M n MI ML, Rl t CI CL CR M n MI ML → CI 38 0 = (f_Model_messages MI ML).1 ∧ Rl (t + 1) CI CL CR M n (f_Model_messages MI ML).2.1 (f_Model_messages MI ML).2.2) (s_stamp : ∀ t CI CL CR M n MI ML, Rl t CI CL CR M n MI ML → CL 35 0 = (f_Model_stamp MI ML).1 ∧ Rl (t + 1) CI CL CR M n (f_Model_stamp MI ML).2.1 (f_Model_stamp MI ML).2.2) (s_none : ∀ t CI CL CR M n MI ML, Rl t CI CL CR M n MI ML → Rl (t + 1) CI CL CR M n MI ML) (hI : ∀ x1 x2 : Int32, Rl 0 (CI0 (lim 1000 x1) (lim 50 x2)) (fun _ _ => 0) (fun _ _ => none) (fun _ => (4, 0, 0, none, 0, 0, 0, 0)) 0 (f_Model_init x1 x2).1 (f_Model_init x1 x2).2) : W p l e room_1 s m #[Value.ref b] below meth c s.heap [] 0 0 (lw_Z below #[Value.ref b] s) (entryFrame m ([Value.ref b] : List Value).toArray 8) := by
  obtain ⟨hx0, hb0, hr, hml, hown, hts, hX, hbl, hlocks, hgv⟩ := C0
  have hg := flat_of_before _ hgv
  have hn : ∀ q ∈ ncs, va_Nc q.1 q.2 s := by
    intro q hq
    simp only [ncs, List.mem_cons, List.not_mem_nil, or_false] at hq
    rcases hq with rfl | rfl | rfl | rfl | rfl | rfl <;> exact va_Nc.of (hg _ (by decide +kernel))
  have hT : TW s := TW.of hts hn
  have hS : SP (fun q => s.heap.size ≤ q) s s.heap := ⟨SQ.of (hts _ (by decide +kernel)) (hg _ (by decide +kernel)) (fun a ha h => absurd h (Nat.not_le.mpr ha)), SQ.of (hts _ (by decide +kernel)) (hg _ (by decide +kernel)) (fun a ha h => absurd h (Nat.not_le.mpr ha))⟩
  obtain ⟨D, ac, hK⟩ := kstart hT
  have X : Cx code 8 R_Law D ac p m #[Value.ref b] c s := ⟨hx0, hb0, hml, hown, hT, hK⟩
  have hx := X.1
  have hb := X.2.1
  have hbA : ¬ s.heap.size ≤ b := Nat.not_le.mpr hbl
  have hl := lv_entry [Value.ref b] (n := 8) (Nat.le_of_ble_eq_true rfl)
  rw [lg_entry_eq]
  generalize (lg_sl [Value.ref b] ++ List.replicate (8 - (lg_sl [Value.ref b]).length) Slot.unset).toArray = ls at hl ⊢
  have hl : lv_has ls 8 [(0, .ref b)] := hl
  have w : Wo D (fun q => s.heap.size ≤ q) [] s.heap s.heap [] := ⟨fun k q h => (by cases h), ⟨fun i j p q h => (by cases h), fun k q h => (by cases h)⟩, va_S.rf, fun q h => h⟩
  obtain ⟨x1, hx1⟩ : ∃ x, (if 0 < L then xs 0 else 0) = x := ⟨_, rfl⟩
  obtain ⟨x2, hx2⟩ : ∃ x, (if 1 < L then xs 1 else 0) = x := ⟨_, rfl⟩
  refine knew X w (C := R_LC) (T := F_LC) (N := 9) (ci := 0) rfl i_LC t_LC t_LC_ok wc_Law_8 wn_LC wi_LC (fs := [.int 0, .int 0, .null, .null, .null, .long 0, .null, .int 0, .int 0]) (by decide) (Nat.le_of_ble_eq_true rfl) (Nat.le_of_ble_eq_true rfl) d_Law_law_0 (fun o H w => ?_)
  have w : Wo D (fun q => s.heap.size ≤ q) [(o, .inr (0, [.int 0, .int 0, .null, .null, .null, .long 0, .null, .int 0, .int 0]))] s.heap H [] := w
  refine lv_dup hx hb d_Law_law_3 rfl ?_
  refine lv_aload_n hx hb d_Law_law_4 rfl (lv_at hl 0 rfl) ?_
  refine lv_iconst (v := 0) hx hb d_Law_law_5 (by decide) ?_
  refine kcallro (av := #[Value.ref b, .int (nI 0)]) (va_runS (Ts := okt) (As := [.ref b, .int (nI 0)]) (rest := [.ref o, .ref o]) (n := 2) ⟨X.1, X.2.1, X.2.2.1, X.2.2.2.1, X.2.2.2.2.1.hts⟩ (c_Law_cell l D ac b L xs 0 hL (by decide)) ⟨⟨rfl, rfl, (Nat.le_of_ble_eq_true rfl), (Nat.le_of_ble_eq_true rfl), kwords X.2.2.2.2.1 wk_Law_cell, List.mem_singleton.mpr rfl, X.2.2.2.2.1.at wk_Law_cell, X.2.2.2.2.1.at wi_Law, by decide, ksig (by decide +kernel), X.2.2.2.2.1.at wm_Law_46⟩, X.2.2.2.2.1.at wt_Law_cell⟩ ⟨cell_blind, fun U hU hW => ⟨rfl, X.2.2.2.2.1.moved hW, va_K.moved hW.alike X.2.2.2.2.2, by rw [hU]; exact (hX.kept (w.2.2.1.2.1 b hbl hbA)).moved hW.alike⟩⟩ rfl rfl hl.1 rfl (lv_room (Nat.le_of_ble_eq_true rfl)) d_Law_law_6 ⟨(Nat.le_of_ble_eq_true rfl), (Nat.le_of_ble_eq_true rfl)⟩) ?_
  rw [hx1]
  refine W.eq (g2 := F0 m 9 ls [.int x1, .ref o, .ref o]) rfl ?_
  refine lv_aload_n hx hb d_Law_law_9 rfl (lv_at hl 0 rfl) ?_
  refine lv_iconst (v := 1) hx hb d_Law_law_10 (by decide) ?_
  refine kcallro (av := #[Value.ref b, .int (nI 1)]) (va_runS (Ts := okt) (As := [.ref b, .int (nI 1)]) (rest := [.int x1, .ref o, .ref o]) (n := 2) ⟨X.1, X.2.1, X.2.2.1, X.2.2.2.1, X.2.2.2.2.1.hts⟩ (c_Law_cell l D ac b L xs 1 hL (by decide)) ⟨⟨rfl, rfl, (Nat.le_of_ble_eq_true rfl), (Nat.le_of_ble_eq_true rfl), kwords X.2.2.2.2.1 wk_Law_cell, List.mem_singleton.mpr rfl, X.2.2.2.2.1.at wk_Law_cell, X.2.2.2.2.1.at wi_Law, by decide, ksig (by decide +kernel), X.2.2.2.2.1.at wm_Law_46⟩, X.2.2.2.2.1.at wt_Law_cell⟩ ⟨cell_blind, fun U hU hW => ⟨rfl, X.2.2.2.2.1.moved hW, va_K.moved hW.alike X.2.2.2.2.2, by rw [hU]; exact (hX.kept (w.2.2.1.2.1 b hbl hbA)).moved hW.alike⟩⟩ rfl rfl hl.1 rfl (lv_room (Nat.le_of_ble_eq_true rfl)) d_Law_law_11 ⟨(Nat.le_of_ble_eq_true rfl), (Nat.le_of_ble_eq_true rfl)⟩) ?_
  rw [hx2]
  refine W.eq (g2 := F0 m 14 ls [.int x2, .int x1, .ref o, .ref o]) rfl ?_
  refine kcallv (ws0 := []) w (krunI (ws0 := []) (wc := [(o, .inr (0, [.int 0, .int 0, .null, .null, .null, .long 0, .null, .int 0, .int 0]))]) (n := 2) (As := [.int x1, .int x2]) (rest := [.ref o]) X w (c_LC_init l D ac o _ x1 x2) wk_LC_init wi_LC wm_Law_52 wx_LC_init rfl (by decide +kernel) rfl rfl ⟨(Nat.le_of_ble_eq_true rfl), (Nat.le_of_ble_eq_true rfl)⟩ ⟨(Nat.le_of_ble_eq_true rfl), (Nat.le_of_ble_eq_true rfl)⟩ rfl hl.1 rfl (Nat.le_of_ble_eq_true rfl) d_Law_law_14) (fun u H locs hp w => ?_)
  obtain ⟨ad, rfl⟩ := hp
  have w : Wo D (fun q => s.heap.size ≤ q) (cwm ac o ad (fun _ => 0) (CI0 (lim 1000 x1) (lim 50 x2)) (fun _ _ => 0) (fun _ _ => none) (fun _ => (4, 0, 0, none, 0, 0, 0, 0)) 0) s.heap H locs := w
  refine lv_astore_n (lv' := [(1, .ref o), (0, .ref b)]) hx hb d_Law_law_17 rfl hl (by decide) rfl (fun ls hl => ?_)
  refine knew X w (C := R_Model) (T := F_Model) (N := 40) (ci := 8) rfl i_Model t_Model t_Model_ok wc_Law_55 wn_Model wi_Model (fs := mblank) (by decide) (Nat.le_of_ble_eq_true rfl) (Nat.le_of_ble_eq_true rfl) d_Law_law_18 (fun o2 H w => ?_)
  refine lv_dup hx hb d_Law_law_21 rfl ?_
  refine lv_aload_n hx hb d_Law_law_22 rfl (lv_at hl 1 rfl) ?_
  refine lv_iconst (v := 0) hx hb d_Law_law_23 (by decide) ?_
  refine kcallro (av := #[Value.ref b, .int (nI 0)]) (va_runS (Ts := okt) (As := [.ref b, .int (nI 0)]) (rest := [.ref o2, .ref o2]) (n := 2) ⟨X.1, X.2.1, X.2.2.1, X.2.2.2.1, X.2.2.2.2.1.hts⟩ (c_Law_cell l D ac b L xs 0 hL (by decide)) ⟨⟨rfl, rfl, (Nat.le_of_ble_eq_true rfl), (Nat.le_of_ble_eq_true rfl), kwords X.2.2.2.2.1 wk_Law_cell, List.mem_singleton.mpr rfl, X.2.2.2.2.1.at wk_Law_cell, X.2.2.2.2.1.at wi_Law, by decide, ksig (by decide +kernel), X.2.2.2.2.1.at wm_Law_46⟩, X.2.2.2.2.1.at wt_Law_cell⟩ ⟨cell_blind, fun U hU hW => ⟨rfl, X.2.2.2.2.1.moved hW, va_K.moved hW.alike X.2.2.2.2.2, by rw [hU]; exact (hX.kept (w.2.2.1.2.1 b hbl hbA)).moved hW.alike⟩⟩ rfl rfl hl.1 rfl (lv_room (Nat.le_of_ble_eq_true rfl)) d_Law_law_24 ⟨(Nat.le_of_ble_eq_true rfl), (Nat.le_of_ble_eq_true rfl)⟩) ?_
  rw [hx1]
  refine W.eq (g2 := F0 m 27 ls [.int x1, .ref o2, .ref o2]) rfl ?_
  refine lv_aload_n hx hb d_Law_law_27 rfl (lv_at hl 1 rfl) ?_
  refine lv_iconst (v := 1) hx hb d_Law_law_28 (by decide) ?_
  refine kcallro (av := #[Value.ref b, .int (nI 1)]) (va_runS (Ts := okt) (As := [.ref b, .int (nI 1)]) (rest := [.int x1, .ref o2, .ref o2]) (n := 2) ⟨X.1, X.2.1, X.2.2.1, X.2.2.2.1, X.2.2.2.2.1.hts⟩ (c_Law_cell l D ac b L xs 1 hL (by decide)) ⟨⟨rfl, rfl, (Nat.le_of_ble_eq_true rfl), (Nat.le_of_ble_eq_true rfl), kwords X.2.2.2.2.1 wk_Law_cell, List.mem_singleton.mpr rfl, X.2.2.2.2.1.at wk_Law_cell, X.2.2.2.2.1.at wi_Law, by decide, ksig (by decide +kernel), X.2.2.2.2.1.at wm_Law_46⟩, X.2.2.2.2.1.at wt_Law_cell⟩ ⟨cell_blind, fun U hU hW => ⟨rfl, X.2.2.2.2.1.moved hW, va_K.moved hW.alike X.2.2.2.2.2, by rw [hU]; exact (hX.kept (w.2.2.1.2.1 b hbl hbA)).moved hW.alike⟩⟩ rfl rfl hl.1 rfl (lv_room (Nat.le_of_ble_eq_true rfl)) d_Law_law_29 ⟨(Nat.le_of_ble_eq_true rfl), (Nat.le_of_ble_eq_true rfl)⟩) ?_
  rw [hx2]
  refine W.eq (g2 := F0 m 32 ls [.int x2, .int x1, .ref o2, .ref o2]) rfl ?_
  refine kcallv (ws0 := cwm ac o ad (fun _ => 0) (CI0 (lim 1000 x1) (lim 50 x2)) (fun _ _ => 0) (fun _ _ => none) (fun _ => (4, 0, 0, none, 0, 0, 0, 0)) 0) w (krunI (ws0 := cwm ac o ad (fun _ => 0) (CI0 (lim 1000 x1) (lim 50 x2)) (fun _ _ => 0) (fun _ _ => none) (fun _ => (4, 0, 0, none, 0, 0, 0, 0)) 0) (wc := [(o2, .inr (8, mblank))]) (n := 2) (As := [.int x1, .int x2]) (rest := [.ref o2]) X w (c_Model_init l D ac o2 _ x1 x2) wk_Model_init wi_Model wm_Law_57 wx_Model_init rfl (by decide +kernel) rfl rfl ⟨(Nat.le_of_ble_eq_true rfl), (Nat.le_of_ble_eq_true rfl)⟩ ⟨(Nat.le_of_ble_eq_true rfl), (Nat.le_of_ble_eq_true rfl)⟩ rfl hl.1 rfl (Nat.le_of_ble_eq_true rfl) d_Law_law_32) (fun u H locs hp w => ?_)
  obtain ⟨ad2, rfl⟩ := hp
  refine lv_astore_n (lv' := [(2, .ref o2), (1, .ref o), (0, .ref b)]) hx hb d_Law_law_35 rfl hl (by decide) rfl (fun ls hl => ?_)
  refine lv_iconst (v := 1) hx hb d_Law_law_36 (by decide) ?_
  refine knewa (atype := .long) (a0 := (1, .inr (.inl (fun _ => 0)))) (N' := 1) X w wa_long rfl 1 rfl (fun _ => rfl) (by decide) (by decide) (by decide) (Nat.le_of_ble_eq_true rfl) (Nat.le_of_ble_eq_true rfl) d_Law_law_37 (fun ou H w => ?_)
  refine lv_astore_n (lv' := [(3, .ref ou), (2, .ref o2), (1, .ref o), (0, .ref b)]) hx hb d_Law_law_39 rfl hl (by decide) rfl (fun ls hl => ?_)
  refine lv_iconst (v := 2) hx hb d_Law_law_40 (by decide) ?_
  refine lv_istore (lv' := [(4, .int 2), (3, .ref ou), (2, .ref o2), (1, .ref o), (0, .ref b)]) hx hb d_Law_law_41 hl (by decide) rfl (fun ls hl => ?_)
  have w := wo_swap w
  have w : Wo D (fun q => s.heap.size ≤ q) ((ouc ac ou (fun _ => 0) :: cwm ac o ad (fun _ => 0) (CI0 (lim 1000 x1) (lim 50 x2)) (fun _ _ => 0) (fun _ _ => none) (fun _ => (4, 0, 0, none, 0, 0, 0, 0)) 0) ++ mws ac o2 ad2 (f_Model_init x1 x2).1 (f_Model_init x1 x2).2) s.heap H locs := w
  have w := wo_swap w
  refine W.widen (k := 200) (n := 2000) (Nat.le_of_ble_eq_true rfl) (Nat.le_of_ble_eq_true rfl) ?_
  exact law_loop hfl X hS hX hbl hL hr hlocks hpre s_operate s_deliver s_message s_core s_time s_cached s_entry s_memory s_messages s_stamp s_none 512 0 2 rfl (by omega) _ _ _ _ _ _ _ _ _ H locs ls 200 2000 (hI x1 x2) w (lv_sub hl [4, 3, 2, 1, 0] rfl) (by omega) (by omega) (by omega)
