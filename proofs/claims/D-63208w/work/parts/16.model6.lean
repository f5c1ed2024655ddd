def f_Model_messages (MI : Nat → Nat → Int32) (ML : Nat → Nat → Int64)  : Int32 × (Nat → Nat → Int32) × (Nat → Nat → Int64) :=
  (MI 38 0, up2 MI 35 0 0, ML)
set_option maxHeartbeats 4000000 in
set_option maxRecDepth 100000 in
theorem c_Model_messages (l : Launch) (D : va_G) (ac : Nat → ClassId) (o : Nat) (ad : Nat → Nat) (MI : Nat → Nat → Int32) (ML : Nat → Nat → Int64) (sz : Nat)   : Met l y_Model_messages [Cond.code y_Model_messages b_Model_messages 1 (some .int)] { frames := 0, cells := 0, slots := 0, locals := 0 } (va_Pc [.ref o] (CPre D ac (mws ac o ad MI ML) sz)) (va_Qi (fun r u => r = (f_Model_messages MI ML).1 ∧ u = mws ac o ad (f_Model_messages MI ML).2.1 (f_Model_messages MI ML).2.2) (CPost D (mws ac o ad MI ML) sz) (va_A (mws ac o ad MI ML) sz)) 0 0 (va_A (mws ac o ad MI ML) sz) := by
  refine kofW (by decide) (Nat.le_of_ble_eq_true rfl) ?_
  intro p ev s m args below meth c0 ls X hr hk hnm hex hsz w hl
  have X : Cx b_Model_messages 1 R_Model D ac p m args c0 s := X
  have hx := X.1
  have hb := X.2.1
  have hl : lv_has ls 1 [(0, .ref o)] := hl
  refine lv_aload_n hx hb d_Model_messages_0 rfl (lv_at hl 0 rfl) ?_
  refine lv_iconst (v := 0) hx hb d_Model_messages_1 (by decide) ?_
  refine mp_124 X w d_Model_messages_2 (fun H locs w => ?_)
  refine lv_aload_n hx hb d_Model_messages_5 rfl (lv_at hl 0 rfl) ?_
  refine mg_127 X w (v := MI 38 0) rfl d_Model_messages_6 ?_
  have hF : f_Model_messages MI ML = (MI 38 0, up2 MI 35 0 0, ML) := by rfl
  exact kiret X w hr hk ⟨by rw [hF], by rw [hF]⟩ d_Model_messages_9
def f_Model_stamp (MI : Nat → Nat → Int32) (ML : Nat → Nat → Int64)  : Int64 × (Nat → Nat → Int32) × (Nat → Nat → Int64) :=
  (ML 35 0, up2 MI 35 0 0, ML)
set_option maxHeartbeats 4000000 in
set_option maxRecDepth 100000 in
theorem c_Model_stamp (l : Launch) (D : va_G) (ac : Nat → ClassId) (o : Nat) (ad : Nat → Nat) (MI : Nat → Nat → Int32) (ML : Nat → Nat → Int64) (sz : Nat)   : Met l y_Model_stamp [Cond.code y_Model_stamp b_Model_stamp 1 (some .long)] { frames := 0, cells := 0, slots := 0, locals := 0 } (va_Pc [.ref o] (CPre D ac (mws ac o ad MI ML) sz)) (va_Ql (fun r u => r = (f_Model_stamp MI ML).1 ∧ u = mws ac o ad (f_Model_stamp MI ML).2.1 (f_Model_stamp MI ML).2.2) (CPost D (mws ac o ad MI ML) sz) (va_A (mws ac o ad MI ML) sz)) 0 0 (va_A (mws ac o ad MI ML) sz) := by
  refine kofW (by decide) (Nat.le_of_ble_eq_true rfl) ?_
  intro p ev s m args below meth c0 ls X hr hk hnm hex hsz w hl
  have X : Cx b_Model_stamp 1 R_Model D ac p m args c0 s := X
  have hx := X.1
  have hb := X.2.1
  have hl : lv_has ls 1 [(0, .ref o)] := hl
  refine lv_aload_n hx hb d_Model_stamp_0 rfl (lv_at hl 0 rfl) ?_
  refine lv_iconst (v := 0) hx hb d_Model_stamp_1 (by decide) ?_
  refine mp_124 X w d_Model_stamp_2 (fun H locs w => ?_)
  refine lv_aload_n hx hb d_Model_stamp_5 rfl (lv_at hl 0 rfl) ?_
  refine mg_174 X w (v := ML 35 0) rfl d_Model_stamp_6 ?_
  have hF : f_Model_stamp MI ML = (ML 35 0, up2 MI 35 0 0, ML) := by rfl
  exact klret X w hr hk ⟨by rw [hF], by rw [hF]⟩ d_Model_stamp_9
def f_Model_time (MI : Nat → Nat → Int32) (ML : Nat → Nat → Int64) (x1 : Int32) : Int64 × (Nat → Nat → Int32) × (Nat → Nat → Int64) :=
  if (f_Model_within x1 0 2) = 0 then
    (0, up2 (up2 MI 35 0 0) 35 0 1, ML)
  else
    (ML 0 (tn x1), up2 MI 35 0 0, ML)
set_option maxHeartbeats 4000000 in
set_option maxRecDepth 100000 in
theorem c_Model_time (l : Launch) (D : va_G) (ac : Nat → ClassId) (o : Nat) (ad : Nat → Nat) (MI : Nat → Nat → Int32) (ML : Nat → Nat → Int64) (sz : Nat) (x1 : Int32)  : Met l y_Model_time [Cond.code y_Model_time b_Model_time 2 (some .long)] { frames := 1, cells := 0, slots := 0, locals := 22 } (va_Pc [.ref o, .int x1] (CPre D ac (mws ac o ad MI ML) sz)) (va_Ql (fun r u => r = (f_Model_time MI ML x1).1 ∧ u = mws ac o ad (f_Model_time MI ML x1).2.1 (f_Model_time MI ML x1).2.2) (CPost D (mws ac o ad MI ML) sz) (va_A (mws ac o ad MI ML) sz)) 0 0 (va_A (mws ac o ad MI ML) sz) := by
  refine kofW (by decide) (Nat.le_of_ble_eq_true rfl) ?_
  intro p ev s m args below meth c0 ls X hr hk hnm hex hsz w hl
  have X : Cx b_Model_time 2 R_Model D ac p m args c0 s := X
  have hx := X.1
  have hb := X.2.1
  have hl : lv_has ls 2 [(0, .ref o), (1, .int x1)] := hl
  refine lv_aload_n hx hb d_Model_time_0 rfl (lv_at hl 0 rfl) ?_
  refine lv_iconst (v := 0) hx hb d_Model_time_1 (by decide) ?_
  refine mp_124 X w d_Model_time_2 (fun H locs w => ?_)
  refine lv_iload_n hx hb d_Model_time_5 rfl (lv_at hl 1 rfl) ?_
  refine lv_iconst (v := 0) hx hb d_Model_time_6 (by decide) ?_
  refine lv_iconst (v := 2) hx hb d_Model_time_7 (by decide) ?_
  refine kcalli (ws0 := []) w (krunS (ws0 := []) (wc := mws ac o ad (up2 MI 35 0 0) ML) (n := 3) (As := [.int x1, .int 0, .int 2]) (rest := []) X w (c_Model_within l D ac o ad (up2 MI 35 0 0) ML _ x1 0 2) wk_Model_within wi_Model wm_Model_149 wt_Model_within (by decide +kernel) rfl rfl ⟨(Nat.le_of_ble_eq_true rfl), (Nat.le_of_ble_eq_true rfl)⟩ ⟨(Nat.le_of_ble_eq_true rfl), (Nat.le_of_ble_eq_true rfl)⟩ rfl hl.1 rfl (Nat.le_of_ble_eq_true rfl) d_Model_time_8) (fun r1 u H locs hp w => ?_)
  obtain ⟨rfl, rfl⟩ := hp
  have w : Wo D _ (mws ac o ad (up2 MI 35 0 0) ML) s.heap H locs := w
  refine lv_if_eq (tgt := 23) hx hb d_Model_time_11 (by decide) (fun h2 => ?_) (fun h2 => ?_)
  · skip
    refine lv_aload_n hx hb d_Model_time_23 rfl (lv_at hl 0 rfl) ?_
    refine lv_iconst (v := 1) hx hb d_Model_time_24 (by decide) ?_
    refine kcalli (ws0 := []) w (krunV (ws0 := []) (wc := mws ac o ad (up2 MI 35 0 0) ML) (n := 1) (As := [.int 1]) (rest := []) (C := R_Model) X w (c_Model_fail l D ac o ad (up2 MI 35 0 0) ML _ 1) wk_Model_fail wi_Model wm_Model_153 wx_Model_fail ws_Model_Model_fail (by decide +kernel) rfl rfl ⟨(Nat.le_of_ble_eq_true rfl), (Nat.le_of_ble_eq_true rfl)⟩ ⟨(Nat.le_of_ble_eq_true rfl), (Nat.le_of_ble_eq_true rfl)⟩ (mrecv X w) rfl hl.1 rfl (Nat.le_of_ble_eq_true rfl) d_Model_time_25) (fun r3 u H locs hp w => ?_)
    obtain ⟨rfl, rfl⟩ := hp
    have w : Wo D _ (mws ac o ad (up2 (up2 MI 35 0 0) 35 0 1) ML) s.heap H locs := w
    refine W.eq (g2 := F0 m 28 ls (.int 0 :: [])) rfl ?_
    refine lv_i2l (v := 0) hx hb d_Model_time_28 (by decide) ?_
    have hF : f_Model_time MI ML x1 = (0, up2 (up2 MI 35 0 0) 35 0 1, ML) := by unfold f_Model_time; rw [if_pos h2]
    exact klret X w hr hk ⟨by rw [hF], by rw [hF]⟩ d_Model_time_29
  · skip
    have hx1 := within_tn 2 (by decide) h2
    refine lv_aload_n hx hb d_Model_time_14 rfl (lv_at hl 0 rfl) ?_
    refine mg_7 X w d_Model_time_15 ?_
    refine lv_iload_n hx hb d_Model_time_18 rfl (lv_at hl 1 rfl) ?_
    refine ald_0 X w (tn x1) (v := ML 0 (tn x1)) (by omega) hx1.1 rfl d_Model_time_19 ?_
    refine lv_goto (tgt := 29) hx hb d_Model_time_20 (by decide) ?_
    have hF : f_Model_time MI ML x1 = (ML 0 (tn x1), up2 MI 35 0 0, ML) := by unfold f_Model_time; rw [if_neg h2]
    exact klret X w hr hk ⟨by rw [hF], by rw [hF]⟩ d_Model_time_29
def f_Model_memory (MI : Nat → Nat → Int32) (ML : Nat → Nat → Int64) (x1 : Int32) : Int32 × (Nat → Nat → Int32) × (Nat → Nat → Int64) :=
  if (f_Model_within x1 0 11) = 0 then
    (0, up2 (up2 MI 35 0 0) 35 0 1, ML)
  else
    (MI 27 (tn x1), up2 MI 35 0 0, ML)
set_option maxHeartbeats 4000000 in
set_option maxRecDepth 100000 in
theorem c_Model_memory (l : Launch) (D : va_G) (ac : Nat → ClassId) (o : Nat) (ad : Nat → Nat) (MI : Nat → Nat → Int32) (ML : Nat → Nat → Int64) (sz : Nat) (x1 : Int32)  : Met l y_Model_memory [Cond.code y_Model_memory b_Model_memory 2 (some .int)] { frames := 1, cells := 0, slots := 0, locals := 22 } (va_Pc [.ref o, .int x1] (CPre D ac (mws ac o ad MI ML) sz)) (va_Qi (fun r u => r = (f_Model_memory MI ML x1).1 ∧ u = mws ac o ad (f_Model_memory MI ML x1).2.1 (f_Model_memory MI ML x1).2.2) (CPost D (mws ac o ad MI ML) sz) (va_A (mws ac o ad MI ML) sz)) 0 0 (va_A (mws ac o ad MI ML) sz) := by
  refine kofW (by decide) (Nat.le_of_ble_eq_true rfl) ?_
  intro p ev s m args below meth c0 ls X hr hk hnm hex hsz w hl
  have X : Cx b_Model_memory 2 R_Model D ac p m args c0 s := X
  have hx := X.1
  have hb := X.2.1
  have hl : lv_has ls 2 [(0, .ref o), (1, .int x1)] := hl
  refine lv_aload_n hx hb d_Model_memory_0 rfl (lv_at hl 0 rfl) ?_
  refine lv_iconst (v := 0) hx hb d_Model_memory_1 (by decide) ?_
  refine mp_124 X w d_Model_memory_2 (fun H locs w => ?_)
  refine lv_iload_n hx hb d_Model_memory_5 rfl (lv_at hl 1 rfl) ?_
  refine lv_iconst (v := 0) hx hb d_Model_memory_6 (by decide) ?_
  refine lv_bipush (v := 11) hx hb d_Model_memory_7 (by decide) ?_
  refine kcalli (ws0 := []) w (krunS (ws0 := []) (wc := mws ac o ad (up2 MI 35 0 0) ML) (n := 3) (As := [.int x1, .int 0, .int 11]) (rest := []) X w (c_Model_within l D ac o ad (up2 MI 35 0 0) ML _ x1 0 11) wk_Model_within wi_Model wm_Model_149 wt_Model_within (by decide +kernel) rfl rfl ⟨(Nat.le_of_ble_eq_true rfl), (Nat.le_of_ble_eq_true rfl)⟩ ⟨(Nat.le_of_ble_eq_true rfl), (Nat.le_of_ble_eq_true rfl)⟩ rfl hl.1 rfl (Nat.le_of_ble_eq_true rfl) d_Model_memory_9) (fun r1 u H locs hp w => ?_)
  obtain ⟨rfl, rfl⟩ := hp
  have w : Wo D _ (mws ac o ad (up2 MI 35 0 0) ML) s.heap H locs := w
  refine lv_if_eq (tgt := 24) hx hb d_Model_memory_12 (by decide) (fun h2 => ?_) (fun h2 => ?_)
  · skip
    refine lv_aload_n hx hb d_Model_memory_24 rfl (lv_at hl 0 rfl) ?_
    refine lv_iconst (v := 1) hx hb d_Model_memory_25 (by decide) ?_
    refine kcalli (ws0 := []) w (krunV (ws0 := []) (wc := mws ac o ad (up2 MI 35 0 0) ML) (n := 1) (As := [.int 1]) (rest := []) (C := R_Model) X w (c_Model_fail l D ac o ad (up2 MI 35 0 0) ML _ 1) wk_Model_fail wi_Model wm_Model_153 wx_Model_fail ws_Model_Model_fail (by decide +kernel) rfl rfl ⟨(Nat.le_of_ble_eq_true rfl), (Nat.le_of_ble_eq_true rfl)⟩ ⟨(Nat.le_of_ble_eq_true rfl), (Nat.le_of_ble_eq_true rfl)⟩ (mrecv X w) rfl hl.1 rfl (Nat.le_of_ble_eq_true rfl) d_Model_memory_26) (fun r3 u H locs hp w => ?_)
    obtain ⟨rfl, rfl⟩ := hp
    have w : Wo D _ (mws ac o ad (up2 (up2 MI 35 0 0) 35 0 1) ML) s.heap H locs := w
    refine W.eq (g2 := F0 m 29 ls (.int 0 :: [])) rfl ?_
    have hF : f_Model_memory MI ML x1 = (0, up2 (up2 MI 35 0 0) 35 0 1, ML) := by unfold f_Model_memory; rw [if_pos h2]
    exact kiret X w hr hk ⟨by rw [hF], by rw [hF]⟩ d_Model_memory_29
  · skip
    have hx1 := within_tn 11 (by decide) h2
    refine lv_aload_n hx hb d_Model_memory_15 rfl (lv_at hl 0 rfl) ?_
    refine mg_93 X w d_Model_memory_16 ?_
    refine lv_iload_n hx hb d_Model_memory_19 rfl (lv_at hl 1 rfl) ?_
    refine ald_27 X w (tn x1) (v := MI 27 (tn x1)) (by omega) hx1.1 rfl d_Model_memory_20 ?_
    refine lv_goto (tgt := 29) hx hb d_Model_memory_21 (by decide) ?_
    have hF : f_Model_memory MI ML x1 = (MI 27 (tn x1), up2 MI 35 0 0, ML) := by unfold f_Model_memory; rw [if_neg h2]
    exact kiret X w hr hk ⟨by rw [hF], by rw [hF]⟩ d_Model_memory_29
def f_Model_core (MI : Nat → Nat → Int32) (ML : Nat → Nat → Int64) (x1 : Int32) (x2 : Int32) : Int32 × (Nat → Nat → Int32) × (Nat → Nat → Int64) :=
  if (f_Model_within x1 0 2) = 0 then
    (0, up2 (up2 MI 35 0 0) 35 0 1, ML)
  else
    if (f_Model_within x2 0 4) = 0 then
      (0, up2 (up2 MI 35 0 0) 35 0 1, ML)
    else
      if 3 ≤ x2 then
        if x2 = 3 then
          (MI 8 (tn x1), up2 MI 35 0 0, ML)
        else
          (MI 9 (tn x1), up2 MI 35 0 0, ML)
      else
        if x2 = 0 then
          if (MI 1 (tn x1)) = 0 then
            (0, up2 MI 35 0 0, ML)
          else
            (1, up2 MI 35 0 0, ML)
        else
          if x2 = 1 then
            (MI 6 (tn x1), up2 MI 35 0 0, ML)
          else
            (MI 7 (tn x1), up2 MI 35 0 0, ML)
set_option maxHeartbeats 4000000 in
set_option maxRecDepth 100000 in
theorem c_Model_core (l : Launch) (D : va_G) (ac : Nat → ClassId) (o : Nat) (ad : Nat → Nat) (MI : Nat → Nat → Int32) (ML : Nat → Nat → Int64) (sz : Nat) (x1 : Int32) (x2 : Int32)  : Met l y_Model_core [Cond.code y_Model_core b_Model_core 3 (some .int)] { frames := 1, cells := 0, slots := 0, locals := 22 } (va_Pc [.ref o, .int x1, .int x2] (CPre D ac (mws ac o ad MI ML) sz)) (va_Qi (fun r u => r = (f_Model_core MI ML x1 x2).1 ∧ u = mws ac o ad (f_Model_core MI ML x1 x2).2.1 (f_Model_core MI ML x1 x2).2.2) (CPost D (mws ac o ad MI ML) sz) (va_A (mws ac o ad MI ML) sz)) 0 0 (va_A (mws ac o ad MI ML) sz) := by
  refine kofW (by decide) (Nat.le_of_ble_eq_true rfl) ?_
  intro p ev s m args below meth c0 ls X hr hk hnm hex hsz w hl
  have X : Cx b_Model_core 3 R_Model D ac p m args c0 s := X
  have hx := X.1
  have hb := X.2.1
  have hl : lv_has ls 3 [(0, .ref o), (1, .int x1), (2, .int x2)] := hl
  refine lv_aload_n hx hb d_Model_core_0 rfl (lv_at hl 0 rfl) ?_
  refine lv_iconst (v := 0) hx hb d_Model_core_1 (by decide) ?_
  refine mp_124 X w d_Model_core_2 (fun H locs w => ?_)
  refine lv_iload_n hx hb d_Model_core_5 rfl (lv_at hl 1 rfl) ?_
  refine lv_iconst (v := 0) hx hb d_Model_core_6 (by decide) ?_
  refine lv_iconst (v := 2) hx hb d_Model_core_7 (by decide) ?_
  refine kcalli (ws0 := []) w (krunS (ws0 := []) (wc := mws ac o ad (up2 MI 35 0 0) ML) (n := 3) (As := [.int x1, .int 0, .int 2]) (rest := []) X w (c_Model_within l D ac o ad (up2 MI 35 0 0) ML _ x1 0 2) wk_Model_within wi_Model wm_Model_149 wt_Model_within (by decide +kernel) rfl rfl ⟨(Nat.le_of_ble_eq_true rfl), (Nat.le_of_ble_eq_true rfl)⟩ ⟨(Nat.le_of_ble_eq_true rfl), (Nat.le_of_ble_eq_true rfl)⟩ rfl hl.1 rfl (Nat.le_of_ble_eq_true rfl) d_Model_core_8) (fun r1 u H locs hp w => ?_)
  obtain ⟨rfl, rfl⟩ := hp
  have w : Wo D _ (mws ac o ad (up2 MI 35 0 0) ML) s.heap H locs := w
  refine lv_if_eq (tgt := 23) hx hb d_Model_core_11 (by decide) (fun h2 => ?_) (fun h2 => ?_)
  · skip
    refine lv_aload_n hx hb d_Model_core_23 rfl (lv_at hl 0 rfl) ?_
    refine lv_iconst (v := 1) hx hb d_Model_core_24 (by decide) ?_
    refine kcalli (ws0 := []) w (krunV (ws0 := []) (wc := mws ac o ad (up2 MI 35 0 0) ML) (n := 1) (As := [.int 1]) (rest := []) (C := R_Model) X w (c_Model_fail l D ac o ad (up2 MI 35 0 0) ML _ 1) wk_Model_fail wi_Model wm_Model_153 wx_Model_fail ws_Model_Model_fail (by decide +kernel) rfl rfl ⟨(Nat.le_of_ble_eq_true rfl), (Nat.le_of_ble_eq_true rfl)⟩ ⟨(Nat.le_of_ble_eq_true rfl), (Nat.le_of_ble_eq_true rfl)⟩ (mrecv X w) rfl hl.1 rfl (Nat.le_of_ble_eq_true rfl) d_Model_core_25) (fun r3 u H locs hp w => ?_)
    obtain ⟨rfl, rfl⟩ := hp
    have w : Wo D _ (mws ac o ad (up2 (up2 MI 35 0 0) 35 0 1) ML) s.heap H locs := w
    refine W.eq (g2 := F0 m 28 ls (.int 0 :: [])) rfl ?_
    have hF : f_Model_core MI ML x1 x2 = (0, up2 (up2 MI 35 0 0) 35 0 1, ML) := by unfold f_Model_core; rw [if_pos h2]
    exact kiret X w hr hk ⟨by rw [hF], by rw [hF]⟩ d_Model_core_28
  · skip
    refine lv_iload_n hx hb d_Model_core_14 rfl (lv_at hl 2 rfl) ?_
    refine lv_iconst (v := 0) hx hb d_Model_core_15 (by decide) ?_
    refine lv_iconst (v := 4) hx hb d_Model_core_16 (by decide) ?_
    refine kcalli (ws0 := []) w (krunS (ws0 := []) (wc := mws ac o ad (up2 MI 35 0 0) ML) (n := 3) (As := [.int x2, .int 0, .int 4]) (rest := []) X w (c_Model_within l D ac o ad (up2 MI 35 0 0) ML _ x2 0 4) wk_Model_within wi_Model wm_Model_149 wt_Model_within (by decide +kernel) rfl rfl ⟨(Nat.le_of_ble_eq_true rfl), (Nat.le_of_ble_eq_true rfl)⟩ ⟨(Nat.le_of_ble_eq_true rfl), (Nat.le_of_ble_eq_true rfl)⟩ rfl hl.1 rfl (Nat.le_of_ble_eq_true rfl) d_Model_core_17) (fun r4 u H locs hp w => ?_)
    obtain ⟨rfl, rfl⟩ := hp
    have w : Wo D _ (mws ac o ad (up2 MI 35 0 0) ML) s.heap H locs := w
    refine lv_if_ne (tgt := 29) hx hb d_Model_core_20 (by decide) (fun h5 => ?_) (fun h5 => ?_)
    · skip
      have hx1 := within_tn 2 (by decide) h2
      refine lv_iload_n hx hb d_Model_core_29 rfl (lv_at hl 2 rfl) ?_
      refine lv_iconst (v := 3) hx hb d_Model_core_30 (by decide) ?_
      refine lv_icmp_ge (tgt := 76) hx hb d_Model_core_31 (by decide) (fun h6 => ?_) (fun h6 => ?_)
      · skip
        refine lv_iload_n hx hb d_Model_core_76 rfl (lv_at hl 2 rfl) ?_
        refine lv_iconst (v := 3) hx hb d_Model_core_77 (by decide) ?_
        refine lv_icmp_ne (tgt := 90) hx hb d_Model_core_78 (by decide) (fun h7 => ?_) (fun h7 => ?_)
        · skip
          refine lv_aload_n hx hb d_Model_core_90 rfl (lv_at hl 0 rfl) ?_
          refine mg_39 X w d_Model_core_91 ?_
          refine lv_iload_n hx hb d_Model_core_94 rfl (lv_at hl 1 rfl) ?_
          refine ald_9 X w (tn x1) (v := MI 9 (tn x1)) (by omega) hx1.1 rfl d_Model_core_95 ?_
          have hF : f_Model_core MI ML x1 x2 = (MI 9 (tn x1), up2 MI 35 0 0, ML) := by unfold f_Model_core; rw [if_neg h2, if_neg h5, if_pos h6, if_neg h7]
          exact kiret X w hr hk ⟨by rw [hF], by rw [hF]⟩ d_Model_core_96
        · skip
          refine lv_aload_n hx hb d_Model_core_81 rfl (lv_at hl 0 rfl) ?_
          refine mg_36 X w d_Model_core_82 ?_
          refine lv_iload_n hx hb d_Model_core_85 rfl (lv_at hl 1 rfl) ?_
          refine ald_8 X w (tn x1) (v := MI 8 (tn x1)) (by omega) hx1.1 rfl d_Model_core_86 ?_
          refine lv_goto (tgt := 96) hx hb d_Model_core_87 (by decide) ?_
          have hF : f_Model_core MI ML x1 x2 = (MI 8 (tn x1), up2 MI 35 0 0, ML) := by unfold f_Model_core; rw [if_neg h2, if_neg h5, if_pos h6, if_pos h7]
          exact kiret X w hr hk ⟨by rw [hF], by rw [hF]⟩ d_Model_core_96
      · skip
        refine lv_iload_n hx hb d_Model_core_34 rfl (lv_at hl 2 rfl) ?_
        refine lv_if_ne (tgt := 55) hx hb d_Model_core_35 (by decide) (fun h8 => ?_) (fun h8 => ?_)
        · skip
          refine lv_iload_n hx hb d_Model_core_55 rfl (lv_at hl 2 rfl) ?_
          refine lv_iconst (v := 1) hx hb d_Model_core_56 (by decide) ?_
          refine lv_icmp_ne (tgt := 69) hx hb d_Model_core_57 (by decide) (fun h9 => ?_) (fun h9 => ?_)
          · skip
            refine lv_aload_n hx hb d_Model_core_69 rfl (lv_at hl 0 rfl) ?_
            refine mg_33 X w d_Model_core_70 ?_
            refine lv_iload_n hx hb d_Model_core_73 rfl (lv_at hl 1 rfl) ?_
            refine ald_7 X w (tn x1) (v := MI 7 (tn x1)) (by omega) hx1.1 rfl d_Model_core_74 ?_
            have hF : f_Model_core MI ML x1 x2 = (MI 7 (tn x1), up2 MI 35 0 0, ML) := by unfold f_Model_core; rw [if_neg h2, if_neg h5, if_neg h6, if_neg h8, if_neg h9]
            exact kiret X w hr hk ⟨by rw [hF], by rw [hF]⟩ d_Model_core_75
          · skip
            refine lv_aload_n hx hb d_Model_core_60 rfl (lv_at hl 0 rfl) ?_
            refine mg_30 X w d_Model_core_61 ?_
            refine lv_iload_n hx hb d_Model_core_64 rfl (lv_at hl 1 rfl) ?_
            refine ald_6 X w (tn x1) (v := MI 6 (tn x1)) (by omega) hx1.1 rfl d_Model_core_65 ?_
            refine lv_goto (tgt := 75) hx hb d_Model_core_66 (by decide) ?_
            have hF : f_Model_core MI ML x1 x2 = (MI 6 (tn x1), up2 MI 35 0 0, ML) := by unfold f_Model_core; rw [if_neg h2, if_neg h5, if_neg h6, if_neg h8, if_pos h9]
            exact kiret X w hr hk ⟨by rw [hF], by rw [hF]⟩ d_Model_core_75
        · skip
          refine lv_aload_n hx hb d_Model_core_38 rfl (lv_at hl 0 rfl) ?_
          refine mg_13 X w d_Model_core_39 ?_
          refine lv_iload_n hx hb d_Model_core_42 rfl (lv_at hl 1 rfl) ?_
          refine ald_1 X w (tn x1) (v := MI 1 (tn x1)) (by omega) hx1.1 rfl d_Model_core_43 ?_
          refine lv_if_eq (tgt := 51) hx hb d_Model_core_44 (by decide) (fun h10 => ?_) (fun h10 => ?_)
          · skip
            refine lv_iconst (v := 0) hx hb d_Model_core_51 (by decide) ?_
            refine lv_goto (tgt := 75) hx hb d_Model_core_52 (by decide) ?_
            have hF : f_Model_core MI ML x1 x2 = (0, up2 MI 35 0 0, ML) := by unfold f_Model_core; rw [if_neg h2, if_neg h5, if_neg h6, if_pos h8, if_pos h10]
            exact kiret X w hr hk ⟨by rw [hF], by rw [hF]⟩ d_Model_core_75
          · skip
            refine lv_iconst (v := 1) hx hb d_Model_core_47 (by decide) ?_
            refine lv_goto (tgt := 75) hx hb d_Model_core_48 (by decide) ?_
            have hF : f_Model_core MI ML x1 x2 = (1, up2 MI 35 0 0, ML) := by unfold f_Model_core; rw [if_neg h2, if_neg h5, if_neg h6, if_pos h8, if_neg h10]
            exact kiret X w hr hk ⟨by rw [hF], by rw [hF]⟩ d_Model_core_75
    · skip
      refine lv_aload_n hx hb d_Model_core_23 rfl (lv_at hl 0 rfl) ?_
      refine lv_iconst (v := 1) hx hb d_Model_core_24 (by decide) ?_
      refine kcalli (ws0 := []) w (krunV (ws0 := []) (wc := mws ac o ad (up2 MI 35 0 0) ML) (n := 1) (As := [.int 1]) (rest := []) (C := R_Model) X w (c_Model_fail l D ac o ad (up2 MI 35 0 0) ML _ 1) wk_Model_fail wi_Model wm_Model_153 wx_Model_fail ws_Model_Model_fail (by decide +kernel) rfl rfl ⟨(Nat.le_of_ble_eq_true rfl), (Nat.le_of_ble_eq_true rfl)⟩ ⟨(Nat.le_of_ble_eq_true rfl), (Nat.le_of_ble_eq_true rfl)⟩ (mrecv X w) rfl hl.1 rfl (Nat.le_of_ble_eq_true rfl) d_Model_core_25) (fun r11 u H locs hp w => ?_)
      obtain ⟨rfl, rfl⟩ := hp
      have w : Wo D _ (mws ac o ad (up2 (up2 MI 35 0 0) 35 0 1) ML) s.heap H locs := w
      refine W.eq (g2 := F0 m 28 ls (.int 0 :: [])) rfl ?_
      have hF : f_Model_core MI ML x1 x2 = (0, up2 (up2 MI 35 0 0) 35 0 1, ML) := by unfold f_Model_core; rw [if_neg h2, if_pos h5]
      exact kiret X w hr hk ⟨by rw [hF], by rw [hF]⟩ d_Model_core_28
def f_Model_message (MI : Nat → Nat → Int32) (ML : Nat → Nat → Int64) (x1 : Int32) (x2 : Int32) : Int32 × (Nat → Nat → Int32) × (Nat → Nat → Int64) :=
  if (f_Model_within x1 0 ((MI 38 0) - 1)) = 0 then
    (0, up2 (up2 MI 35 0 0) 35 0 1, ML)
  else
    if (f_Model_within x2 0 3) = 0 then
      (0, up2 (up2 MI 35 0 0) 35 0 2, ML)
    else
      if x2 = 0 then
        (MI 28 (tn x1), up2 MI 35 0 0, ML)
      else
        if x2 = 1 then
          (MI 29 (tn x1), up2 MI 35 0 0, ML)
        else
          if x2 = 2 then
            (MI 30 (tn x1), up2 MI 35 0 0, ML)
          else
            if (MI 31 (tn x1)) = 0 then
              (0, up2 MI 35 0 0, ML)
            else
              (1, up2 MI 35 0 0, ML)
set_option maxHeartbeats 4000000 in
set_option maxRecDepth 100000 in
theorem c_Model_message (l : Launch) (D : va_G) (ac : Nat → ClassId) (o : Nat) (ad : Nat → Nat) (MI : Nat → Nat → Int32) (ML : Nat → Nat → Int64) (sz : Nat) (x1 : Int32) (x2 : Int32) (hm : MI 38 0 = nI (tn (MI 38 0))) (hm20 : tn (MI 38 0) < 20) : Met l y_Model_message [Cond.code y_Model_message b_Model_message 3 (some .int)] { frames := 1, cells := 0, slots := 0, locals := 22 } (va_Pc [.ref o, .int x1, .int x2] (CPre D ac (mws ac o ad MI ML) sz)) (va_Qi (fun r u => r = (f_Model_message MI ML x1 x2).1 ∧ u = mws ac o ad (f_Model_message MI ML x1 x2).2.1 (f_Model_message MI ML x1 x2).2.2) (CPost D (mws ac o ad MI ML) sz) (va_A (mws ac o ad MI ML) sz)) 0 0 (va_A (mws ac o ad MI ML) sz) := by
  refine kofW (by decide) (Nat.le_of_ble_eq_true rfl) ?_
  intro p ev s m args below meth c0 ls X hr hk hnm hex hsz w hl
  have X : Cx b_Model_message 3 R_Model D ac p m args c0 s := X
  have hx := X.1
  have hb := X.2.1
  have hl : lv_has ls 3 [(0, .ref o), (1, .int x1), (2, .int x2)] := hl
  refine lv_aload_n hx hb d_Model_message_0 rfl (lv_at hl 0 rfl) ?_
  refine lv_iconst (v := 0) hx hb d_Model_message_1 (by decide) ?_
  refine mp_124 X w d_Model_message_2 (fun H locs w => ?_)
  refine lv_iload_n hx hb d_Model_message_5 rfl (lv_at hl 1 rfl) ?_
  refine lv_iconst (v := 0) hx hb d_Model_message_6 (by decide) ?_
  refine lv_aload_n hx hb d_Model_message_7 rfl (lv_at hl 0 rfl) ?_
  refine mg_127 X w (v := MI 38 0) rfl d_Model_message_8 ?_
  refine lv_iconst (v := 1) hx hb d_Model_message_11 (by decide) ?_
  refine lv_isub hx hb d_Model_message_12 ?_
  refine kcalli (ws0 := []) w (krunS (ws0 := []) (wc := mws ac o ad (up2 MI 35 0 0) ML) (n := 3) (As := [.int x1, .int 0, .int ((MI 38 0) - 1)]) (rest := []) X w (c_Model_within l D ac o ad (up2 MI 35 0 0) ML _ x1 0 ((MI 38 0) - 1)) wk_Model_within wi_Model wm_Model_149 wt_Model_within (by decide +kernel) rfl rfl ⟨(Nat.le_of_ble_eq_true rfl), (Nat.le_of_ble_eq_true rfl)⟩ ⟨(Nat.le_of_ble_eq_true rfl), (Nat.le_of_ble_eq_true rfl)⟩ rfl hl.1 rfl (Nat.le_of_ble_eq_true rfl) d_Model_message_13) (fun r1 u H locs hp w => ?_)
  obtain ⟨rfl, rfl⟩ := hp
  have w : Wo D _ (mws ac o ad (up2 MI 35 0 0) ML) s.heap H locs := w
  refine lv_if_ne (tgt := 25) hx hb d_Model_message_16 (by decide) (fun h2 => ?_) (fun h2 => ?_)
  · skip
    have hx1 := within_many hm (by omega) h2
    refine lv_iload_n hx hb d_Model_message_25 rfl (lv_at hl 2 rfl) ?_
    refine lv_iconst (v := 0) hx hb d_Model_message_26 (by decide) ?_
    refine lv_iconst (v := 3) hx hb d_Model_message_27 (by decide) ?_
    refine kcalli (ws0 := []) w (krunS (ws0 := []) (wc := mws ac o ad (up2 MI 35 0 0) ML) (n := 3) (As := [.int x2, .int 0, .int 3]) (rest := []) X w (c_Model_within l D ac o ad (up2 MI 35 0 0) ML _ x2 0 3) wk_Model_within wi_Model wm_Model_149 wt_Model_within (by decide +kernel) rfl rfl ⟨(Nat.le_of_ble_eq_true rfl), (Nat.le_of_ble_eq_true rfl)⟩ ⟨(Nat.le_of_ble_eq_true rfl), (Nat.le_of_ble_eq_true rfl)⟩ rfl hl.1 rfl (Nat.le_of_ble_eq_true rfl) d_Model_message_28) (fun r3 u H locs hp w => ?_)
    obtain ⟨rfl, rfl⟩ := hp
    have w : Wo D _ (mws ac o ad (up2 MI 35 0 0) ML) s.heap H locs := w
    refine lv_if_ne (tgt := 40) hx hb d_Model_message_31 (by decide) (fun h4 => ?_) (fun h4 => ?_)
    · skip
      refine lv_iload_n hx hb d_Model_message_40 rfl (lv_at hl 2 rfl) ?_
      refine lv_if_ne (tgt := 53) hx hb d_Model_message_41 (by decide) (fun h5 => ?_) (fun h5 => ?_)
      · skip
        refine lv_iload_n hx hb d_Model_message_53 rfl (lv_at hl 2 rfl) ?_
        refine lv_iconst (v := 1) hx hb d_Model_message_54 (by decide) ?_
        refine lv_icmp_ne (tgt := 67) hx hb d_Model_message_55 (by decide) (fun h6 => ?_) (fun h6 => ?_)
        · skip
          refine lv_iload_n hx hb d_Model_message_67 rfl (lv_at hl 2 rfl) ?_
          refine lv_iconst (v := 2) hx hb d_Model_message_68 (by decide) ?_
          refine lv_icmp_ne (tgt := 81) hx hb d_Model_message_69 (by decide) (fun h7 => ?_) (fun h7 => ?_)
          · skip
            refine lv_aload_n hx hb d_Model_message_81 rfl (lv_at hl 0 rfl) ?_
            refine mg_105 X w d_Model_message_82 ?_
            refine lv_iload_n hx hb d_Model_message_85 rfl (lv_at hl 1 rfl) ?_
            refine ald_31 X w (tn x1) (v := MI 31 (tn x1)) (by omega) hx1.1 rfl d_Model_message_86 ?_
            refine lv_if_eq (tgt := 94) hx hb d_Model_message_87 (by decide) (fun h8 => ?_) (fun h8 => ?_)
            · skip
              refine lv_iconst (v := 0) hx hb d_Model_message_94 (by decide) ?_
              have hF : f_Model_message MI ML x1 x2 = (0, up2 MI 35 0 0, ML) := by unfold f_Model_message; rw [if_neg h2, if_neg h4, if_neg h5, if_neg h6, if_neg h7, if_pos h8]
              exact kiret X w hr hk ⟨by rw [hF], by rw [hF]⟩ d_Model_message_95
            · skip
              refine lv_iconst (v := 1) hx hb d_Model_message_90 (by decide) ?_
              refine lv_goto (tgt := 95) hx hb d_Model_message_91 (by decide) ?_
              have hF : f_Model_message MI ML x1 x2 = (1, up2 MI 35 0 0, ML) := by unfold f_Model_message; rw [if_neg h2, if_neg h4, if_neg h5, if_neg h6, if_neg h7, if_neg h8]
              exact kiret X w hr hk ⟨by rw [hF], by rw [hF]⟩ d_Model_message_95
          · skip
            refine lv_aload_n hx hb d_Model_message_72 rfl (lv_at hl 0 rfl) ?_
            refine mg_102 X w d_Model_message_73 ?_
            refine lv_iload_n hx hb d_Model_message_76 rfl (lv_at hl 1 rfl) ?_
            refine ald_30 X w (tn x1) (v := MI 30 (tn x1)) (by omega) hx1.1 rfl d_Model_message_77 ?_
            refine lv_goto (tgt := 95) hx hb d_Model_message_78 (by decide) ?_
            have hF : f_Model_message MI ML x1 x2 = (MI 30 (tn x1), up2 MI 35 0 0, ML) := by unfold f_Model_message; rw [if_neg h2, if_neg h4, if_neg h5, if_neg h6, if_pos h7]
            exact kiret X w hr hk ⟨by rw [hF], by rw [hF]⟩ d_Model_message_95
        · skip
          refine lv_aload_n hx hb d_Model_message_58 rfl (lv_at hl 0 rfl) ?_
          refine mg_99 X w d_Model_message_59 ?_
          refine lv_iload_n hx hb d_Model_message_62 rfl (lv_at hl 1 rfl) ?_
          refine ald_29 X w (tn x1) (v := MI 29 (tn x1)) (by omega) hx1.1 rfl d_Model_message_63 ?_
          refine lv_goto (tgt := 95) hx hb d_Model_message_64 (by decide) ?_
          have hF : f_Model_message MI ML x1 x2 = (MI 29 (tn x1), up2 MI 35 0 0, ML) := by unfold f_Model_message; rw [if_neg h2, if_neg h4, if_neg h5, if_pos h6]
          exact kiret X w hr hk ⟨by rw [hF], by rw [hF]⟩ d_Model_message_95
      · skip
        refine lv_aload_n hx hb d_Model_message_44 rfl (lv_at hl 0 rfl) ?_
        refine mg_96 X w d_Model_message_45 ?_
        refine lv_iload_n hx hb d_Model_message_48 rfl (lv_at hl 1 rfl) ?_
        refine ald_28 X w (tn x1) (v := MI 28 (tn x1)) (by omega) hx1.1 rfl d_Model_message_49 ?_
        refine lv_goto (tgt := 95) hx hb d_Model_message_50 (by decide) ?_
        have hF : f_Model_message MI ML x1 x2 = (MI 28 (tn x1), up2 MI 35 0 0, ML) := by unfold f_Model_message; rw [if_neg h2, if_neg h4, if_pos h5]
        exact kiret X w hr hk ⟨by rw [hF], by rw [hF]⟩ d_Model_message_95
    · skip
      refine lv_aload_n hx hb d_Model_message_34 rfl (lv_at hl 0 rfl) ?_
      refine lv_iconst (v := 2) hx hb d_Model_message_35 (by decide) ?_
      refine kcalli (ws0 := []) w (krunV (ws0 := []) (wc := mws ac o ad (up2 MI 35 0 0) ML) (n := 1) (As := [.int 2]) (rest := []) (C := R_Model) X w (c_Model_fail l D ac o ad (up2 MI 35 0 0) ML _ 2) wk_Model_fail wi_Model wm_Model_153 wx_Model_fail ws_Model_Model_fail (by decide +kernel) rfl rfl ⟨(Nat.le_of_ble_eq_true rfl), (Nat.le_of_ble_eq_true rfl)⟩ ⟨(Nat.le_of_ble_eq_true rfl), (Nat.le_of_ble_eq_true rfl)⟩ (mrecv X w) rfl hl.1 rfl (Nat.le_of_ble_eq_true rfl) d_Model_message_36) (fun r9 u H locs hp w => ?_)
      obtain ⟨rfl, rfl⟩ := hp
      have w : Wo D _ (mws ac o ad (up2 (up2 MI 35 0 0) 35 0 2) ML) s.heap H locs := w
      refine W.eq (g2 := F0 m 39 ls (.int 0 :: [])) rfl ?_
      have hF : f_Model_message MI ML x1 x2 = (0, up2 (up2 MI 35 0 0) 35 0 2, ML) := by unfold f_Model_message; rw [if_neg h2, if_pos h4]
      exact kiret X w hr hk ⟨by rw [hF], by rw [hF]⟩ d_Model_message_39
  · skip
    refine lv_aload_n hx hb d_Model_message_19 rfl (lv_at hl 0 rfl) ?_
    refine lv_iconst (v := 1) hx hb d_Model_message_20 (by decide) ?_
    refine kcalli (ws0 := []) w (krunV (ws0 := []) (wc := mws ac o ad (up2 MI 35 0 0) ML) (n := 1) (As := [.int 1]) (rest := []) (C := R_Model) X w (c_Model_fail l D ac o ad (up2 MI 35 0 0) ML _ 1) wk_Model_fail wi_Model wm_Model_153 wx_Model_fail ws_Model_Model_fail (by decide +kernel) rfl rfl ⟨(Nat.le_of_ble_eq_true rfl), (Nat.le_of_ble_eq_true rfl)⟩ ⟨(Nat.le_of_ble_eq_true rfl), (Nat.le_of_ble_eq_true rfl)⟩ (mrecv X w) rfl hl.1 rfl (Nat.le_of_ble_eq_true rfl) d_Model_message_21) (fun r10 u H locs hp w => ?_)
    obtain ⟨rfl, rfl⟩ := hp
    have w : Wo D _ (mws ac o ad (up2 (up2 MI 35 0 0) 35 0 1) ML) s.heap H locs := w
    refine W.eq (g2 := F0 m 24 ls (.int 0 :: [])) rfl ?_
    have hF : f_Model_message MI ML x1 x2 = (0, up2 (up2 MI 35 0 0) 35 0 1, ML) := by unfold f_Model_message; rw [if_pos h2]
    exact kiret X w hr hk ⟨by rw [hF], by rw [hF]⟩ d_Model_message_24
def f_Model_cached (MI : Nat → Nat → Int32) (ML : Nat → Nat → Int64) (x1 : Int32) (x2 : Int32) (x3 : Int32) : Int64 × (Nat → Nat → Int32) × (Nat → Nat → Int64) :=
  if (f_Model_within x1 0 2) = 0 then
    (0, up2 (up2 MI 35 0 0) 35 0 1, ML)
  else
    if (f_Model_within x2 0 11) = 0 then
      (0, up2 (up2 MI 35 0 0) 35 0 1, ML)
    else
      if (f_Model_within x3 0 3) = 0 then
        (0, up2 (up2 MI 35 0 0) 35 0 1, ML)
      else
        oc (f_Model_placeOf (up2 MI 35 0 0) ML (tn x1) (tn x2)) (
          (0, up2 (up2 MI 35 0 0) 35 0 2, ML))
          (fun y11 =>
          if 2 ≤ x3 then
            if x3 = 2 then
              (ML 13 y11, up2 MI 35 0 0, ML)
            else
              (ML 14 y11, up2 MI 35 0 0, ML)
          else
            if x3 = 0 then
              if (MI 11 y11) = 0 then
                (0, up2 MI 35 0 0, ML)
              else
                (1, up2 MI 35 0 0, ML)
            else
              ((MI 12 y11).toInt64, up2 MI 35 0 0, ML))
set_option maxHeartbeats 4000000 in
set_option maxRecDepth 100000 in
theorem c_Model_cached (l : Launch) (D : va_G) (ac : Nat → ClassId) (o : Nat) (ad : Nat → Nat) (MI : Nat → Nat → Int32) (ML : Nat → Nat → Int64) (sz : Nat) (x1 : Int32) (x2 : Int32) (x3 : Int32)  : Met l y_Model_cached [Cond.code y_Model_cached b_Model_cached 5 (some .long)] { frames := 1, cells := 0, slots := 0, locals := 23 } (va_Pc [.ref o, .int x1, .int x2, .int x3] (CPre D ac (mws ac o ad MI ML) sz)) (va_Ql (fun r u => r = (f_Model_cached MI ML x1 x2 x3).1 ∧ u = mws ac o ad (f_Model_cached MI ML x1 x2 x3).2.1 (f_Model_cached MI ML x1 x2 x3).2.2) (CPost D (mws ac o ad MI ML) sz) (va_A (mws ac o ad MI ML) sz)) 0 0 (va_A (mws ac o ad MI ML) sz) := by
  refine kofW (by decide) (Nat.le_of_ble_eq_true rfl) ?_
  intro p ev s m args below meth c0 ls X hr hk hnm hex hsz w hl
  have X : Cx b_Model_cached 5 R_Model D ac p m args c0 s := X
  have hx := X.1
  have hb := X.2.1
  have hl : lv_has ls 5 [(0, .ref o), (1, .int x1), (2, .int x2), (3, .int x3)] := hl
  refine lv_aload_n hx hb d_Model_cached_0 rfl (lv_at hl 0 rfl) ?_
  refine lv_iconst (v := 0) hx hb d_Model_cached_1 (by decide) ?_
  refine mp_124 X w d_Model_cached_2 (fun H locs w => ?_)
  refine lv_iload_n hx hb d_Model_cached_5 rfl (lv_at hl 1 rfl) ?_
  refine lv_iconst (v := 0) hx hb d_Model_cached_6 (by decide) ?_
  refine lv_iconst (v := 2) hx hb d_Model_cached_7 (by decide) ?_
  refine kcalli (ws0 := []) w (krunS (ws0 := []) (wc := mws ac o ad (up2 MI 35 0 0) ML) (n := 3) (As := [.int x1, .int 0, .int 2]) (rest := []) X w (c_Model_within l D ac o ad (up2 MI 35 0 0) ML _ x1 0 2) wk_Model_within wi_Model wm_Model_149 wt_Model_within (by decide +kernel) rfl rfl ⟨(Nat.le_of_ble_eq_true rfl), (Nat.le_of_ble_eq_true rfl)⟩ ⟨(Nat.le_of_ble_eq_true rfl), (Nat.le_of_ble_eq_true rfl)⟩ rfl hl.1 rfl (Nat.le_of_ble_eq_true rfl) d_Model_cached_8) (fun r1 u H locs hp w => ?_)
  obtain ⟨rfl, rfl⟩ := hp
  have w : Wo D _ (mws ac o ad (up2 MI 35 0 0) ML) s.heap H locs := w
  refine lv_if_eq (tgt := 33) hx hb d_Model_cached_11 (by decide) (fun h2 => ?_) (fun h2 => ?_)
  · skip
    refine lv_aload_n hx hb d_Model_cached_33 rfl (lv_at hl 0 rfl) ?_
    refine lv_iconst (v := 1) hx hb d_Model_cached_34 (by decide) ?_
    refine kcalli (ws0 := []) w (krunV (ws0 := []) (wc := mws ac o ad (up2 MI 35 0 0) ML) (n := 1) (As := [.int 1]) (rest := []) (C := R_Model) X w (c_Model_fail l D ac o ad (up2 MI 35 0 0) ML _ 1) wk_Model_fail wi_Model wm_Model_153 wx_Model_fail ws_Model_Model_fail (by decide +kernel) rfl rfl ⟨(Nat.le_of_ble_eq_true rfl), (Nat.le_of_ble_eq_true rfl)⟩ ⟨(Nat.le_of_ble_eq_true rfl), (Nat.le_of_ble_eq_true rfl)⟩ (mrecv X w) rfl hl.1 rfl (Nat.le_of_ble_eq_true rfl) d_Model_cached_35) (fun r3 u H locs hp w => ?_)
    obtain ⟨rfl, rfl⟩ := hp
    have w : Wo D _ (mws ac o ad (up2 (up2 MI 35 0 0) 35 0 1) ML) s.heap H locs := w
    refine W.eq (g2 := F0 m 38 ls (.int 0 :: [])) rfl ?_
    refine lv_i2l (v := 0) hx hb d_Model_cached_38 (by decide) ?_
    have hF : f_Model_cached MI ML x1 x2 x3 = (0, up2 (up2 MI 35 0 0) 35 0 1, ML) := by unfold f_Model_cached; rw [if_pos h2]
    exact klret X w hr hk ⟨by rw [hF], by rw [hF]⟩ d_Model_cached_39
  · skip
    refine lv_iload_n hx hb d_Model_cached_14 rfl (lv_at hl 2 rfl) ?_
    refine lv_iconst (v := 0) hx hb d_Model_cached_15 (by decide) ?_
    refine lv_bipush (v := 11) hx hb d_Model_cached_16 (by decide) ?_
    refine kcalli (ws0 := []) w (krunS (ws0 := []) (wc := mws ac o ad (up2 MI 35 0 0) ML) (n := 3) (As := [.int x2, .int 0, .int 11]) (rest := []) X w (c_Model_within l D ac o ad (up2 MI 35 0 0) ML _ x2 0 11) wk_Model_within wi_Model wm_Model_149 wt_Model_within (by decide +kernel) rfl rfl ⟨(Nat.le_of_ble_eq_true rfl), (Nat.le_of_ble_eq_true rfl)⟩ ⟨(Nat.le_of_ble_eq_true rfl), (Nat.le_of_ble_eq_true rfl)⟩ rfl hl.1 rfl (Nat.le_of_ble_eq_true rfl) d_Model_cached_18) (fun r4 u H locs hp w => ?_)
    obtain ⟨rfl, rfl⟩ := hp
    have w : Wo D _ (mws ac o ad (up2 MI 35 0 0) ML) s.heap H locs := w
    refine lv_if_eq (tgt := 33) hx hb d_Model_cached_21 (by decide) (fun h5 => ?_) (fun h5 => ?_)
    · skip
      refine lv_aload_n hx hb d_Model_cached_33 rfl (lv_at hl 0 rfl) ?_
      refine lv_iconst (v := 1) hx hb d_Model_cached_34 (by decide) ?_
      refine kcalli (ws0 := []) w (krunV (ws0 := []) (wc := mws ac o ad (up2 MI 35 0 0) ML) (n := 1) (As := [.int 1]) (rest := []) (C := R_Model) X w (c_Model_fail l D ac o ad (up2 MI 35 0 0) ML _ 1) wk_Model_fail wi_Model wm_Model_153 wx_Model_fail ws_Model_Model_fail (by decide +kernel) rfl rfl ⟨(Nat.le_of_ble_eq_true rfl), (Nat.le_of_ble_eq_true rfl)⟩ ⟨(Nat.le_of_ble_eq_true rfl), (Nat.le_of_ble_eq_true rfl)⟩ (mrecv X w) rfl hl.1 rfl (Nat.le_of_ble_eq_true rfl) d_Model_cached_35) (fun r6 u H locs hp w => ?_)
      obtain ⟨rfl, rfl⟩ := hp
      have w : Wo D _ (mws ac o ad (up2 (up2 MI 35 0 0) 35 0 1) ML) s.heap H locs := w
      refine W.eq (g2 := F0 m 38 ls (.int 0 :: [])) rfl ?_
      refine lv_i2l (v := 0) hx hb d_Model_cached_38 (by decide) ?_
      have hF : f_Model_cached MI ML x1 x2 x3 = (0, up2 (up2 MI 35 0 0) 35 0 1, ML) := by unfold f_Model_cached; rw [if_neg h2, if_pos h5]
      exact klret X w hr hk ⟨by rw [hF], by rw [hF]⟩ d_Model_cached_39
    · skip
      refine lv_iload_n hx hb d_Model_cached_24 rfl (lv_at hl 3 rfl) ?_
      refine lv_iconst (v := 0) hx hb d_Model_cached_25 (by decide) ?_
      refine lv_iconst (v := 3) hx hb d_Model_cached_26 (by decide) ?_
      refine kcalli (ws0 := []) w (krunS (ws0 := []) (wc := mws ac o ad (up2 MI 35 0 0) ML) (n := 3) (As := [.int x3, .int 0, .int 3]) (rest := []) X w (c_Model_within l D ac o ad (up2 MI 35 0 0) ML _ x3 0 3) wk_Model_within wi_Model wm_Model_149 wt_Model_within (by decide +kernel) rfl rfl ⟨(Nat.le_of_ble_eq_true rfl), (Nat.le_of_ble_eq_true rfl)⟩ ⟨(Nat.le_of_ble_eq_true rfl), (Nat.le_of_ble_eq_true rfl)⟩ rfl hl.1 rfl (Nat.le_of_ble_eq_true rfl) d_Model_cached_27) (fun r7 u H locs hp w => ?_)
      obtain ⟨rfl, rfl⟩ := hp
      have w : Wo D _ (mws ac o ad (up2 MI 35 0 0) ML) s.heap H locs := w
      refine lv_if_ne (tgt := 40) hx hb d_Model_cached_30 (by decide) (fun h8 => ?_) (fun h8 => ?_)
      · skip
        have hx1 := within_tn 2 (by decide) h2
        have hx2 := within_tn 11 (by decide) h5
        refine lv_aload_n hx hb d_Model_cached_40 rfl (lv_at hl 0 rfl) ?_
        refine lv_iload_n hx hb d_Model_cached_41 rfl (lv_at hl 1 rfl) ?_
        refine lv_iload_n hx hb d_Model_cached_42 rfl (lv_at hl 2 rfl) ?_
        refine W.eq (g2 := F0 m 43 ls [.int (nI (tn x2)), .int (nI (tn x1)), .ref o]) (by rw [← hx1.1, ← hx2.1]) ?_
        refine kcalli (ws0 := []) w (krunV (ws0 := []) (wc := mws ac o ad (up2 MI 35 0 0) ML) (n := 2) (As := [.int (nI (tn x1)), .int (nI (tn x2))]) (rest := []) (C := R_Model) X w (c_Model_placeOf l D ac o ad (up2 MI 35 0 0) ML _ (tn x1) (tn x2) (by omega) (by omega)) wk_Model_placeOf wi_Model wm_Model_134 wx_Model_placeOf ws_Model_Model_placeOf (by decide +kernel) rfl rfl ⟨(Nat.le_of_ble_eq_true rfl), (Nat.le_of_ble_eq_true rfl)⟩ ⟨(Nat.le_of_ble_eq_true rfl), (Nat.le_of_ble_eq_true rfl)⟩ (mrecv X w) rfl hl.1 rfl (Nat.le_of_ble_eq_true rfl) d_Model_cached_43) (fun r9 u H locs hp w => ?_)
        obtain ⟨rfl, rfl⟩ := hp
        have w : Wo D _ (mws ac o ad (up2 MI 35 0 0) ML) s.heap H locs := w
        refine lv_istore (lv' := [(4, .int (oI (f_Model_placeOf (up2 MI 35 0 0) ML (tn x1) (tn x2)))), (0, .ref o), (1, .int x1), (2, .int x2), (3, .int x3)]) hx hb d_Model_cached_46 hl (by decide) rfl (fun ls hl => ?_)
        cases ho10 : f_Model_placeOf (up2 MI 35 0 0) ML (tn x1) (tn x2) with
        | none =>
          rw [ho10] at hl
          have hl : lv_has ls 5 [(4, .int (-1)), (0, .ref o), (1, .int x1), (2, .int x2), (3, .int x3)] := hl
          refine lv_iload hx hb d_Model_cached_48 (lv_at hl 0 rfl) ?_
          refine lv_if_ge (tgt := 60) hx hb d_Model_cached_50 (by decide) (fun h => absurd h (by decide)) (fun _ => ?_)
          refine lv_aload_n hx hb d_Model_cached_53 rfl (lv_at hl 1 rfl) ?_
          refine lv_iconst (v := 2) hx hb d_Model_cached_54 (by decide) ?_
          refine kcalli (ws0 := []) w (krunV (ws0 := []) (wc := mws ac o ad (up2 MI 35 0 0) ML) (n := 1) (As := [.int 2]) (rest := []) (C := R_Model) X w (c_Model_fail l D ac o ad (up2 MI 35 0 0) ML _ 2) wk_Model_fail wi_Model wm_Model_153 wx_Model_fail ws_Model_Model_fail (by decide +kernel) rfl rfl ⟨(Nat.le_of_ble_eq_true rfl), (Nat.le_of_ble_eq_true rfl)⟩ ⟨(Nat.le_of_ble_eq_true rfl), (Nat.le_of_ble_eq_true rfl)⟩ (mrecv X w) rfl hl.1 rfl (Nat.le_of_ble_eq_true rfl) d_Model_cached_55) (fun r12 u H locs hp w => ?_)
          obtain ⟨rfl, rfl⟩ := hp
          have w : Wo D _ (mws ac o ad (up2 (up2 MI 35 0 0) 35 0 2) ML) s.heap H locs := w
          refine W.eq (g2 := F0 m 58 ls (.int 0 :: [])) rfl ?_
          refine lv_i2l (v := 0) hx hb d_Model_cached_58 (by decide) ?_
          have hF : f_Model_cached MI ML x1 x2 x3 = (0, up2 (up2 MI 35 0 0) 35 0 2, ML) := by unfold f_Model_cached; rw [if_neg h2, if_neg h5, if_neg h8, ho10, oc_none]
          exact klret X w hr hk ⟨by rw [hF], by rw [hF]⟩ d_Model_cached_59
        | some y11 =>
          rw [ho10] at hl
          have hl : lv_has ls 5 [(4, .int (nI y11)), (0, .ref o), (1, .int x1), (2, .int x2), (3, .int x3)] := hl
          have hy11 := f_Model_placeOf_lt ho10
          have hy11b : y11 < 12 := by omega
          refine lv_iload hx hb d_Model_cached_48 (lv_at hl 0 rfl) ?_
          refine lv_if_ge (tgt := 60) hx hb d_Model_cached_50 (by decide) (fun _ => ?_) (fun h => absurd (nI_pos' (by omega)) h)
          refine lv_iload_n hx hb d_Model_cached_60 rfl (lv_at hl 4 rfl) ?_
          refine lv_iconst (v := 2) hx hb d_Model_cached_61 (by decide) ?_
          refine lv_icmp_ge (tgt := 96) hx hb d_Model_cached_62 (by decide) (fun h13 => ?_) (fun h13 => ?_)
          · skip
            refine lv_iload_n hx hb d_Model_cached_96 rfl (lv_at hl 4 rfl) ?_
            refine lv_iconst (v := 2) hx hb d_Model_cached_97 (by decide) ?_
            refine lv_icmp_ne (tgt := 111) hx hb d_Model_cached_98 (by decide) (fun h14 => ?_) (fun h14 => ?_)
            · skip
              refine lv_aload_n hx hb d_Model_cached_111 rfl (lv_at hl 1 rfl) ?_
              refine mg_54 X w d_Model_cached_112 ?_
              refine lv_iload hx hb d_Model_cached_115 (lv_at hl 0 rfl) ?_
              refine ald_14 X w y11 (v := ML 14 y11) (by omega) rfl rfl d_Model_cached_117 ?_
              have hF : f_Model_cached MI ML x1 x2 x3 = (ML 14 y11, up2 MI 35 0 0, ML) := by unfold f_Model_cached; rw [if_neg h2, if_neg h5, if_neg h8, ho10, oc_some, if_pos h13, if_neg h14]
              exact klret X w hr hk ⟨by rw [hF], by rw [hF]⟩ d_Model_cached_118
            · skip
              refine lv_aload_n hx hb d_Model_cached_101 rfl (lv_at hl 1 rfl) ?_
              refine mg_51 X w d_Model_cached_102 ?_
              refine lv_iload hx hb d_Model_cached_105 (lv_at hl 0 rfl) ?_
              refine ald_13 X w y11 (v := ML 13 y11) (by omega) rfl rfl d_Model_cached_107 ?_
              refine lv_goto (tgt := 118) hx hb d_Model_cached_108 (by decide) ?_
              have hF : f_Model_cached MI ML x1 x2 x3 = (ML 13 y11, up2 MI 35 0 0, ML) := by unfold f_Model_cached; rw [if_neg h2, if_neg h5, if_neg h8, ho10, oc_some, if_pos h13, if_pos h14]
              exact klret X w hr hk ⟨by rw [hF], by rw [hF]⟩ d_Model_cached_118
          · skip
            refine lv_iload_n hx hb d_Model_cached_65 rfl (lv_at hl 4 rfl) ?_
            refine lv_if_ne (tgt := 87) hx hb d_Model_cached_66 (by decide) (fun h15 => ?_) (fun h15 => ?_)
            · skip
              refine lv_aload_n hx hb d_Model_cached_87 rfl (lv_at hl 1 rfl) ?_
              refine mg_48 X w d_Model_cached_88 ?_
              refine lv_iload hx hb d_Model_cached_91 (lv_at hl 0 rfl) ?_
              refine ald_12 X w y11 (v := MI 12 y11) (by omega) rfl rfl d_Model_cached_93 ?_
              refine lv_i2l (v := (MI 12 y11).toInt64) hx hb d_Model_cached_94 (rfl) ?_
              have hF : f_Model_cached MI ML x1 x2 x3 = ((MI 12 y11).toInt64, up2 MI 35 0 0, ML) := by unfold f_Model_cached; rw [if_neg h2, if_neg h5, if_neg h8, ho10, oc_some, if_neg h13, if_neg h15]
              exact klret X w hr hk ⟨by rw [hF], by rw [hF]⟩ d_Model_cached_95
            · skip
              refine lv_aload_n hx hb d_Model_cached_69 rfl (lv_at hl 1 rfl) ?_
              refine mg_45 X w d_Model_cached_70 ?_
              refine lv_iload hx hb d_Model_cached_73 (lv_at hl 0 rfl) ?_
              refine ald_11 X w y11 (v := MI 11 y11) (by omega) rfl rfl d_Model_cached_75 ?_
              refine lv_if_eq (tgt := 83) hx hb d_Model_cached_76 (by decide) (fun h16 => ?_) (fun h16 => ?_)
              · skip
                refine lv_lconst (v := 0) hx hb d_Model_cached_83 (by decide) ?_
                refine lv_goto (tgt := 95) hx hb d_Model_cached_84 (by decide) ?_
                have hF : f_Model_cached MI ML x1 x2 x3 = (0, up2 MI 35 0 0, ML) := by unfold f_Model_cached; rw [if_neg h2, if_neg h5, if_neg h8, ho10, oc_some, if_neg h13, if_pos h15, if_pos h16]
                exact klret X w hr hk ⟨by rw [hF], by rw [hF]⟩ d_Model_cached_95
              · skip
                refine lv_lconst (v := 1) hx hb d_Model_cached_79 (by decide) ?_
                refine lv_goto (tgt := 95) hx hb d_Model_cached_80 (by decide) ?_
                have hF : f_Model_cached MI ML x1 x2 x3 = (1, up2 MI 35 0 0, ML) := by unfold f_Model_cached; rw [if_neg h2, if_neg h5, if_neg h8, ho10, oc_some, if_neg h13, if_pos h15, if_neg h16]
                exact klret X w hr hk ⟨by rw [hF], by rw [hF]⟩ d_Model_cached_95
      · skip
        refine lv_aload_n hx hb d_Model_cached_33 rfl (lv_at hl 0 rfl) ?_
        refine lv_iconst (v := 1) hx hb d_Model_cached_34 (by decide) ?_
        refine kcalli (ws0 := []) w (krunV (ws0 := []) (wc := mws ac o ad (up2 MI 35 0 0) ML) (n := 1) (As := [.int 1]) (rest := []) (C := R_Model) X w (c_Model_fail l D ac o ad (up2 MI 35 0 0) ML _ 1) wk_Model_fail wi_Model wm_Model_153 wx_Model_fail ws_Model_Model_fail (by decide +kernel) rfl rfl ⟨(Nat.le_of_ble_eq_true rfl), (Nat.le_of_ble_eq_true rfl)⟩ ⟨(Nat.le_of_ble_eq_true rfl), (Nat.le_of_ble_eq_true rfl)⟩ (mrecv X w) rfl hl.1 rfl (Nat.le_of_ble_eq_true rfl) d_Model_cached_35) (fun r17 u H locs hp w => ?_)
        obtain ⟨rfl, rfl⟩ := hp
        have w : Wo D _ (mws ac o ad (up2 (up2 MI 35 0 0) 35 0 1) ML) s.heap H locs := w
        refine W.eq (g2 := F0 m 38 ls (.int 0 :: [])) rfl ?_
        refine lv_i2l (v := 0) hx hb d_Model_cached_38 (by decide) ?_
        have hF : f_Model_cached MI ML x1 x2 x3 = (0, up2 (up2 MI 35 0 0) 35 0 1, ML) := by unfold f_Model_cached; rw [if_neg h2, if_neg h5, if_pos h8]
        exact klret X w hr hk ⟨by rw [hF], by rw [hF]⟩ d_Model_cached_39
def f_Model_entry (MI : Nat → Nat → Int32) (ML : Nat → Nat → Int64) (x1 : Int32) (x2 : Int32) : Int64 × (Nat → Nat → Int32) × (Nat → Nat → Int64) :=
  if (f_Model_within x1 0 11) = 0 then
    (0, up2 (up2 MI 35 0 0) 35 0 1, ML)
  else
    if (f_Model_within x2 0 5) = 0 then
      (0, up2 (up2 MI 35 0 0) 35 0 1, ML)
    else
      oc (f_Model_entryOf (up2 MI 35 0 0) ML x1) (
        (0, up2 (up2 MI 35 0 0) 35 0 2, ML))
        (fun y8 =>
        if 3 ≤ x2 then
          if x2 = 3 then
            ((MI 20 y8).toInt64, up2 MI 35 0 0, ML)
          else
            if x2 = 4 then
              if (MI 22 y8) ≤ 0 then
                (0, up2 MI 35 0 0, ML)
              else
                (1, up2 MI 35 0 0, ML)
            else
              if (MI 22 y8) ≤ 0 then
                (0, up2 MI 35 0 0, ML)
              else
                (((MI 22 y8) - 1).toInt64, up2 MI 35 0 0, ML)
        else
          if x2 = 0 then
            ((MI 17 y8).toInt64, up2 MI 35 0 0, ML)
          else
            if x2 = 1 then
              (ML 18 y8, up2 MI 35 0 0, ML)
            else
              (ML 19 y8, up2 MI 35 0 0, ML))
set_option maxHeartbeats 4000000 in
set_option maxRecDepth 100000 in
theorem c_Model_entry (l : Launch) (D : va_G) (ac : Nat → ClassId) (o : Nat) (ad : Nat → Nat) (MI : Nat → Nat → Int32) (ML : Nat → Nat → Int64) (sz : Nat) (x1 : Int32) (x2 : Int32)  : Met l y_Model_entry [Cond.code y_Model_entry b_Model_entry 4 (some .long)] { frames := 1, cells := 0, slots := 0, locals := 23 } (va_Pc [.ref o, .int x1, .int x2] (CPre D ac (mws ac o ad MI ML) sz)) (va_Ql (fun r u => r = (f_Model_entry MI ML x1 x2).1 ∧ u = mws ac o ad (f_Model_entry MI ML x1 x2).2.1 (f_Model_entry MI ML x1 x2).2.2) (CPost D (mws ac o ad MI ML) sz) (va_A (mws ac o ad MI ML) sz)) 0 0 (va_A (mws ac o ad MI ML) sz) := by
  refine kofW (by decide) (Nat.le_of_ble_eq_true rfl) ?_
  intro p ev s m args below meth c0 ls X hr hk hnm hex hsz w hl
  have X : Cx b_Model_entry 4 R_Model D ac p m args c0 s := X
  have hx := X.1
  have hb := X.2.1
  have hl : lv_has ls 4 [(0, .ref o), (1, .int x1), (2, .int x2)] := hl
  refine lv_aload_n hx hb d_Model_entry_0 rfl (lv_at hl 0 rfl) ?_
  refine lv_iconst (v := 0) hx hb d_Model_entry_1 (by decide) ?_
  refine mp_124 X w d_Model_entry_2 (fun H locs w => ?_)
  refine lv_iload_n hx hb d_Model_entry_5 rfl (lv_at hl 1 rfl) ?_
  refine lv_iconst (v := 0) hx hb d_Model_entry_6 (by decide) ?_
  refine lv_bipush (v := 11) hx hb d_Model_entry_7 (by decide) ?_
  refine kcalli (ws0 := []) w (krunS (ws0 := []) (wc := mws ac o ad (up2 MI 35 0 0) ML) (n := 3) (As := [.int x1, .int 0, .int 11]) (rest := []) X w (c_Model_within l D ac o ad (up2 MI 35 0 0) ML _ x1 0 11) wk_Model_within wi_Model wm_Model_149 wt_Model_within (by decide +kernel) rfl rfl ⟨(Nat.le_of_ble_eq_true rfl), (Nat.le_of_ble_eq_true rfl)⟩ ⟨(Nat.le_of_ble_eq_true rfl), (Nat.le_of_ble_eq_true rfl)⟩ rfl hl.1 rfl (Nat.le_of_ble_eq_true rfl) d_Model_entry_9) (fun r1 u H locs hp w => ?_)
  obtain ⟨rfl, rfl⟩ := hp
  have w : Wo D _ (mws ac o ad (up2 MI 35 0 0) ML) s.heap H locs := w
  refine lv_if_eq (tgt := 24) hx hb d_Model_entry_12 (by decide) (fun h2 => ?_) (fun h2 => ?_)
  · skip
    refine lv_aload_n hx hb d_Model_entry_24 rfl (lv_at hl 0 rfl) ?_
    refine lv_iconst (v := 1) hx hb d_Model_entry_25 (by decide) ?_
    refine kcalli (ws0 := []) w (krunV (ws0 := []) (wc := mws ac o ad (up2 MI 35 0 0) ML) (n := 1) (As := [.int 1]) (rest := []) (C := R_Model) X w (c_Model_fail l D ac o ad (up2 MI 35 0 0) ML _ 1) wk_Model_fail wi_Model wm_Model_153 wx_Model_fail ws_Model_Model_fail (by decide +kernel) rfl rfl ⟨(Nat.le_of_ble_eq_true rfl), (Nat.le_of_ble_eq_true rfl)⟩ ⟨(Nat.le_of_ble_eq_true rfl), (Nat.le_of_ble_eq_true rfl)⟩ (mrecv X w) rfl hl.1 rfl (Nat.le_of_ble_eq_true rfl) d_Model_entry_26) (fun r3 u H locs hp w => ?_)
    obtain ⟨rfl, rfl⟩ := hp
    have w : Wo D _ (mws ac o ad (up2 (up2 MI 35 0 0) 35 0 1) ML) s.heap H locs := w
    refine W.eq (g2 := F0 m 29 ls (.int 0 :: [])) rfl ?_
    refine lv_i2l (v := 0) hx hb d_Model_entry_29 (by decide) ?_
    have hF : f_Model_entry MI ML x1 x2 = (0, up2 (up2 MI 35 0 0) 35 0 1, ML) := by unfold f_Model_entry; rw [if_pos h2]
    exact klret X w hr hk ⟨by rw [hF], by rw [hF]⟩ d_Model_entry_30
  · skip
    refine lv_iload_n hx hb d_Model_entry_15 rfl (lv_at hl 2 rfl) ?_
    refine lv_iconst (v := 0) hx hb d_Model_entry_16 (by decide) ?_
    refine lv_iconst (v := 5) hx hb d_Model_entry_17 (by decide) ?_
    refine kcalli (ws0 := []) w (krunS (ws0 := []) (wc := mws ac o ad (up2 MI 35 0 0) ML) (n := 3) (As := [.int x2, .int 0, .int 5]) (rest := []) X w (c_Model_within l D ac o ad (up2 MI 35 0 0) ML _ x2 0 5) wk_Model_within wi_Model wm_Model_149 wt_Model_within (by decide +kernel) rfl rfl ⟨(Nat.le_of_ble_eq_true rfl), (Nat.le_of_ble_eq_true rfl)⟩ ⟨(Nat.le_of_ble_eq_true rfl), (Nat.le_of_ble_eq_true rfl)⟩ rfl hl.1 rfl (Nat.le_of_ble_eq_true rfl) d_Model_entry_18) (fun r4 u H locs hp w => ?_)
    obtain ⟨rfl, rfl⟩ := hp
    have w : Wo D _ (mws ac o ad (up2 MI 35 0 0) ML) s.heap H locs := w
    refine lv_if_ne (tgt := 31) hx hb d_Model_entry_21 (by decide) (fun h5 => ?_) (fun h5 => ?_)
    · skip
      refine lv_aload_n hx hb d_Model_entry_31 rfl (lv_at hl 0 rfl) ?_
      refine lv_iload_n hx hb d_Model_entry_32 rfl (lv_at hl 1 rfl) ?_
      refine kcalli (ws0 := []) w (krunV (ws0 := []) (wc := mws ac o ad (up2 MI 35 0 0) ML) (n := 1) (As := [.int x1]) (rest := []) (C := R_Model) X w (c_Model_entryOf l D ac o ad (up2 MI 35 0 0) ML _ x1) wk_Model_entryOf wi_Model wm_Model_167 wx_Model_entryOf ws_Model_Model_entryOf (by decide +kernel) rfl rfl ⟨(Nat.le_of_ble_eq_true rfl), (Nat.le_of_ble_eq_true rfl)⟩ ⟨(Nat.le_of_ble_eq_true rfl), (Nat.le_of_ble_eq_true rfl)⟩ (mrecv X w) rfl hl.1 rfl (Nat.le_of_ble_eq_true rfl) d_Model_entry_33) (fun r6 u H locs hp w => ?_)
      obtain ⟨rfl, rfl⟩ := hp
      have w : Wo D _ (mws ac o ad (up2 MI 35 0 0) ML) s.heap H locs := w
      refine lv_istore_n (lv' := [(3, .int (oI (f_Model_entryOf (up2 MI 35 0 0) ML x1))), (0, .ref o), (1, .int x1), (2, .int x2)]) hx hb d_Model_entry_36 rfl hl (by decide) rfl (fun ls hl => ?_)
      cases ho7 : f_Model_entryOf (up2 MI 35 0 0) ML x1 with
      | none =>
        rw [ho7] at hl
        have hl : lv_has ls 4 [(3, .int (-1)), (0, .ref o), (1, .int x1), (2, .int x2)] := hl
        refine lv_iload_n hx hb d_Model_entry_37 rfl (lv_at hl 0 rfl) ?_
        refine lv_if_ge (tgt := 48) hx hb d_Model_entry_38 (by decide) (fun h => absurd h (by decide)) (fun _ => ?_)
        refine lv_aload_n hx hb d_Model_entry_41 rfl (lv_at hl 1 rfl) ?_
        refine lv_iconst (v := 2) hx hb d_Model_entry_42 (by decide) ?_
        refine kcalli (ws0 := []) w (krunV (ws0 := []) (wc := mws ac o ad (up2 MI 35 0 0) ML) (n := 1) (As := [.int 2]) (rest := []) (C := R_Model) X w (c_Model_fail l D ac o ad (up2 MI 35 0 0) ML _ 2) wk_Model_fail wi_Model wm_Model_153 wx_Model_fail ws_Model_Model_fail (by decide +kernel) rfl rfl ⟨(Nat.le_of_ble_eq_true rfl), (Nat.le_of_ble_eq_true rfl)⟩ ⟨(Nat.le_of_ble_eq_true rfl), (Nat.le_of_ble_eq_true rfl)⟩ (mrecv X w) rfl hl.1 rfl (Nat.le_of_ble_eq_true rfl) d_Model_entry_43) (fun r9 u H locs hp w => ?_)
        obtain ⟨rfl, rfl⟩ := hp
        have w : Wo D _ (mws ac o ad (up2 (up2 MI 35 0 0) 35 0 2) ML) s.heap H locs := w
        refine W.eq (g2 := F0 m 46 ls (.int 0 :: [])) rfl ?_
        refine lv_i2l (v := 0) hx hb d_Model_entry_46 (by decide) ?_
        have hF : f_Model_entry MI ML x1 x2 = (0, up2 (up2 MI 35 0 0) 35 0 2, ML) := by unfold f_Model_entry; rw [if_neg h2, if_neg h5, ho7, oc_none]
        exact klret X w hr hk ⟨by rw [hF], by rw [hF]⟩ d_Model_entry_47
      | some y8 =>
        rw [ho7] at hl
        have hl : lv_has ls 4 [(3, .int (nI y8)), (0, .ref o), (1, .int x1), (2, .int x2)] := hl
        have hy8 : y8 < 6 := f_Model_entryOf_lt ho7
        refine lv_iload_n hx hb d_Model_entry_37 rfl (lv_at hl 0 rfl) ?_
        refine lv_if_ge (tgt := 48) hx hb d_Model_entry_38 (by decide) (fun _ => ?_) (fun h => absurd (nI_pos' (by omega)) h)
        refine lv_iload_n hx hb d_Model_entry_48 rfl (lv_at hl 3 rfl) ?_
        refine lv_iconst (v := 3) hx hb d_Model_entry_49 (by decide) ?_
        refine lv_icmp_ge (tgt := 88) hx hb d_Model_entry_50 (by decide) (fun h10 => ?_) (fun h10 => ?_)
        · skip
          refine lv_iload_n hx hb d_Model_entry_88 rfl (lv_at hl 3 rfl) ?_
          refine lv_iconst (v := 3) hx hb d_Model_entry_89 (by decide) ?_
          refine lv_icmp_ne (tgt := 103) hx hb d_Model_entry_90 (by decide) (fun h11 => ?_) (fun h11 => ?_)
          · skip
            refine lv_iload_n hx hb d_Model_entry_103 rfl (lv_at hl 3 rfl) ?_
            refine lv_iconst (v := 4) hx hb d_Model_entry_104 (by decide) ?_
            refine lv_icmp_ne (tgt := 125) hx hb d_Model_entry_105 (by decide) (fun h12 => ?_) (fun h12 => ?_)
            · skip
              refine lv_aload_n hx hb d_Model_entry_125 rfl (lv_at hl 1 rfl) ?_
              refine mg_78 X w d_Model_entry_126 ?_
              refine lv_iload_n hx hb d_Model_entry_129 rfl (lv_at hl 0 rfl) ?_
              refine ald_22 X w y8 (v := MI 22 y8) (by omega) rfl rfl d_Model_entry_130 ?_
              refine lv_if_le (tgt := 146) hx hb d_Model_entry_131 (by decide) (fun h13 => ?_) (fun h13 => ?_)
              · skip
                refine lv_lconst (v := 0) hx hb d_Model_entry_146 (by decide) ?_
                have hF : f_Model_entry MI ML x1 x2 = (0, up2 MI 35 0 0, ML) := by unfold f_Model_entry; rw [if_neg h2, if_neg h5, ho7, oc_some, if_pos h10, if_neg h11, if_neg h12, if_pos h13]
                exact klret X w hr hk ⟨by rw [hF], by rw [hF]⟩ d_Model_entry_147
              · skip
                refine lv_aload_n hx hb d_Model_entry_134 rfl (lv_at hl 1 rfl) ?_
                refine mg_78 X w d_Model_entry_135 ?_
                refine lv_iload_n hx hb d_Model_entry_138 rfl (lv_at hl 0 rfl) ?_
                refine ald_22 X w y8 (v := MI 22 y8) (by omega) rfl rfl d_Model_entry_139 ?_
                refine lv_iconst (v := 1) hx hb d_Model_entry_140 (by decide) ?_
                refine lv_isub hx hb d_Model_entry_141 ?_
                refine lv_i2l (v := ((MI 22 y8) - 1).toInt64) hx hb d_Model_entry_142 (rfl) ?_
                refine lv_goto (tgt := 147) hx hb d_Model_entry_143 (by decide) ?_
                have hF : f_Model_entry MI ML x1 x2 = (((MI 22 y8) - 1).toInt64, up2 MI 35 0 0, ML) := by unfold f_Model_entry; rw [if_neg h2, if_neg h5, ho7, oc_some, if_pos h10, if_neg h11, if_neg h12, if_neg h13]
                exact klret X w hr hk ⟨by rw [hF], by rw [hF]⟩ d_Model_entry_147
            · skip
              refine lv_aload_n hx hb d_Model_entry_108 rfl (lv_at hl 1 rfl) ?_
              refine mg_78 X w d_Model_entry_109 ?_
              refine lv_iload_n hx hb d_Model_entry_112 rfl (lv_at hl 0 rfl) ?_
              refine ald_22 X w y8 (v := MI 22 y8) (by omega) rfl rfl d_Model_entry_113 ?_
              refine lv_if_le (tgt := 121) hx hb d_Model_entry_114 (by decide) (fun h14 => ?_) (fun h14 => ?_)
              · skip
                refine lv_lconst (v := 0) hx hb d_Model_entry_121 (by decide) ?_
                refine lv_goto (tgt := 147) hx hb d_Model_entry_122 (by decide) ?_
                have hF : f_Model_entry MI ML x1 x2 = (0, up2 MI 35 0 0, ML) := by unfold f_Model_entry; rw [if_neg h2, if_neg h5, ho7, oc_some, if_pos h10, if_neg h11, if_pos h12, if_pos h14]
                exact klret X w hr hk ⟨by rw [hF], by rw [hF]⟩ d_Model_entry_147
              · skip
                refine lv_lconst (v := 1) hx hb d_Model_entry_117 (by decide) ?_
                refine lv_goto (tgt := 147) hx hb d_Model_entry_118 (by decide) ?_
                have hF : f_Model_entry MI ML x1 x2 = (1, up2 MI 35 0 0, ML) := by unfold f_Model_entry; rw [if_neg h2, if_neg h5, ho7, oc_some, if_pos h10, if_neg h11, if_pos h12, if_neg h14]
                exact klret X w hr hk ⟨by rw [hF], by rw [hF]⟩ d_Model_entry_147
          · skip
            refine lv_aload_n hx hb d_Model_entry_93 rfl (lv_at hl 1 rfl) ?_
            refine mg_72 X w d_Model_entry_94 ?_
            refine lv_iload_n hx hb d_Model_entry_97 rfl (lv_at hl 0 rfl) ?_
            refine ald_20 X w y8 (v := MI 20 y8) (by omega) rfl rfl d_Model_entry_98 ?_
            refine lv_i2l (v := (MI 20 y8).toInt64) hx hb d_Model_entry_99 (rfl) ?_
            refine lv_goto (tgt := 147) hx hb d_Model_entry_100 (by decide) ?_
            have hF : f_Model_entry MI ML x1 x2 = ((MI 20 y8).toInt64, up2 MI 35 0 0, ML) := by unfold f_Model_entry; rw [if_neg h2, if_neg h5, ho7, oc_some, if_pos h10, if_pos h11]
            exact klret X w hr hk ⟨by rw [hF], by rw [hF]⟩ d_Model_entry_147
        · skip
          refine lv_iload_n hx hb d_Model_entry_53 rfl (lv_at hl 3 rfl) ?_
          refine lv_if_ne (tgt := 67) hx hb d_Model_entry_54 (by decide) (fun h15 => ?_) (fun h15 => ?_)
          · skip
            refine lv_iload_n hx hb d_Model_entry_67 rfl (lv_at hl 3 rfl) ?_
            refine lv_iconst (v := 1) hx hb d_Model_entry_68 (by decide) ?_
            refine lv_icmp_ne (tgt := 81) hx hb d_Model_entry_69 (by decide) (fun h16 => ?_) (fun h16 => ?_)
            · skip
              refine lv_aload_n hx hb d_Model_entry_81 rfl (lv_at hl 1 rfl) ?_
              refine mg_69 X w d_Model_entry_82 ?_
              refine lv_iload_n hx hb d_Model_entry_85 rfl (lv_at hl 0 rfl) ?_
              refine ald_19 X w y8 (v := ML 19 y8) (by omega) rfl rfl d_Model_entry_86 ?_
              have hF : f_Model_entry MI ML x1 x2 = (ML 19 y8, up2 MI 35 0 0, ML) := by unfold f_Model_entry; rw [if_neg h2, if_neg h5, ho7, oc_some, if_neg h10, if_neg h15, if_neg h16]
              exact klret X w hr hk ⟨by rw [hF], by rw [hF]⟩ d_Model_entry_87
            · skip
              refine lv_aload_n hx hb d_Model_entry_72 rfl (lv_at hl 1 rfl) ?_
              refine mg_66 X w d_Model_entry_73 ?_
              refine lv_iload_n hx hb d_Model_entry_76 rfl (lv_at hl 0 rfl) ?_
              refine ald_18 X w y8 (v := ML 18 y8) (by omega) rfl rfl d_Model_entry_77 ?_
              refine lv_goto (tgt := 87) hx hb d_Model_entry_78 (by decide) ?_
              have hF : f_Model_entry MI ML x1 x2 = (ML 18 y8, up2 MI 35 0 0, ML) := by unfold f_Model_entry; rw [if_neg h2, if_neg h5, ho7, oc_some, if_neg h10, if_neg h15, if_pos h16]
              exact klret X w hr hk ⟨by rw [hF], by rw [hF]⟩ d_Model_entry_87
          · skip
            refine lv_aload_n hx hb d_Model_entry_57 rfl (lv_at hl 1 rfl) ?_
            refine mg_63 X w d_Model_entry_58 ?_
            refine lv_iload_n hx hb d_Model_entry_61 rfl (lv_at hl 0 rfl) ?_
            refine ald_17 X w y8 (v := MI 17 y8) (by omega) rfl rfl d_Model_entry_62 ?_
            refine lv_i2l (v := (MI 17 y8).toInt64) hx hb d_Model_entry_63 (rfl) ?_
            refine lv_goto (tgt := 87) hx hb d_Model_entry_64 (by decide) ?_
            have hF : f_Model_entry MI ML x1 x2 = ((MI 17 y8).toInt64, up2 MI 35 0 0, ML) := by unfold f_Model_entry; rw [if_neg h2, if_neg h5, ho7, oc_some, if_neg h10, if_pos h15]
            exact klret X w hr hk ⟨by rw [hF], by rw [hF]⟩ d_Model_entry_87
    · skip
      refine lv_aload_n hx hb d_Model_entry_24 rfl (lv_at hl 0 rfl) ?_
      refine lv_iconst (v := 1) hx hb d_Model_entry_25 (by decide) ?_
      refine kcalli (ws0 := []) w (krunV (ws0 := []) (wc := mws ac o ad (up2 MI 35 0 0) ML) (n := 1) (As := [.int 1]) (rest := []) (C := R_Model) X w (c_Model_fail l D ac o ad (up2 MI 35 0 0) ML _ 1) wk_Model_fail wi_Model wm_Model_153 wx_Model_fail ws_Model_Model_fail (by decide +kernel) rfl rfl ⟨(Nat.le_of_ble_eq_true rfl), (Nat.le_of_ble_eq_true rfl)⟩ ⟨(Nat.le_of_ble_eq_true rfl), (Nat.le_of_ble_eq_true rfl)⟩ (mrecv X w) rfl hl.1 rfl (Nat.le_of_ble_eq_true rfl) d_Model_entry_26) (fun r17 u H locs hp w => ?_)
      obtain ⟨rfl, rfl⟩ := hp
      have w : Wo D _ (mws ac o ad (up2 (up2 MI 35 0 0) 35 0 1) ML) s.heap H locs := w
      refine W.eq (g2 := F0 m 29 ls (.int 0 :: [])) rfl ?_
      refine lv_i2l (v := 0) hx hb d_Model_entry_29 (by decide) ?_
      have hF : f_Model_entry MI ML x1 x2 = (0, up2 (up2 MI 35 0 0) 35 0 1, ML) := by unfold f_Model_entry; rw [if_neg h2, if_pos h5]
      exact klret X w hr hk ⟨by rw [hF], by rw [hF]⟩ d_Model_entry_30
def f_Model_operate_134 (MI : Nat → Nat → Int32) (ML : Nat → Nat → Int64) (c : Nat) (x2 : Int32) (a : Nat) : Int32 × (Nat → Nat → Int32) × (Nat → Nat → Int64) :=
  oc (f_Model_placeOf MI ML c a) (
    if x2 = 0 then
      (0, up2 (up2 (up2 (up2 (up2 (up2 (up2 MI 1 c 1) 28 (tn ((up2 MI 1 c 1) 38 0)) 1) 29 (tn ((up2 MI 1 c 1) 38 0)) (nI a)) 30 (tn ((up2 MI 1 c 1) 38 0)) (nI c)) 31 (tn ((up2 MI 1 c 1) 38 0)) 1) 32 (tn ((up2 MI 1 c 1) 38 0)) 0) 38 0 (nI ((tn ((up2 MI 1 c 1) 38 0)) + 1)), up2 (up2 ML 33 (tn ((up2 MI 1 c 1) 38 0)) (ML 0 c)) 34 (tn ((up2 MI 1 c 1) 38 0)) (-1))
    else
      (0, up2 (up2 (up2 (up2 (up2 (up2 (up2 MI 1 c 1) 28 (tn ((up2 MI 1 c 1) 38 0)) 2) 29 (tn ((up2 MI 1 c 1) 38 0)) (nI a)) 30 (tn ((up2 MI 1 c 1) 38 0)) (nI c)) 31 (tn ((up2 MI 1 c 1) 38 0)) 1) 32 (tn ((up2 MI 1 c 1) 38 0)) 0) 38 0 (nI ((tn ((up2 MI 1 c 1) 38 0)) + 1)), up2 (up2 ML 33 (tn ((up2 MI 1 c 1) 38 0)) (ML 0 c)) 34 (tn ((up2 MI 1 c 1) 38 0)) (-1)))
    (fun y3 =>
    if (f_Model_can MI ML c y3) = 0 then
      if x2 = 0 then
        (0, up2 (up2 (up2 (up2 (up2 (up2 (up2 MI 1 c 1) 28 (tn ((up2 MI 1 c 1) 38 0)) 1) 29 (tn ((up2 MI 1 c 1) 38 0)) (nI a)) 30 (tn ((up2 MI 1 c 1) 38 0)) (nI c)) 31 (tn ((up2 MI 1 c 1) 38 0)) 1) 32 (tn ((up2 MI 1 c 1) 38 0)) 0) 38 0 (nI ((tn ((up2 MI 1 c 1) 38 0)) + 1)), up2 (up2 ML 33 (tn ((up2 MI 1 c 1) 38 0)) (ML 0 c)) 34 (tn ((up2 MI 1 c 1) 38 0)) (ML 13 y3))
      else
        (0, up2 (up2 (up2 (up2 (up2 (up2 (up2 MI 1 c 1) 28 (tn ((up2 MI 1 c 1) 38 0)) 2) 29 (tn ((up2 MI 1 c 1) 38 0)) (nI a)) 30 (tn ((up2 MI 1 c 1) 38 0)) (nI c)) 31 (tn ((up2 MI 1 c 1) 38 0)) 1) 32 (tn ((up2 MI 1 c 1) 38 0)) 0) 38 0 (nI ((tn ((up2 MI 1 c 1) 38 0)) + 1)), up2 (up2 ML 33 (tn ((up2 MI 1 c 1) 38 0)) (ML 0 c)) 34 (tn ((up2 MI 1 c 1) 38 0)) (ML 13 y3))
    else
      (1, (f_Model_does MI ML c y3).1, (f_Model_does MI ML c y3).2))
set_option maxHeartbeats 4000000 in
set_option maxRecDepth 100000 in
theorem g_Model_operate_134 {p : Program} {l : Launch} {ev : Env} {s : State} {m : MethodId} {args : Array Value} {below : List Frame} {meth : Method} {c0 : Code} {D : va_G} {ac : Nat → ClassId} {o : Nat} {ad : Nat → Nat} {ws0 : va_W} {sz : Nat} {post : Int32 → va_W → Prop} (X : Cx b_Model_operate 7 R_Model D ac p m args c0 s) (hr : meth.sig.returnType = (some .boolean)) (hk : meth.locks = false) (MI : Nat → Nat → Int32) (ML : Nat → Nat → Int64) (c : Nat) (x2 : Int32) (a : Nat) (hc : c < 3) (ha : a < 12) (hm : MI 38 0 = nI (tn (MI 38 0))) (hm20 : tn (MI 38 0) < 20) {H : Heap} {locs : List Loc} {ls : Array Slot} (w : Wo D (va_A ws0 sz) (mws ac o ad MI ML) s.heap H locs) (hl : lv_has ls 7 [(0, .ref o), (1, .int (nI c)), (2, .int x2), (3, .int (nI a))]) (hp : post ((f_Model_operate_134 MI ML c x2 a).1) (mws ac o ad (f_Model_operate_134 MI ML c x2 a).2.1 (f_Model_operate_134 MI ML c x2 a).2.2)) : W p l ev ({ frames := 2, cells := 0, slots := 0, locals := 46 } : Room) s m args below meth c0 H locs 0 0 (MQ below (va_Qi post (CPost D ws0 sz) (va_A ws0 sz)) args s 0 0 (va_A ws0 sz)) (F0 m 134 ls []) := by
  have hx := X.1
  have hb := X.2.1
  refine lv_aload_n hx hb d_Model_operate_134 rfl (lv_at hl 0 rfl) ?_
  refine lv_iload_n hx hb d_Model_operate_135 rfl (lv_at hl 1 rfl) ?_
  refine lv_iload_n hx hb d_Model_operate_136 rfl (lv_at hl 3 rfl) ?_
  refine kcalli (ws0 := []) w (krunV (ws0 := []) (wc := mws ac o ad MI ML) (n := 2) (As := [.int (nI c), .int (nI a)]) (rest := []) (C := R_Model) X w (c_Model_placeOf l D ac o ad MI ML _ c a hc ha) wk_Model_placeOf wi_Model wm_Model_134 wx_Model_placeOf ws_Model_Model_placeOf (by decide +kernel) rfl rfl ⟨(Nat.le_of_ble_eq_true rfl), (Nat.le_of_ble_eq_true rfl)⟩ ⟨(Nat.le_of_ble_eq_true rfl), (Nat.le_of_ble_eq_true rfl)⟩ (mrecv X w) rfl hl.1 rfl (Nat.le_of_ble_eq_true rfl) d_Model_operate_137) (fun r1 u H locs hp w => ?_)
  obtain ⟨rfl, rfl⟩ := hp
  have w : Wo D _ (mws ac o ad MI ML) s.heap H locs := w
  refine lv_istore (lv' := [(6, .int (oI (f_Model_placeOf MI ML c a))), (0, .ref o), (1, .int (nI c)), (2, .int x2), (3, .int (nI a))]) hx hb d_Model_operate_140 hl (by decide) rfl (fun ls hl => ?_)
  cases ho2 : f_Model_placeOf MI ML c a with
  | none =>
    rw [ho2] at hl
    have hl : lv_has ls 7 [(6, .int (-1)), (0, .ref o), (1, .int (nI c)), (2, .int x2), (3, .int (nI a))] := hl
    refine lv_aload_n hx hb d_Model_operate_142 rfl (lv_at hl 1 rfl) ?_
    refine lv_iload_n hx hb d_Model_operate_143 rfl (lv_at hl 2 rfl) ?_
    refine lv_iload hx hb d_Model_operate_144 (lv_at hl 0 rfl) ?_
    refine kcalli (ws0 := []) w (krunV (ws0 := []) (wc := mws ac o ad MI ML) (n := 2) (As := [.int (nI c), .int (-1)]) (rest := []) (C := R_Model) X w (c_Model_can_n l D ac o ad MI ML _ c (-1) rfl) wk_Model_can wi_Model wm_Model_157 wx_Model_can ws_Model_Model_can (by decide +kernel) rfl rfl ⟨(Nat.le_of_ble_eq_true rfl), (Nat.le_of_ble_eq_true rfl)⟩ ⟨(Nat.le_of_ble_eq_true rfl), (Nat.le_of_ble_eq_true rfl)⟩ (mrecv X w) rfl hl.1 rfl (Nat.le_of_ble_eq_true rfl) d_Model_operate_146) (fun r4 u H locs hp w => ?_)
    obtain ⟨rfl, rfl⟩ := hp
    have w : Wo D _ (mws ac o ad MI ML) s.heap H locs := w
    refine W.eq (g2 := F0 m 149 ls (.int 0 :: [])) rfl ?_
    refine lv_if_eq (tgt := 161) hx hb d_Model_operate_149 (by decide) (fun _ => ?_) (fun h => absurd h (by decide))
    refine lv_aload_n hx hb d_Model_operate_161 rfl (lv_at hl 1 rfl) ?_
    refine mg_13 X w d_Model_operate_162 ?_
    refine lv_iload_n hx hb d_Model_operate_165 rfl (lv_at hl 2 rfl) ?_
    refine lv_iconst (v := 1) hx hb d_Model_operate_166 (by decide) ?_
    refine ast_1 X w c (by decide) (by omega) rfl d_Model_operate_167 (fun H locs w => ?_)
    refine lv_aload_n hx hb d_Model_operate_168 rfl (lv_at hl 1 rfl) ?_
    refine lv_iload_n hx hb d_Model_operate_169 rfl (lv_at hl 3 rfl) ?_
    refine lv_if_ne (tgt := 177) hx hb d_Model_operate_170 (by decide) (fun h5 => ?_) (fun h5 => ?_)
    · skip
      refine lv_iconst (v := 2) hx hb d_Model_operate_177 (by decide) ?_
      refine lv_iload_n hx hb d_Model_operate_178 rfl (lv_at hl 4 rfl) ?_
      refine lv_iload_n hx hb d_Model_operate_179 rfl (lv_at hl 2 rfl) ?_
      refine lv_iconst (v := 1) hx hb d_Model_operate_180 (by decide) ?_
      refine lv_iconst (v := 0) hx hb d_Model_operate_181 (by decide) ?_
      refine lv_aload_n hx hb d_Model_operate_182 rfl (lv_at hl 1 rfl) ?_
      refine mg_7 X w d_Model_operate_183 ?_
      refine lv_iload_n hx hb d_Model_operate_186 rfl (lv_at hl 2 rfl) ?_
      refine ald_0 X w c (v := ML 0 c) (by omega) rfl rfl d_Model_operate_187 ?_
      refine lv_iload hx hb d_Model_operate_188 (lv_at hl 0 rfl) ?_
      refine lv_if_ge (tgt := 199) hx hb d_Model_operate_190 (by decide) (fun h => absurd h (by decide)) (fun _ => ?_)
      refine lv_ldc2 (v := -1) hx hb X.2.2.2.1 (X.2.2.2.2.1.at wl_Model_165) d_Model_operate_193 ?_
      refine lv_goto (tgt := 206) hx hb d_Model_operate_196 (by decide) ?_
      refine kcallv (ws0 := []) w (krunV (ws0 := []) (wc := mws ac o ad (up2 MI 1 c 1) ML) (n := 7) (As := [.int 2, .int (nI a), .int (nI c), .int 1, .int 0, .long (ML 0 c), .long (-1)]) (rest := []) (C := R_Model) X w (c_Model_send l D ac o ad (up2 MI 1 c 1) ML _ 2 (nI a) (nI c) 1 0 (ML 0 c) (-1) hm (Nat.lt_trans hm20 (by decide)) (by decide)) wk_Model_send wi_Model wm_Model_138 wx_Model_send ws_Model_Model_send (by decide +kernel) rfl rfl ⟨(Nat.le_of_ble_eq_true rfl), (Nat.le_of_ble_eq_true rfl)⟩ ⟨(Nat.le_of_ble_eq_true rfl), (Nat.le_of_ble_eq_true rfl)⟩ (mrecv X w) rfl hl.1 rfl (Nat.le_of_ble_eq_true rfl) d_Model_operate_206) (fun u H locs hp w => ?_)
      obtain rfl := hp
      have w : Wo D _ (mws ac o ad (up2 (up2 (up2 (up2 (up2 (up2 (up2 MI 1 c 1) 28 (tn ((up2 MI 1 c 1) 38 0)) 2) 29 (tn ((up2 MI 1 c 1) 38 0)) (nI a)) 30 (tn ((up2 MI 1 c 1) 38 0)) (nI c)) 31 (tn ((up2 MI 1 c 1) 38 0)) 1) 32 (tn ((up2 MI 1 c 1) 38 0)) 0) 38 0 (nI ((tn ((up2 MI 1 c 1) 38 0)) + 1))) (up2 (up2 ML 33 (tn ((up2 MI 1 c 1) 38 0)) (ML 0 c)) 34 (tn ((up2 MI 1 c 1) 38 0)) (-1))) s.heap H locs := w
      refine lv_iconst (v := 0) hx hb d_Model_operate_209 (by decide) ?_
      have hF : f_Model_operate_134 MI ML c x2 a = (0, up2 (up2 (up2 (up2 (up2 (up2 (up2 MI 1 c 1) 28 (tn ((up2 MI 1 c 1) 38 0)) 2) 29 (tn ((up2 MI 1 c 1) 38 0)) (nI a)) 30 (tn ((up2 MI 1 c 1) 38 0)) (nI c)) 31 (tn ((up2 MI 1 c 1) 38 0)) 1) 32 (tn ((up2 MI 1 c 1) 38 0)) 0) 38 0 (nI ((tn ((up2 MI 1 c 1) 38 0)) + 1)), up2 (up2 ML 33 (tn ((up2 MI 1 c 1) 38 0)) (ML 0 c)) 34 (tn ((up2 MI 1 c 1) 38 0)) (-1)) := by unfold f_Model_operate_134; rw [ho2, oc_none, if_neg h5]
      exact kzret X w hr hk (by decide) (by rw [hF] at hp; exact hp) d_Model_operate_210
    · skip
      refine lv_iconst (v := 1) hx hb d_Model_operate_173 (by decide) ?_
      refine lv_goto (tgt := 178) hx hb d_Model_operate_174 (by decide) ?_
      refine lv_iload_n hx hb d_Model_operate_178 rfl (lv_at hl 4 rfl) ?_
      refine lv_iload_n hx hb d_Model_operate_179 rfl (lv_at hl 2 rfl) ?_
      refine lv_iconst (v := 1) hx hb d_Model_operate_180 (by decide) ?_
      refine lv_iconst (v := 0) hx hb d_Model_operate_181 (by decide) ?_
      refine lv_aload_n hx hb d_Model_operate_182 rfl (lv_at hl 1 rfl) ?_
      refine mg_7 X w d_Model_operate_183 ?_
      refine lv_iload_n hx hb d_Model_operate_186 rfl (lv_at hl 2 rfl) ?_
      refine ald_0 X w c (v := ML 0 c) (by omega) rfl rfl d_Model_operate_187 ?_
      refine lv_iload hx hb d_Model_operate_188 (lv_at hl 0 rfl) ?_
      refine lv_if_ge (tgt := 199) hx hb d_Model_operate_190 (by decide) (fun h => absurd h (by decide)) (fun _ => ?_)
      refine lv_ldc2 (v := -1) hx hb X.2.2.2.1 (X.2.2.2.2.1.at wl_Model_165) d_Model_operate_193 ?_
      refine lv_goto (tgt := 206) hx hb d_Model_operate_196 (by decide) ?_
      refine kcallv (ws0 := []) w (krunV (ws0 := []) (wc := mws ac o ad (up2 MI 1 c 1) ML) (n := 7) (As := [.int 1, .int (nI a), .int (nI c), .int 1, .int 0, .long (ML 0 c), .long (-1)]) (rest := []) (C := R_Model) X w (c_Model_send l D ac o ad (up2 MI 1 c 1) ML _ 1 (nI a) (nI c) 1 0 (ML 0 c) (-1) hm (Nat.lt_trans hm20 (by decide)) (by decide)) wk_Model_send wi_Model wm_Model_138 wx_Model_send ws_Model_Model_send (by decide +kernel) rfl rfl ⟨(Nat.le_of_ble_eq_true rfl), (Nat.le_of_ble_eq_true rfl)⟩ ⟨(Nat.le_of_ble_eq_true rfl), (Nat.le_of_ble_eq_true rfl)⟩ (mrecv X w) rfl hl.1 rfl (Nat.le_of_ble_eq_true rfl) d_Model_operate_206) (fun u H locs hp w => ?_)
      obtain rfl := hp
      have w : Wo D _ (mws ac o ad (up2 (up2 (up2 (up2 (up2 (up2 (up2 MI 1 c 1) 28 (tn ((up2 MI 1 c 1) 38 0)) 1) 29 (tn ((up2 MI 1 c 1) 38 0)) (nI a)) 30 (tn ((up2 MI 1 c 1) 38 0)) (nI c)) 31 (tn ((up2 MI 1 c 1) 38 0)) 1) 32 (tn ((up2 MI 1 c 1) 38 0)) 0) 38 0 (nI ((tn ((up2 MI 1 c 1) 38 0)) + 1))) (up2 (up2 ML 33 (tn ((up2 MI 1 c 1) 38 0)) (ML 0 c)) 34 (tn ((up2 MI 1 c 1) 38 0)) (-1))) s.heap H locs := w
      refine lv_iconst (v := 0) hx hb d_Model_operate_209 (by decide) ?_
      have hF : f_Model_operate_134 MI ML c x2 a = (0, up2 (up2 (up2 (up2 (up2 (up2 (up2 MI 1 c 1) 28 (tn ((up2 MI 1 c 1) 38 0)) 1) 29 (tn ((up2 MI 1 c 1) 38 0)) (nI a)) 30 (tn ((up2 MI 1 c 1) 38 0)) (nI c)) 31 (tn ((up2 MI 1 c 1) 38 0)) 1) 32 (tn ((up2 MI 1 c 1) 38 0)) 0) 38 0 (nI ((tn ((up2 MI 1 c 1) 38 0)) + 1)), up2 (up2 ML 33 (tn ((up2 MI 1 c 1) 38 0)) (ML 0 c)) 34 (tn ((up2 MI 1 c 1) 38 0)) (-1)) := by unfold f_Model_operate_134; rw [ho2, oc_none, if_pos h5]
      exact kzret X w hr hk (by decide) (by rw [hF] at hp; exact hp) d_Model_operate_210
  | some y3 =>
    rw [ho2] at hl
    have hl : lv_has ls 7 [(6, .int (nI y3)), (0, .ref o), (1, .int (nI c)), (2, .int x2), (3, .int (nI a))] := hl
    have hy3 := f_Model_placeOf_lt ho2
    have hy3b : y3 < 12 := by omega
    refine lv_aload_n hx hb d_Model_operate_142 rfl (lv_at hl 1 rfl) ?_
    refine lv_iload_n hx hb d_Model_operate_143 rfl (lv_at hl 2 rfl) ?_
    refine lv_iload hx hb d_Model_operate_144 (lv_at hl 0 rfl) ?_
    refine kcalli (ws0 := []) w (krunV (ws0 := []) (wc := mws ac o ad MI ML) (n := 2) (As := [.int (nI c), .int (nI y3)]) (rest := []) (C := R_Model) X w (c_Model_can l D ac o ad MI ML _ c y3 hc (by omega)) wk_Model_can wi_Model wm_Model_157 wx_Model_can ws_Model_Model_can (by decide +kernel) rfl rfl ⟨(Nat.le_of_ble_eq_true rfl), (Nat.le_of_ble_eq_true rfl)⟩ ⟨(Nat.le_of_ble_eq_true rfl), (Nat.le_of_ble_eq_true rfl)⟩ (mrecv X w) rfl hl.1 rfl (Nat.le_of_ble_eq_true rfl) d_Model_operate_146) (fun r6 u H locs hp w => ?_)
    obtain ⟨rfl, rfl⟩ := hp
    have w : Wo D _ (mws ac o ad MI ML) s.heap H locs := w
    refine lv_if_eq (tgt := 161) hx hb d_Model_operate_149 (by decide) (fun h7 => ?_) (fun h7 => ?_)
    · skip
      refine lv_aload_n hx hb d_Model_operate_161 rfl (lv_at hl 1 rfl) ?_
      refine mg_13 X w d_Model_operate_162 ?_
      refine lv_iload_n hx hb d_Model_operate_165 rfl (lv_at hl 2 rfl) ?_
      refine lv_iconst (v := 1) hx hb d_Model_operate_166 (by decide) ?_
      refine ast_1 X w c (by decide) (by omega) rfl d_Model_operate_167 (fun H locs w => ?_)
      refine lv_aload_n hx hb d_Model_operate_168 rfl (lv_at hl 1 rfl) ?_
      refine lv_iload_n hx hb d_Model_operate_169 rfl (lv_at hl 3 rfl) ?_
      refine lv_if_ne (tgt := 177) hx hb d_Model_operate_170 (by decide) (fun h8 => ?_) (fun h8 => ?_)
      · skip
        refine lv_iconst (v := 2) hx hb d_Model_operate_177 (by decide) ?_
        refine lv_iload_n hx hb d_Model_operate_178 rfl (lv_at hl 4 rfl) ?_
        refine lv_iload_n hx hb d_Model_operate_179 rfl (lv_at hl 2 rfl) ?_
        refine lv_iconst (v := 1) hx hb d_Model_operate_180 (by decide) ?_
        refine lv_iconst (v := 0) hx hb d_Model_operate_181 (by decide) ?_
        refine lv_aload_n hx hb d_Model_operate_182 rfl (lv_at hl 1 rfl) ?_
        refine mg_7 X w d_Model_operate_183 ?_
        refine lv_iload_n hx hb d_Model_operate_186 rfl (lv_at hl 2 rfl) ?_
        refine ald_0 X w c (v := ML 0 c) (by omega) rfl rfl d_Model_operate_187 ?_
        refine lv_iload hx hb d_Model_operate_188 (lv_at hl 0 rfl) ?_
        refine lv_if_ge (tgt := 199) hx hb d_Model_operate_190 (by decide) (fun _ => ?_) (fun h => absurd (nI_pos' (by omega)) h)
        refine lv_aload_n hx hb d_Model_operate_199 rfl (lv_at hl 1 rfl) ?_
        refine mg_51 X w d_Model_operate_200 ?_
        refine lv_iload hx hb d_Model_operate_203 (lv_at hl 0 rfl) ?_
        refine ald_13 X w y3 (v := ML 13 y3) (by omega) rfl rfl d_Model_operate_205 ?_
        refine kcallv (ws0 := []) w (krunV (ws0 := []) (wc := mws ac o ad (up2 MI 1 c 1) ML) (n := 7) (As := [.int 2, .int (nI a), .int (nI c), .int 1, .int 0, .long (ML 0 c), .long (ML 13 y3)]) (rest := []) (C := R_Model) X w (c_Model_send l D ac o ad (up2 MI 1 c 1) ML _ 2 (nI a) (nI c) 1 0 (ML 0 c) (ML 13 y3) hm (Nat.lt_trans hm20 (by decide)) (by decide)) wk_Model_send wi_Model wm_Model_138 wx_Model_send ws_Model_Model_send (by decide +kernel) rfl rfl ⟨(Nat.le_of_ble_eq_true rfl), (Nat.le_of_ble_eq_true rfl)⟩ ⟨(Nat.le_of_ble_eq_true rfl), (Nat.le_of_ble_eq_true rfl)⟩ (mrecv X w) rfl hl.1 rfl (Nat.le_of_ble_eq_true rfl) d_Model_operate_206) (fun u H locs hp w => ?_)
        obtain rfl := hp
        have w : Wo D _ (mws ac o ad (up2 (up2 (up2 (up2 (up2 (up2 (up2 MI 1 c 1) 28 (tn ((up2 MI 1 c 1) 38 0)) 2) 29 (tn ((up2 MI 1 c 1) 38 0)) (nI a)) 30 (tn ((up2 MI 1 c 1) 38 0)) (nI c)) 31 (tn ((up2 MI 1 c 1) 38 0)) 1) 32 (tn ((up2 MI 1 c 1) 38 0)) 0) 38 0 (nI ((tn ((up2 MI 1 c 1) 38 0)) + 1))) (up2 (up2 ML 33 (tn ((up2 MI 1 c 1) 38 0)) (ML 0 c)) 34 (tn ((up2 MI 1 c 1) 38 0)) (ML 13 y3))) s.heap H locs := w
        refine lv_iconst (v := 0) hx hb d_Model_operate_209 (by decide) ?_
        have hF : f_Model_operate_134 MI ML c x2 a = (0, up2 (up2 (up2 (up2 (up2 (up2 (up2 MI 1 c 1) 28 (tn ((up2 MI 1 c 1) 38 0)) 2) 29 (tn ((up2 MI 1 c 1) 38 0)) (nI a)) 30 (tn ((up2 MI 1 c 1) 38 0)) (nI c)) 31 (tn ((up2 MI 1 c 1) 38 0)) 1) 32 (tn ((up2 MI 1 c 1) 38 0)) 0) 38 0 (nI ((tn ((up2 MI 1 c 1) 38 0)) + 1)), up2 (up2 ML 33 (tn ((up2 MI 1 c 1) 38 0)) (ML 0 c)) 34 (tn ((up2 MI 1 c 1) 38 0)) (ML 13 y3)) := by unfold f_Model_operate_134; rw [ho2, oc_some, if_pos h7, if_neg h8]
        exact kzret X w hr hk (by decide) (by rw [hF] at hp; exact hp) d_Model_operate_210
      · skip
        refine lv_iconst (v := 1) hx hb d_Model_operate_173 (by decide) ?_
        refine lv_goto (tgt := 178) hx hb d_Model_operate_174 (by decide) ?_
        refine lv_iload_n hx hb d_Model_operate_178 rfl (lv_at hl 4 rfl) ?_
        refine lv_iload_n hx hb d_Model_operate_179 rfl (lv_at hl 2 rfl) ?_
        refine lv_iconst (v := 1) hx hb d_Model_operate_180 (by decide) ?_
        refine lv_iconst (v := 0) hx hb d_Model_operate_181 (by decide) ?_
        refine lv_aload_n hx hb d_Model_operate_182 rfl (lv_at hl 1 rfl) ?_
        refine mg_7 X w d_Model_operate_183 ?_
        refine lv_iload_n hx hb d_Model_operate_186 rfl (lv_at hl 2 rfl) ?_
        refine ald_0 X w c (v := ML 0 c) (by omega) rfl rfl d_Model_operate_187 ?_
        refine lv_iload hx hb d_Model_operate_188 (lv_at hl 0 rfl) ?_
        refine lv_if_ge (tgt := 199) hx hb d_Model_operate_190 (by decide) (fun _ => ?_) (fun h => absurd (nI_pos' (by omega)) h)
        refine lv_aload_n hx hb d_Model_operate_199 rfl (lv_at hl 1 rfl) ?_
        refine mg_51 X w d_Model_operate_200 ?_
        refine lv_iload hx hb d_Model_operate_203 (lv_at hl 0 rfl) ?_
        refine ald_13 X w y3 (v := ML 13 y3) (by omega) rfl rfl d_Model_operate_205 ?_
        refine kcallv (ws0 := []) w (krunV (ws0 := []) (wc := mws ac o ad (up2 MI 1 c 1) ML) (n := 7) (As := [.int 1, .int (nI a), .int (nI c), .int 1, .int 0, .long (ML 0 c), .long (ML 13 y3)]) (rest := []) (C := R_Model) X w (c_Model_send l D ac o ad (up2 MI 1 c 1) ML _ 1 (nI a) (nI c) 1 0 (ML 0 c) (ML 13 y3) hm (Nat.lt_trans hm20 (by decide)) (by decide)) wk_Model_send wi_Model wm_Model_138 wx_Model_send ws_Model_Model_send (by decide +kernel) rfl rfl ⟨(Nat.le_of_ble_eq_true rfl), (Nat.le_of_ble_eq_true rfl)⟩ ⟨(Nat.le_of_ble_eq_true rfl), (Nat.le_of_ble_eq_true rfl)⟩ (mrecv X w) rfl hl.1 rfl (Nat.le_of_ble_eq_true rfl) d_Model_operate_206) (fun u H locs hp w => ?_)
        obtain rfl := hp
        have w : Wo D _ (mws ac o ad (up2 (up2 (up2 (up2 (up2 (up2 (up2 MI 1 c 1) 28 (tn ((up2 MI 1 c 1) 38 0)) 1) 29 (tn ((up2 MI 1 c 1) 38 0)) (nI a)) 30 (tn ((up2 MI 1 c 1) 38 0)) (nI c)) 31 (tn ((up2 MI 1 c 1) 38 0)) 1) 32 (tn ((up2 MI 1 c 1) 38 0)) 0) 38 0 (nI ((tn ((up2 MI 1 c 1) 38 0)) + 1))) (up2 (up2 ML 33 (tn ((up2 MI 1 c 1) 38 0)) (ML 0 c)) 34 (tn ((up2 MI 1 c 1) 38 0)) (ML 13 y3))) s.heap H locs := w
        refine lv_iconst (v := 0) hx hb d_Model_operate_209 (by decide) ?_
        have hF : f_Model_operate_134 MI ML c x2 a = (0, up2 (up2 (up2 (up2 (up2 (up2 (up2 MI 1 c 1) 28 (tn ((up2 MI 1 c 1) 38 0)) 1) 29 (tn ((up2 MI 1 c 1) 38 0)) (nI a)) 30 (tn ((up2 MI 1 c 1) 38 0)) (nI c)) 31 (tn ((up2 MI 1 c 1) 38 0)) 1) 32 (tn ((up2 MI 1 c 1) 38 0)) 0) 38 0 (nI ((tn ((up2 MI 1 c 1) 38 0)) + 1)), up2 (up2 ML 33 (tn ((up2 MI 1 c 1) 38 0)) (ML 0 c)) 34 (tn ((up2 MI 1 c 1) 38 0)) (ML 13 y3)) := by unfold f_Model_operate_134; rw [ho2, oc_some, if_pos h7, if_pos h8]
        exact kzret X w hr hk (by decide) (by rw [hF] at hp; exact hp) d_Model_operate_210
    · skip
      refine lv_aload_n hx hb d_Model_operate_152 rfl (lv_at hl 1 rfl) ?_
      refine lv_iload_n hx hb d_Model_operate_153 rfl (lv_at hl 2 rfl) ?_
      refine lv_iload hx hb d_Model_operate_154 (lv_at hl 0 rfl) ?_
      refine kcallv (ws0 := []) w (krunV (ws0 := []) (wc := mws ac o ad MI ML) (n := 2) (As := [.int (nI c), .int (nI y3)]) (rest := []) (C := R_Model) X w (c_Model_does l D ac o ad MI ML _ c y3 hc (by omega)) wk_Model_does wi_Model wm_Model_161 wx_Model_does ws_Model_Model_does (by decide +kernel) rfl rfl ⟨(Nat.le_of_ble_eq_true rfl), (Nat.le_of_ble_eq_true rfl)⟩ ⟨(Nat.le_of_ble_eq_true rfl), (Nat.le_of_ble_eq_true rfl)⟩ (mrecv X w) rfl hl.1 rfl (Nat.le_of_ble_eq_true rfl) d_Model_operate_156) (fun u H locs hp w => ?_)
      obtain rfl := hp
      have w : Wo D _ (mws ac o ad ((f_Model_does MI ML c y3).1) ((f_Model_does MI ML c y3).2)) s.heap H locs := w
      refine lv_iconst (v := 1) hx hb d_Model_operate_159 (by decide) ?_
      have hF : f_Model_operate_134 MI ML c x2 a = (1, (f_Model_does MI ML c y3).1, (f_Model_does MI ML c y3).2) := by unfold f_Model_operate_134; rw [ho2, oc_some, if_neg h7]
      exact kzret X w hr hk (by decide) (by rw [hF] at hp; exact hp) d_Model_operate_160
def f_Model_operate (MI : Nat → Nat → Int32) (ML : Nat → Nat → Int64) (x1 : Int32) (x2 : Int32) (x3 : Int32) (v : Int32) (ex : Int32) : Int32 × (Nat → Nat → Int32) × (Nat → Nat → Int64) :=
  if (f_Model_within x1 0 2) = 0 then
    (0, up2 (up2 MI 35 0 0) 35 0 1, ML)
  else
    if (f_Model_within x2 0 2) = 0 then
      (0, up2 (up2 MI 35 0 0) 35 0 1, ML)
    else
      if (f_Model_within x3 0 11) = 0 then
        (0, up2 (up2 MI 35 0 0) 35 0 1, ML)
      else
        if (MI 1 (tn x1)) = 0 then
          if (((MI 6 (tn x1)) + 1) - ((MI 6 (tn x1)) + 1) / (MI 37 0) * (MI 37 0)) = 0 then
            f_Model_operate_134 (up2 (up2 (up2 (up2 (up2 (up2 MI 35 0 0) 2 (tn x1) x2) 3 (tn x1) x3) 4 (tn x1) v) 5 (tn x1) ex) 6 (tn x1) ((MI 6 (tn x1)) + 1)) (up2 ML 0 (tn x1) ((ML 0 (tn x1)) + 1)) (tn x1) x2 (tn x3)
          else
            f_Model_operate_134 (up2 (up2 (up2 (up2 (up2 (up2 MI 35 0 0) 2 (tn x1) x2) 3 (tn x1) x3) 4 (tn x1) v) 5 (tn x1) ex) 6 (tn x1) ((MI 6 (tn x1)) + 1)) ML (tn x1) x2 (tn x3)
        else
          (0, up2 (up2 MI 35 0 0) 35 0 2, ML)
set_option maxHeartbeats 4000000 in
set_option maxRecDepth 100000 in
theorem c_Model_operate (l : Launch) (D : va_G) (ac : Nat → ClassId) (o : Nat) (ad : Nat → Nat) (MI : Nat → Nat → Int32) (ML : Nat → Nat → Int64) (sz : Nat) (x1 : Int32) (x2 : Int32) (x3 : Int32) (v : Int32) (ex : Int32) (hm : MI 38 0 = nI (tn (MI 38 0))) (hm20 : tn (MI 38 0) < 20) (hpace : ¬ MI 37 0 = 0) : Met l y_Model_operate [Cond.code y_Model_operate b_Model_operate 7 (some .boolean)] { frames := 2, cells := 0, slots := 0, locals := 46 } (va_Pc [.ref o, .int x1, .int x2, .int x3, .int v, .int ex] (CPre D ac (mws ac o ad MI ML) sz)) (va_Qi (fun r u => r = (f_Model_operate MI ML x1 x2 x3 v ex).1 ∧ u = mws ac o ad (f_Model_operate MI ML x1 x2 x3 v ex).2.1 (f_Model_operate MI ML x1 x2 x3 v ex).2.2) (CPost D (mws ac o ad MI ML) sz) (va_A (mws ac o ad MI ML) sz)) 0 0 (va_A (mws ac o ad MI ML) sz) := by
  refine kofW (by decide) (Nat.le_of_ble_eq_true rfl) ?_
  intro p ev s m args below meth c0 ls X hr hk hnm hex hsz w hl
  have X : Cx b_Model_operate 7 R_Model D ac p m args c0 s := X
  have hx := X.1
  have hb := X.2.1
  have hl : lv_has ls 7 [(0, .ref o), (1, .int x1), (2, .int x2), (3, .int x3), (4, .int v), (5, .int ex)] := hl
  refine lv_aload_n hx hb d_Model_operate_0 rfl (lv_at hl 0 rfl) ?_
  refine lv_iconst (v := 0) hx hb d_Model_operate_1 (by decide) ?_
  refine mp_124 X w d_Model_operate_2 (fun H locs w => ?_)
  refine lv_iload_n hx hb d_Model_operate_5 rfl (lv_at hl 1 rfl) ?_
  refine lv_iconst (v := 0) hx hb d_Model_operate_6 (by decide) ?_
  refine lv_iconst (v := 2) hx hb d_Model_operate_7 (by decide) ?_
  refine kcalli (ws0 := []) w (krunS (ws0 := []) (wc := mws ac o ad (up2 MI 35 0 0) ML) (n := 3) (As := [.int x1, .int 0, .int 2]) (rest := []) X w (c_Model_within l D ac o ad (up2 MI 35 0 0) ML _ x1 0 2) wk_Model_within wi_Model wm_Model_149 wt_Model_within (by decide +kernel) rfl rfl ⟨(Nat.le_of_ble_eq_true rfl), (Nat.le_of_ble_eq_true rfl)⟩ ⟨(Nat.le_of_ble_eq_true rfl), (Nat.le_of_ble_eq_true rfl)⟩ rfl hl.1 rfl (Nat.le_of_ble_eq_true rfl) d_Model_operate_8) (fun r1 u H locs hp w => ?_)
  obtain ⟨rfl, rfl⟩ := hp
  have w : Wo D _ (mws ac o ad (up2 MI 35 0 0) ML) s.heap H locs := w
  refine lv_if_eq (tgt := 33) hx hb d_Model_operate_11 (by decide) (fun h2 => ?_) (fun h2 => ?_)
  · skip
    refine lv_aload_n hx hb d_Model_operate_33 rfl (lv_at hl 0 rfl) ?_
    refine lv_iconst (v := 1) hx hb d_Model_operate_34 (by decide) ?_
    refine kcalli (ws0 := []) w (krunV (ws0 := []) (wc := mws ac o ad (up2 MI 35 0 0) ML) (n := 1) (As := [.int 1]) (rest := []) (C := R_Model) X w (c_Model_fail l D ac o ad (up2 MI 35 0 0) ML _ 1) wk_Model_fail wi_Model wm_Model_153 wx_Model_fail ws_Model_Model_fail (by decide +kernel) rfl rfl ⟨(Nat.le_of_ble_eq_true rfl), (Nat.le_of_ble_eq_true rfl)⟩ ⟨(Nat.le_of_ble_eq_true rfl), (Nat.le_of_ble_eq_true rfl)⟩ (mrecv X w) rfl hl.1 rfl (Nat.le_of_ble_eq_true rfl) d_Model_operate_35) (fun r3 u H locs hp w => ?_)
    obtain ⟨rfl, rfl⟩ := hp
    have w : Wo D _ (mws ac o ad (up2 (up2 MI 35 0 0) 35 0 1) ML) s.heap H locs := w
    refine W.eq (g2 := F0 m 38 ls (.int 0 :: [])) rfl ?_
    refine lv_if_le (tgt := 45) hx hb d_Model_operate_38 (by decide) (fun _ => ?_) (fun h => absurd h (by decide))
    refine lv_iconst (v := 0) hx hb d_Model_operate_45 (by decide) ?_
    have hF : f_Model_operate MI ML x1 x2 x3 v ex = (0, up2 (up2 MI 35 0 0) 35 0 1, ML) := by unfold f_Model_operate; rw [if_pos h2]
    exact kzret X w hr hk (by decide) ⟨by rw [hF], by rw [hF]⟩ d_Model_operate_46
  · skip
    refine lv_iload_n hx hb d_Model_operate_14 rfl (lv_at hl 2 rfl) ?_
    refine lv_iconst (v := 0) hx hb d_Model_operate_15 (by decide) ?_
    refine lv_iconst (v := 2) hx hb d_Model_operate_16 (by decide) ?_
    refine kcalli (ws0 := []) w (krunS (ws0 := []) (wc := mws ac o ad (up2 MI 35 0 0) ML) (n := 3) (As := [.int x2, .int 0, .int 2]) (rest := []) X w (c_Model_within l D ac o ad (up2 MI 35 0 0) ML _ x2 0 2) wk_Model_within wi_Model wm_Model_149 wt_Model_within (by decide +kernel) rfl rfl ⟨(Nat.le_of_ble_eq_true rfl), (Nat.le_of_ble_eq_true rfl)⟩ ⟨(Nat.le_of_ble_eq_true rfl), (Nat.le_of_ble_eq_true rfl)⟩ rfl hl.1 rfl (Nat.le_of_ble_eq_true rfl) d_Model_operate_17) (fun r4 u H locs hp w => ?_)
    obtain ⟨rfl, rfl⟩ := hp
    have w : Wo D _ (mws ac o ad (up2 MI 35 0 0) ML) s.heap H locs := w
    refine lv_if_eq (tgt := 33) hx hb d_Model_operate_20 (by decide) (fun h5 => ?_) (fun h5 => ?_)
    · skip
      refine lv_aload_n hx hb d_Model_operate_33 rfl (lv_at hl 0 rfl) ?_
      refine lv_iconst (v := 1) hx hb d_Model_operate_34 (by decide) ?_
      refine kcalli (ws0 := []) w (krunV (ws0 := []) (wc := mws ac o ad (up2 MI 35 0 0) ML) (n := 1) (As := [.int 1]) (rest := []) (C := R_Model) X w (c_Model_fail l D ac o ad (up2 MI 35 0 0) ML _ 1) wk_Model_fail wi_Model wm_Model_153 wx_Model_fail ws_Model_Model_fail (by decide +kernel) rfl rfl ⟨(Nat.le_of_ble_eq_true rfl), (Nat.le_of_ble_eq_true rfl)⟩ ⟨(Nat.le_of_ble_eq_true rfl), (Nat.le_of_ble_eq_true rfl)⟩ (mrecv X w) rfl hl.1 rfl (Nat.le_of_ble_eq_true rfl) d_Model_operate_35) (fun r6 u H locs hp w => ?_)
      obtain ⟨rfl, rfl⟩ := hp
      have w : Wo D _ (mws ac o ad (up2 (up2 MI 35 0 0) 35 0 1) ML) s.heap H locs := w
      refine W.eq (g2 := F0 m 38 ls (.int 0 :: [])) rfl ?_
      refine lv_if_le (tgt := 45) hx hb d_Model_operate_38 (by decide) (fun _ => ?_) (fun h => absurd h (by decide))
      refine lv_iconst (v := 0) hx hb d_Model_operate_45 (by decide) ?_
      have hF : f_Model_operate MI ML x1 x2 x3 v ex = (0, up2 (up2 MI 35 0 0) 35 0 1, ML) := by unfold f_Model_operate; rw [if_neg h2, if_pos h5]
      exact kzret X w hr hk (by decide) ⟨by rw [hF], by rw [hF]⟩ d_Model_operate_46
    · skip
      refine lv_iload_n hx hb d_Model_operate_23 rfl (lv_at hl 3 rfl) ?_
      refine lv_iconst (v := 0) hx hb d_Model_operate_24 (by decide) ?_
      refine lv_bipush (v := 11) hx hb d_Model_operate_25 (by decide) ?_
      refine kcalli (ws0 := []) w (krunS (ws0 := []) (wc := mws ac o ad (up2 MI 35 0 0) ML) (n := 3) (As := [.int x3, .int 0, .int 11]) (rest := []) X w (c_Model_within l D ac o ad (up2 MI 35 0 0) ML _ x3 0 11) wk_Model_within wi_Model wm_Model_149 wt_Model_within (by decide +kernel) rfl rfl ⟨(Nat.le_of_ble_eq_true rfl), (Nat.le_of_ble_eq_true rfl)⟩ ⟨(Nat.le_of_ble_eq_true rfl), (Nat.le_of_ble_eq_true rfl)⟩ rfl hl.1 rfl (Nat.le_of_ble_eq_true rfl) d_Model_operate_27) (fun r7 u H locs hp w => ?_)
      obtain ⟨rfl, rfl⟩ := hp
      have w : Wo D _ (mws ac o ad (up2 MI 35 0 0) ML) s.heap H locs := w
      refine lv_if_ne (tgt := 47) hx hb d_Model_operate_30 (by decide) (fun h8 => ?_) (fun h8 => ?_)
      · skip
        have hx1 := within_tn 2 (by decide) h2
        have hx2 := within_tn 2 (by decide) h5
        have hx3 := within_tn 11 (by decide) h8
        refine lv_aload_n hx hb d_Model_operate_47 rfl (lv_at hl 0 rfl) ?_
        refine mg_13 X w d_Model_operate_48 ?_
        refine lv_iload_n hx hb d_Model_operate_51 rfl (lv_at hl 1 rfl) ?_
        refine ald_1 X w (tn x1) (v := MI 1 (tn x1)) (by omega) hx1.1 rfl d_Model_operate_52 ?_
        refine lv_if_eq (tgt := 70) hx hb d_Model_operate_53 (by decide) (fun h9 => ?_) (fun h9 => ?_)
        · skip
          refine lv_aload_n hx hb d_Model_operate_70 rfl (lv_at hl 0 rfl) ?_
          refine mg_17 X w d_Model_operate_71 ?_
          refine lv_iload_n hx hb d_Model_operate_74 rfl (lv_at hl 1 rfl) ?_
          refine lv_iload_n hx hb d_Model_operate_75 rfl (lv_at hl 2 rfl) ?_
          refine ast_2 X w (tn x1) (by omega) hx1.1 d_Model_operate_76 (fun H locs w => ?_)
          refine lv_aload_n hx hb d_Model_operate_77 rfl (lv_at hl 0 rfl) ?_
          refine mg_21 X w d_Model_operate_78 ?_
          refine lv_iload_n hx hb d_Model_operate_81 rfl (lv_at hl 1 rfl) ?_
          refine lv_iload_n hx hb d_Model_operate_82 rfl (lv_at hl 3 rfl) ?_
          refine ast_3 X w (tn x1) (by omega) hx1.1 d_Model_operate_83 (fun H locs w => ?_)
          refine lv_aload_n hx hb d_Model_operate_84 rfl (lv_at hl 0 rfl) ?_
          refine mg_24 X w d_Model_operate_85 ?_
          refine lv_iload_n hx hb d_Model_operate_88 rfl (lv_at hl 1 rfl) ?_
          refine lv_iload hx hb d_Model_operate_89 (lv_at hl 4 rfl) ?_
          refine ast_4 X w (tn x1) (by omega) hx1.1 d_Model_operate_91 (fun H locs w => ?_)
          refine lv_aload_n hx hb d_Model_operate_92 rfl (lv_at hl 0 rfl) ?_
          refine mg_27 X w d_Model_operate_93 ?_
          refine lv_iload_n hx hb d_Model_operate_96 rfl (lv_at hl 1 rfl) ?_
          refine lv_iload hx hb d_Model_operate_97 (lv_at hl 5 rfl) ?_
          refine ast_5 X w (tn x1) (by omega) hx1.1 d_Model_operate_99 (fun H locs w => ?_)
          refine lv_aload_n hx hb d_Model_operate_100 rfl (lv_at hl 0 rfl) ?_
          refine mg_30 X w d_Model_operate_101 ?_
          refine lv_iload_n hx hb d_Model_operate_104 rfl (lv_at hl 1 rfl) ?_
          refine lv_dup2_11 hx hb d_Model_operate_105 rfl rfl ?_
          refine ald_6 X w (tn x1) (v := MI 6 (tn x1)) (by omega) hx1.1 rfl d_Model_operate_106 ?_
          refine lv_iconst (v := 1) hx hb d_Model_operate_107 (by decide) ?_
          refine lv_iadd hx hb d_Model_operate_108 ?_
          refine ast_6 X w (tn x1) (by omega) hx1.1 d_Model_operate_109 (fun H locs w => ?_)
          refine lv_aload_n hx hb d_Model_operate_110 rfl (lv_at hl 0 rfl) ?_
          refine mg_30 X w d_Model_operate_111 ?_
          refine lv_iload_n hx hb d_Model_operate_114 rfl (lv_at hl 1 rfl) ?_
          refine ald_6 X w (tn x1) (v := (MI 6 (tn x1)) + 1) (by omega) hx1.1 (by simp [up2]) d_Model_operate_115 ?_
          refine lv_aload_n hx hb d_Model_operate_116 rfl (lv_at hl 0 rfl) ?_
          refine mg_121 X w (v := MI 37 0) rfl d_Model_operate_117 ?_
          refine lv_irem hx hb d_Model_operate_120 hpace ?_
          refine lv_if_ne (tgt := 134) hx hb d_Model_operate_121 (by decide) (fun h10 => ?_) (fun h10 => ?_)
          · skip
            rw [hx1.1] at hl
            rw [hx3.1] at hl
            have hF : f_Model_operate MI ML x1 x2 x3 v ex = f_Model_operate_134 (up2 (up2 (up2 (up2 (up2 (up2 MI 35 0 0) 2 (tn x1) x2) 3 (tn x1) x3) 4 (tn x1) v) 5 (tn x1) ex) 6 (tn x1) ((MI 6 (tn x1)) + 1)) ML (tn x1) x2 (tn x3) := by unfold f_Model_operate; rw [if_neg h2, if_neg h5, if_neg h8, if_pos h9, if_neg h10]
            exact g_Model_operate_134 X hr hk  (up2 (up2 (up2 (up2 (up2 (up2 MI 35 0 0) 2 (tn x1) x2) 3 (tn x1) x3) 4 (tn x1) v) 5 (tn x1) ex) 6 (tn x1) ((MI 6 (tn x1)) + 1)) ML (tn x1) x2 (tn x3) (by omega) (by omega) hm hm20 w (lv_sub hl [0, 1, 2, 3] rfl) ⟨by rw [hF], by rw [hF]⟩
          · skip
            refine lv_aload_n hx hb d_Model_operate_124 rfl (lv_at hl 0 rfl) ?_
            refine mg_7 X w d_Model_operate_125 ?_
            refine lv_iload_n hx hb d_Model_operate_128 rfl (lv_at hl 1 rfl) ?_
            refine lv_dup2_11 hx hb d_Model_operate_129 rfl rfl ?_
            refine ald_0 X w (tn x1) (v := ML 0 (tn x1)) (by omega) hx1.1 rfl d_Model_operate_130 ?_
            refine lv_lconst (v := 1) hx hb d_Model_operate_131 (by decide) ?_
            refine lv_ladd hx hb d_Model_operate_132 ?_
            refine ast_0 X w (tn x1) (by omega) hx1.1 d_Model_operate_133 (fun H locs w => ?_)
            rw [hx1.1] at hl
            rw [hx3.1] at hl
            have hF : f_Model_operate MI ML x1 x2 x3 v ex = f_Model_operate_134 (up2 (up2 (up2 (up2 (up2 (up2 MI 35 0 0) 2 (tn x1) x2) 3 (tn x1) x3) 4 (tn x1) v) 5 (tn x1) ex) 6 (tn x1) ((MI 6 (tn x1)) + 1)) (up2 ML 0 (tn x1) ((ML 0 (tn x1)) + 1)) (tn x1) x2 (tn x3) := by unfold f_Model_operate; rw [if_neg h2, if_neg h5, if_neg h8, if_pos h9, if_pos h10]
            exact g_Model_operate_134 X hr hk  (up2 (up2 (up2 (up2 (up2 (up2 MI 35 0 0) 2 (tn x1) x2) 3 (tn x1) x3) 4 (tn x1) v) 5 (tn x1) ex) 6 (tn x1) ((MI 6 (tn x1)) + 1)) (up2 ML 0 (tn x1) ((ML 0 (tn x1)) + 1)) (tn x1) x2 (tn x3) (by omega) (by omega) hm hm20 w (lv_sub hl [0, 1, 2, 3] rfl) ⟨by rw [hF], by rw [hF]⟩
        · skip
          refine lv_aload_n hx hb d_Model_operate_56 rfl (lv_at hl 0 rfl) ?_
          refine lv_iconst (v := 2) hx hb d_Model_operate_57 (by decide) ?_
          refine kcalli (ws0 := []) w (krunV (ws0 := []) (wc := mws ac o ad (up2 MI 35 0 0) ML) (n := 1) (As := [.int 2]) (rest := []) (C := R_Model) X w (c_Model_fail l D ac o ad (up2 MI 35 0 0) ML _ 2) wk_Model_fail wi_Model wm_Model_153 wx_Model_fail ws_Model_Model_fail (by decide +kernel) rfl rfl ⟨(Nat.le_of_ble_eq_true rfl), (Nat.le_of_ble_eq_true rfl)⟩ ⟨(Nat.le_of_ble_eq_true rfl), (Nat.le_of_ble_eq_true rfl)⟩ (mrecv X w) rfl hl.1 rfl (Nat.le_of_ble_eq_true rfl) d_Model_operate_58) (fun r11 u H locs hp w => ?_)
          obtain ⟨rfl, rfl⟩ := hp
          have w : Wo D _ (mws ac o ad (up2 (up2 MI 35 0 0) 35 0 2) ML) s.heap H locs := w
          refine W.eq (g2 := F0 m 61 ls (.int 0 :: [])) rfl ?_
          refine lv_if_le (tgt := 68) hx hb d_Model_operate_61 (by decide) (fun _ => ?_) (fun h => absurd h (by decide))
          refine lv_iconst (v := 0) hx hb d_Model_operate_68 (by decide) ?_
          have hF : f_Model_operate MI ML x1 x2 x3 v ex = (0, up2 (up2 MI 35 0 0) 35 0 2, ML) := by unfold f_Model_operate; rw [if_neg h2, if_neg h5, if_neg h8, if_neg h9]
          exact kzret X w hr hk (by decide) ⟨by rw [hF], by rw [hF]⟩ d_Model_operate_69
      · skip
        refine lv_aload_n hx hb d_Model_operate_33 rfl (lv_at hl 0 rfl) ?_
        refine lv_iconst (v := 1) hx hb d_Model_operate_34 (by decide) ?_
        refine kcalli (ws0 := []) w (krunV (ws0 := []) (wc := mws ac o ad (up2 MI 35 0 0) ML) (n := 1) (As := [.int 1]) (rest := []) (C := R_Model) X w (c_Model_fail l D ac o ad (up2 MI 35 0 0) ML _ 1) wk_Model_fail wi_Model wm_Model_153 wx_Model_fail ws_Model_Model_fail (by decide +kernel) rfl rfl ⟨(Nat.le_of_ble_eq_true rfl), (Nat.le_of_ble_eq_true rfl)⟩ ⟨(Nat.le_of_ble_eq_true rfl), (Nat.le_of_ble_eq_true rfl)⟩ (mrecv X w) rfl hl.1 rfl (Nat.le_of_ble_eq_true rfl) d_Model_operate_35) (fun r12 u H locs hp w => ?_)
        obtain ⟨rfl, rfl⟩ := hp
        have w : Wo D _ (mws ac o ad (up2 (up2 MI 35 0 0) 35 0 1) ML) s.heap H locs := w
        refine W.eq (g2 := F0 m 38 ls (.int 0 :: [])) rfl ?_
        refine lv_if_le (tgt := 45) hx hb d_Model_operate_38 (by decide) (fun _ => ?_) (fun h => absurd h (by decide))
        refine lv_iconst (v := 0) hx hb d_Model_operate_45 (by decide) ?_
        have hF : f_Model_operate MI ML x1 x2 x3 v ex = (0, up2 (up2 MI 35 0 0) 35 0 1, ML) := by unfold f_Model_operate; rw [if_neg h2, if_neg h5, if_pos h8]
        exact kzret X w hr hk (by decide) ⟨by rw [hF], by rw [hF]⟩ d_Model_operate_46
