theorem cw_last {ac : Nat → ClassId} {o : Nat} {ad : Nat → Nat} {CI : Nat → Nat → Int32} {CL : Nat → Nat → Int64} {CR : Nat → Nat → Option Nat} (tl : va_W) (q : Nat) (e : va_E) : (cws ac o ad CI CL CR (tl ++ [(q, e)]))[35 + tl.length]? = some (q, e) := by
  rw [cw_tl, List.getElem?_append_right (Nat.le_refl _), Nat.sub_self]
  rfl
theorem cs_tl {ac : Nat → ClassId} {o : Nat} {ad : Nat → Nat} {CI : Nat → Nat → Int32} {CL : Nat → Nat → Int64} {CR : Nat → Nat → Option Nat} (tl : va_W) (k : Nat) (x : Nat × va_E) : (cws ac o ad CI CL CR tl).set (k + 35) x = cws ac o ad CI CL CR (tl.set k x) := rfl
theorem cs_last {ac : Nat → ClassId} {o : Nat} {ad : Nat → Nat} {CI : Nat → Nat → Int32} {CL : Nat → Nat → Int64} {CR : Nat → Nat → Option Nat} (tl : va_W) (q : Nat) (e e' : va_E) : (cws ac o ad CI CL CR (tl ++ [(q, e)])).set (35 + tl.length) (q, e') = cws ac o ad CI CL CR (tl ++ [(q, e')]) := by
  rw [Nat.add_comm, cs_tl, List.set_append_right _ _ (Nat.le_refl _), Nat.sub_self]
  rfl
theorem hs_app {ac : Nat → ClassId} {o : Nat} {ad : Nat → Nat} {CI : Nat → Nat → Int32} {CL : Nat → Nat → Int64} {CR : Nat → Nat → Option Nat} {tl x : va_W} {q : Nat} {e : va_E} (h : Hs (cws ac o ad CI CL CR tl) q e) : Hs (cws ac o ad CI CL CR (tl ++ x)) q e := by
  obtain ⟨i, hi⟩ := h
  refine ⟨i, ?_⟩
  show ((cws ac o ad CI CL CR tl) ++ x)[i]? = _
  rw [List.getElem?_append_left (List.getElem?_eq_some_iff.mp hi).1]
  exact hi
set_option maxHeartbeats 4000000 in
set_option maxRecDepth 100000 in
theorem c_Message_init_Request (l : Launch) (D : va_G) (ac : Nat → ClassId) (o : Nat) (ad : Nat → Nat) (CI : Nat → Nat → Int32) (CL : Nat → Nat → Int64) (CR : Nat → Nat → Option Nat) (tl : va_W) (q : Nat) (sz : Nat) (k : Int32) (li : Int32) (x : Option Nat)  : Met l y_Message_init [Cond.code y_Message_init b_Message_init 4 none] { frames := 1, cells := 0, slots := 0, locals := 30 } (va_Pc [.ref q, .int k, .int li, va_rf x] (CPre D ac (cws ac o ad CI CL CR (tl ++ [(q, .inr (4, [.int 0, .int 0, .null, .long 0, .long 0]))])) sz)) (va_Qv (fun u => u = cws ac o ad CI CL CR (tl ++ [(q, .inr (4, [.int k, .int li, va_rf x, .long 0, .long 0]))])) (CPost D (cws ac o ad CI CL CR (tl ++ [(q, .inr (4, [.int 0, .int 0, .null, .long 0, .long 0]))])) sz) (va_A (cws ac o ad CI CL CR (tl ++ [(q, .inr (4, [.int 0, .int 0, .null, .long 0, .long 0]))])) sz)) 0 0 (va_A (cws ac o ad CI CL CR (tl ++ [(q, .inr (4, [.int 0, .int 0, .null, .long 0, .long 0]))])) sz) := by
  refine kofW (by decide) (by cases x <;> exact Nat.le_of_ble_eq_true rfl) ?_
  intro p ev s m args below meth c0 ls X hr hk hnm hex hsz w hl
  have X : Cx b_Message_init 4 R_Message D ac p m args c0 s := X
  have hx := X.1
  have hb := X.2.1
  have hl : lv_has ls 4 [(0, .ref q), (1, .int k), (2, .int li), (3, va_rf x)] := hl
  refine lv_aload_n hx hb d_Message_init_0 rfl (lv_at hl 0 rfl) ?_
  refine kobj X wm_Message_1 hl.1 (Nat.le_of_ble_eq_true rfl) (Nat.le_of_ble_eq_true rfl) d_Message_init_1 ?_
  refine lv_aload_n hx hb d_Message_init_4 rfl (lv_at hl 0 rfl) ?_
  refine lv_iload_n hx hb d_Message_init_5 rfl (lv_at hl 1 rfl) ?_
  refine pf_Message_7_Request X w hnm (35 + tl.length) (cw_last _ _ _) (cs_last _ _ _ _) (Nat.le_of_ble_eq_true rfl) d_Message_init_6 (fun H locs w => ?_)
  refine lv_aload_n hx hb d_Message_init_9 rfl (lv_at hl 0 rfl) ?_
  refine lv_iload_n hx hb d_Message_init_10 rfl (lv_at hl 2 rfl) ?_
  refine pf_Message_13_Request X w hnm (35 + tl.length) (cw_last _ _ _) (cs_last _ _ _ _) (Nat.le_of_ble_eq_true rfl) d_Message_init_11 (fun H locs w => ?_)
  refine lv_aload_n hx hb d_Message_init_14 rfl (lv_at hl 0 rfl) ?_
  refine kaload_n hx hb d_Message_init_15 rfl (lv_at hl 3 rfl) ?_
  refine pf_Message_16_Request (x := x) X w hnm (35 + tl.length) (cw_last _ _ _) (cs_last _ _ _ _) (Nat.le_of_ble_eq_true rfl) d_Message_init_16 (fun H locs w => ?_)
  exact kvret (Qc := fun _ _ _ _ => True) X w hr hk rfl d_Message_init_19
set_option maxHeartbeats 4000000 in
set_option maxRecDepth 100000 in
theorem c_Message_init_Answer (l : Launch) (D : va_G) (ac : Nat → ClassId) (o : Nat) (ad : Nat → Nat) (CI : Nat → Nat → Int32) (CL : Nat → Nat → Int64) (CR : Nat → Nat → Option Nat) (tl : va_W) (q : Nat) (sz : Nat) (k : Int32) (li : Int32) (x : Option Nat)  : Met l y_Message_init [Cond.code y_Message_init b_Message_init 4 none] { frames := 1, cells := 0, slots := 0, locals := 30 } (va_Pc [.ref q, .int k, .int li, va_rf x] (CPre D ac (cws ac o ad CI CL CR (tl ++ [(q, .inr (5, [.int 0, .int 0, .null, .int 0, .long 0, .long 0, .int 0]))])) sz)) (va_Qv (fun u => u = cws ac o ad CI CL CR (tl ++ [(q, .inr (5, [.int k, .int li, va_rf x, .int 0, .long 0, .long 0, .int 0]))])) (CPost D (cws ac o ad CI CL CR (tl ++ [(q, .inr (5, [.int 0, .int 0, .null, .int 0, .long 0, .long 0, .int 0]))])) sz) (va_A (cws ac o ad CI CL CR (tl ++ [(q, .inr (5, [.int 0, .int 0, .null, .int 0, .long 0, .long 0, .int 0]))])) sz)) 0 0 (va_A (cws ac o ad CI CL CR (tl ++ [(q, .inr (5, [.int 0, .int 0, .null, .int 0, .long 0, .long 0, .int 0]))])) sz) := by
  refine kofW (by decide) (by cases x <;> exact Nat.le_of_ble_eq_true rfl) ?_
  intro p ev s m args below meth c0 ls X hr hk hnm hex hsz w hl
  have X : Cx b_Message_init 4 R_Message D ac p m args c0 s := X
  have hx := X.1
  have hb := X.2.1
  have hl : lv_has ls 4 [(0, .ref q), (1, .int k), (2, .int li), (3, va_rf x)] := hl
  refine lv_aload_n hx hb d_Message_init_0 rfl (lv_at hl 0 rfl) ?_
  refine kobj X wm_Message_1 hl.1 (Nat.le_of_ble_eq_true rfl) (Nat.le_of_ble_eq_true rfl) d_Message_init_1 ?_
  refine lv_aload_n hx hb d_Message_init_4 rfl (lv_at hl 0 rfl) ?_
  refine lv_iload_n hx hb d_Message_init_5 rfl (lv_at hl 1 rfl) ?_
  refine pf_Message_7_Answer X w hnm (35 + tl.length) (cw_last _ _ _) (cs_last _ _ _ _) (Nat.le_of_ble_eq_true rfl) d_Message_init_6 (fun H locs w => ?_)
  refine lv_aload_n hx hb d_Message_init_9 rfl (lv_at hl 0 rfl) ?_
  refine lv_iload_n hx hb d_Message_init_10 rfl (lv_at hl 2 rfl) ?_
  refine pf_Message_13_Answer X w hnm (35 + tl.length) (cw_last _ _ _) (cs_last _ _ _ _) (Nat.le_of_ble_eq_true rfl) d_Message_init_11 (fun H locs w => ?_)
  refine lv_aload_n hx hb d_Message_init_14 rfl (lv_at hl 0 rfl) ?_
  refine kaload_n hx hb d_Message_init_15 rfl (lv_at hl 3 rfl) ?_
  refine pf_Message_16_Answer (x := x) X w hnm (35 + tl.length) (cw_last _ _ _) (cs_last _ _ _ _) (Nat.le_of_ble_eq_true rfl) d_Message_init_16 (fun H locs w => ?_)
  exact kvret (Qc := fun _ _ _ _ => True) X w hr hk rfl d_Message_init_19
set_option maxHeartbeats 4000000 in
set_option maxRecDepth 100000 in
theorem c_Message_init_Call (l : Launch) (D : va_G) (ac : Nat → ClassId) (o : Nat) (ad : Nat → Nat) (CI : Nat → Nat → Int32) (CL : Nat → Nat → Int64) (CR : Nat → Nat → Option Nat) (tl : va_W) (q : Nat) (sz : Nat) (k : Int32) (li : Int32) (x : Option Nat)  : Met l y_Message_init [Cond.code y_Message_init b_Message_init 4 none] { frames := 1, cells := 0, slots := 0, locals := 30 } (va_Pc [.ref q, .int k, .int li, va_rf x] (CPre D ac (cws ac o ad CI CL CR (tl ++ [(q, .inr (6, [.int 0, .int 0, .null, .long 0]))])) sz)) (va_Qv (fun u => u = cws ac o ad CI CL CR (tl ++ [(q, .inr (6, [.int k, .int li, va_rf x, .long 0]))])) (CPost D (cws ac o ad CI CL CR (tl ++ [(q, .inr (6, [.int 0, .int 0, .null, .long 0]))])) sz) (va_A (cws ac o ad CI CL CR (tl ++ [(q, .inr (6, [.int 0, .int 0, .null, .long 0]))])) sz)) 0 0 (va_A (cws ac o ad CI CL CR (tl ++ [(q, .inr (6, [.int 0, .int 0, .null, .long 0]))])) sz) := by
  refine kofW (by decide) (by cases x <;> exact Nat.le_of_ble_eq_true rfl) ?_
  intro p ev s m args below meth c0 ls X hr hk hnm hex hsz w hl
  have X : Cx b_Message_init 4 R_Message D ac p m args c0 s := X
  have hx := X.1
  have hb := X.2.1
  have hl : lv_has ls 4 [(0, .ref q), (1, .int k), (2, .int li), (3, va_rf x)] := hl
  refine lv_aload_n hx hb d_Message_init_0 rfl (lv_at hl 0 rfl) ?_
  refine kobj X wm_Message_1 hl.1 (Nat.le_of_ble_eq_true rfl) (Nat.le_of_ble_eq_true rfl) d_Message_init_1 ?_
  refine lv_aload_n hx hb d_Message_init_4 rfl (lv_at hl 0 rfl) ?_
  refine lv_iload_n hx hb d_Message_init_5 rfl (lv_at hl 1 rfl) ?_
  refine pf_Message_7_Call X w hnm (35 + tl.length) (cw_last _ _ _) (cs_last _ _ _ _) (Nat.le_of_ble_eq_true rfl) d_Message_init_6 (fun H locs w => ?_)
  refine lv_aload_n hx hb d_Message_init_9 rfl (lv_at hl 0 rfl) ?_
  refine lv_iload_n hx hb d_Message_init_10 rfl (lv_at hl 2 rfl) ?_
  refine pf_Message_13_Call X w hnm (35 + tl.length) (cw_last _ _ _) (cs_last _ _ _ _) (Nat.le_of_ble_eq_true rfl) d_Message_init_11 (fun H locs w => ?_)
  refine lv_aload_n hx hb d_Message_init_14 rfl (lv_at hl 0 rfl) ?_
  refine kaload_n hx hb d_Message_init_15 rfl (lv_at hl 3 rfl) ?_
  refine pf_Message_16_Call (x := x) X w hnm (35 + tl.length) (cw_last _ _ _) (cs_last _ _ _ _) (Nat.le_of_ble_eq_true rfl) d_Message_init_16 (fun H locs w => ?_)
  exact kvret (Qc := fun _ _ _ _ => True) X w hr hk rfl d_Message_init_19
set_option maxHeartbeats 4000000 in
set_option maxRecDepth 100000 in
theorem c_Message_init_Return (l : Launch) (D : va_G) (ac : Nat → ClassId) (o : Nat) (ad : Nat → Nat) (CI : Nat → Nat → Int32) (CL : Nat → Nat → Int64) (CR : Nat → Nat → Option Nat) (tl : va_W) (q : Nat) (sz : Nat) (k : Int32) (li : Int32) (x : Option Nat)  : Met l y_Message_init [Cond.code y_Message_init b_Message_init 4 none] { frames := 1, cells := 0, slots := 0, locals := 30 } (va_Pc [.ref q, .int k, .int li, va_rf x] (CPre D ac (cws ac o ad CI CL CR (tl ++ [(q, .inr (7, [.int 0, .int 0, .null, .int 0, .long 0, .long 0]))])) sz)) (va_Qv (fun u => u = cws ac o ad CI CL CR (tl ++ [(q, .inr (7, [.int k, .int li, va_rf x, .int 0, .long 0, .long 0]))])) (CPost D (cws ac o ad CI CL CR (tl ++ [(q, .inr (7, [.int 0, .int 0, .null, .int 0, .long 0, .long 0]))])) sz) (va_A (cws ac o ad CI CL CR (tl ++ [(q, .inr (7, [.int 0, .int 0, .null, .int 0, .long 0, .long 0]))])) sz)) 0 0 (va_A (cws ac o ad CI CL CR (tl ++ [(q, .inr (7, [.int 0, .int 0, .null, .int 0, .long 0, .long 0]))])) sz) := by
  refine kofW (by decide) (by cases x <;> exact Nat.le_of_ble_eq_true rfl) ?_
  intro p ev s m args below meth c0 ls X hr hk hnm hex hsz w hl
  have X : Cx b_Message_init 4 R_Message D ac p m args c0 s := X
  have hx := X.1
  have hb := X.2.1
  have hl : lv_has ls 4 [(0, .ref q), (1, .int k), (2, .int li), (3, va_rf x)] := hl
  refine lv_aload_n hx hb d_Message_init_0 rfl (lv_at hl 0 rfl) ?_
  refine kobj X wm_Message_1 hl.1 (Nat.le_of_ble_eq_true rfl) (Nat.le_of_ble_eq_true rfl) d_Message_init_1 ?_
  refine lv_aload_n hx hb d_Message_init_4 rfl (lv_at hl 0 rfl) ?_
  refine lv_iload_n hx hb d_Message_init_5 rfl (lv_at hl 1 rfl) ?_
  refine pf_Message_7_Return X w hnm (35 + tl.length) (cw_last _ _ _) (cs_last _ _ _ _) (Nat.le_of_ble_eq_true rfl) d_Message_init_6 (fun H locs w => ?_)
  refine lv_aload_n hx hb d_Message_init_9 rfl (lv_at hl 0 rfl) ?_
  refine lv_iload_n hx hb d_Message_init_10 rfl (lv_at hl 2 rfl) ?_
  refine pf_Message_13_Return X w hnm (35 + tl.length) (cw_last _ _ _) (cs_last _ _ _ _) (Nat.le_of_ble_eq_true rfl) d_Message_init_11 (fun H locs w => ?_)
  refine lv_aload_n hx hb d_Message_init_14 rfl (lv_at hl 0 rfl) ?_
  refine kaload_n hx hb d_Message_init_15 rfl (lv_at hl 3 rfl) ?_
  refine pf_Message_16_Return (x := x) X w hnm (35 + tl.length) (cw_last _ _ _) (cs_last _ _ _ _) (Nat.le_of_ble_eq_true rfl) d_Message_init_16 (fun H locs w => ?_)
  exact kvret (Qc := fun _ _ _ _ => True) X w hr hk rfl d_Message_init_19
set_option maxHeartbeats 4000000 in
set_option maxRecDepth 100000 in
theorem c_Request_init (l : Launch) (D : va_G) (ac : Nat → ClassId) (o : Nat) (ad : Nat → Nat) (CI : Nat → Nat → Int32) (CL : Nat → Nat → Int64) (CR : Nat → Nat → Option Nat) (tl : va_W) (q : Nat) (sz : Nat) (k : Int32) (li : Int32) (c : Nat) (t : Int64) (w9 : Int64)  : Met l y_Request_init [Cond.code y_Request_init b_Request_init 8 none] { frames := 2, cells := 0, slots := 0, locals := 53 } (va_Pc [.ref q, .int k, .int li, .ref (ad (4 + c)), .long t, .long w9] (CPre D ac (cws ac o ad CI CL CR (tl ++ [(q, .inr (4, [.int 0, .int 0, .null, .long 0, .long 0]))])) sz)) (va_Qv (fun u => u = cws ac o ad CI CL CR (tl ++ [(q, .inr (4, [.int k, .int li, .ref (ad (4 + c)), .long t, .long w9]))])) (CPost D (cws ac o ad CI CL CR (tl ++ [(q, .inr (4, [.int 0, .int 0, .null, .long 0, .long 0]))])) sz) (va_A (cws ac o ad CI CL CR (tl ++ [(q, .inr (4, [.int 0, .int 0, .null, .long 0, .long 0]))])) sz)) 0 0 (va_A (cws ac o ad CI CL CR (tl ++ [(q, .inr (4, [.int 0, .int 0, .null, .long 0, .long 0]))])) sz) := by
  refine kofW (by decide) (Nat.le_of_ble_eq_true rfl) ?_
  intro p ev s m args below meth c0 ls X hr hk hnm hex hsz w hl
  have X : Cx b_Request_init 8 R_Request D ac p m args c0 s := X
  have hx := X.1
  have hb := X.2.1
  have hl : lv_has ls 8 [(0, .ref q), (1, .int k), (2, .int li), (3, .ref (ad (4 + c))), (4, .long t), (6, .long w9)] := hl
  refine lv_aload_n hx hb d_Request_init_0 rfl (lv_at hl 0 rfl) ?_
  refine lv_iload_n hx hb d_Request_init_1 rfl (lv_at hl 1 rfl) ?_
  refine lv_iload_n hx hb d_Request_init_2 rfl (lv_at hl 2 rfl) ?_
  refine lv_aload_n hx hb d_Request_init_3 rfl (lv_at hl 3 rfl) ?_
  refine kcallv (ws0 := []) w (krunI (ws0 := []) (wc := cws ac o ad CI CL CR (tl ++ [(q, .inr (4, [.int 0, .int 0, .null, .long 0, .long 0]))])) (n := 3) (As := [.int k, .int li, .ref (ad (4 + c))]) (rest := []) X w (c_Message_init_Request l D ac o ad CI CL CR tl q _ k li (some (ad (4 + c)))) wk_Message_init wi_Message wm_Request_1 wx_Message_init rfl (by decide +kernel) rfl rfl ⟨(Nat.le_of_ble_eq_true rfl), (Nat.le_of_ble_eq_true rfl)⟩ ⟨(Nat.le_of_ble_eq_true rfl), (Nat.le_of_ble_eq_true rfl)⟩ rfl hl.1 rfl (Nat.le_of_ble_eq_true rfl) d_Request_init_4) (fun u H locs hp w => ?_)
  obtain rfl := hp
  have w : Wo D _ (cws ac o ad CI CL CR (tl ++ [(q, .inr (4, [.int k, .int li, va_rf (some (ad (4 + c))), .long 0, .long 0]))])) s.heap H locs := w
  refine lv_aload_n hx hb d_Request_init_7 rfl (lv_at hl 0 rfl) ?_
  refine lv_lload hx hb d_Request_init_8 (lv_at hl 4 rfl) ?_
  refine pf_Request_7 X w hnm (35 + tl.length) (cw_last _ _ _) (cs_last _ _ _ _) (Nat.le_of_ble_eq_true rfl) d_Request_init_10 (fun H locs w => ?_)
  refine lv_aload_n hx hb d_Request_init_13 rfl (lv_at hl 0 rfl) ?_
  refine lv_lload hx hb d_Request_init_14 (lv_at hl 5 rfl) ?_
  refine pf_Request_13 X w hnm (35 + tl.length) (cw_last _ _ _) (cs_last _ _ _ _) (Nat.le_of_ble_eq_true rfl) d_Request_init_16 (fun H locs w => ?_)
  exact kvret (Qc := fun _ _ _ _ => True) X w hr hk rfl d_Request_init_19
set_option maxHeartbeats 4000000 in
set_option maxRecDepth 100000 in
theorem c_Return_init (l : Launch) (D : va_G) (ac : Nat → ClassId) (o : Nat) (ad : Nat → Nat) (CI : Nat → Nat → Int32) (CL : Nat → Nat → Int64) (CR : Nat → Nat → Option Nat) (tl : va_W) (q : Nat) (sz : Nat) (k : Int32) (c : Nat) (y : Nat) (hy : y < 12) : Met l y_Return_init [Cond.code y_Return_init b_Return_init 4 none] { frames := 2, cells := 0, slots := 0, locals := 53 } (va_Pc [.ref q, .int k, .ref (ad (4 + c)), .ref (ad (10 + y))] (CPre D ac (cws ac o ad CI CL CR (tl ++ [(q, .inr (7, [.int 0, .int 0, .null, .int 0, .long 0, .long 0]))])) sz)) (va_Qv (fun u => u = cws ac o ad CI CL CR (tl ++ [(q, .inr (7, [.int k, .int (CI 10 y), .ref (ad (4 + c)), .int (CI 12 y), .long (CL 13 y), .long (CL 14 y)]))])) (CPost D (cws ac o ad CI CL CR (tl ++ [(q, .inr (7, [.int 0, .int 0, .null, .int 0, .long 0, .long 0]))])) sz) (va_A (cws ac o ad CI CL CR (tl ++ [(q, .inr (7, [.int 0, .int 0, .null, .int 0, .long 0, .long 0]))])) sz)) 0 0 (va_A (cws ac o ad CI CL CR (tl ++ [(q, .inr (7, [.int 0, .int 0, .null, .int 0, .long 0, .long 0]))])) sz) := by
  refine kofW (by decide) (Nat.le_of_ble_eq_true rfl) ?_
  intro p ev s m args below meth c0 ls X hr hk hnm hex hsz w hl
  have X : Cx b_Return_init 4 R_Return D ac p m args c0 s := X
  have hx := X.1
  have hb := X.2.1
  have hl : lv_has ls 4 [(0, .ref q), (1, .int k), (2, .ref (ad (4 + c))), (3, .ref (ad (10 + y)))] := hl
  refine lv_aload_n hx hb d_Return_init_0 rfl (lv_at hl 0 rfl) ?_
  refine lv_iload_n hx hb d_Return_init_1 rfl (lv_at hl 1 rfl) ?_
  refine lv_aload_n hx hb d_Return_init_2 rfl (lv_at hl 3 rfl) ?_
  refine cg_Return_1 X w y (by omega) (v := CI 10 y) rfl d_Return_init_3 ?_
  refine lv_aload_n hx hb d_Return_init_6 rfl (lv_at hl 2 rfl) ?_
  refine kcallv (ws0 := []) w (krunI (ws0 := []) (wc := cws ac o ad CI CL CR (tl ++ [(q, .inr (7, [.int 0, .int 0, .null, .int 0, .long 0, .long 0]))])) (n := 3) (As := [.int k, .int (CI 10 y), .ref (ad (4 + c))]) (rest := []) X w (c_Message_init_Return l D ac o ad CI CL CR tl q _ k (CI 10 y) (some (ad (4 + c)))) wk_Message_init wi_Message wm_Return_7 wx_Message_init rfl (by decide +kernel) rfl rfl ⟨(Nat.le_of_ble_eq_true rfl), (Nat.le_of_ble_eq_true rfl)⟩ ⟨(Nat.le_of_ble_eq_true rfl), (Nat.le_of_ble_eq_true rfl)⟩ rfl hl.1 rfl (Nat.le_of_ble_eq_true rfl) d_Return_init_7) (fun u H locs hp w => ?_)
  obtain rfl := hp
  have w : Wo D _ (cws ac o ad CI CL CR (tl ++ [(q, .inr (7, [.int k, .int (CI 10 y), va_rf (some (ad (4 + c))), .int 0, .long 0, .long 0]))])) s.heap H locs := w
  refine lv_aload_n hx hb d_Return_init_10 rfl (lv_at hl 0 rfl) ?_
  refine lv_aload_n hx hb d_Return_init_11 rfl (lv_at hl 3 rfl) ?_
  refine cg_Return_13 X w y (by omega) (v := CI 12 y) rfl d_Return_init_12 ?_
  refine pf_Return_16 X w hnm (35 + tl.length) (cw_last _ _ _) (cs_last _ _ _ _) (Nat.le_of_ble_eq_true rfl) d_Return_init_15 (fun H locs w => ?_)
  refine lv_aload_n hx hb d_Return_init_18 rfl (lv_at hl 0 rfl) ?_
  refine lv_aload_n hx hb d_Return_init_19 rfl (lv_at hl 3 rfl) ?_
  refine cg_Return_19 X w y (by omega) (v := CL 13 y) rfl d_Return_init_20 ?_
  refine pf_Return_23 X w hnm (35 + tl.length) (cw_last _ _ _) (cs_last _ _ _ _) (Nat.le_of_ble_eq_true rfl) d_Return_init_23 (fun H locs w => ?_)
  refine lv_aload_n hx hb d_Return_init_26 rfl (lv_at hl 0 rfl) ?_
  refine lv_aload_n hx hb d_Return_init_27 rfl (lv_at hl 3 rfl) ?_
  refine cg_Return_24 X w y (by omega) (v := CL 14 y) rfl d_Return_init_28 ?_
  refine pf_Return_27 X w hnm (35 + tl.length) (cw_last _ _ _) (cs_last _ _ _ _) (Nat.le_of_ble_eq_true rfl) d_Return_init_31 (fun H locs w => ?_)
  exact kvret (Qc := fun _ _ _ _ => True) X w hr hk rfl d_Return_init_34
set_option maxHeartbeats 4000000 in
set_option maxRecDepth 100000 in
theorem c_Call_init (l : Launch) (D : va_G) (ac : Nat → ClassId) (o : Nat) (ad : Nat → Nat) (CI : Nat → Nat → Int32) (CL : Nat → Nat → Int64) (CR : Nat → Nat → Option Nat) (tl : va_W) (q : Nat) (sz : Nat) (k : Int32) (e : Nat) (t : Int64) (he : e < 6) : Met l y_Call_init [Cond.code y_Call_init b_Call_init 5 none] { frames := 2, cells := 0, slots := 0, locals := 53 } (va_Pc [.ref q, .int k, .ref (ad (22 + e)), .long t] (CPre D ac (cws ac o ad CI CL CR (tl ++ [(q, .inr (6, [.int 0, .int 0, .null, .long 0]))])) sz)) (va_Qv (fun u => u = cws ac o ad CI CL CR (tl ++ [(q, .inr (6, [.int k, .int (CI 16 e), va_rf (rC ad (CR 0 e)), .long t]))])) (CPost D (cws ac o ad CI CL CR (tl ++ [(q, .inr (6, [.int 0, .int 0, .null, .long 0]))])) sz) (va_A (cws ac o ad CI CL CR (tl ++ [(q, .inr (6, [.int 0, .int 0, .null, .long 0]))])) sz)) 0 0 (va_A (cws ac o ad CI CL CR (tl ++ [(q, .inr (6, [.int 0, .int 0, .null, .long 0]))])) sz) := by
  refine kofW (by decide) (Nat.le_of_ble_eq_true rfl) ?_
  intro p ev s m args below meth c0 ls X hr hk hnm hex hsz w hl
  have X : Cx b_Call_init 5 R_Call D ac p m args c0 s := X
  have hx := X.1
  have hb := X.2.1
  have hl : lv_has ls 5 [(0, .ref q), (1, .int k), (2, .ref (ad (22 + e))), (3, .long t)] := hl
  refine lv_aload_n hx hb d_Call_init_0 rfl (lv_at hl 0 rfl) ?_
  refine lv_iload_n hx hb d_Call_init_1 rfl (lv_at hl 1 rfl) ?_
  refine lv_aload_n hx hb d_Call_init_2 rfl (lv_at hl 2 rfl) ?_
  refine cg_Call_3 X w e (by omega) (v := CI 16 e) rfl d_Call_init_3 ?_
  refine lv_aload_n hx hb d_Call_init_6 rfl (lv_at hl 2 rfl) ?_
  refine cg_Call_9 X w e (by omega) d_Call_init_7 ?_
  refine kcallv (ws0 := []) w (krunI (ws0 := []) (wc := cws ac o ad CI CL CR (tl ++ [(q, .inr (6, [.int 0, .int 0, .null, .long 0]))])) (n := 3) (As := [.int k, .int (CI 16 e), va_rf (rC ad (CR 0 e))]) (rest := []) X w (c_Message_init_Call l D ac o ad CI CL CR tl q _ k (CI 16 e) (rC ad (CR 0 e))) wk_Message_init wi_Message wm_Call_13 wx_Message_init rfl (by decide +kernel) rfl rfl ⟨(Nat.le_of_ble_eq_true rfl), (Nat.le_of_ble_eq_true rfl)⟩ ⟨(Nat.le_of_ble_eq_true rfl), (Nat.le_of_ble_eq_true rfl)⟩ rfl hl.1 rfl (Nat.le_of_ble_eq_true rfl) d_Call_init_10) (fun u H locs hp w => ?_)
  obtain rfl := hp
  have w : Wo D _ (cws ac o ad CI CL CR (tl ++ [(q, .inr (6, [.int k, .int (CI 16 e), va_rf (rC ad (CR 0 e)), .long 0]))])) s.heap H locs := w
  refine lv_aload_n hx hb d_Call_init_13 rfl (lv_at hl 0 rfl) ?_
  refine lv_lload_n hx hb d_Call_init_14 rfl (lv_at hl 3 rfl) ?_
  refine pf_Call_19 X w hnm (35 + tl.length) (cw_last _ _ _) (cs_last _ _ _ _) (Nat.le_of_ble_eq_true rfl) d_Call_init_15 (fun H locs w => ?_)
  exact kvret (Qc := fun _ _ _ _ => True) X w hr hk rfl d_Call_init_18
set_option maxHeartbeats 4000000 in
set_option maxRecDepth 100000 in
theorem c_Answer_init (l : Launch) (D : va_G) (ac : Nat → ClassId) (o : Nat) (ad : Nat → Nat) (CI : Nat → Nat → Int32) (CL : Nat → Nat → Int64) (CR : Nat → Nat → Option Nat) (tl : va_W) (q : Nat) (sz : Nat) (k : Int32) (e : Nat) (q2 : Nat) (m9 : Msg) (he : e < 6) (hs : Hs (cws ac o ad CI CL CR tl) q2 (mcell ad m9)) (hc : mcls m9 = 4) : Met l y_Answer_init [Cond.code y_Answer_init b_Answer_init 4 none] { frames := 2, cells := 0, slots := 0, locals := 53 } (va_Pc [.ref q, .int k, .ref (ad (22 + e)), .ref q2] (CPre D ac (cws ac o ad CI CL CR (tl ++ [(q, .inr (5, [.int 0, .int 0, .null, .int 0, .long 0, .long 0, .int 0]))])) sz)) (va_Qv (fun u => u = cws ac o ad CI CL CR (tl ++ [(q, .inr (5, [.int k, .int (CI 16 e), va_rf (rC ad (mcore m9)), .int (CI 17 e), .long (CL 18 e), .long (CL 19 e), .int (if mkind m9 = 2 then 1 else 0)]))])) (CPost D (cws ac o ad CI CL CR (tl ++ [(q, .inr (5, [.int 0, .int 0, .null, .int 0, .long 0, .long 0, .int 0]))])) sz) (va_A (cws ac o ad CI CL CR (tl ++ [(q, .inr (5, [.int 0, .int 0, .null, .int 0, .long 0, .long 0, .int 0]))])) sz)) 0 0 (va_A (cws ac o ad CI CL CR (tl ++ [(q, .inr (5, [.int 0, .int 0, .null, .int 0, .long 0, .long 0, .int 0]))])) sz) := by
  refine kofW (by decide) (Nat.le_of_ble_eq_true rfl) ?_
  intro p ev s m args below meth c0 ls X hr hk hnm hex hsz w hl
  have X : Cx b_Answer_init 4 R_Answer D ac p m args c0 s := X
  have hx := X.1
  have hb := X.2.1
  have hl : lv_has ls 4 [(0, .ref q), (1, .int k), (2, .ref (ad (22 + e))), (3, .ref q2)] := hl
  refine lv_aload_n hx hb d_Answer_init_0 rfl (lv_at hl 0 rfl) ?_
  refine lv_iload_n hx hb d_Answer_init_1 rfl (lv_at hl 1 rfl) ?_
  refine lv_aload_n hx hb d_Answer_init_2 rfl (lv_at hl 2 rfl) ?_
  refine cg_Answer_3 X w e (by omega) (v := CI 16 e) rfl d_Answer_init_3 ?_
  refine lv_aload_n hx hb d_Answer_init_6 rfl (lv_at hl 3 rfl) ?_
  refine qg_Answer_9 (m9 := m9) X w (hs_app hs) hc d_Answer_init_7 ?_
  refine kcallv (ws0 := []) w (krunI (ws0 := []) (wc := cws ac o ad CI CL CR (tl ++ [(q, .inr (5, [.int 0, .int 0, .null, .int 0, .long 0, .long 0, .int 0]))])) (n := 3) (As := [.int k, .int (CI 16 e), va_rf (rC ad (mcore m9))]) (rest := []) X w (c_Message_init_Answer l D ac o ad CI CL CR tl q _ k (CI 16 e) (rC ad (mcore m9))) wk_Message_init wi_Message wm_Answer_15 wx_Message_init rfl (by decide +kernel) rfl rfl ⟨(Nat.le_of_ble_eq_true rfl), (Nat.le_of_ble_eq_true rfl)⟩ ⟨(Nat.le_of_ble_eq_true rfl), (Nat.le_of_ble_eq_true rfl)⟩ rfl hl.1 rfl (Nat.le_of_ble_eq_true rfl) d_Answer_init_10) (fun u H locs hp w => ?_)
  obtain rfl := hp
  have w : Wo D _ (cws ac o ad CI CL CR (tl ++ [(q, .inr (5, [.int k, .int (CI 16 e), va_rf (rC ad (mcore m9)), .int 0, .long 0, .long 0, .int 0]))])) s.heap H locs := w
  refine lv_aload_n hx hb d_Answer_init_13 rfl (lv_at hl 0 rfl) ?_
  refine lv_aload_n hx hb d_Answer_init_14 rfl (lv_at hl 2 rfl) ?_
  refine cg_Answer_21 X w e (by omega) (v := CI 17 e) rfl d_Answer_init_15 ?_
  refine pf_Answer_24 X w hnm (35 + tl.length) (cw_last _ _ _) (cs_last _ _ _ _) (Nat.le_of_ble_eq_true rfl) d_Answer_init_18 (fun H locs w => ?_)
  refine lv_aload_n hx hb d_Answer_init_21 rfl (lv_at hl 0 rfl) ?_
  refine lv_aload_n hx hb d_Answer_init_22 rfl (lv_at hl 2 rfl) ?_
  refine cg_Answer_27 X w e (by omega) (v := CL 18 e) rfl d_Answer_init_23 ?_
  refine pf_Answer_31 X w hnm (35 + tl.length) (cw_last _ _ _) (cs_last _ _ _ _) (Nat.le_of_ble_eq_true rfl) d_Answer_init_26 (fun H locs w => ?_)
  refine lv_aload_n hx hb d_Answer_init_29 rfl (lv_at hl 0 rfl) ?_
  refine lv_aload_n hx hb d_Answer_init_30 rfl (lv_at hl 2 rfl) ?_
  refine cg_Answer_32 X w e (by omega) (v := CL 19 e) rfl d_Answer_init_31 ?_
  refine pf_Answer_35 X w hnm (35 + tl.length) (cw_last _ _ _) (cs_last _ _ _ _) (Nat.le_of_ble_eq_true rfl) d_Answer_init_34 (fun H locs w => ?_)
  refine lv_aload_n hx hb d_Answer_init_37 rfl (lv_at hl 0 rfl) ?_
  refine lv_aload_n hx hb d_Answer_init_38 rfl (lv_at hl 3 rfl) ?_
  refine qg_Answer_36 (m9 := m9) X w (hs_app hs) hc d_Answer_init_39 ?_
  refine lv_iconst (v := 2) hx hb d_Answer_init_42 (by decide) ?_
  refine lv_icmp_ne (tgt := 50) hx hb d_Answer_init_43 (by decide) (fun h1 => ?_) (fun h1 => ?_)
  · skip
    refine lv_iconst (v := 0) hx hb d_Answer_init_50 (by decide) ?_
    refine pf_Answer_39 X w hnm (35 + tl.length) (by decide) (cw_last _ _ _) (cs_last _ _ _ _) (Nat.le_of_ble_eq_true rfl) d_Answer_init_51 (fun H locs w => ?_)
    exact kvret (Qc := fun _ _ _ _ => True) X w hr hk (by rw [if_neg h1] <;> rfl) d_Answer_init_54
  · skip
    refine lv_iconst (v := 1) hx hb d_Answer_init_46 (by decide) ?_
    refine lv_goto (tgt := 51) hx hb d_Answer_init_47 (by decide) ?_
    refine pf_Answer_39 X w hnm (35 + tl.length) (by decide) (cw_last _ _ _) (cs_last _ _ _ _) (Nat.le_of_ble_eq_true rfl) d_Answer_init_51 (fun H locs w => ?_)
    exact kvret (Qc := fun _ _ _ _ => True) X w hr hk (by rw [if_pos h1] <;> rfl) d_Answer_init_54
