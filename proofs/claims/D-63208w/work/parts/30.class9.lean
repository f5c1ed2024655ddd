set_option maxHeartbeats 4000000 in
set_option maxRecDepth 100000 in
theorem c_LC_at (l : Launch) (D : va_G) (ac : Nat → ClassId) (o : Nat) (ad : Nat → Nat) (al : Nat → Nat) (CI : Nat → Nat → Int32) (CL : Nat → Nat → Int64) (CR : Nat → Nat → Option Nat) (M : Nat → Msg) (n : Nat) (sz : Nat) (a : Nat) (i : Nat) (mm : Nat) (hm : CI 38 0 = nI mm) (ha : a < mm) (hmm : mm < 25) (hi : CR 3 a = some i) : Met l y_LC_at [Cond.code y_LC_at b_LC_at 2 (some (.object "LeaseCores$Message"))] { frames := 0, cells := 0, slots := 0, locals := 0 } (va_Pc [.ref o, .int (nI a)] (CPre D ac (cwm ac o ad al CI CL CR M n) sz)) (va_Qq (fun r u => r = Option.map al (some i) ∧ u = cwm ac o ad al CI CL CR M n) (CPost D (cwm ac o ad al CI CL CR M n) sz) (va_A (cwm ac o ad al CI CL CR M n) sz)) 0 0 (va_A (cwm ac o ad al CI CL CR M n) sz) := by
  refine kofW (by decide) (Nat.le_of_ble_eq_true rfl) ?_
  intro p ev s m args below meth c0 ls X hr hk hnm hex hsz w hl
  have X : Cx b_LC_at 2 R_LC D ac p m args c0 s := X
  have hx := X.1
  have hb := X.2.1
  have hl : lv_has ls 2 [(0, .ref o), (1, .int (nI a))] := hl
  refine lv_iload_n hx hb d_LC_at_0 rfl (lv_at hl 1 rfl) ?_
  refine lv_if_lt (tgt := 12) hx hb d_LC_at_1 (by decide) (fun h => absurd h (nI_pos (by omega))) (fun _ => ?_)
  refine lv_iload_n hx hb d_LC_at_4 rfl (lv_at hl 1 rfl) ?_
  refine lv_aload_n hx hb d_LC_at_5 rfl (lv_at hl 0 rfl) ?_
  refine cg_LC_51 X w (v := CI 38 0) rfl d_LC_at_6 ?_
  refine lv_icmp_lt (tgt := 20) hx hb d_LC_at_9 (by decide) (fun _ => ?_) (fun h => absurd (by rw [hm]; exact nI_lt (by omega) (by omega)) h)
  refine lv_aload_n hx hb d_LC_at_20 rfl (lv_at hl 0 rfl) ?_
  refine cg_LC_27 X w d_LC_at_21 ?_
  refine lv_iload_n hx hb d_LC_at_24 rfl (lv_at hl 1 rfl) ?_
  refine cl_messages X w a (by omega) rfl d_LC_at_25 ?_
  refine W.eq (g2 := F0 m 26 ls [.ref (al i)]) (by first | rfl | exact congrArg (fun z => F0 m 26 ls [va_rf (Option.map al z)]) (show CR 3 a = _ from hi)) ?_
  exact kqret (r := Option.map al (some i)) X w hr hk ⟨rfl, rfl⟩ d_LC_at_26
def f_LC_messages (CI : Nat → Nat → Int32)  : Int32 :=
  CI 38 0
set_option maxHeartbeats 4000000 in
set_option maxRecDepth 100000 in
theorem c_LC_messages (l : Launch) (D : va_G) (ac : Nat → ClassId) (o : Nat) (ad : Nat → Nat) (al : Nat → Nat) (CI : Nat → Nat → Int32) (CL : Nat → Nat → Int64) (CR : Nat → Nat → Option Nat) (M : Nat → Msg) (n : Nat) (sz : Nat)   : Met l y_LC_messages [Cond.code y_LC_messages b_LC_messages 1 (some .int)] { frames := 0, cells := 0, slots := 0, locals := 0 } (va_Pc [.ref o] (CPre D ac (cwm ac o ad al CI CL CR M n) sz)) (va_Qi (fun r u => r = f_LC_messages CI ∧ u = cwm ac o ad al CI CL CR M n) (CPost D (cwm ac o ad al CI CL CR M n) sz) (va_A (cwm ac o ad al CI CL CR M n) sz)) 0 0 (va_A (cwm ac o ad al CI CL CR M n) sz) := by
  refine kofW (by decide) (Nat.le_of_ble_eq_true rfl) ?_
  intro p ev s m args below meth c0 ls X hr hk hnm hex hsz w hl
  have X : Cx b_LC_messages 1 R_LC D ac p m args c0 s := X
  have hx := X.1
  have hb := X.2.1
  have hl : lv_has ls 1 [(0, .ref o)] := hl
  refine lv_aload_n hx hb d_LC_messages_0 rfl (lv_at hl 0 rfl) ?_
  refine cg_LC_51 X w (v := CI 38 0) rfl d_LC_messages_1 ?_
  have hF : f_LC_messages CI = CI 38 0 := by rfl
  exact kiret X w hr hk ⟨by rw [hF], rfl⟩ d_LC_messages_4
def f_LC_stamp (CL : Nat → Nat → Int64)  : Int64 :=
  CL 35 0
set_option maxHeartbeats 4000000 in
set_option maxRecDepth 100000 in
theorem c_LC_stamp (l : Launch) (D : va_G) (ac : Nat → ClassId) (o : Nat) (ad : Nat → Nat) (al : Nat → Nat) (CI : Nat → Nat → Int32) (CL : Nat → Nat → Int64) (CR : Nat → Nat → Option Nat) (M : Nat → Msg) (n : Nat) (sz : Nat)   : Met l y_LC_stamp [Cond.code y_LC_stamp b_LC_stamp 1 (some .long)] { frames := 0, cells := 0, slots := 0, locals := 0 } (va_Pc [.ref o] (CPre D ac (cwm ac o ad al CI CL CR M n) sz)) (va_Ql (fun r u => r = f_LC_stamp CL ∧ u = cwm ac o ad al CI CL CR M n) (CPost D (cwm ac o ad al CI CL CR M n) sz) (va_A (cwm ac o ad al CI CL CR M n) sz)) 0 0 (va_A (cwm ac o ad al CI CL CR M n) sz) := by
  refine kofW (by decide) (Nat.le_of_ble_eq_true rfl) ?_
  intro p ev s m args below meth c0 ls X hr hk hnm hex hsz w hl
  have X : Cx b_LC_stamp 1 R_LC D ac p m args c0 s := X
  have hx := X.1
  have hb := X.2.1
  have hl : lv_has ls 1 [(0, .ref o)] := hl
  refine lv_aload_n hx hb d_LC_stamp_0 rfl (lv_at hl 0 rfl) ?_
  refine cg_LC_180 X w (v := CL 35 0) rfl d_LC_stamp_1 ?_
  have hF : f_LC_stamp CL = CL 35 0 := by rfl
  exact klret X w hr hk ⟨by rw [hF], rfl⟩ d_LC_stamp_4
set_option maxHeartbeats 4000000 in
set_option maxRecDepth 100000 in
theorem c_LC_needCore (l : Launch) (D : va_G) (ac : Nat → ClassId) (o : Nat) (ad : Nat → Nat) (al : Nat → Nat) (CI : Nat → Nat → Int32) (CL : Nat → Nat → Int64) (CR : Nat → Nat → Option Nat) (M : Nat → Msg) (n : Nat) (sz : Nat) (c : Nat) (hc : c < 3) : Met l y_LC_needCore [Cond.code y_LC_needCore b_LC_needCore 2 (some (.object "LeaseCores$Core"))] { frames := 0, cells := 0, slots := 0, locals := 0 } (va_Pc [.ref o, .int (nI c)] (CPre D ac (cwm ac o ad al CI CL CR M n) sz)) (va_Qq (fun r u => r = rC ad (some c) ∧ u = cwm ac o ad al CI CL CR M n) (CPost D (cwm ac o ad al CI CL CR M n) sz) (va_A (cwm ac o ad al CI CL CR M n) sz)) 0 0 (va_A (cwm ac o ad al CI CL CR M n) sz) := by
  refine kofW (by decide) (Nat.le_of_ble_eq_true rfl) ?_
  intro p ev s m args below meth c0 ls X hr hk hnm hex hsz w hl
  have X : Cx b_LC_needCore 2 R_LC D ac p m args c0 s := X
  have hx := X.1
  have hb := X.2.1
  have hl : lv_has ls 2 [(0, .ref o), (1, .int (nI c))] := hl
  refine lv_iload_n hx hb d_LC_needCore_0 rfl (lv_at hl 1 rfl) ?_
  refine lv_if_lt (tgt := 9) hx hb d_LC_needCore_1 (by decide) (fun h => absurd h (nI_pos (by omega))) (fun _ => ?_)
  refine lv_iload_n hx hb d_LC_needCore_4 rfl (lv_at hl 1 rfl) ?_
  refine lv_iconst (v := 3) hx hb d_LC_needCore_5 (by decide) ?_
  refine lv_icmp_lt (tgt := 17) hx hb d_LC_needCore_6 (by decide) (fun _ => ?_) (fun h => absurd (nI_lt (b := 3) (by omega) (by omega)) h)
  refine lv_aload_n hx hb d_LC_needCore_17 rfl (lv_at hl 0 rfl) ?_
  refine cg_LC_11 X w d_LC_needCore_18 ?_
  refine lv_iload_n hx hb d_LC_needCore_21 rfl (lv_at hl 1 rfl) ?_
  refine cl_cores X w c (by omega) rfl d_LC_needCore_22 ?_
  exact kqret (r := rC ad (some c)) X w hr hk ⟨rfl, rfl⟩ d_LC_needCore_23
set_option maxHeartbeats 4000000 in
set_option maxRecDepth 100000 in
theorem c_LC_needLine (l : Launch) (D : va_G) (ac : Nat → ClassId) (o : Nat) (ad : Nat → Nat) (al : Nat → Nat) (CI : Nat → Nat → Int32) (CL : Nat → Nat → Int64) (CR : Nat → Nat → Option Nat) (M : Nat → Msg) (n : Nat) (sz : Nat) (a : Nat) (ha : a < 12) : Met l y_LC_needLine [Cond.code y_LC_needLine b_LC_needLine 1 none] { frames := 0, cells := 0, slots := 0, locals := 0 } (va_Pc [.int (nI a)] (CPre D ac (cwm ac o ad al CI CL CR M n) sz)) (va_Qv (fun u => u = cwm ac o ad al CI CL CR M n) (CPost D (cwm ac o ad al CI CL CR M n) sz) (va_A (cwm ac o ad al CI CL CR M n) sz)) 0 0 (va_A (cwm ac o ad al CI CL CR M n) sz) := by
  refine kofW (by decide) (Nat.le_of_ble_eq_true rfl) ?_
  intro p ev s m args below meth c0 ls X hr hk hnm hex hsz w hl
  have X : Cx b_LC_needLine 1 R_LC D ac p m args c0 s := X
  have hx := X.1
  have hb := X.2.1
  have hl : lv_has ls 1 [(0, .int (nI a))] := hl
  refine lv_iload_n hx hb d_LC_needLine_0 rfl (lv_at hl 0 rfl) ?_
  refine lv_if_lt (tgt := 10) hx hb d_LC_needLine_1 (by decide) (fun h => absurd h (nI_pos (by omega))) (fun _ => ?_)
  refine lv_iload_n hx hb d_LC_needLine_4 rfl (lv_at hl 0 rfl) ?_
  refine lv_bipush (v := 12) hx hb d_LC_needLine_5 (by decide) ?_
  refine lv_icmp_lt (tgt := 18) hx hb d_LC_needLine_7 (by decide) (fun _ => ?_) (fun h => absurd (nI_lt (b := 12) (by omega) (by omega)) h)
  exact kvret (Qc := fun _ _ _ _ => True) X w hr hk (rfl) d_LC_needLine_18
def f_LC_time (CL : Nat → Nat → Int64) (c : Nat) : Int64 :=
  CL 0 c
set_option maxHeartbeats 4000000 in
set_option maxRecDepth 100000 in
theorem c_LC_time (l : Launch) (D : va_G) (ac : Nat → ClassId) (o : Nat) (ad : Nat → Nat) (al : Nat → Nat) (CI : Nat → Nat → Int32) (CL : Nat → Nat → Int64) (CR : Nat → Nat → Option Nat) (M : Nat → Msg) (n : Nat) (sz : Nat) (c : Nat) (hc : c < 3) : Met l y_LC_time [Cond.code y_LC_time b_LC_time 2 (some .long)] { frames := 1, cells := 0, slots := 0, locals := 21 } (va_Pc [.ref o, .int (nI c)] (CPre D ac (cwm ac o ad al CI CL CR M n) sz)) (va_Ql (fun r u => r = f_LC_time CL c ∧ u = cwm ac o ad al CI CL CR M n) (CPost D (cwm ac o ad al CI CL CR M n) sz) (va_A (cwm ac o ad al CI CL CR M n) sz)) 0 0 (va_A (cwm ac o ad al CI CL CR M n) sz) := by
  refine kofW (by decide) (Nat.le_of_ble_eq_true rfl) ?_
  intro p ev s m args below meth c0 ls X hr hk hnm hex hsz w hl
  have X : Cx b_LC_time 2 R_LC D ac p m args c0 s := X
  have hx := X.1
  have hb := X.2.1
  have hl : lv_has ls 2 [(0, .ref o), (1, .int (nI c))] := hl
  refine lv_aload_n hx hb d_LC_time_0 rfl (lv_at hl 0 rfl) ?_
  refine lv_iload_n hx hb d_LC_time_1 rfl (lv_at hl 1 rfl) ?_
  refine kcallq (ws0 := []) w (krunV (ws0 := []) (wc := cwm ac o ad al CI CL CR M n) (n := 1) (As := [.int (nI c)]) (rest := []) (C := R_LC) X w (c_LC_needCore l D ac o ad al CI CL CR M n _ c (by omega)) wk_LC_needCore wi_LC wm_LC_102 wx_LC_needCore ws_LC_LC_needCore (by decide +kernel) rfl rfl ⟨(Nat.le_of_ble_eq_true rfl), (Nat.le_of_ble_eq_true rfl)⟩ ⟨(Nat.le_of_ble_eq_true rfl), (Nat.le_of_ble_eq_true rfl)⟩ (crecv X w) rfl hl.1 rfl (Nat.le_of_ble_eq_true rfl) d_LC_time_2) (fun r1 u H locs hp w => ?_)
  obtain ⟨rfl, rfl⟩ := hp
  have w : Wo D _ (cwm ac o ad al CI CL CR M n) s.heap _ _ := w
  refine W.eq (g2 := F0 m 5 ls (.ref (ad (4 + c)) :: [])) rfl ?_
  refine cg_LC_118 X w c (by omega) (v := CL 0 c) rfl d_LC_time_5 ?_
  have hF : f_LC_time CL c = CL 0 c := by rfl
  exact klret X w hr hk ⟨by rw [hF], rfl⟩ d_LC_time_8
def f_LC_memory (CI : Nat → Nat → Int32) (a : Nat) : Int32 :=
  CI 27 a
set_option maxHeartbeats 4000000 in
set_option maxRecDepth 100000 in
theorem c_LC_memory (l : Launch) (D : va_G) (ac : Nat → ClassId) (o : Nat) (ad : Nat → Nat) (al : Nat → Nat) (CI : Nat → Nat → Int32) (CL : Nat → Nat → Int64) (CR : Nat → Nat → Option Nat) (M : Nat → Msg) (n : Nat) (sz : Nat) (a : Nat) (ha : a < 12) : Met l y_LC_memory [Cond.code y_LC_memory b_LC_memory 2 (some .int)] { frames := 1, cells := 0, slots := 0, locals := 20 } (va_Pc [.ref o, .int (nI a)] (CPre D ac (cwm ac o ad al CI CL CR M n) sz)) (va_Qi (fun r u => r = f_LC_memory CI a ∧ u = cwm ac o ad al CI CL CR M n) (CPost D (cwm ac o ad al CI CL CR M n) sz) (va_A (cwm ac o ad al CI CL CR M n) sz)) 0 0 (va_A (cwm ac o ad al CI CL CR M n) sz) := by
  refine kofW (by decide) (Nat.le_of_ble_eq_true rfl) ?_
  intro p ev s m args below meth c0 ls X hr hk hnm hex hsz w hl
  have X : Cx b_LC_memory 2 R_LC D ac p m args c0 s := X
  have hx := X.1
  have hb := X.2.1
  have hl : lv_has ls 2 [(0, .ref o), (1, .int (nI a))] := hl
  refine lv_iload_n hx hb d_LC_memory_0 rfl (lv_at hl 1 rfl) ?_
  refine kcallv (ws0 := []) w (krunS (ws0 := []) (wc := cwm ac o ad al CI CL CR M n) (n := 1) (As := [.int (nI a)]) (rest := []) X w (c_LC_needLine l D ac o ad al CI CL CR M n _ a (by omega)) wk_LC_needLine wi_LC wm_LC_106 wt_LC_needLine (by decide +kernel) rfl rfl ⟨(Nat.le_of_ble_eq_true rfl), (Nat.le_of_ble_eq_true rfl)⟩ ⟨(Nat.le_of_ble_eq_true rfl), (Nat.le_of_ble_eq_true rfl)⟩ rfl hl.1 rfl (Nat.le_of_ble_eq_true rfl) d_LC_memory_1) (fun u H locs hp w => ?_)
  obtain rfl := hp
  have w : Wo D _ (cwm ac o ad al CI CL CR M n) s.heap _ _ := w
  refine lv_aload_n hx hb d_LC_memory_4 rfl (lv_at hl 0 rfl) ?_
  refine cg_LC_21 X w d_LC_memory_5 ?_
  refine lv_iload_n hx hb d_LC_memory_8 rfl (lv_at hl 1 rfl) ?_
  refine cl_memory X w a (v := CI 27 a) (by omega) rfl rfl d_LC_memory_9 ?_
  have hF : f_LC_memory CI a = CI 27 a := by rfl
  exact kiret X w hr hk ⟨by rw [hF], rfl⟩ d_LC_memory_10
def f_LC_core_0 (CI : Nat → Nat → Int32) (c : Nat) : Int32 :=
  if (CI 1 c) = 0 then
    0
  else
    1
set_option maxHeartbeats 4000000 in
set_option maxRecDepth 100000 in
theorem c_LC_core_0 (l : Launch) (D : va_G) (ac : Nat → ClassId) (o : Nat) (ad : Nat → Nat) (al : Nat → Nat) (CI : Nat → Nat → Int32) (CL : Nat → Nat → Int64) (CR : Nat → Nat → Option Nat) (M : Nat → Msg) (n : Nat) (sz : Nat) (c : Nat) (hc : c < 3) : Met l y_LC_core [Cond.code y_LC_core b_LC_core 4 (some .int)] { frames := 1, cells := 0, slots := 0, locals := 21 } (va_Pc [.ref o, .int (nI c), .int 0] (CPre D ac (cwm ac o ad al CI CL CR M n) sz)) (va_Qi (fun r u => r = f_LC_core_0 CI c ∧ u = cwm ac o ad al CI CL CR M n) (CPost D (cwm ac o ad al CI CL CR M n) sz) (va_A (cwm ac o ad al CI CL CR M n) sz)) 0 0 (va_A (cwm ac o ad al CI CL CR M n) sz) := by
  refine kofW (by decide) (Nat.le_of_ble_eq_true rfl) ?_
  intro p ev s m args below meth c0 ls X hr hk hnm hex hsz w hl
  have X : Cx b_LC_core 4 R_LC D ac p m args c0 s := X
  have hx := X.1
  have hb := X.2.1
  have hl : lv_has ls 4 [(0, .ref o), (1, .int (nI c)), (2, .int 0)] := hl
  refine lv_aload_n hx hb d_LC_core_0 rfl (lv_at hl 0 rfl) ?_
  refine lv_iload_n hx hb d_LC_core_1 rfl (lv_at hl 1 rfl) ?_
  refine kcallq (ws0 := []) w (krunV (ws0 := []) (wc := cwm ac o ad al CI CL CR M n) (n := 1) (As := [.int (nI c)]) (rest := []) (C := R_LC) X w (c_LC_needCore l D ac o ad al CI CL CR M n _ c (by omega)) wk_LC_needCore wi_LC wm_LC_102 wx_LC_needCore ws_LC_LC_needCore (by decide +kernel) rfl rfl ⟨(Nat.le_of_ble_eq_true rfl), (Nat.le_of_ble_eq_true rfl)⟩ ⟨(Nat.le_of_ble_eq_true rfl), (Nat.le_of_ble_eq_true rfl)⟩ (crecv X w) rfl hl.1 rfl (Nat.le_of_ble_eq_true rfl) d_LC_core_2) (fun r1 u H locs hp w => ?_)
  obtain ⟨rfl, rfl⟩ := hp
  have w : Wo D _ (cwm ac o ad al CI CL CR M n) s.heap _ _ := w
  refine W.eq (g2 := F0 m 5 ls (.ref (ad (4 + c)) :: [])) rfl ?_
  refine lv_astore_n (lv' := [(3, .ref (ad (4 + c))), (0, .ref o), (1, .int (nI c)), (2, .int 0)]) hx hb d_LC_core_5 rfl hl (by decide) rfl (fun ls hl => ?_)
  refine lv_iload_n hx hb d_LC_core_6 rfl (lv_at hl 3 rfl) ?_
  refine lv_tableIn (off := 33) (tgt := 40) hx hb d_LC_core_7 (by decide) (by decide) (by decide) (by decide) ?_
  refine lv_aload_n hx hb d_LC_core_40 rfl (lv_at hl 0 rfl) ?_
  refine cg_LC_109 X w c (by omega) (v := CI 1 c) rfl d_LC_core_41 ?_
  refine lv_if_eq (tgt := 51) hx hb d_LC_core_44 (by decide) (fun h2 => ?_) (fun h2 => ?_)
  · skip
    refine lv_iconst (v := 0) hx hb d_LC_core_51 (by decide) ?_
    have hF : f_LC_core_0 CI c = 0 := by unfold f_LC_core_0; rw [if_pos h2]
    exact kiret X w hr hk ⟨by rw [hF], rfl⟩ d_LC_core_52
  · skip
    refine lv_iconst (v := 1) hx hb d_LC_core_47 (by decide) ?_
    refine lv_goto (tgt := 52) hx hb d_LC_core_48 (by decide) ?_
    have hF : f_LC_core_0 CI c = 1 := by unfold f_LC_core_0; rw [if_neg h2]
    exact kiret X w hr hk ⟨by rw [hF], rfl⟩ d_LC_core_52
def f_LC_core_1 (CI : Nat → Nat → Int32) (c : Nat) : Int32 :=
  CI 6 c
set_option maxHeartbeats 4000000 in
set_option maxRecDepth 100000 in
theorem c_LC_core_1 (l : Launch) (D : va_G) (ac : Nat → ClassId) (o : Nat) (ad : Nat → Nat) (al : Nat → Nat) (CI : Nat → Nat → Int32) (CL : Nat → Nat → Int64) (CR : Nat → Nat → Option Nat) (M : Nat → Msg) (n : Nat) (sz : Nat) (c : Nat) (hc : c < 3) : Met l y_LC_core [Cond.code y_LC_core b_LC_core 4 (some .int)] { frames := 1, cells := 0, slots := 0, locals := 21 } (va_Pc [.ref o, .int (nI c), .int 1] (CPre D ac (cwm ac o ad al CI CL CR M n) sz)) (va_Qi (fun r u => r = f_LC_core_1 CI c ∧ u = cwm ac o ad al CI CL CR M n) (CPost D (cwm ac o ad al CI CL CR M n) sz) (va_A (cwm ac o ad al CI CL CR M n) sz)) 0 0 (va_A (cwm ac o ad al CI CL CR M n) sz) := by
  refine kofW (by decide) (Nat.le_of_ble_eq_true rfl) ?_
  intro p ev s m args below meth c0 ls X hr hk hnm hex hsz w hl
  have X : Cx b_LC_core 4 R_LC D ac p m args c0 s := X
  have hx := X.1
  have hb := X.2.1
  have hl : lv_has ls 4 [(0, .ref o), (1, .int (nI c)), (2, .int 1)] := hl
  refine lv_aload_n hx hb d_LC_core_0 rfl (lv_at hl 0 rfl) ?_
  refine lv_iload_n hx hb d_LC_core_1 rfl (lv_at hl 1 rfl) ?_
  refine kcallq (ws0 := []) w (krunV (ws0 := []) (wc := cwm ac o ad al CI CL CR M n) (n := 1) (As := [.int (nI c)]) (rest := []) (C := R_LC) X w (c_LC_needCore l D ac o ad al CI CL CR M n _ c (by omega)) wk_LC_needCore wi_LC wm_LC_102 wx_LC_needCore ws_LC_LC_needCore (by decide +kernel) rfl rfl ⟨(Nat.le_of_ble_eq_true rfl), (Nat.le_of_ble_eq_true rfl)⟩ ⟨(Nat.le_of_ble_eq_true rfl), (Nat.le_of_ble_eq_true rfl)⟩ (crecv X w) rfl hl.1 rfl (Nat.le_of_ble_eq_true rfl) d_LC_core_2) (fun r1 u H locs hp w => ?_)
  obtain ⟨rfl, rfl⟩ := hp
  have w : Wo D _ (cwm ac o ad al CI CL CR M n) s.heap _ _ := w
  refine W.eq (g2 := F0 m 5 ls (.ref (ad (4 + c)) :: [])) rfl ?_
  refine lv_astore_n (lv' := [(3, .ref (ad (4 + c))), (0, .ref o), (1, .int (nI c)), (2, .int 1)]) hx hb d_LC_core_5 rfl hl (by decide) rfl (fun ls hl => ?_)
  refine lv_iload_n hx hb d_LC_core_6 rfl (lv_at hl 3 rfl) ?_
  refine lv_tableIn (off := 46) (tgt := 53) hx hb d_LC_core_7 (by decide) (by decide) (by decide) (by decide) ?_
  refine lv_aload_n hx hb d_LC_core_53 rfl (lv_at hl 0 rfl) ?_
  refine cg_LC_115 X w c (by omega) (v := CI 6 c) rfl d_LC_core_54 ?_
  have hF : f_LC_core_1 CI c = CI 6 c := by rfl
  exact kiret X w hr hk ⟨by rw [hF], rfl⟩ d_LC_core_57
def f_LC_core_2 (CI : Nat → Nat → Int32) (c : Nat) : Int32 :=
  CI 7 c
set_option maxHeartbeats 4000000 in
set_option maxRecDepth 100000 in
theorem c_LC_core_2 (l : Launch) (D : va_G) (ac : Nat → ClassId) (o : Nat) (ad : Nat → Nat) (al : Nat → Nat) (CI : Nat → Nat → Int32) (CL : Nat → Nat → Int64) (CR : Nat → Nat → Option Nat) (M : Nat → Msg) (n : Nat) (sz : Nat) (c : Nat) (hc : c < 3) : Met l y_LC_core [Cond.code y_LC_core b_LC_core 4 (some .int)] { frames := 1, cells := 0, slots := 0, locals := 21 } (va_Pc [.ref o, .int (nI c), .int 2] (CPre D ac (cwm ac o ad al CI CL CR M n) sz)) (va_Qi (fun r u => r = f_LC_core_2 CI c ∧ u = cwm ac o ad al CI CL CR M n) (CPost D (cwm ac o ad al CI CL CR M n) sz) (va_A (cwm ac o ad al CI CL CR M n) sz)) 0 0 (va_A (cwm ac o ad al CI CL CR M n) sz) := by
  refine kofW (by decide) (Nat.le_of_ble_eq_true rfl) ?_
  intro p ev s m args below meth c0 ls X hr hk hnm hex hsz w hl
  have X : Cx b_LC_core 4 R_LC D ac p m args c0 s := X
  have hx := X.1
  have hb := X.2.1
  have hl : lv_has ls 4 [(0, .ref o), (1, .int (nI c)), (2, .int 2)] := hl
  refine lv_aload_n hx hb d_LC_core_0 rfl (lv_at hl 0 rfl) ?_
  refine lv_iload_n hx hb d_LC_core_1 rfl (lv_at hl 1 rfl) ?_
  refine kcallq (ws0 := []) w (krunV (ws0 := []) (wc := cwm ac o ad al CI CL CR M n) (n := 1) (As := [.int (nI c)]) (rest := []) (C := R_LC) X w (c_LC_needCore l D ac o ad al CI CL CR M n _ c (by omega)) wk_LC_needCore wi_LC wm_LC_102 wx_LC_needCore ws_LC_LC_needCore (by decide +kernel) rfl rfl ⟨(Nat.le_of_ble_eq_true rfl), (Nat.le_of_ble_eq_true rfl)⟩ ⟨(Nat.le_of_ble_eq_true rfl), (Nat.le_of_ble_eq_true rfl)⟩ (crecv X w) rfl hl.1 rfl (Nat.le_of_ble_eq_true rfl) d_LC_core_2) (fun r1 u H locs hp w => ?_)
  obtain ⟨rfl, rfl⟩ := hp
  have w : Wo D _ (cwm ac o ad al CI CL CR M n) s.heap _ _ := w
  refine W.eq (g2 := F0 m 5 ls (.ref (ad (4 + c)) :: [])) rfl ?_
  refine lv_astore_n (lv' := [(3, .ref (ad (4 + c))), (0, .ref o), (1, .int (nI c)), (2, .int 2)]) hx hb d_LC_core_5 rfl hl (by decide) rfl (fun ls hl => ?_)
  refine lv_iload_n hx hb d_LC_core_6 rfl (lv_at hl 3 rfl) ?_
  refine lv_tableIn (off := 51) (tgt := 58) hx hb d_LC_core_7 (by decide) (by decide) (by decide) (by decide) ?_
  refine lv_aload_n hx hb d_LC_core_58 rfl (lv_at hl 0 rfl) ?_
  refine cg_LC_220 X w c (by omega) (v := CI 7 c) rfl d_LC_core_59 ?_
  have hF : f_LC_core_2 CI c = CI 7 c := by rfl
  exact kiret X w hr hk ⟨by rw [hF], rfl⟩ d_LC_core_62
def f_LC_core_3 (CI : Nat → Nat → Int32) (c : Nat) : Int32 :=
  CI 8 c
set_option maxHeartbeats 4000000 in
set_option maxRecDepth 100000 in
theorem c_LC_core_3 (l : Launch) (D : va_G) (ac : Nat → ClassId) (o : Nat) (ad : Nat → Nat) (al : Nat → Nat) (CI : Nat → Nat → Int32) (CL : Nat → Nat → Int64) (CR : Nat → Nat → Option Nat) (M : Nat → Msg) (n : Nat) (sz : Nat) (c : Nat) (hc : c < 3) : Met l y_LC_core [Cond.code y_LC_core b_LC_core 4 (some .int)] { frames := 1, cells := 0, slots := 0, locals := 21 } (va_Pc [.ref o, .int (nI c), .int 3] (CPre D ac (cwm ac o ad al CI CL CR M n) sz)) (va_Qi (fun r u => r = f_LC_core_3 CI c ∧ u = cwm ac o ad al CI CL CR M n) (CPost D (cwm ac o ad al CI CL CR M n) sz) (va_A (cwm ac o ad al CI CL CR M n) sz)) 0 0 (va_A (cwm ac o ad al CI CL CR M n) sz) := by
  refine kofW (by decide) (Nat.le_of_ble_eq_true rfl) ?_
  intro p ev s m args below meth c0 ls X hr hk hnm hex hsz w hl
  have X : Cx b_LC_core 4 R_LC D ac p m args c0 s := X
  have hx := X.1
  have hb := X.2.1
  have hl : lv_has ls 4 [(0, .ref o), (1, .int (nI c)), (2, .int 3)] := hl
  refine lv_aload_n hx hb d_LC_core_0 rfl (lv_at hl 0 rfl) ?_
  refine lv_iload_n hx hb d_LC_core_1 rfl (lv_at hl 1 rfl) ?_
  refine kcallq (ws0 := []) w (krunV (ws0 := []) (wc := cwm ac o ad al CI CL CR M n) (n := 1) (As := [.int (nI c)]) (rest := []) (C := R_LC) X w (c_LC_needCore l D ac o ad al CI CL CR M n _ c (by omega)) wk_LC_needCore wi_LC wm_LC_102 wx_LC_needCore ws_LC_LC_needCore (by decide +kernel) rfl rfl ⟨(Nat.le_of_ble_eq_true rfl), (Nat.le_of_ble_eq_true rfl)⟩ ⟨(Nat.le_of_ble_eq_true rfl), (Nat.le_of_ble_eq_true rfl)⟩ (crecv X w) rfl hl.1 rfl (Nat.le_of_ble_eq_true rfl) d_LC_core_2) (fun r1 u H locs hp w => ?_)
  obtain ⟨rfl, rfl⟩ := hp
  have w : Wo D _ (cwm ac o ad al CI CL CR M n) s.heap _ _ := w
  refine W.eq (g2 := F0 m 5 ls (.ref (ad (4 + c)) :: [])) rfl ?_
  refine lv_astore_n (lv' := [(3, .ref (ad (4 + c))), (0, .ref o), (1, .int (nI c)), (2, .int 3)]) hx hb d_LC_core_5 rfl hl (by decide) rfl (fun ls hl => ?_)
  refine lv_iload_n hx hb d_LC_core_6 rfl (lv_at hl 3 rfl) ?_
  refine lv_tableIn (off := 56) (tgt := 63) hx hb d_LC_core_7 (by decide) (by decide) (by decide) (by decide) ?_
  refine lv_aload_n hx hb d_LC_core_63 rfl (lv_at hl 0 rfl) ?_
  refine cg_LC_223 X w c (by omega) (v := CI 8 c) rfl d_LC_core_64 ?_
  have hF : f_LC_core_3 CI c = CI 8 c := by rfl
  exact kiret X w hr hk ⟨by rw [hF], rfl⟩ d_LC_core_67
def f_LC_core_4 (CI : Nat → Nat → Int32) (c : Nat) : Int32 :=
  CI 9 c
set_option maxHeartbeats 4000000 in
set_option maxRecDepth 100000 in
theorem c_LC_core_4 (l : Launch) (D : va_G) (ac : Nat → ClassId) (o : Nat) (ad : Nat → Nat) (al : Nat → Nat) (CI : Nat → Nat → Int32) (CL : Nat → Nat → Int64) (CR : Nat → Nat → Option Nat) (M : Nat → Msg) (n : Nat) (sz : Nat) (c : Nat) (hc : c < 3) : Met l y_LC_core [Cond.code y_LC_core b_LC_core 4 (some .int)] { frames := 1, cells := 0, slots := 0, locals := 21 } (va_Pc [.ref o, .int (nI c), .int 4] (CPre D ac (cwm ac o ad al CI CL CR M n) sz)) (va_Qi (fun r u => r = f_LC_core_4 CI c ∧ u = cwm ac o ad al CI CL CR M n) (CPost D (cwm ac o ad al CI CL CR M n) sz) (va_A (cwm ac o ad al CI CL CR M n) sz)) 0 0 (va_A (cwm ac o ad al CI CL CR M n) sz) := by
  refine kofW (by decide) (Nat.le_of_ble_eq_true rfl) ?_
  intro p ev s m args below meth c0 ls X hr hk hnm hex hsz w hl
  have X : Cx b_LC_core 4 R_LC D ac p m args c0 s := X
  have hx := X.1
  have hb := X.2.1
  have hl : lv_has ls 4 [(0, .ref o), (1, .int (nI c)), (2, .int 4)] := hl
  refine lv_aload_n hx hb d_LC_core_0 rfl (lv_at hl 0 rfl) ?_
  refine lv_iload_n hx hb d_LC_core_1 rfl (lv_at hl 1 rfl) ?_
  refine kcallq (ws0 := []) w (krunV (ws0 := []) (wc := cwm ac o ad al CI CL CR M n) (n := 1) (As := [.int (nI c)]) (rest := []) (C := R_LC) X w (c_LC_needCore l D ac o ad al CI CL CR M n _ c (by omega)) wk_LC_needCore wi_LC wm_LC_102 wx_LC_needCore ws_LC_LC_needCore (by decide +kernel) rfl rfl ⟨(Nat.le_of_ble_eq_true rfl), (Nat.le_of_ble_eq_true rfl)⟩ ⟨(Nat.le_of_ble_eq_true rfl), (Nat.le_of_ble_eq_true rfl)⟩ (crecv X w) rfl hl.1 rfl (Nat.le_of_ble_eq_true rfl) d_LC_core_2) (fun r1 u H locs hp w => ?_)
  obtain ⟨rfl, rfl⟩ := hp
  have w : Wo D _ (cwm ac o ad al CI CL CR M n) s.heap _ _ := w
  refine W.eq (g2 := F0 m 5 ls (.ref (ad (4 + c)) :: [])) rfl ?_
  refine lv_astore_n (lv' := [(3, .ref (ad (4 + c))), (0, .ref o), (1, .int (nI c)), (2, .int 4)]) hx hb d_LC_core_5 rfl hl (by decide) rfl (fun ls hl => ?_)
  refine lv_iload_n hx hb d_LC_core_6 rfl (lv_at hl 3 rfl) ?_
  refine lv_tableIn (off := 61) (tgt := 68) hx hb d_LC_core_7 (by decide) (by decide) (by decide) (by decide) ?_
  refine lv_aload_n hx hb d_LC_core_68 rfl (lv_at hl 0 rfl) ?_
  refine cg_LC_226 X w c (by omega) (v := CI 9 c) rfl d_LC_core_69 ?_
  have hF : f_LC_core_4 CI c = CI 9 c := by rfl
  exact kiret X w hr hk ⟨by rw [hF], rfl⟩ d_LC_core_72
def f_LC_cached_0 (CI : Nat → Nat → Int32) (CL : Nat → Nat → Int64) (c : Nat) (a : Nat) : Int64 :=
  oc ((f_Core_find CI c (nI a))) (
    0)
    (fun y4 =>
    if (CI 11 y4) = 0 then
      0
    else
      1)
set_option maxHeartbeats 4000000 in
set_option maxRecDepth 100000 in
theorem c_LC_cached_0 (l : Launch) (D : va_G) (ac : Nat → ClassId) (o : Nat) (ad : Nat → Nat) (al : Nat → Nat) (CI : Nat → Nat → Int32) (CL : Nat → Nat → Int64) (CR : Nat → Nat → Option Nat) (M : Nat → Msg) (n : Nat) (sz : Nat) (c : Nat) (a : Nat) (hc : c < 3) (ha : a < 12) (hy : f_Core_find CI c (nI a) ≠ none) : Met l y_LC_cached [Cond.code y_LC_cached b_LC_cached 6 (some .long)] { frames := 1, cells := 0, slots := 0, locals := 22 } (va_Pc [.ref o, .int (nI c), .int (nI a), .int 0] (CPre D ac (cwm ac o ad al CI CL CR M n) sz)) (va_Ql (fun r u => r = f_LC_cached_0 CI CL c a ∧ u = cwm ac o ad al CI CL CR M n) (CPost D (cwm ac o ad al CI CL CR M n) sz) (va_A (cwm ac o ad al CI CL CR M n) sz)) 0 0 (va_A (cwm ac o ad al CI CL CR M n) sz) := by
  refine kofW (by decide) (Nat.le_of_ble_eq_true rfl) ?_
  intro p ev s m args below meth c0 ls X hr hk hnm hex hsz w hl
  have X : Cx b_LC_cached 6 R_LC D ac p m args c0 s := X
  have hx := X.1
  have hb := X.2.1
  have hl : lv_has ls 6 [(0, .ref o), (1, .int (nI c)), (2, .int (nI a)), (3, .int 0)] := hl
  refine lv_aload_n hx hb d_LC_cached_0 rfl (lv_at hl 0 rfl) ?_
  refine lv_iload_n hx hb d_LC_cached_1 rfl (lv_at hl 1 rfl) ?_
  refine kcallq (ws0 := []) w (krunV (ws0 := []) (wc := cwm ac o ad al CI CL CR M n) (n := 1) (As := [.int (nI c)]) (rest := []) (C := R_LC) X w (c_LC_needCore l D ac o ad al CI CL CR M n _ c (by omega)) wk_LC_needCore wi_LC wm_LC_102 wx_LC_needCore ws_LC_LC_needCore (by decide +kernel) rfl rfl ⟨(Nat.le_of_ble_eq_true rfl), (Nat.le_of_ble_eq_true rfl)⟩ ⟨(Nat.le_of_ble_eq_true rfl), (Nat.le_of_ble_eq_true rfl)⟩ (crecv X w) rfl hl.1 rfl (Nat.le_of_ble_eq_true rfl) d_LC_cached_2) (fun r1 u H locs hp w => ?_)
  obtain ⟨rfl, rfl⟩ := hp
  have w : Wo D _ (cwm ac o ad al CI CL CR M n) s.heap _ _ := w
  refine W.eq (g2 := F0 m 5 ls (.ref (ad (4 + c)) :: [])) rfl ?_
  refine lv_astore (lv' := [(4, .ref (ad (4 + c))), (0, .ref o), (1, .int (nI c)), (2, .int (nI a)), (3, .int 0)]) hx hb d_LC_cached_5 hl (by decide) rfl (fun ls hl => ?_)
  refine lv_iload_n hx hb d_LC_cached_7 rfl (lv_at hl 3 rfl) ?_
  refine kcallv (ws0 := []) w (krunS (ws0 := []) (wc := cwm ac o ad al CI CL CR M n) (n := 1) (As := [.int (nI a)]) (rest := []) X w (c_LC_needLine l D ac o ad al CI CL CR M n _ a (by omega)) wk_LC_needLine wi_LC wm_LC_106 wt_LC_needLine (by decide +kernel) rfl rfl ⟨(Nat.le_of_ble_eq_true rfl), (Nat.le_of_ble_eq_true rfl)⟩ ⟨(Nat.le_of_ble_eq_true rfl), (Nat.le_of_ble_eq_true rfl)⟩ rfl hl.1 rfl (Nat.le_of_ble_eq_true rfl) d_LC_cached_8) (fun u H locs hp w => ?_)
  obtain rfl := hp
  have w : Wo D _ (cwm ac o ad al CI CL CR M n) s.heap _ _ := w
  refine lv_iload_n hx hb d_LC_cached_11 rfl (lv_at hl 4 rfl) ?_
  refine lv_if_lt (tgt := 20) hx hb d_LC_cached_12 (by decide) (fun h => absurd h (by decide)) (fun _ => ?_)
  refine lv_iload_n hx hb d_LC_cached_15 rfl (lv_at hl 4 rfl) ?_
  refine lv_iconst (v := 3) hx hb d_LC_cached_16 (by decide) ?_
  refine lv_icmp_le (tgt := 28) hx hb d_LC_cached_17 (by decide) (fun _ => ?_) (fun h => absurd h (by decide))
  refine lv_aload hx hb d_LC_cached_28 (lv_at hl 0 rfl) ?_
  refine lv_iload_n hx hb d_LC_cached_30 rfl (lv_at hl 3 rfl) ?_
  refine kcallq (ws0 := []) w (krunV (ws0 := []) (wc := cwm ac o ad al CI CL CR M n) (n := 1) (As := [.int (nI a)]) (rest := []) (C := R_Core) X w (c_Core_find l D ac o ad al CI CL CR M n _ c (nI a) (by omega)) wk_Core_find wi_Core wm_LC_132 wx_Core_find ws_Core_Core_find (by decide +kernel) rfl rfl ⟨(Nat.le_of_ble_eq_true rfl), (Nat.le_of_ble_eq_true rfl)⟩ ⟨(Nat.le_of_ble_eq_true rfl), (Nat.le_of_ble_eq_true rfl)⟩ (crecv_Core X w c (by omega)) rfl hl.1 rfl (Nat.le_of_ble_eq_true rfl) d_LC_cached_31) (fun r2 u H locs hp w => ?_)
  obtain ⟨rfl, rfl⟩ := hp
  have w : Wo D _ (cwm ac o ad al CI CL CR M n) s.heap _ _ := w
  cases ho3 : (f_Core_find CI c (nI a)) with
  | none =>
    exact absurd ho3 hy
  | some y4 =>
    refine W.eq (g2 := F0 m 34 ls [.ref (ad (10 + y4))]) (by first | rfl | exact congrArg (fun z => F0 m 34 ls [va_rf (rP ad z)]) ho3) ?_
    have hy4 := f_Core_find_lt ho3
    have hy4c := f_Core_find_line ho3
    refine lv_astore (lv' := [(5, .ref (ad (10 + y4))), (4, .ref (ad (4 + c))), (0, .ref o), (1, .int (nI c)), (2, .int (nI a)), (3, .int 0)]) hx hb d_LC_cached_34 hl (by decide) rfl (fun ls hl => ?_)
    refine lv_aload hx hb d_LC_cached_36 (lv_at hl 0 rfl) ?_
    refine lv_ifnonnull (tgt := 49) hx hb d_LC_cached_38 (by decide) ?_
    refine lv_iload_n hx hb d_LC_cached_49 rfl (lv_at hl 5 rfl) ?_
    refine lv_if_ne (tgt := 69) hx hb d_LC_cached_50 (by decide) (fun h => absurd h (by decide)) (fun _ => ?_)
    refine lv_aload hx hb d_LC_cached_53 (lv_at hl 0 rfl) ?_
    refine cg_LC_86 X w y4 (by omega) (v := CI 11 y4) rfl d_LC_cached_55 ?_
    refine lv_if_eq (tgt := 65) hx hb d_LC_cached_58 (by decide) (fun h5 => ?_) (fun h5 => ?_)
    · skip
      refine lv_lconst (v := 0) hx hb d_LC_cached_65 (by decide) ?_
      refine lv_goto (tgt := 101) hx hb d_LC_cached_66 (by decide) ?_
      have hF : f_LC_cached_0 CI CL c a = 0 := by unfold f_LC_cached_0; rw [ho3, oc_some, if_pos h5]
      exact klret X w hr hk ⟨by rw [hF], rfl⟩ d_LC_cached_101
    · skip
      refine lv_lconst (v := 1) hx hb d_LC_cached_61 (by decide) ?_
      refine lv_goto (tgt := 101) hx hb d_LC_cached_62 (by decide) ?_
      have hF : f_LC_cached_0 CI CL c a = 1 := by unfold f_LC_cached_0; rw [ho3, oc_some, if_neg h5]
      exact klret X w hr hk ⟨by rw [hF], rfl⟩ d_LC_cached_101
def f_LC_cached_1 (CI : Nat → Nat → Int32) (CL : Nat → Nat → Int64) (c : Nat) (a : Nat) : Int64 :=
  oc ((f_Core_find CI c (nI a))) (
    0)
    (fun y4 =>
    (CI 12 y4).toInt64)
set_option maxHeartbeats 4000000 in
set_option maxRecDepth 100000 in
theorem c_LC_cached_1 (l : Launch) (D : va_G) (ac : Nat → ClassId) (o : Nat) (ad : Nat → Nat) (al : Nat → Nat) (CI : Nat → Nat → Int32) (CL : Nat → Nat → Int64) (CR : Nat → Nat → Option Nat) (M : Nat → Msg) (n : Nat) (sz : Nat) (c : Nat) (a : Nat) (hc : c < 3) (ha : a < 12) (hy : f_Core_find CI c (nI a) ≠ none) : Met l y_LC_cached [Cond.code y_LC_cached b_LC_cached 6 (some .long)] { frames := 1, cells := 0, slots := 0, locals := 22 } (va_Pc [.ref o, .int (nI c), .int (nI a), .int 1] (CPre D ac (cwm ac o ad al CI CL CR M n) sz)) (va_Ql (fun r u => r = f_LC_cached_1 CI CL c a ∧ u = cwm ac o ad al CI CL CR M n) (CPost D (cwm ac o ad al CI CL CR M n) sz) (va_A (cwm ac o ad al CI CL CR M n) sz)) 0 0 (va_A (cwm ac o ad al CI CL CR M n) sz) := by
  refine kofW (by decide) (Nat.le_of_ble_eq_true rfl) ?_
  intro p ev s m args below meth c0 ls X hr hk hnm hex hsz w hl
  have X : Cx b_LC_cached 6 R_LC D ac p m args c0 s := X
  have hx := X.1
  have hb := X.2.1
  have hl : lv_has ls 6 [(0, .ref o), (1, .int (nI c)), (2, .int (nI a)), (3, .int 1)] := hl
  refine lv_aload_n hx hb d_LC_cached_0 rfl (lv_at hl 0 rfl) ?_
  refine lv_iload_n hx hb d_LC_cached_1 rfl (lv_at hl 1 rfl) ?_
  refine kcallq (ws0 := []) w (krunV (ws0 := []) (wc := cwm ac o ad al CI CL CR M n) (n := 1) (As := [.int (nI c)]) (rest := []) (C := R_LC) X w (c_LC_needCore l D ac o ad al CI CL CR M n _ c (by omega)) wk_LC_needCore wi_LC wm_LC_102 wx_LC_needCore ws_LC_LC_needCore (by decide +kernel) rfl rfl ⟨(Nat.le_of_ble_eq_true rfl), (Nat.le_of_ble_eq_true rfl)⟩ ⟨(Nat.le_of_ble_eq_true rfl), (Nat.le_of_ble_eq_true rfl)⟩ (crecv X w) rfl hl.1 rfl (Nat.le_of_ble_eq_true rfl) d_LC_cached_2) (fun r1 u H locs hp w => ?_)
  obtain ⟨rfl, rfl⟩ := hp
  have w : Wo D _ (cwm ac o ad al CI CL CR M n) s.heap _ _ := w
  refine W.eq (g2 := F0 m 5 ls (.ref (ad (4 + c)) :: [])) rfl ?_
  refine lv_astore (lv' := [(4, .ref (ad (4 + c))), (0, .ref o), (1, .int (nI c)), (2, .int (nI a)), (3, .int 1)]) hx hb d_LC_cached_5 hl (by decide) rfl (fun ls hl => ?_)
  refine lv_iload_n hx hb d_LC_cached_7 rfl (lv_at hl 3 rfl) ?_
  refine kcallv (ws0 := []) w (krunS (ws0 := []) (wc := cwm ac o ad al CI CL CR M n) (n := 1) (As := [.int (nI a)]) (rest := []) X w (c_LC_needLine l D ac o ad al CI CL CR M n _ a (by omega)) wk_LC_needLine wi_LC wm_LC_106 wt_LC_needLine (by decide +kernel) rfl rfl ⟨(Nat.le_of_ble_eq_true rfl), (Nat.le_of_ble_eq_true rfl)⟩ ⟨(Nat.le_of_ble_eq_true rfl), (Nat.le_of_ble_eq_true rfl)⟩ rfl hl.1 rfl (Nat.le_of_ble_eq_true rfl) d_LC_cached_8) (fun u H locs hp w => ?_)
  obtain rfl := hp
  have w : Wo D _ (cwm ac o ad al CI CL CR M n) s.heap _ _ := w
  refine lv_iload_n hx hb d_LC_cached_11 rfl (lv_at hl 4 rfl) ?_
  refine lv_if_lt (tgt := 20) hx hb d_LC_cached_12 (by decide) (fun h => absurd h (by decide)) (fun _ => ?_)
  refine lv_iload_n hx hb d_LC_cached_15 rfl (lv_at hl 4 rfl) ?_
  refine lv_iconst (v := 3) hx hb d_LC_cached_16 (by decide) ?_
  refine lv_icmp_le (tgt := 28) hx hb d_LC_cached_17 (by decide) (fun _ => ?_) (fun h => absurd h (by decide))
  refine lv_aload hx hb d_LC_cached_28 (lv_at hl 0 rfl) ?_
  refine lv_iload_n hx hb d_LC_cached_30 rfl (lv_at hl 3 rfl) ?_
  refine kcallq (ws0 := []) w (krunV (ws0 := []) (wc := cwm ac o ad al CI CL CR M n) (n := 1) (As := [.int (nI a)]) (rest := []) (C := R_Core) X w (c_Core_find l D ac o ad al CI CL CR M n _ c (nI a) (by omega)) wk_Core_find wi_Core wm_LC_132 wx_Core_find ws_Core_Core_find (by decide +kernel) rfl rfl ⟨(Nat.le_of_ble_eq_true rfl), (Nat.le_of_ble_eq_true rfl)⟩ ⟨(Nat.le_of_ble_eq_true rfl), (Nat.le_of_ble_eq_true rfl)⟩ (crecv_Core X w c (by omega)) rfl hl.1 rfl (Nat.le_of_ble_eq_true rfl) d_LC_cached_31) (fun r2 u H locs hp w => ?_)
  obtain ⟨rfl, rfl⟩ := hp
  have w : Wo D _ (cwm ac o ad al CI CL CR M n) s.heap _ _ := w
  cases ho3 : (f_Core_find CI c (nI a)) with
  | none =>
    exact absurd ho3 hy
  | some y4 =>
    refine W.eq (g2 := F0 m 34 ls [.ref (ad (10 + y4))]) (by first | rfl | exact congrArg (fun z => F0 m 34 ls [va_rf (rP ad z)]) ho3) ?_
    have hy4 := f_Core_find_lt ho3
    have hy4c := f_Core_find_line ho3
    refine lv_astore (lv' := [(5, .ref (ad (10 + y4))), (4, .ref (ad (4 + c))), (0, .ref o), (1, .int (nI c)), (2, .int (nI a)), (3, .int 1)]) hx hb d_LC_cached_34 hl (by decide) rfl (fun ls hl => ?_)
    refine lv_aload hx hb d_LC_cached_36 (lv_at hl 0 rfl) ?_
    refine lv_ifnonnull (tgt := 49) hx hb d_LC_cached_38 (by decide) ?_
    refine lv_iload_n hx hb d_LC_cached_49 rfl (lv_at hl 5 rfl) ?_
    refine lv_if_ne (tgt := 69) hx hb d_LC_cached_50 (by decide) (fun _ => ?_) (fun h => absurd h (by decide))
    refine lv_iload_n hx hb d_LC_cached_69 rfl (lv_at hl 5 rfl) ?_
    refine lv_iconst (v := 1) hx hb d_LC_cached_70 (by decide) ?_
    refine lv_icmp_ne (tgt := 83) hx hb d_LC_cached_71 (by decide) (fun h => absurd h (by decide)) (fun _ => ?_)
    refine lv_aload hx hb d_LC_cached_74 (lv_at hl 0 rfl) ?_
    refine cg_LC_229 X w y4 (by omega) (v := CI 12 y4) rfl d_LC_cached_76 ?_
    refine lv_i2l (v := (CI 12 y4).toInt64) hx hb d_LC_cached_79 (rfl) ?_
    refine lv_goto (tgt := 101) hx hb d_LC_cached_80 (by decide) ?_
    have hF : f_LC_cached_1 CI CL c a = (CI 12 y4).toInt64 := by unfold f_LC_cached_1; rw [ho3, oc_some]
    exact klret X w hr hk ⟨by rw [hF], rfl⟩ d_LC_cached_101
def f_LC_cached_2 (CI : Nat → Nat → Int32) (CL : Nat → Nat → Int64) (c : Nat) (a : Nat) : Int64 :=
  oc ((f_Core_find CI c (nI a))) (
    0)
    (fun y4 =>
    CL 13 y4)
set_option maxHeartbeats 4000000 in
set_option maxRecDepth 100000 in
theorem c_LC_cached_2 (l : Launch) (D : va_G) (ac : Nat → ClassId) (o : Nat) (ad : Nat → Nat) (al : Nat → Nat) (CI : Nat → Nat → Int32) (CL : Nat → Nat → Int64) (CR : Nat → Nat → Option Nat) (M : Nat → Msg) (n : Nat) (sz : Nat) (c : Nat) (a : Nat) (hc : c < 3) (ha : a < 12) (hy : f_Core_find CI c (nI a) ≠ none) : Met l y_LC_cached [Cond.code y_LC_cached b_LC_cached 6 (some .long)] { frames := 1, cells := 0, slots := 0, locals := 22 } (va_Pc [.ref o, .int (nI c), .int (nI a), .int 2] (CPre D ac (cwm ac o ad al CI CL CR M n) sz)) (va_Ql (fun r u => r = f_LC_cached_2 CI CL c a ∧ u = cwm ac o ad al CI CL CR M n) (CPost D (cwm ac o ad al CI CL CR M n) sz) (va_A (cwm ac o ad al CI CL CR M n) sz)) 0 0 (va_A (cwm ac o ad al CI CL CR M n) sz) := by
  refine kofW (by decide) (Nat.le_of_ble_eq_true rfl) ?_
  intro p ev s m args below meth c0 ls X hr hk hnm hex hsz w hl
  have X : Cx b_LC_cached 6 R_LC D ac p m args c0 s := X
  have hx := X.1
  have hb := X.2.1
  have hl : lv_has ls 6 [(0, .ref o), (1, .int (nI c)), (2, .int (nI a)), (3, .int 2)] := hl
  refine lv_aload_n hx hb d_LC_cached_0 rfl (lv_at hl 0 rfl) ?_
  refine lv_iload_n hx hb d_LC_cached_1 rfl (lv_at hl 1 rfl) ?_
  refine kcallq (ws0 := []) w (krunV (ws0 := []) (wc := cwm ac o ad al CI CL CR M n) (n := 1) (As := [.int (nI c)]) (rest := []) (C := R_LC) X w (c_LC_needCore l D ac o ad al CI CL CR M n _ c (by omega)) wk_LC_needCore wi_LC wm_LC_102 wx_LC_needCore ws_LC_LC_needCore (by decide +kernel) rfl rfl ⟨(Nat.le_of_ble_eq_true rfl), (Nat.le_of_ble_eq_true rfl)⟩ ⟨(Nat.le_of_ble_eq_true rfl), (Nat.le_of_ble_eq_true rfl)⟩ (crecv X w) rfl hl.1 rfl (Nat.le_of_ble_eq_true rfl) d_LC_cached_2) (fun r1 u H locs hp w => ?_)
  obtain ⟨rfl, rfl⟩ := hp
  have w : Wo D _ (cwm ac o ad al CI CL CR M n) s.heap _ _ := w
  refine W.eq (g2 := F0 m 5 ls (.ref (ad (4 + c)) :: [])) rfl ?_
  refine lv_astore (lv' := [(4, .ref (ad (4 + c))), (0, .ref o), (1, .int (nI c)), (2, .int (nI a)), (3, .int 2)]) hx hb d_LC_cached_5 hl (by decide) rfl (fun ls hl => ?_)
  refine lv_iload_n hx hb d_LC_cached_7 rfl (lv_at hl 3 rfl) ?_
  refine kcallv (ws0 := []) w (krunS (ws0 := []) (wc := cwm ac o ad al CI CL CR M n) (n := 1) (As := [.int (nI a)]) (rest := []) X w (c_LC_needLine l D ac o ad al CI CL CR M n _ a (by omega)) wk_LC_needLine wi_LC wm_LC_106 wt_LC_needLine (by decide +kernel) rfl rfl ⟨(Nat.le_of_ble_eq_true rfl), (Nat.le_of_ble_eq_true rfl)⟩ ⟨(Nat.le_of_ble_eq_true rfl), (Nat.le_of_ble_eq_true rfl)⟩ rfl hl.1 rfl (Nat.le_of_ble_eq_true rfl) d_LC_cached_8) (fun u H locs hp w => ?_)
  obtain rfl := hp
  have w : Wo D _ (cwm ac o ad al CI CL CR M n) s.heap _ _ := w
  refine lv_iload_n hx hb d_LC_cached_11 rfl (lv_at hl 4 rfl) ?_
  refine lv_if_lt (tgt := 20) hx hb d_LC_cached_12 (by decide) (fun h => absurd h (by decide)) (fun _ => ?_)
  refine lv_iload_n hx hb d_LC_cached_15 rfl (lv_at hl 4 rfl) ?_
  refine lv_iconst (v := 3) hx hb d_LC_cached_16 (by decide) ?_
  refine lv_icmp_le (tgt := 28) hx hb d_LC_cached_17 (by decide) (fun _ => ?_) (fun h => absurd h (by decide))
  refine lv_aload hx hb d_LC_cached_28 (lv_at hl 0 rfl) ?_
  refine lv_iload_n hx hb d_LC_cached_30 rfl (lv_at hl 3 rfl) ?_
  refine kcallq (ws0 := []) w (krunV (ws0 := []) (wc := cwm ac o ad al CI CL CR M n) (n := 1) (As := [.int (nI a)]) (rest := []) (C := R_Core) X w (c_Core_find l D ac o ad al CI CL CR M n _ c (nI a) (by omega)) wk_Core_find wi_Core wm_LC_132 wx_Core_find ws_Core_Core_find (by decide +kernel) rfl rfl ⟨(Nat.le_of_ble_eq_true rfl), (Nat.le_of_ble_eq_true rfl)⟩ ⟨(Nat.le_of_ble_eq_true rfl), (Nat.le_of_ble_eq_true rfl)⟩ (crecv_Core X w c (by omega)) rfl hl.1 rfl (Nat.le_of_ble_eq_true rfl) d_LC_cached_31) (fun r2 u H locs hp w => ?_)
  obtain ⟨rfl, rfl⟩ := hp
  have w : Wo D _ (cwm ac o ad al CI CL CR M n) s.heap _ _ := w
  cases ho3 : (f_Core_find CI c (nI a)) with
  | none =>
    exact absurd ho3 hy
  | some y4 =>
    refine W.eq (g2 := F0 m 34 ls [.ref (ad (10 + y4))]) (by first | rfl | exact congrArg (fun z => F0 m 34 ls [va_rf (rP ad z)]) ho3) ?_
    have hy4 := f_Core_find_lt ho3
    have hy4c := f_Core_find_line ho3
    refine lv_astore (lv' := [(5, .ref (ad (10 + y4))), (4, .ref (ad (4 + c))), (0, .ref o), (1, .int (nI c)), (2, .int (nI a)), (3, .int 2)]) hx hb d_LC_cached_34 hl (by decide) rfl (fun ls hl => ?_)
    refine lv_aload hx hb d_LC_cached_36 (lv_at hl 0 rfl) ?_
    refine lv_ifnonnull (tgt := 49) hx hb d_LC_cached_38 (by decide) ?_
    refine lv_iload_n hx hb d_LC_cached_49 rfl (lv_at hl 5 rfl) ?_
    refine lv_if_ne (tgt := 69) hx hb d_LC_cached_50 (by decide) (fun _ => ?_) (fun h => absurd h (by decide))
    refine lv_iload_n hx hb d_LC_cached_69 rfl (lv_at hl 5 rfl) ?_
    refine lv_iconst (v := 1) hx hb d_LC_cached_70 (by decide) ?_
    refine lv_icmp_ne (tgt := 83) hx hb d_LC_cached_71 (by decide) (fun _ => ?_) (fun h => absurd h (by decide))
    refine lv_iload_n hx hb d_LC_cached_83 rfl (lv_at hl 5 rfl) ?_
    refine lv_iconst (v := 2) hx hb d_LC_cached_84 (by decide) ?_
    refine lv_icmp_ne (tgt := 96) hx hb d_LC_cached_85 (by decide) (fun h => absurd h (by decide)) (fun _ => ?_)
    refine lv_aload hx hb d_LC_cached_88 (lv_at hl 0 rfl) ?_
    refine cg_LC_151 X w y4 (by omega) (v := CL 13 y4) rfl d_LC_cached_90 ?_
    refine lv_goto (tgt := 101) hx hb d_LC_cached_93 (by decide) ?_
    have hF : f_LC_cached_2 CI CL c a = CL 13 y4 := by unfold f_LC_cached_2; rw [ho3, oc_some]
    exact klret X w hr hk ⟨by rw [hF], rfl⟩ d_LC_cached_101
def f_LC_cached_3 (CI : Nat → Nat → Int32) (CL : Nat → Nat → Int64) (c : Nat) (a : Nat) : Int64 :=
  oc ((f_Core_find CI c (nI a))) (
    0)
    (fun y4 =>
    CL 14 y4)
set_option maxHeartbeats 4000000 in
set_option maxRecDepth 100000 in
theorem c_LC_cached_3 (l : Launch) (D : va_G) (ac : Nat → ClassId) (o : Nat) (ad : Nat → Nat) (al : Nat → Nat) (CI : Nat → Nat → Int32) (CL : Nat → Nat → Int64) (CR : Nat → Nat → Option Nat) (M : Nat → Msg) (n : Nat) (sz : Nat) (c : Nat) (a : Nat) (hc : c < 3) (ha : a < 12) (hy : f_Core_find CI c (nI a) ≠ none) : Met l y_LC_cached [Cond.code y_LC_cached b_LC_cached 6 (some .long)] { frames := 1, cells := 0, slots := 0, locals := 22 } (va_Pc [.ref o, .int (nI c), .int (nI a), .int 3] (CPre D ac (cwm ac o ad al CI CL CR M n) sz)) (va_Ql (fun r u => r = f_LC_cached_3 CI CL c a ∧ u = cwm ac o ad al CI CL CR M n) (CPost D (cwm ac o ad al CI CL CR M n) sz) (va_A (cwm ac o ad al CI CL CR M n) sz)) 0 0 (va_A (cwm ac o ad al CI CL CR M n) sz) := by
  refine kofW (by decide) (Nat.le_of_ble_eq_true rfl) ?_
  intro p ev s m args below meth c0 ls X hr hk hnm hex hsz w hl
  have X : Cx b_LC_cached 6 R_LC D ac p m args c0 s := X
  have hx := X.1
  have hb := X.2.1
  have hl : lv_has ls 6 [(0, .ref o), (1, .int (nI c)), (2, .int (nI a)), (3, .int 3)] := hl
  refine lv_aload_n hx hb d_LC_cached_0 rfl (lv_at hl 0 rfl) ?_
  refine lv_iload_n hx hb d_LC_cached_1 rfl (lv_at hl 1 rfl) ?_
  refine kcallq (ws0 := []) w (krunV (ws0 := []) (wc := cwm ac o ad al CI CL CR M n) (n := 1) (As := [.int (nI c)]) (rest := []) (C := R_LC) X w (c_LC_needCore l D ac o ad al CI CL CR M n _ c (by omega)) wk_LC_needCore wi_LC wm_LC_102 wx_LC_needCore ws_LC_LC_needCore (by decide +kernel) rfl rfl ⟨(Nat.le_of_ble_eq_true rfl), (Nat.le_of_ble_eq_true rfl)⟩ ⟨(Nat.le_of_ble_eq_true rfl), (Nat.le_of_ble_eq_true rfl)⟩ (crecv X w) rfl hl.1 rfl (Nat.le_of_ble_eq_true rfl) d_LC_cached_2) (fun r1 u H locs hp w => ?_)
  obtain ⟨rfl, rfl⟩ := hp
  have w : Wo D _ (cwm ac o ad al CI CL CR M n) s.heap _ _ := w
  refine W.eq (g2 := F0 m 5 ls (.ref (ad (4 + c)) :: [])) rfl ?_
  refine lv_astore (lv' := [(4, .ref (ad (4 + c))), (0, .ref o), (1, .int (nI c)), (2, .int (nI a)), (3, .int 3)]) hx hb d_LC_cached_5 hl (by decide) rfl (fun ls hl => ?_)
  refine lv_iload_n hx hb d_LC_cached_7 rfl (lv_at hl 3 rfl) ?_
  refine kcallv (ws0 := []) w (krunS (ws0 := []) (wc := cwm ac o ad al CI CL CR M n) (n := 1) (As := [.int (nI a)]) (rest := []) X w (c_LC_needLine l D ac o ad al CI CL CR M n _ a (by omega)) wk_LC_needLine wi_LC wm_LC_106 wt_LC_needLine (by decide +kernel) rfl rfl ⟨(Nat.le_of_ble_eq_true rfl), (Nat.le_of_ble_eq_true rfl)⟩ ⟨(Nat.le_of_ble_eq_true rfl), (Nat.le_of_ble_eq_true rfl)⟩ rfl hl.1 rfl (Nat.le_of_ble_eq_true rfl) d_LC_cached_8) (fun u H locs hp w => ?_)
  obtain rfl := hp
  have w : Wo D _ (cwm ac o ad al CI CL CR M n) s.heap _ _ := w
  refine lv_iload_n hx hb d_LC_cached_11 rfl (lv_at hl 4 rfl) ?_
  refine lv_if_lt (tgt := 20) hx hb d_LC_cached_12 (by decide) (fun h => absurd h (by decide)) (fun _ => ?_)
  refine lv_iload_n hx hb d_LC_cached_15 rfl (lv_at hl 4 rfl) ?_
  refine lv_iconst (v := 3) hx hb d_LC_cached_16 (by decide) ?_
  refine lv_icmp_le (tgt := 28) hx hb d_LC_cached_17 (by decide) (fun _ => ?_) (fun h => absurd h (by decide))
  refine lv_aload hx hb d_LC_cached_28 (lv_at hl 0 rfl) ?_
  refine lv_iload_n hx hb d_LC_cached_30 rfl (lv_at hl 3 rfl) ?_
  refine kcallq (ws0 := []) w (krunV (ws0 := []) (wc := cwm ac o ad al CI CL CR M n) (n := 1) (As := [.int (nI a)]) (rest := []) (C := R_Core) X w (c_Core_find l D ac o ad al CI CL CR M n _ c (nI a) (by omega)) wk_Core_find wi_Core wm_LC_132 wx_Core_find ws_Core_Core_find (by decide +kernel) rfl rfl ⟨(Nat.le_of_ble_eq_true rfl), (Nat.le_of_ble_eq_true rfl)⟩ ⟨(Nat.le_of_ble_eq_true rfl), (Nat.le_of_ble_eq_true rfl)⟩ (crecv_Core X w c (by omega)) rfl hl.1 rfl (Nat.le_of_ble_eq_true rfl) d_LC_cached_31) (fun r2 u H locs hp w => ?_)
  obtain ⟨rfl, rfl⟩ := hp
  have w : Wo D _ (cwm ac o ad al CI CL CR M n) s.heap _ _ := w
  cases ho3 : (f_Core_find CI c (nI a)) with
  | none =>
    exact absurd ho3 hy
  | some y4 =>
    refine W.eq (g2 := F0 m 34 ls [.ref (ad (10 + y4))]) (by first | rfl | exact congrArg (fun z => F0 m 34 ls [va_rf (rP ad z)]) ho3) ?_
    have hy4 := f_Core_find_lt ho3
    have hy4c := f_Core_find_line ho3
    refine lv_astore (lv' := [(5, .ref (ad (10 + y4))), (4, .ref (ad (4 + c))), (0, .ref o), (1, .int (nI c)), (2, .int (nI a)), (3, .int 3)]) hx hb d_LC_cached_34 hl (by decide) rfl (fun ls hl => ?_)
    refine lv_aload hx hb d_LC_cached_36 (lv_at hl 0 rfl) ?_
    refine lv_ifnonnull (tgt := 49) hx hb d_LC_cached_38 (by decide) ?_
    refine lv_iload_n hx hb d_LC_cached_49 rfl (lv_at hl 5 rfl) ?_
    refine lv_if_ne (tgt := 69) hx hb d_LC_cached_50 (by decide) (fun _ => ?_) (fun h => absurd h (by decide))
    refine lv_iload_n hx hb d_LC_cached_69 rfl (lv_at hl 5 rfl) ?_
    refine lv_iconst (v := 1) hx hb d_LC_cached_70 (by decide) ?_
    refine lv_icmp_ne (tgt := 83) hx hb d_LC_cached_71 (by decide) (fun _ => ?_) (fun h => absurd h (by decide))
    refine lv_iload_n hx hb d_LC_cached_83 rfl (lv_at hl 5 rfl) ?_
    refine lv_iconst (v := 2) hx hb d_LC_cached_84 (by decide) ?_
    refine lv_icmp_ne (tgt := 96) hx hb d_LC_cached_85 (by decide) (fun _ => ?_) (fun h => absurd h (by decide))
    refine lv_aload hx hb d_LC_cached_96 (lv_at hl 0 rfl) ?_
    refine cg_LC_230 X w y4 (by omega) (v := CL 14 y4) rfl d_LC_cached_98 ?_
    have hF : f_LC_cached_3 CI CL c a = CL 14 y4 := by unfold f_LC_cached_3; rw [ho3, oc_some]
    exact klret X w hr hk ⟨by rw [hF], rfl⟩ d_LC_cached_101
def f_LC_entry_0 (CI : Nat → Nat → Int32) (CL : Nat → Nat → Int64) (CR : Nat → Nat → Option Nat) (a : Nat) : Int64 :=
  oc ((f_LC_entryOf CI (nI a))) (
    0)
    (fun y3 =>
    (CI 17 y3).toInt64)
set_option maxHeartbeats 4000000 in
set_option maxRecDepth 100000 in
theorem c_LC_entry_0 (l : Launch) (D : va_G) (ac : Nat → ClassId) (o : Nat) (ad : Nat → Nat) (al : Nat → Nat) (CI : Nat → Nat → Int32) (CL : Nat → Nat → Int64) (CR : Nat → Nat → Option Nat) (M : Nat → Msg) (n : Nat) (sz : Nat) (a : Nat) (ha : a < 12) (hy : f_LC_entryOf CI (nI a) ≠ none) (ho : ∀ e c, CR 0 e = some c → c < 3) : Met l y_LC_entry [Cond.code y_LC_entry b_LC_entry 4 (some .long)] { frames := 1, cells := 0, slots := 0, locals := 22 } (va_Pc [.ref o, .int (nI a), .int 0] (CPre D ac (cwm ac o ad al CI CL CR M n) sz)) (va_Ql (fun r u => r = f_LC_entry_0 CI CL CR a ∧ u = cwm ac o ad al CI CL CR M n) (CPost D (cwm ac o ad al CI CL CR M n) sz) (va_A (cwm ac o ad al CI CL CR M n) sz)) 0 0 (va_A (cwm ac o ad al CI CL CR M n) sz) := by
  refine kofW (by decide) (Nat.le_of_ble_eq_true rfl) ?_
  intro p ev s m args below meth c0 ls X hr hk hnm hex hsz w hl
  have X : Cx b_LC_entry 4 R_LC D ac p m args c0 s := X
  have hx := X.1
  have hb := X.2.1
  have hl : lv_has ls 4 [(0, .ref o), (1, .int (nI a)), (2, .int 0)] := hl
  refine lv_iload_n hx hb d_LC_entry_0 rfl (lv_at hl 1 rfl) ?_
  refine kcallv (ws0 := []) w (krunS (ws0 := []) (wc := cwm ac o ad al CI CL CR M n) (n := 1) (As := [.int (nI a)]) (rest := []) X w (c_LC_needLine l D ac o ad al CI CL CR M n _ a (by omega)) wk_LC_needLine wi_LC wm_LC_106 wt_LC_needLine (by decide +kernel) rfl rfl ⟨(Nat.le_of_ble_eq_true rfl), (Nat.le_of_ble_eq_true rfl)⟩ ⟨(Nat.le_of_ble_eq_true rfl), (Nat.le_of_ble_eq_true rfl)⟩ rfl hl.1 rfl (Nat.le_of_ble_eq_true rfl) d_LC_entry_1) (fun u H locs hp w => ?_)
  obtain rfl := hp
  have w : Wo D _ (cwm ac o ad al CI CL CR M n) s.heap _ _ := w
  refine lv_iload_n hx hb d_LC_entry_4 rfl (lv_at hl 2 rfl) ?_
  refine lv_if_lt (tgt := 13) hx hb d_LC_entry_5 (by decide) (fun h => absurd h (by decide)) (fun _ => ?_)
  refine lv_iload_n hx hb d_LC_entry_8 rfl (lv_at hl 2 rfl) ?_
  refine lv_iconst (v := 5) hx hb d_LC_entry_9 (by decide) ?_
  refine lv_icmp_le (tgt := 21) hx hb d_LC_entry_10 (by decide) (fun _ => ?_) (fun h => absurd h (by decide))
  refine lv_aload_n hx hb d_LC_entry_21 rfl (lv_at hl 0 rfl) ?_
  refine lv_iload_n hx hb d_LC_entry_22 rfl (lv_at hl 1 rfl) ?_
  refine kcallq (ws0 := []) w (krunV (ws0 := []) (wc := cwm ac o ad al CI CL CR M n) (n := 1) (As := [.int (nI a)]) (rest := []) (C := R_LC) X w (c_LC_entryOf l D ac o ad al CI CL CR M n _ (nI a)) wk_LC_entryOf wi_LC wm_LC_169 wx_LC_entryOf ws_LC_LC_entryOf (by decide +kernel) rfl rfl ⟨(Nat.le_of_ble_eq_true rfl), (Nat.le_of_ble_eq_true rfl)⟩ ⟨(Nat.le_of_ble_eq_true rfl), (Nat.le_of_ble_eq_true rfl)⟩ (crecv X w) rfl hl.1 rfl (Nat.le_of_ble_eq_true rfl) d_LC_entry_23) (fun r1 u H locs hp w => ?_)
  obtain ⟨rfl, rfl⟩ := hp
  have w : Wo D _ (cwm ac o ad al CI CL CR M n) s.heap _ _ := w
  cases ho2 : (f_LC_entryOf CI (nI a)) with
  | none =>
    exact absurd ho2 hy
  | some y3 =>
    refine W.eq (g2 := F0 m 26 ls [.ref (ad (22 + y3))]) (by first | rfl | exact congrArg (fun z => F0 m 26 ls [va_rf (rE ad z)]) ho2) ?_
    have hy3 := f_LC_entryOf_lt ho2
    have hy3c := f_LC_entryOf_line ho2
    refine lv_astore_n (lv' := [(3, .ref (ad (22 + y3))), (0, .ref o), (1, .int (nI a)), (2, .int 0)]) hx hb d_LC_entry_26 rfl hl (by decide) rfl (fun ls hl => ?_)
    refine lv_aload_n hx hb d_LC_entry_27 rfl (lv_at hl 0 rfl) ?_
    refine lv_ifnonnull (tgt := 39) hx hb d_LC_entry_28 (by decide) ?_
    refine lv_iload_n hx hb d_LC_entry_39 rfl (lv_at hl 3 rfl) ?_
    refine lv_tableIn (off := 36) (tgt := 76) hx hb d_LC_entry_40 (by decide) (by decide) (by decide) (by decide) ?_
    refine lv_aload_n hx hb d_LC_entry_76 rfl (lv_at hl 0 rfl) ?_
    refine cg_LC_177 X w y3 (by omega) (v := CI 17 y3) rfl d_LC_entry_77 ?_
    refine lv_i2l (v := (CI 17 y3).toInt64) hx hb d_LC_entry_80 (rfl) ?_
    have hF : f_LC_entry_0 CI CL CR a = (CI 17 y3).toInt64 := by unfold f_LC_entry_0; rw [ho2, oc_some]
    exact klret X w hr hk ⟨by rw [hF], rfl⟩ d_LC_entry_81
def f_LC_entry_1 (CI : Nat → Nat → Int32) (CL : Nat → Nat → Int64) (CR : Nat → Nat → Option Nat) (a : Nat) : Int64 :=
  oc ((f_LC_entryOf CI (nI a))) (
    0)
    (fun y3 =>
    CL 18 y3)
set_option maxHeartbeats 4000000 in
set_option maxRecDepth 100000 in
theorem c_LC_entry_1 (l : Launch) (D : va_G) (ac : Nat → ClassId) (o : Nat) (ad : Nat → Nat) (al : Nat → Nat) (CI : Nat → Nat → Int32) (CL : Nat → Nat → Int64) (CR : Nat → Nat → Option Nat) (M : Nat → Msg) (n : Nat) (sz : Nat) (a : Nat) (ha : a < 12) (hy : f_LC_entryOf CI (nI a) ≠ none) (ho : ∀ e c, CR 0 e = some c → c < 3) : Met l y_LC_entry [Cond.code y_LC_entry b_LC_entry 4 (some .long)] { frames := 1, cells := 0, slots := 0, locals := 22 } (va_Pc [.ref o, .int (nI a), .int 1] (CPre D ac (cwm ac o ad al CI CL CR M n) sz)) (va_Ql (fun r u => r = f_LC_entry_1 CI CL CR a ∧ u = cwm ac o ad al CI CL CR M n) (CPost D (cwm ac o ad al CI CL CR M n) sz) (va_A (cwm ac o ad al CI CL CR M n) sz)) 0 0 (va_A (cwm ac o ad al CI CL CR M n) sz) := by
  refine kofW (by decide) (Nat.le_of_ble_eq_true rfl) ?_
  intro p ev s m args below meth c0 ls X hr hk hnm hex hsz w hl
  have X : Cx b_LC_entry 4 R_LC D ac p m args c0 s := X
  have hx := X.1
  have hb := X.2.1
  have hl : lv_has ls 4 [(0, .ref o), (1, .int (nI a)), (2, .int 1)] := hl
  refine lv_iload_n hx hb d_LC_entry_0 rfl (lv_at hl 1 rfl) ?_
  refine kcallv (ws0 := []) w (krunS (ws0 := []) (wc := cwm ac o ad al CI CL CR M n) (n := 1) (As := [.int (nI a)]) (rest := []) X w (c_LC_needLine l D ac o ad al CI CL CR M n _ a (by omega)) wk_LC_needLine wi_LC wm_LC_106 wt_LC_needLine (by decide +kernel) rfl rfl ⟨(Nat.le_of_ble_eq_true rfl), (Nat.le_of_ble_eq_true rfl)⟩ ⟨(Nat.le_of_ble_eq_true rfl), (Nat.le_of_ble_eq_true rfl)⟩ rfl hl.1 rfl (Nat.le_of_ble_eq_true rfl) d_LC_entry_1) (fun u H locs hp w => ?_)
  obtain rfl := hp
  have w : Wo D _ (cwm ac o ad al CI CL CR M n) s.heap _ _ := w
  refine lv_iload_n hx hb d_LC_entry_4 rfl (lv_at hl 2 rfl) ?_
  refine lv_if_lt (tgt := 13) hx hb d_LC_entry_5 (by decide) (fun h => absurd h (by decide)) (fun _ => ?_)
  refine lv_iload_n hx hb d_LC_entry_8 rfl (lv_at hl 2 rfl) ?_
  refine lv_iconst (v := 5) hx hb d_LC_entry_9 (by decide) ?_
  refine lv_icmp_le (tgt := 21) hx hb d_LC_entry_10 (by decide) (fun _ => ?_) (fun h => absurd h (by decide))
  refine lv_aload_n hx hb d_LC_entry_21 rfl (lv_at hl 0 rfl) ?_
  refine lv_iload_n hx hb d_LC_entry_22 rfl (lv_at hl 1 rfl) ?_
  refine kcallq (ws0 := []) w (krunV (ws0 := []) (wc := cwm ac o ad al CI CL CR M n) (n := 1) (As := [.int (nI a)]) (rest := []) (C := R_LC) X w (c_LC_entryOf l D ac o ad al CI CL CR M n _ (nI a)) wk_LC_entryOf wi_LC wm_LC_169 wx_LC_entryOf ws_LC_LC_entryOf (by decide +kernel) rfl rfl ⟨(Nat.le_of_ble_eq_true rfl), (Nat.le_of_ble_eq_true rfl)⟩ ⟨(Nat.le_of_ble_eq_true rfl), (Nat.le_of_ble_eq_true rfl)⟩ (crecv X w) rfl hl.1 rfl (Nat.le_of_ble_eq_true rfl) d_LC_entry_23) (fun r1 u H locs hp w => ?_)
  obtain ⟨rfl, rfl⟩ := hp
  have w : Wo D _ (cwm ac o ad al CI CL CR M n) s.heap _ _ := w
  cases ho2 : (f_LC_entryOf CI (nI a)) with
  | none =>
    exact absurd ho2 hy
  | some y3 =>
    refine W.eq (g2 := F0 m 26 ls [.ref (ad (22 + y3))]) (by first | rfl | exact congrArg (fun z => F0 m 26 ls [va_rf (rE ad z)]) ho2) ?_
    have hy3 := f_LC_entryOf_lt ho2
    have hy3c := f_LC_entryOf_line ho2
    refine lv_astore_n (lv' := [(3, .ref (ad (22 + y3))), (0, .ref o), (1, .int (nI a)), (2, .int 1)]) hx hb d_LC_entry_26 rfl hl (by decide) rfl (fun ls hl => ?_)
    refine lv_aload_n hx hb d_LC_entry_27 rfl (lv_at hl 0 rfl) ?_
    refine lv_ifnonnull (tgt := 39) hx hb d_LC_entry_28 (by decide) ?_
    refine lv_iload_n hx hb d_LC_entry_39 rfl (lv_at hl 3 rfl) ?_
    refine lv_tableIn (off := 42) (tgt := 82) hx hb d_LC_entry_40 (by decide) (by decide) (by decide) (by decide) ?_
    refine lv_aload_n hx hb d_LC_entry_82 rfl (lv_at hl 0 rfl) ?_
    refine cg_LC_201 X w y3 (by omega) (v := CL 18 y3) rfl d_LC_entry_83 ?_
    have hF : f_LC_entry_1 CI CL CR a = CL 18 y3 := by unfold f_LC_entry_1; rw [ho2, oc_some]
    exact klret X w hr hk ⟨by rw [hF], rfl⟩ d_LC_entry_86
def f_LC_entry_2 (CI : Nat → Nat → Int32) (CL : Nat → Nat → Int64) (CR : Nat → Nat → Option Nat) (a : Nat) : Int64 :=
  oc ((f_LC_entryOf CI (nI a))) (
    0)
    (fun y3 =>
    CL 19 y3)
set_option maxHeartbeats 4000000 in
set_option maxRecDepth 100000 in
theorem c_LC_entry_2 (l : Launch) (D : va_G) (ac : Nat → ClassId) (o : Nat) (ad : Nat → Nat) (al : Nat → Nat) (CI : Nat → Nat → Int32) (CL : Nat → Nat → Int64) (CR : Nat → Nat → Option Nat) (M : Nat → Msg) (n : Nat) (sz : Nat) (a : Nat) (ha : a < 12) (hy : f_LC_entryOf CI (nI a) ≠ none) (ho : ∀ e c, CR 0 e = some c → c < 3) : Met l y_LC_entry [Cond.code y_LC_entry b_LC_entry 4 (some .long)] { frames := 1, cells := 0, slots := 0, locals := 22 } (va_Pc [.ref o, .int (nI a), .int 2] (CPre D ac (cwm ac o ad al CI CL CR M n) sz)) (va_Ql (fun r u => r = f_LC_entry_2 CI CL CR a ∧ u = cwm ac o ad al CI CL CR M n) (CPost D (cwm ac o ad al CI CL CR M n) sz) (va_A (cwm ac o ad al CI CL CR M n) sz)) 0 0 (va_A (cwm ac o ad al CI CL CR M n) sz) := by
  refine kofW (by decide) (Nat.le_of_ble_eq_true rfl) ?_
  intro p ev s m args below meth c0 ls X hr hk hnm hex hsz w hl
  have X : Cx b_LC_entry 4 R_LC D ac p m args c0 s := X
  have hx := X.1
  have hb := X.2.1
  have hl : lv_has ls 4 [(0, .ref o), (1, .int (nI a)), (2, .int 2)] := hl
  refine lv_iload_n hx hb d_LC_entry_0 rfl (lv_at hl 1 rfl) ?_
  refine kcallv (ws0 := []) w (krunS (ws0 := []) (wc := cwm ac o ad al CI CL CR M n) (n := 1) (As := [.int (nI a)]) (rest := []) X w (c_LC_needLine l D ac o ad al CI CL CR M n _ a (by omega)) wk_LC_needLine wi_LC wm_LC_106 wt_LC_needLine (by decide +kernel) rfl rfl ⟨(Nat.le_of_ble_eq_true rfl), (Nat.le_of_ble_eq_true rfl)⟩ ⟨(Nat.le_of_ble_eq_true rfl), (Nat.le_of_ble_eq_true rfl)⟩ rfl hl.1 rfl (Nat.le_of_ble_eq_true rfl) d_LC_entry_1) (fun u H locs hp w => ?_)
  obtain rfl := hp
  have w : Wo D _ (cwm ac o ad al CI CL CR M n) s.heap _ _ := w
  refine lv_iload_n hx hb d_LC_entry_4 rfl (lv_at hl 2 rfl) ?_
  refine lv_if_lt (tgt := 13) hx hb d_LC_entry_5 (by decide) (fun h => absurd h (by decide)) (fun _ => ?_)
  refine lv_iload_n hx hb d_LC_entry_8 rfl (lv_at hl 2 rfl) ?_
  refine lv_iconst (v := 5) hx hb d_LC_entry_9 (by decide) ?_
  refine lv_icmp_le (tgt := 21) hx hb d_LC_entry_10 (by decide) (fun _ => ?_) (fun h => absurd h (by decide))
  refine lv_aload_n hx hb d_LC_entry_21 rfl (lv_at hl 0 rfl) ?_
  refine lv_iload_n hx hb d_LC_entry_22 rfl (lv_at hl 1 rfl) ?_
  refine kcallq (ws0 := []) w (krunV (ws0 := []) (wc := cwm ac o ad al CI CL CR M n) (n := 1) (As := [.int (nI a)]) (rest := []) (C := R_LC) X w (c_LC_entryOf l D ac o ad al CI CL CR M n _ (nI a)) wk_LC_entryOf wi_LC wm_LC_169 wx_LC_entryOf ws_LC_LC_entryOf (by decide +kernel) rfl rfl ⟨(Nat.le_of_ble_eq_true rfl), (Nat.le_of_ble_eq_true rfl)⟩ ⟨(Nat.le_of_ble_eq_true rfl), (Nat.le_of_ble_eq_true rfl)⟩ (crecv X w) rfl hl.1 rfl (Nat.le_of_ble_eq_true rfl) d_LC_entry_23) (fun r1 u H locs hp w => ?_)
  obtain ⟨rfl, rfl⟩ := hp
  have w : Wo D _ (cwm ac o ad al CI CL CR M n) s.heap _ _ := w
  cases ho2 : (f_LC_entryOf CI (nI a)) with
  | none =>
    exact absurd ho2 hy
  | some y3 =>
    refine W.eq (g2 := F0 m 26 ls [.ref (ad (22 + y3))]) (by first | rfl | exact congrArg (fun z => F0 m 26 ls [va_rf (rE ad z)]) ho2) ?_
    have hy3 := f_LC_entryOf_lt ho2
    have hy3c := f_LC_entryOf_line ho2
    refine lv_astore_n (lv' := [(3, .ref (ad (22 + y3))), (0, .ref o), (1, .int (nI a)), (2, .int 2)]) hx hb d_LC_entry_26 rfl hl (by decide) rfl (fun ls hl => ?_)
    refine lv_aload_n hx hb d_LC_entry_27 rfl (lv_at hl 0 rfl) ?_
    refine lv_ifnonnull (tgt := 39) hx hb d_LC_entry_28 (by decide) ?_
    refine lv_iload_n hx hb d_LC_entry_39 rfl (lv_at hl 3 rfl) ?_
    refine lv_tableIn (off := 47) (tgt := 87) hx hb d_LC_entry_40 (by decide) (by decide) (by decide) (by decide) ?_
    refine lv_aload_n hx hb d_LC_entry_87 rfl (lv_at hl 0 rfl) ?_
    refine cg_LC_166 X w y3 (by omega) (v := CL 19 y3) rfl d_LC_entry_88 ?_
    have hF : f_LC_entry_2 CI CL CR a = CL 19 y3 := by unfold f_LC_entry_2; rw [ho2, oc_some]
    exact klret X w hr hk ⟨by rw [hF], rfl⟩ d_LC_entry_91
def f_LC_entry_3 (CI : Nat → Nat → Int32) (CL : Nat → Nat → Int64) (CR : Nat → Nat → Option Nat) (a : Nat) : Int64 :=
  oc ((f_LC_entryOf CI (nI a))) (
    0)
    (fun y3 =>
    oc (CR 0 y3) (
      (-1))
      (fun y5 =>
      (nI y5).toInt64))
set_option maxHeartbeats 4000000 in
set_option maxRecDepth 100000 in
theorem c_LC_entry_3 (l : Launch) (D : va_G) (ac : Nat → ClassId) (o : Nat) (ad : Nat → Nat) (al : Nat → Nat) (CI : Nat → Nat → Int32) (CL : Nat → Nat → Int64) (CR : Nat → Nat → Option Nat) (M : Nat → Msg) (n : Nat) (sz : Nat) (a : Nat) (ha : a < 12) (hy : f_LC_entryOf CI (nI a) ≠ none) (ho : ∀ e c, CR 0 e = some c → c < 3) : Met l y_LC_entry [Cond.code y_LC_entry b_LC_entry 4 (some .long)] { frames := 1, cells := 0, slots := 0, locals := 22 } (va_Pc [.ref o, .int (nI a), .int 3] (CPre D ac (cwm ac o ad al CI CL CR M n) sz)) (va_Ql (fun r u => r = f_LC_entry_3 CI CL CR a ∧ u = cwm ac o ad al CI CL CR M n) (CPost D (cwm ac o ad al CI CL CR M n) sz) (va_A (cwm ac o ad al CI CL CR M n) sz)) 0 0 (va_A (cwm ac o ad al CI CL CR M n) sz) := by
  refine kofW (by decide) (Nat.le_of_ble_eq_true rfl) ?_
  intro p ev s m args below meth c0 ls X hr hk hnm hex hsz w hl
  have X : Cx b_LC_entry 4 R_LC D ac p m args c0 s := X
  have hx := X.1
  have hb := X.2.1
  have hl : lv_has ls 4 [(0, .ref o), (1, .int (nI a)), (2, .int 3)] := hl
  refine lv_iload_n hx hb d_LC_entry_0 rfl (lv_at hl 1 rfl) ?_
  refine kcallv (ws0 := []) w (krunS (ws0 := []) (wc := cwm ac o ad al CI CL CR M n) (n := 1) (As := [.int (nI a)]) (rest := []) X w (c_LC_needLine l D ac o ad al CI CL CR M n _ a (by omega)) wk_LC_needLine wi_LC wm_LC_106 wt_LC_needLine (by decide +kernel) rfl rfl ⟨(Nat.le_of_ble_eq_true rfl), (Nat.le_of_ble_eq_true rfl)⟩ ⟨(Nat.le_of_ble_eq_true rfl), (Nat.le_of_ble_eq_true rfl)⟩ rfl hl.1 rfl (Nat.le_of_ble_eq_true rfl) d_LC_entry_1) (fun u H locs hp w => ?_)
  obtain rfl := hp
  have w : Wo D _ (cwm ac o ad al CI CL CR M n) s.heap _ _ := w
  refine lv_iload_n hx hb d_LC_entry_4 rfl (lv_at hl 2 rfl) ?_
  refine lv_if_lt (tgt := 13) hx hb d_LC_entry_5 (by decide) (fun h => absurd h (by decide)) (fun _ => ?_)
  refine lv_iload_n hx hb d_LC_entry_8 rfl (lv_at hl 2 rfl) ?_
  refine lv_iconst (v := 5) hx hb d_LC_entry_9 (by decide) ?_
  refine lv_icmp_le (tgt := 21) hx hb d_LC_entry_10 (by decide) (fun _ => ?_) (fun h => absurd h (by decide))
  refine lv_aload_n hx hb d_LC_entry_21 rfl (lv_at hl 0 rfl) ?_
  refine lv_iload_n hx hb d_LC_entry_22 rfl (lv_at hl 1 rfl) ?_
  refine kcallq (ws0 := []) w (krunV (ws0 := []) (wc := cwm ac o ad al CI CL CR M n) (n := 1) (As := [.int (nI a)]) (rest := []) (C := R_LC) X w (c_LC_entryOf l D ac o ad al CI CL CR M n _ (nI a)) wk_LC_entryOf wi_LC wm_LC_169 wx_LC_entryOf ws_LC_LC_entryOf (by decide +kernel) rfl rfl ⟨(Nat.le_of_ble_eq_true rfl), (Nat.le_of_ble_eq_true rfl)⟩ ⟨(Nat.le_of_ble_eq_true rfl), (Nat.le_of_ble_eq_true rfl)⟩ (crecv X w) rfl hl.1 rfl (Nat.le_of_ble_eq_true rfl) d_LC_entry_23) (fun r1 u H locs hp w => ?_)
  obtain ⟨rfl, rfl⟩ := hp
  have w : Wo D _ (cwm ac o ad al CI CL CR M n) s.heap _ _ := w
  cases ho2 : (f_LC_entryOf CI (nI a)) with
  | none =>
    exact absurd ho2 hy
  | some y3 =>
    refine W.eq (g2 := F0 m 26 ls [.ref (ad (22 + y3))]) (by first | rfl | exact congrArg (fun z => F0 m 26 ls [va_rf (rE ad z)]) ho2) ?_
    have hy3 := f_LC_entryOf_lt ho2
    have hy3c := f_LC_entryOf_line ho2
    refine lv_astore_n (lv' := [(3, .ref (ad (22 + y3))), (0, .ref o), (1, .int (nI a)), (2, .int 3)]) hx hb d_LC_entry_26 rfl hl (by decide) rfl (fun ls hl => ?_)
    refine lv_aload_n hx hb d_LC_entry_27 rfl (lv_at hl 0 rfl) ?_
    refine lv_ifnonnull (tgt := 39) hx hb d_LC_entry_28 (by decide) ?_
    refine lv_iload_n hx hb d_LC_entry_39 rfl (lv_at hl 3 rfl) ?_
    refine lv_tableIn (off := 52) (tgt := 92) hx hb d_LC_entry_40 (by decide) (by decide) (by decide) (by decide) ?_
    refine lv_aload_n hx hb d_LC_entry_92 rfl (lv_at hl 0 rfl) ?_
    refine cg_LC_158 X w y3 (by omega) d_LC_entry_93 ?_
    cases ho4 : CR 0 y3 with
    | none =>
      refine W.eq (g2 := F0 m 96 ls [.null]) (by first | rfl | exact congrArg (fun z => F0 m 96 ls [va_rf (rC ad z)]) (show CR 0 y3 = _ from ho4)) ?_
      refine lv_ifnonnullN hx hb d_LC_entry_96 ?_
      refine lv_ldc2 (v := -1) hx hb X.2.2.2.1 (X.2.2.2.2.1.at wl_LC_149) d_LC_entry_99 ?_
      refine lv_goto (tgt := 113) hx hb d_LC_entry_102 (by decide) ?_
      have hF : f_LC_entry_3 CI CL CR a = (-1) := by unfold f_LC_entry_3; rw [ho2, oc_some, ho4, oc_none]
      exact klret X w hr hk ⟨by rw [hF], rfl⟩ d_LC_entry_113
    | some y5 =>
      refine W.eq (g2 := F0 m 96 ls [.ref (ad (4 + y5))]) (by first | rfl | exact congrArg (fun z => F0 m 96 ls [va_rf (rC ad z)]) (show CR 0 y3 = _ from ho4)) ?_
      have hcy5 : y5 < 3 := ho _ y5 ho4
      refine lv_ifnonnull (tgt := 105) hx hb d_LC_entry_96 (by decide) ?_
      refine lv_aload_n hx hb d_LC_entry_105 rfl (lv_at hl 0 rfl) ?_
      refine cg_LC_158 X w y3 (by omega) d_LC_entry_106 ?_
      refine W.eq (g2 := F0 m 109 ls [.ref (ad (4 + y5))]) (by first | rfl | exact congrArg (fun z => F0 m 109 ls [va_rf (rC ad z)]) (show CR 0 y3 = _ from ho4)) ?_
      refine cg_LC_213 X w y5 (by omega) d_LC_entry_109 ?_
      refine lv_i2l (v := (nI y5).toInt64) hx hb d_LC_entry_112 (rfl) ?_
      have hF : f_LC_entry_3 CI CL CR a = (nI y5).toInt64 := by unfold f_LC_entry_3; rw [ho2, oc_some, ho4, oc_some]
      exact klret X w hr hk ⟨by rw [hF], rfl⟩ d_LC_entry_113
def f_LC_entry_4 (CI : Nat → Nat → Int32) (CL : Nat → Nat → Int64) (CR : Nat → Nat → Option Nat) (a : Nat) : Int64 :=
  oc ((f_LC_entryOf CI (nI a))) (
    0)
    (fun y3 =>
    oc (CR 1 y3) (
      0)
      (fun y5 =>
      1))
set_option maxHeartbeats 4000000 in
set_option maxRecDepth 100000 in
theorem c_LC_entry_4 (l : Launch) (D : va_G) (ac : Nat → ClassId) (o : Nat) (ad : Nat → Nat) (al : Nat → Nat) (CI : Nat → Nat → Int32) (CL : Nat → Nat → Int64) (CR : Nat → Nat → Option Nat) (M : Nat → Msg) (n : Nat) (sz : Nat) (a : Nat) (ha : a < 12) (hy : f_LC_entryOf CI (nI a) ≠ none) (ho : ∀ e c, CR 0 e = some c → c < 3) : Met l y_LC_entry [Cond.code y_LC_entry b_LC_entry 4 (some .long)] { frames := 1, cells := 0, slots := 0, locals := 22 } (va_Pc [.ref o, .int (nI a), .int 4] (CPre D ac (cwm ac o ad al CI CL CR M n) sz)) (va_Ql (fun r u => r = f_LC_entry_4 CI CL CR a ∧ u = cwm ac o ad al CI CL CR M n) (CPost D (cwm ac o ad al CI CL CR M n) sz) (va_A (cwm ac o ad al CI CL CR M n) sz)) 0 0 (va_A (cwm ac o ad al CI CL CR M n) sz) := by
  refine kofW (by decide) (Nat.le_of_ble_eq_true rfl) ?_
  intro p ev s m args below meth c0 ls X hr hk hnm hex hsz w hl
  have X : Cx b_LC_entry 4 R_LC D ac p m args c0 s := X
  have hx := X.1
  have hb := X.2.1
  have hl : lv_has ls 4 [(0, .ref o), (1, .int (nI a)), (2, .int 4)] := hl
  refine lv_iload_n hx hb d_LC_entry_0 rfl (lv_at hl 1 rfl) ?_
  refine kcallv (ws0 := []) w (krunS (ws0 := []) (wc := cwm ac o ad al CI CL CR M n) (n := 1) (As := [.int (nI a)]) (rest := []) X w (c_LC_needLine l D ac o ad al CI CL CR M n _ a (by omega)) wk_LC_needLine wi_LC wm_LC_106 wt_LC_needLine (by decide +kernel) rfl rfl ⟨(Nat.le_of_ble_eq_true rfl), (Nat.le_of_ble_eq_true rfl)⟩ ⟨(Nat.le_of_ble_eq_true rfl), (Nat.le_of_ble_eq_true rfl)⟩ rfl hl.1 rfl (Nat.le_of_ble_eq_true rfl) d_LC_entry_1) (fun u H locs hp w => ?_)
  obtain rfl := hp
  have w : Wo D _ (cwm ac o ad al CI CL CR M n) s.heap _ _ := w
  refine lv_iload_n hx hb d_LC_entry_4 rfl (lv_at hl 2 rfl) ?_
  refine lv_if_lt (tgt := 13) hx hb d_LC_entry_5 (by decide) (fun h => absurd h (by decide)) (fun _ => ?_)
  refine lv_iload_n hx hb d_LC_entry_8 rfl (lv_at hl 2 rfl) ?_
  refine lv_iconst (v := 5) hx hb d_LC_entry_9 (by decide) ?_
  refine lv_icmp_le (tgt := 21) hx hb d_LC_entry_10 (by decide) (fun _ => ?_) (fun h => absurd h (by decide))
  refine lv_aload_n hx hb d_LC_entry_21 rfl (lv_at hl 0 rfl) ?_
  refine lv_iload_n hx hb d_LC_entry_22 rfl (lv_at hl 1 rfl) ?_
  refine kcallq (ws0 := []) w (krunV (ws0 := []) (wc := cwm ac o ad al CI CL CR M n) (n := 1) (As := [.int (nI a)]) (rest := []) (C := R_LC) X w (c_LC_entryOf l D ac o ad al CI CL CR M n _ (nI a)) wk_LC_entryOf wi_LC wm_LC_169 wx_LC_entryOf ws_LC_LC_entryOf (by decide +kernel) rfl rfl ⟨(Nat.le_of_ble_eq_true rfl), (Nat.le_of_ble_eq_true rfl)⟩ ⟨(Nat.le_of_ble_eq_true rfl), (Nat.le_of_ble_eq_true rfl)⟩ (crecv X w) rfl hl.1 rfl (Nat.le_of_ble_eq_true rfl) d_LC_entry_23) (fun r1 u H locs hp w => ?_)
  obtain ⟨rfl, rfl⟩ := hp
  have w : Wo D _ (cwm ac o ad al CI CL CR M n) s.heap _ _ := w
  cases ho2 : (f_LC_entryOf CI (nI a)) with
  | none =>
    exact absurd ho2 hy
  | some y3 =>
    refine W.eq (g2 := F0 m 26 ls [.ref (ad (22 + y3))]) (by first | rfl | exact congrArg (fun z => F0 m 26 ls [va_rf (rE ad z)]) ho2) ?_
    have hy3 := f_LC_entryOf_lt ho2
    have hy3c := f_LC_entryOf_line ho2
    refine lv_astore_n (lv' := [(3, .ref (ad (22 + y3))), (0, .ref o), (1, .int (nI a)), (2, .int 4)]) hx hb d_LC_entry_26 rfl hl (by decide) rfl (fun ls hl => ?_)
    refine lv_aload_n hx hb d_LC_entry_27 rfl (lv_at hl 0 rfl) ?_
    refine lv_ifnonnull (tgt := 39) hx hb d_LC_entry_28 (by decide) ?_
    refine lv_iload_n hx hb d_LC_entry_39 rfl (lv_at hl 3 rfl) ?_
    refine lv_tableIn (off := 74) (tgt := 114) hx hb d_LC_entry_40 (by decide) (by decide) (by decide) (by decide) ?_
    refine lv_aload_n hx hb d_LC_entry_114 rfl (lv_at hl 0 rfl) ?_
    refine cg_LC_162 X w y3 (by omega) d_LC_entry_115 ?_
    cases ho4 : CR 1 y3 with
    | none =>
      refine W.eq (g2 := F0 m 118 ls [.null]) (by first | rfl | exact congrArg (fun z => F0 m 118 ls [va_rf (Option.map al z)]) (show CR 1 y3 = _ from ho4)) ?_
      refine lv_ifnonnullN hx hb d_LC_entry_118 ?_
      refine lv_lconst (v := 0) hx hb d_LC_entry_121 (by decide) ?_
      refine lv_goto (tgt := 126) hx hb d_LC_entry_122 (by decide) ?_
      have hF : f_LC_entry_4 CI CL CR a = 0 := by unfold f_LC_entry_4; rw [ho2, oc_some, ho4, oc_none]
      exact klret X w hr hk ⟨by rw [hF], rfl⟩ d_LC_entry_126
    | some y5 =>
      refine W.eq (g2 := F0 m 118 ls [.ref (al y5)]) (by first | rfl | exact congrArg (fun z => F0 m 118 ls [va_rf (Option.map al z)]) (show CR 1 y3 = _ from ho4)) ?_
      refine lv_ifnonnull (tgt := 125) hx hb d_LC_entry_118 (by decide) ?_
      refine lv_lconst (v := 1) hx hb d_LC_entry_125 (by decide) ?_
      have hF : f_LC_entry_4 CI CL CR a = 1 := by unfold f_LC_entry_4; rw [ho2, oc_some, ho4, oc_some]
      exact klret X w hr hk ⟨by rw [hF], rfl⟩ d_LC_entry_126
def f_LC_entry_5 (CI : Nat → Nat → Int32) (CL : Nat → Nat → Int64) (CR : Nat → Nat → Option Nat) (a : Nat) : Int64 :=
  oc ((f_LC_entryOf CI (nI a))) (
    0)
    (fun y3 =>
    (CI 22 y3).toInt64)
set_option maxHeartbeats 4000000 in
set_option maxRecDepth 100000 in
theorem c_LC_entry_5 (l : Launch) (D : va_G) (ac : Nat → ClassId) (o : Nat) (ad : Nat → Nat) (al : Nat → Nat) (CI : Nat → Nat → Int32) (CL : Nat → Nat → Int64) (CR : Nat → Nat → Option Nat) (M : Nat → Msg) (n : Nat) (sz : Nat) (a : Nat) (ha : a < 12) (hy : f_LC_entryOf CI (nI a) ≠ none) (ho : ∀ e c, CR 0 e = some c → c < 3) : Met l y_LC_entry [Cond.code y_LC_entry b_LC_entry 4 (some .long)] { frames := 1, cells := 0, slots := 0, locals := 22 } (va_Pc [.ref o, .int (nI a), .int 5] (CPre D ac (cwm ac o ad al CI CL CR M n) sz)) (va_Ql (fun r u => r = f_LC_entry_5 CI CL CR a ∧ u = cwm ac o ad al CI CL CR M n) (CPost D (cwm ac o ad al CI CL CR M n) sz) (va_A (cwm ac o ad al CI CL CR M n) sz)) 0 0 (va_A (cwm ac o ad al CI CL CR M n) sz) := by
  refine kofW (by decide) (Nat.le_of_ble_eq_true rfl) ?_
  intro p ev s m args below meth c0 ls X hr hk hnm hex hsz w hl
  have X : Cx b_LC_entry 4 R_LC D ac p m args c0 s := X
  have hx := X.1
  have hb := X.2.1
  have hl : lv_has ls 4 [(0, .ref o), (1, .int (nI a)), (2, .int 5)] := hl
  refine lv_iload_n hx hb d_LC_entry_0 rfl (lv_at hl 1 rfl) ?_
  refine kcallv (ws0 := []) w (krunS (ws0 := []) (wc := cwm ac o ad al CI CL CR M n) (n := 1) (As := [.int (nI a)]) (rest := []) X w (c_LC_needLine l D ac o ad al CI CL CR M n _ a (by omega)) wk_LC_needLine wi_LC wm_LC_106 wt_LC_needLine (by decide +kernel) rfl rfl ⟨(Nat.le_of_ble_eq_true rfl), (Nat.le_of_ble_eq_true rfl)⟩ ⟨(Nat.le_of_ble_eq_true rfl), (Nat.le_of_ble_eq_true rfl)⟩ rfl hl.1 rfl (Nat.le_of_ble_eq_true rfl) d_LC_entry_1) (fun u H locs hp w => ?_)
  obtain rfl := hp
  have w : Wo D _ (cwm ac o ad al CI CL CR M n) s.heap _ _ := w
  refine lv_iload_n hx hb d_LC_entry_4 rfl (lv_at hl 2 rfl) ?_
  refine lv_if_lt (tgt := 13) hx hb d_LC_entry_5 (by decide) (fun h => absurd h (by decide)) (fun _ => ?_)
  refine lv_iload_n hx hb d_LC_entry_8 rfl (lv_at hl 2 rfl) ?_
  refine lv_iconst (v := 5) hx hb d_LC_entry_9 (by decide) ?_
  refine lv_icmp_le (tgt := 21) hx hb d_LC_entry_10 (by decide) (fun _ => ?_) (fun h => absurd h (by decide))
  refine lv_aload_n hx hb d_LC_entry_21 rfl (lv_at hl 0 rfl) ?_
  refine lv_iload_n hx hb d_LC_entry_22 rfl (lv_at hl 1 rfl) ?_
  refine kcallq (ws0 := []) w (krunV (ws0 := []) (wc := cwm ac o ad al CI CL CR M n) (n := 1) (As := [.int (nI a)]) (rest := []) (C := R_LC) X w (c_LC_entryOf l D ac o ad al CI CL CR M n _ (nI a)) wk_LC_entryOf wi_LC wm_LC_169 wx_LC_entryOf ws_LC_LC_entryOf (by decide +kernel) rfl rfl ⟨(Nat.le_of_ble_eq_true rfl), (Nat.le_of_ble_eq_true rfl)⟩ ⟨(Nat.le_of_ble_eq_true rfl), (Nat.le_of_ble_eq_true rfl)⟩ (crecv X w) rfl hl.1 rfl (Nat.le_of_ble_eq_true rfl) d_LC_entry_23) (fun r1 u H locs hp w => ?_)
  obtain ⟨rfl, rfl⟩ := hp
  have w : Wo D _ (cwm ac o ad al CI CL CR M n) s.heap _ _ := w
  cases ho2 : (f_LC_entryOf CI (nI a)) with
  | none =>
    exact absurd ho2 hy
  | some y3 =>
    refine W.eq (g2 := F0 m 26 ls [.ref (ad (22 + y3))]) (by first | rfl | exact congrArg (fun z => F0 m 26 ls [va_rf (rE ad z)]) ho2) ?_
    have hy3 := f_LC_entryOf_lt ho2
    have hy3c := f_LC_entryOf_line ho2
    refine lv_astore_n (lv' := [(3, .ref (ad (22 + y3))), (0, .ref o), (1, .int (nI a)), (2, .int 5)]) hx hb d_LC_entry_26 rfl hl (by decide) rfl (fun ls hl => ?_)
    refine lv_aload_n hx hb d_LC_entry_27 rfl (lv_at hl 0 rfl) ?_
    refine lv_ifnonnull (tgt := 39) hx hb d_LC_entry_28 (by decide) ?_
    refine lv_iload_n hx hb d_LC_entry_39 rfl (lv_at hl 3 rfl) ?_
    refine lv_tableOut (tgt := 127) hx hb d_LC_entry_40 (by decide) (by decide) ?_
    refine lv_aload_n hx hb d_LC_entry_127 rfl (lv_at hl 0 rfl) ?_
    refine cg_LC_231 X w y3 (by omega) (v := CI 22 y3) rfl d_LC_entry_128 ?_
    refine lv_i2l (v := (CI 22 y3).toInt64) hx hb d_LC_entry_131 (rfl) ?_
    have hF : f_LC_entry_5 CI CL CR a = (CI 22 y3).toInt64 := by unfold f_LC_entry_5; rw [ho2, oc_some]
    exact klret X w hr hk ⟨by rw [hF], rfl⟩ d_LC_entry_132
