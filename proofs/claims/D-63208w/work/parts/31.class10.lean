def f_Message_toManager  (i : Nat) : Int32 :=
  0
set_option maxHeartbeats 4000000 in
set_option maxRecDepth 100000 in
theorem c_Message_toManager (l : Launch) (D : va_G) (ac : Nat → ClassId) (o : Nat) (ad : Nat → Nat) (al : Nat → Nat) (CI : Nat → Nat → Int32) (CL : Nat → Nat → Int64) (CR : Nat → Nat → Option Nat) (M : Nat → Msg) (n : Nat) (sz : Nat) (i : Nat)  : Met l y_Message_toManager [Cond.code y_Message_toManager b_Message_toManager 1 (some .boolean)] { frames := 0, cells := 0, slots := 0, locals := 0 } (va_Pc [.ref (al i)] (CPre D ac (cwm ac o ad al CI CL CR M n) sz)) (va_Qi (fun r u => r = f_Message_toManager i ∧ u = cwm ac o ad al CI CL CR M n) (CPost D (cwm ac o ad al CI CL CR M n) sz) (va_A (cwm ac o ad al CI CL CR M n) sz)) 0 0 (va_A (cwm ac o ad al CI CL CR M n) sz) := by
  refine kofW (by decide) (Nat.le_of_ble_eq_true rfl) ?_
  intro p ev s m args below meth c0 ls X hr hk hnm hex hsz w hl
  have X : Cx b_Message_toManager 1 R_Message D ac p m args c0 s := X
  have hx := X.1
  have hb := X.2.1
  have hl : lv_has ls 1 [(0, .ref (al i))] := hl
  refine lv_iconst (v := 0) hx hb d_Message_toManager_0 (by decide) ?_
  have hF : f_Message_toManager i = 0 := by rfl
  exact kzret X w hr hk (by decide) ⟨by rw [hF], rfl⟩ d_Message_toManager_1
def f_Request_toManager  (i : Nat) : Int32 :=
  1
set_option maxHeartbeats 4000000 in
set_option maxRecDepth 100000 in
theorem c_Request_toManager (l : Launch) (D : va_G) (ac : Nat → ClassId) (o : Nat) (ad : Nat → Nat) (al : Nat → Nat) (CI : Nat → Nat → Int32) (CL : Nat → Nat → Int64) (CR : Nat → Nat → Option Nat) (M : Nat → Msg) (n : Nat) (sz : Nat) (i : Nat)  : Met l y_Request_toManager [Cond.code y_Request_toManager b_Request_toManager 1 (some .boolean)] { frames := 0, cells := 0, slots := 0, locals := 0 } (va_Pc [.ref (al i)] (CPre D ac (cwm ac o ad al CI CL CR M n) sz)) (va_Qi (fun r u => r = f_Request_toManager i ∧ u = cwm ac o ad al CI CL CR M n) (CPost D (cwm ac o ad al CI CL CR M n) sz) (va_A (cwm ac o ad al CI CL CR M n) sz)) 0 0 (va_A (cwm ac o ad al CI CL CR M n) sz) := by
  refine kofW (by decide) (Nat.le_of_ble_eq_true rfl) ?_
  intro p ev s m args below meth c0 ls X hr hk hnm hex hsz w hl
  have X : Cx b_Request_toManager 1 R_Request D ac p m args c0 s := X
  have hx := X.1
  have hb := X.2.1
  have hl : lv_has ls 1 [(0, .ref (al i))] := hl
  refine lv_iconst (v := 1) hx hb d_Request_toManager_0 (by decide) ?_
  have hF : f_Request_toManager i = 1 := by rfl
  exact kzret X w hr hk (by decide) ⟨by rw [hF], rfl⟩ d_Request_toManager_1
def f_Return_toManager  (i : Nat) : Int32 :=
  1
set_option maxHeartbeats 4000000 in
set_option maxRecDepth 100000 in
theorem c_Return_toManager (l : Launch) (D : va_G) (ac : Nat → ClassId) (o : Nat) (ad : Nat → Nat) (al : Nat → Nat) (CI : Nat → Nat → Int32) (CL : Nat → Nat → Int64) (CR : Nat → Nat → Option Nat) (M : Nat → Msg) (n : Nat) (sz : Nat) (i : Nat)  : Met l y_Return_toManager [Cond.code y_Return_toManager b_Return_toManager 1 (some .boolean)] { frames := 0, cells := 0, slots := 0, locals := 0 } (va_Pc [.ref (al i)] (CPre D ac (cwm ac o ad al CI CL CR M n) sz)) (va_Qi (fun r u => r = f_Return_toManager i ∧ u = cwm ac o ad al CI CL CR M n) (CPost D (cwm ac o ad al CI CL CR M n) sz) (va_A (cwm ac o ad al CI CL CR M n) sz)) 0 0 (va_A (cwm ac o ad al CI CL CR M n) sz) := by
  refine kofW (by decide) (Nat.le_of_ble_eq_true rfl) ?_
  intro p ev s m args below meth c0 ls X hr hk hnm hex hsz w hl
  have X : Cx b_Return_toManager 1 R_Return D ac p m args c0 s := X
  have hx := X.1
  have hb := X.2.1
  have hl : lv_has ls 1 [(0, .ref (al i))] := hl
  refine lv_iconst (v := 1) hx hb d_Return_toManager_0 (by decide) ?_
  have hF : f_Return_toManager i = 1 := by rfl
  exact kzret X w hr hk (by decide) ⟨by rw [hF], rfl⟩ d_Return_toManager_1
def f_LC_message_0 (M : Nat → Msg) (i : Nat) : Int32 :=
  mkind (M i)
set_option maxHeartbeats 4000000 in
set_option maxRecDepth 100000 in
theorem c_LC_message_0 (l : Launch) (D : va_G) (ac : Nat → ClassId) (o : Nat) (ad : Nat → Nat) (al : Nat → Nat) (CI : Nat → Nat → Int32) (CL : Nat → Nat → Int64) (CR : Nat → Nat → Option Nat) (M : Nat → Msg) (n : Nat) (sz : Nat) (a : Nat) (i : Nat) (mm : Nat) (hm : CI 38 0 = nI mm) (ha : a < mm) (hmm : mm < 25) (hi : CR 3 a = some i) (hin : i < n) : Met l y_LC_message [Cond.code y_LC_message b_LC_message 4 (some .int)] { frames := 1, cells := 0, slots := 0, locals := 21 } (va_Pc [.ref o, .int (nI a), .int 0] (CPre D ac (cwm ac o ad al CI CL CR M n) sz)) (va_Qi (fun r u => r = f_LC_message_0 M i ∧ u = cwm ac o ad al CI CL CR M n) (CPost D (cwm ac o ad al CI CL CR M n) sz) (va_A (cwm ac o ad al CI CL CR M n) sz)) 0 0 (va_A (cwm ac o ad al CI CL CR M n) sz) := by
  refine kofW (by decide) (Nat.le_of_ble_eq_true rfl) ?_
  intro p ev s m args below meth c0 ls X hr hk hnm hex hsz w hl
  have X : Cx b_LC_message 4 R_LC D ac p m args c0 s := X
  have hx := X.1
  have hb := X.2.1
  have hl : lv_has ls 4 [(0, .ref o), (1, .int (nI a)), (2, .int 0)] := hl
  refine lv_aload_n hx hb d_LC_message_0 rfl (lv_at hl 0 rfl) ?_
  refine lv_iload_n hx hb d_LC_message_1 rfl (lv_at hl 1 rfl) ?_
  refine kcallq (ws0 := []) w (krunV (ws0 := []) (wc := cwm ac o ad al CI CL CR M n) (n := 1) (As := [.int (nI a)]) (rest := []) (C := R_LC) X w (c_LC_at l D ac o ad al CI CL CR M n _ a i mm hm (by omega) (by omega) hi) wk_LC_at wi_LC wm_LC_62 wx_LC_at ws_LC_LC_at (by decide +kernel) rfl rfl ⟨(Nat.le_of_ble_eq_true rfl), (Nat.le_of_ble_eq_true rfl)⟩ ⟨(Nat.le_of_ble_eq_true rfl), (Nat.le_of_ble_eq_true rfl)⟩ (crecv X w) rfl hl.1 rfl (Nat.le_of_ble_eq_true rfl) d_LC_message_2) (fun r1 u H locs hp w => ?_)
  obtain ⟨rfl, rfl⟩ := hp
  have w : Wo D _ (cwm ac o ad al CI CL CR M n) s.heap _ _ := w
  refine W.eq (g2 := F0 m 5 ls (.ref (al i) :: [])) rfl ?_
  refine lv_astore_n (lv' := [(3, .ref (al i)), (0, .ref o), (1, .int (nI a)), (2, .int 0)]) hx hb d_LC_message_5 rfl hl (by decide) rfl (fun ls hl => ?_)
  refine lv_iload_n hx hb d_LC_message_6 rfl (lv_at hl 3 rfl) ?_
  refine lv_tableIn (off := 29) (tgt := 36) hx hb d_LC_message_7 (by decide) (by decide) (by decide) (by decide) ?_
  refine lv_aload_n hx hb d_LC_message_36 rfl (lv_at hl 0 rfl) ?_
  refine qg_LC_211 (m9 := (M i)) X w (hs_mem0 (i := i) (by omega)) d_LC_message_37 ?_
  have hF : f_LC_message_0 M i = mkind (M i) := by rfl
  exact kiret X w hr hk ⟨by rw [hF], rfl⟩ d_LC_message_40
def f_LC_message_1 (M : Nat → Msg) (i : Nat) : Int32 :=
  mline (M i)
set_option maxHeartbeats 4000000 in
set_option maxRecDepth 100000 in
theorem c_LC_message_1 (l : Launch) (D : va_G) (ac : Nat → ClassId) (o : Nat) (ad : Nat → Nat) (al : Nat → Nat) (CI : Nat → Nat → Int32) (CL : Nat → Nat → Int64) (CR : Nat → Nat → Option Nat) (M : Nat → Msg) (n : Nat) (sz : Nat) (a : Nat) (i : Nat) (mm : Nat) (hm : CI 38 0 = nI mm) (ha : a < mm) (hmm : mm < 25) (hi : CR 3 a = some i) (hin : i < n) : Met l y_LC_message [Cond.code y_LC_message b_LC_message 4 (some .int)] { frames := 1, cells := 0, slots := 0, locals := 21 } (va_Pc [.ref o, .int (nI a), .int 1] (CPre D ac (cwm ac o ad al CI CL CR M n) sz)) (va_Qi (fun r u => r = f_LC_message_1 M i ∧ u = cwm ac o ad al CI CL CR M n) (CPost D (cwm ac o ad al CI CL CR M n) sz) (va_A (cwm ac o ad al CI CL CR M n) sz)) 0 0 (va_A (cwm ac o ad al CI CL CR M n) sz) := by
  refine kofW (by decide) (Nat.le_of_ble_eq_true rfl) ?_
  intro p ev s m args below meth c0 ls X hr hk hnm hex hsz w hl
  have X : Cx b_LC_message 4 R_LC D ac p m args c0 s := X
  have hx := X.1
  have hb := X.2.1
  have hl : lv_has ls 4 [(0, .ref o), (1, .int (nI a)), (2, .int 1)] := hl
  refine lv_aload_n hx hb d_LC_message_0 rfl (lv_at hl 0 rfl) ?_
  refine lv_iload_n hx hb d_LC_message_1 rfl (lv_at hl 1 rfl) ?_
  refine kcallq (ws0 := []) w (krunV (ws0 := []) (wc := cwm ac o ad al CI CL CR M n) (n := 1) (As := [.int (nI a)]) (rest := []) (C := R_LC) X w (c_LC_at l D ac o ad al CI CL CR M n _ a i mm hm (by omega) (by omega) hi) wk_LC_at wi_LC wm_LC_62 wx_LC_at ws_LC_LC_at (by decide +kernel) rfl rfl ⟨(Nat.le_of_ble_eq_true rfl), (Nat.le_of_ble_eq_true rfl)⟩ ⟨(Nat.le_of_ble_eq_true rfl), (Nat.le_of_ble_eq_true rfl)⟩ (crecv X w) rfl hl.1 rfl (Nat.le_of_ble_eq_true rfl) d_LC_message_2) (fun r1 u H locs hp w => ?_)
  obtain ⟨rfl, rfl⟩ := hp
  have w : Wo D _ (cwm ac o ad al CI CL CR M n) s.heap _ _ := w
  refine W.eq (g2 := F0 m 5 ls (.ref (al i) :: [])) rfl ?_
  refine lv_astore_n (lv' := [(3, .ref (al i)), (0, .ref o), (1, .int (nI a)), (2, .int 1)]) hx hb d_LC_message_5 rfl hl (by decide) rfl (fun ls hl => ?_)
  refine lv_iload_n hx hb d_LC_message_6 rfl (lv_at hl 3 rfl) ?_
  refine lv_tableIn (off := 34) (tgt := 41) hx hb d_LC_message_7 (by decide) (by decide) (by decide) (by decide) ?_
  refine lv_aload_n hx hb d_LC_message_41 rfl (lv_at hl 0 rfl) ?_
  refine qg_LC_56 (m9 := (M i)) X w (hs_mem0 (i := i) (by omega)) d_LC_message_42 ?_
  have hF : f_LC_message_1 M i = mline (M i) := by rfl
  exact kiret X w hr hk ⟨by rw [hF], rfl⟩ d_LC_message_45
def f_LC_message_2 (M : Nat → Msg) (c : Nat) : Int32 :=
  nI c
set_option maxHeartbeats 4000000 in
set_option maxRecDepth 100000 in
theorem c_LC_message_2 (l : Launch) (D : va_G) (ac : Nat → ClassId) (o : Nat) (ad : Nat → Nat) (al : Nat → Nat) (CI : Nat → Nat → Int32) (CL : Nat → Nat → Int64) (CR : Nat → Nat → Option Nat) (M : Nat → Msg) (n : Nat) (sz : Nat) (a : Nat) (i : Nat) (c : Nat) (mm : Nat) (hm : CI 38 0 = nI mm) (ha : a < mm) (hmm : mm < 25) (hi : CR 3 a = some i) (hin : i < n) (hco : mcore (M i) = some c) (hc : c < 3) : Met l y_LC_message [Cond.code y_LC_message b_LC_message 4 (some .int)] { frames := 1, cells := 0, slots := 0, locals := 21 } (va_Pc [.ref o, .int (nI a), .int 2] (CPre D ac (cwm ac o ad al CI CL CR M n) sz)) (va_Qi (fun r u => r = f_LC_message_2 M c ∧ u = cwm ac o ad al CI CL CR M n) (CPost D (cwm ac o ad al CI CL CR M n) sz) (va_A (cwm ac o ad al CI CL CR M n) sz)) 0 0 (va_A (cwm ac o ad al CI CL CR M n) sz) := by
  refine kofW (by decide) (Nat.le_of_ble_eq_true rfl) ?_
  intro p ev s m args below meth c0 ls X hr hk hnm hex hsz w hl
  have X : Cx b_LC_message 4 R_LC D ac p m args c0 s := X
  have hx := X.1
  have hb := X.2.1
  have hl : lv_has ls 4 [(0, .ref o), (1, .int (nI a)), (2, .int 2)] := hl
  refine lv_aload_n hx hb d_LC_message_0 rfl (lv_at hl 0 rfl) ?_
  refine lv_iload_n hx hb d_LC_message_1 rfl (lv_at hl 1 rfl) ?_
  refine kcallq (ws0 := []) w (krunV (ws0 := []) (wc := cwm ac o ad al CI CL CR M n) (n := 1) (As := [.int (nI a)]) (rest := []) (C := R_LC) X w (c_LC_at l D ac o ad al CI CL CR M n _ a i mm hm (by omega) (by omega) hi) wk_LC_at wi_LC wm_LC_62 wx_LC_at ws_LC_LC_at (by decide +kernel) rfl rfl ⟨(Nat.le_of_ble_eq_true rfl), (Nat.le_of_ble_eq_true rfl)⟩ ⟨(Nat.le_of_ble_eq_true rfl), (Nat.le_of_ble_eq_true rfl)⟩ (crecv X w) rfl hl.1 rfl (Nat.le_of_ble_eq_true rfl) d_LC_message_2) (fun r1 u H locs hp w => ?_)
  obtain ⟨rfl, rfl⟩ := hp
  have w : Wo D _ (cwm ac o ad al CI CL CR M n) s.heap _ _ := w
  refine W.eq (g2 := F0 m 5 ls (.ref (al i) :: [])) rfl ?_
  refine lv_astore_n (lv' := [(3, .ref (al i)), (0, .ref o), (1, .int (nI a)), (2, .int 2)]) hx hb d_LC_message_5 rfl hl (by decide) rfl (fun ls hl => ?_)
  refine lv_iload_n hx hb d_LC_message_6 rfl (lv_at hl 3 rfl) ?_
  refine lv_tableIn (off := 39) (tgt := 46) hx hb d_LC_message_7 (by decide) (by decide) (by decide) (by decide) ?_
  refine lv_aload_n hx hb d_LC_message_46 rfl (lv_at hl 0 rfl) ?_
  refine qg_LC_212 (m9 := (M i)) X w (hs_mem0 (i := i) (by omega)) d_LC_message_47 ?_
  refine W.eq (congrArg (fun z => F0 m 50 ls [va_rf (rC ad z)]) hco) ?_
  refine W.eq (g2 := F0 m 50 ls [.ref (ad (4 + c))]) rfl ?_
  refine cg_LC_213 X w c (by omega) d_LC_message_50 ?_
  have hF : f_LC_message_2 M c = nI c := by rfl
  exact kiret X w hr hk ⟨by rw [hF], rfl⟩ d_LC_message_53
def f_LC_message_3Request   : Int32 :=
  1
set_option maxHeartbeats 4000000 in
set_option maxRecDepth 100000 in
theorem c_LC_message_3Request (l : Launch) (D : va_G) (ac : Nat → ClassId) (o : Nat) (ad : Nat → Nat) (al : Nat → Nat) (CI : Nat → Nat → Int32) (CL : Nat → Nat → Int64) (CR : Nat → Nat → Option Nat) (M : Nat → Msg) (n : Nat) (sz : Nat) (a : Nat) (i : Nat) (mm : Nat) (hm : CI 38 0 = nI mm) (ha : a < mm) (hmm : mm < 25) (hi : CR 3 a = some i) (hin : i < n) (hcl : mcls (M i) = 4) : Met l y_LC_message [Cond.code y_LC_message b_LC_message 4 (some .int)] { frames := 1, cells := 0, slots := 0, locals := 21 } (va_Pc [.ref o, .int (nI a), .int 3] (CPre D ac (cwm ac o ad al CI CL CR M n) sz)) (va_Qi (fun r u => r = f_LC_message_3Request ∧ u = cwm ac o ad al CI CL CR M n) (CPost D (cwm ac o ad al CI CL CR M n) sz) (va_A (cwm ac o ad al CI CL CR M n) sz)) 0 0 (va_A (cwm ac o ad al CI CL CR M n) sz) := by
  refine kofW (by decide) (Nat.le_of_ble_eq_true rfl) ?_
  intro p ev s m args below meth c0 ls X hr hk hnm hex hsz w hl
  have X : Cx b_LC_message 4 R_LC D ac p m args c0 s := X
  have hx := X.1
  have hb := X.2.1
  have hl : lv_has ls 4 [(0, .ref o), (1, .int (nI a)), (2, .int 3)] := hl
  refine lv_aload_n hx hb d_LC_message_0 rfl (lv_at hl 0 rfl) ?_
  refine lv_iload_n hx hb d_LC_message_1 rfl (lv_at hl 1 rfl) ?_
  refine kcallq (ws0 := []) w (krunV (ws0 := []) (wc := cwm ac o ad al CI CL CR M n) (n := 1) (As := [.int (nI a)]) (rest := []) (C := R_LC) X w (c_LC_at l D ac o ad al CI CL CR M n _ a i mm hm (by omega) (by omega) hi) wk_LC_at wi_LC wm_LC_62 wx_LC_at ws_LC_LC_at (by decide +kernel) rfl rfl ⟨(Nat.le_of_ble_eq_true rfl), (Nat.le_of_ble_eq_true rfl)⟩ ⟨(Nat.le_of_ble_eq_true rfl), (Nat.le_of_ble_eq_true rfl)⟩ (crecv X w) rfl hl.1 rfl (Nat.le_of_ble_eq_true rfl) d_LC_message_2) (fun r1 u H locs hp w => ?_)
  obtain ⟨rfl, rfl⟩ := hp
  have w : Wo D _ (cwm ac o ad al CI CL CR M n) s.heap _ _ := w
  refine W.eq (g2 := F0 m 5 ls (.ref (al i) :: [])) rfl ?_
  refine lv_astore_n (lv' := [(3, .ref (al i)), (0, .ref o), (1, .int (nI a)), (2, .int 3)]) hx hb d_LC_message_5 rfl hl (by decide) rfl (fun ls hl => ?_)
  refine lv_iload_n hx hb d_LC_message_6 rfl (lv_at hl 3 rfl) ?_
  refine lv_tableIn (off := 47) (tgt := 54) hx hb d_LC_message_7 (by decide) (by decide) (by decide) (by decide) ?_
  refine lv_aload_n hx hb d_LC_message_54 rfl (lv_at hl 0 rfl) ?_
  refine kcalli (ws0 := []) w (krunU (owner := R_Message) (ws0 := []) (wc := cwm ac o ad al CI CL CR M n) (n := 0) (As := []) (rest := []) (C := R_Request) X w (c_Request_toManager l D ac o ad al CI CL CR M n _ i) wk_Request_toManager wi_Request wm_LC_216 wq_Message_toManager (va_Decl.of (X.2.2.2.2.1.at (a := #[]) wx_Message_toManager) (X.2.2.2.2.1.at wk_Message_toManager)) wx_Request_toManager ws_Request_Message_toManager (by decide +kernel) rfl rfl ⟨(Nat.le_of_ble_eq_true rfl), (Nat.le_of_ble_eq_true rfl)⟩ ⟨(Nat.le_of_ble_eq_true rfl), (Nat.le_of_ble_eq_true rfl)⟩ (mrecvC X w (q := i) (by omega) (mcell4 hcl) rfl) rfl hl.1 rfl (Nat.le_of_ble_eq_true rfl) d_LC_message_55) (fun r2 u H locs hp w => ?_)
  obtain ⟨rfl, rfl⟩ := hp
  have w : Wo D _ (cwm ac o ad al CI CL CR M n) s.heap _ _ := w
  refine W.eq (g2 := F0 m 58 ls (.int 1 :: [])) rfl ?_
  refine lv_if_eq (tgt := 65) hx hb d_LC_message_58 (by decide) (fun h => absurd h (by decide)) (fun _ => ?_)
  refine lv_iconst (v := 1) hx hb d_LC_message_61 (by decide) ?_
  refine lv_goto (tgt := 66) hx hb d_LC_message_62 (by decide) ?_
  have hF : f_LC_message_3Request = 1 := by rfl
  exact kiret X w hr hk ⟨by rw [hF], rfl⟩ d_LC_message_66
def f_LC_message_3Answer   : Int32 :=
  0
set_option maxHeartbeats 4000000 in
set_option maxRecDepth 100000 in
theorem c_LC_message_3Answer (l : Launch) (D : va_G) (ac : Nat → ClassId) (o : Nat) (ad : Nat → Nat) (al : Nat → Nat) (CI : Nat → Nat → Int32) (CL : Nat → Nat → Int64) (CR : Nat → Nat → Option Nat) (M : Nat → Msg) (n : Nat) (sz : Nat) (a : Nat) (i : Nat) (mm : Nat) (hm : CI 38 0 = nI mm) (ha : a < mm) (hmm : mm < 25) (hi : CR 3 a = some i) (hin : i < n) (hcl : mcls (M i) = 5) : Met l y_LC_message [Cond.code y_LC_message b_LC_message 4 (some .int)] { frames := 1, cells := 0, slots := 0, locals := 21 } (va_Pc [.ref o, .int (nI a), .int 3] (CPre D ac (cwm ac o ad al CI CL CR M n) sz)) (va_Qi (fun r u => r = f_LC_message_3Answer ∧ u = cwm ac o ad al CI CL CR M n) (CPost D (cwm ac o ad al CI CL CR M n) sz) (va_A (cwm ac o ad al CI CL CR M n) sz)) 0 0 (va_A (cwm ac o ad al CI CL CR M n) sz) := by
  refine kofW (by decide) (Nat.le_of_ble_eq_true rfl) ?_
  intro p ev s m args below meth c0 ls X hr hk hnm hex hsz w hl
  have X : Cx b_LC_message 4 R_LC D ac p m args c0 s := X
  have hx := X.1
  have hb := X.2.1
  have hl : lv_has ls 4 [(0, .ref o), (1, .int (nI a)), (2, .int 3)] := hl
  refine lv_aload_n hx hb d_LC_message_0 rfl (lv_at hl 0 rfl) ?_
  refine lv_iload_n hx hb d_LC_message_1 rfl (lv_at hl 1 rfl) ?_
  refine kcallq (ws0 := []) w (krunV (ws0 := []) (wc := cwm ac o ad al CI CL CR M n) (n := 1) (As := [.int (nI a)]) (rest := []) (C := R_LC) X w (c_LC_at l D ac o ad al CI CL CR M n _ a i mm hm (by omega) (by omega) hi) wk_LC_at wi_LC wm_LC_62 wx_LC_at ws_LC_LC_at (by decide +kernel) rfl rfl ⟨(Nat.le_of_ble_eq_true rfl), (Nat.le_of_ble_eq_true rfl)⟩ ⟨(Nat.le_of_ble_eq_true rfl), (Nat.le_of_ble_eq_true rfl)⟩ (crecv X w) rfl hl.1 rfl (Nat.le_of_ble_eq_true rfl) d_LC_message_2) (fun r1 u H locs hp w => ?_)
  obtain ⟨rfl, rfl⟩ := hp
  have w : Wo D _ (cwm ac o ad al CI CL CR M n) s.heap _ _ := w
  refine W.eq (g2 := F0 m 5 ls (.ref (al i) :: [])) rfl ?_
  refine lv_astore_n (lv' := [(3, .ref (al i)), (0, .ref o), (1, .int (nI a)), (2, .int 3)]) hx hb d_LC_message_5 rfl hl (by decide) rfl (fun ls hl => ?_)
  refine lv_iload_n hx hb d_LC_message_6 rfl (lv_at hl 3 rfl) ?_
  refine lv_tableIn (off := 47) (tgt := 54) hx hb d_LC_message_7 (by decide) (by decide) (by decide) (by decide) ?_
  refine lv_aload_n hx hb d_LC_message_54 rfl (lv_at hl 0 rfl) ?_
  refine kcalli (ws0 := []) w (krunU (owner := R_Message) (ws0 := []) (wc := cwm ac o ad al CI CL CR M n) (n := 0) (As := []) (rest := []) (C := R_Answer) X w (c_Message_toManager l D ac o ad al CI CL CR M n _ i) wk_Message_toManager wi_Message wm_LC_216 wq_Message_toManager (va_Decl.of (X.2.2.2.2.1.at (a := #[]) wx_Message_toManager) (X.2.2.2.2.1.at wk_Message_toManager)) wx_Message_toManager ws_Answer_Message_toManager (by decide +kernel) rfl rfl ⟨(Nat.le_of_ble_eq_true rfl), (Nat.le_of_ble_eq_true rfl)⟩ ⟨(Nat.le_of_ble_eq_true rfl), (Nat.le_of_ble_eq_true rfl)⟩ (mrecvC X w (q := i) (by omega) (mcell5 hcl) rfl) rfl hl.1 rfl (Nat.le_of_ble_eq_true rfl) d_LC_message_55) (fun r2 u H locs hp w => ?_)
  obtain ⟨rfl, rfl⟩ := hp
  have w : Wo D _ (cwm ac o ad al CI CL CR M n) s.heap _ _ := w
  refine W.eq (g2 := F0 m 58 ls (.int 0 :: [])) rfl ?_
  refine lv_if_eq (tgt := 65) hx hb d_LC_message_58 (by decide) (fun _ => ?_) (fun h => absurd h (by decide))
  refine lv_iconst (v := 0) hx hb d_LC_message_65 (by decide) ?_
  have hF : f_LC_message_3Answer = 0 := by rfl
  exact kiret X w hr hk ⟨by rw [hF], rfl⟩ d_LC_message_66
def f_LC_message_3Call   : Int32 :=
  0
set_option maxHeartbeats 4000000 in
set_option maxRecDepth 100000 in
theorem c_LC_message_3Call (l : Launch) (D : va_G) (ac : Nat → ClassId) (o : Nat) (ad : Nat → Nat) (al : Nat → Nat) (CI : Nat → Nat → Int32) (CL : Nat → Nat → Int64) (CR : Nat → Nat → Option Nat) (M : Nat → Msg) (n : Nat) (sz : Nat) (a : Nat) (i : Nat) (mm : Nat) (hm : CI 38 0 = nI mm) (ha : a < mm) (hmm : mm < 25) (hi : CR 3 a = some i) (hin : i < n) (hcl : mcls (M i) = 6) : Met l y_LC_message [Cond.code y_LC_message b_LC_message 4 (some .int)] { frames := 1, cells := 0, slots := 0, locals := 21 } (va_Pc [.ref o, .int (nI a), .int 3] (CPre D ac (cwm ac o ad al CI CL CR M n) sz)) (va_Qi (fun r u => r = f_LC_message_3Call ∧ u = cwm ac o ad al CI CL CR M n) (CPost D (cwm ac o ad al CI CL CR M n) sz) (va_A (cwm ac o ad al CI CL CR M n) sz)) 0 0 (va_A (cwm ac o ad al CI CL CR M n) sz) := by
  refine kofW (by decide) (Nat.le_of_ble_eq_true rfl) ?_
  intro p ev s m args below meth c0 ls X hr hk hnm hex hsz w hl
  have X : Cx b_LC_message 4 R_LC D ac p m args c0 s := X
  have hx := X.1
  have hb := X.2.1
  have hl : lv_has ls 4 [(0, .ref o), (1, .int (nI a)), (2, .int 3)] := hl
  refine lv_aload_n hx hb d_LC_message_0 rfl (lv_at hl 0 rfl) ?_
  refine lv_iload_n hx hb d_LC_message_1 rfl (lv_at hl 1 rfl) ?_
  refine kcallq (ws0 := []) w (krunV (ws0 := []) (wc := cwm ac o ad al CI CL CR M n) (n := 1) (As := [.int (nI a)]) (rest := []) (C := R_LC) X w (c_LC_at l D ac o ad al CI CL CR M n _ a i mm hm (by omega) (by omega) hi) wk_LC_at wi_LC wm_LC_62 wx_LC_at ws_LC_LC_at (by decide +kernel) rfl rfl ⟨(Nat.le_of_ble_eq_true rfl), (Nat.le_of_ble_eq_true rfl)⟩ ⟨(Nat.le_of_ble_eq_true rfl), (Nat.le_of_ble_eq_true rfl)⟩ (crecv X w) rfl hl.1 rfl (Nat.le_of_ble_eq_true rfl) d_LC_message_2) (fun r1 u H locs hp w => ?_)
  obtain ⟨rfl, rfl⟩ := hp
  have w : Wo D _ (cwm ac o ad al CI CL CR M n) s.heap _ _ := w
  refine W.eq (g2 := F0 m 5 ls (.ref (al i) :: [])) rfl ?_
  refine lv_astore_n (lv' := [(3, .ref (al i)), (0, .ref o), (1, .int (nI a)), (2, .int 3)]) hx hb d_LC_message_5 rfl hl (by decide) rfl (fun ls hl => ?_)
  refine lv_iload_n hx hb d_LC_message_6 rfl (lv_at hl 3 rfl) ?_
  refine lv_tableIn (off := 47) (tgt := 54) hx hb d_LC_message_7 (by decide) (by decide) (by decide) (by decide) ?_
  refine lv_aload_n hx hb d_LC_message_54 rfl (lv_at hl 0 rfl) ?_
  refine kcalli (ws0 := []) w (krunU (owner := R_Message) (ws0 := []) (wc := cwm ac o ad al CI CL CR M n) (n := 0) (As := []) (rest := []) (C := R_Call) X w (c_Message_toManager l D ac o ad al CI CL CR M n _ i) wk_Message_toManager wi_Message wm_LC_216 wq_Message_toManager (va_Decl.of (X.2.2.2.2.1.at (a := #[]) wx_Message_toManager) (X.2.2.2.2.1.at wk_Message_toManager)) wx_Message_toManager ws_Call_Message_toManager (by decide +kernel) rfl rfl ⟨(Nat.le_of_ble_eq_true rfl), (Nat.le_of_ble_eq_true rfl)⟩ ⟨(Nat.le_of_ble_eq_true rfl), (Nat.le_of_ble_eq_true rfl)⟩ (mrecvC X w (q := i) (by omega) (mcell6 hcl) rfl) rfl hl.1 rfl (Nat.le_of_ble_eq_true rfl) d_LC_message_55) (fun r2 u H locs hp w => ?_)
  obtain ⟨rfl, rfl⟩ := hp
  have w : Wo D _ (cwm ac o ad al CI CL CR M n) s.heap _ _ := w
  refine W.eq (g2 := F0 m 58 ls (.int 0 :: [])) rfl ?_
  refine lv_if_eq (tgt := 65) hx hb d_LC_message_58 (by decide) (fun _ => ?_) (fun h => absurd h (by decide))
  refine lv_iconst (v := 0) hx hb d_LC_message_65 (by decide) ?_
  have hF : f_LC_message_3Call = 0 := by rfl
  exact kiret X w hr hk ⟨by rw [hF], rfl⟩ d_LC_message_66
def f_LC_message_3Return   : Int32 :=
  1
set_option maxHeartbeats 4000000 in
set_option maxRecDepth 100000 in
theorem c_LC_message_3Return (l : Launch) (D : va_G) (ac : Nat → ClassId) (o : Nat) (ad : Nat → Nat) (al : Nat → Nat) (CI : Nat → Nat → Int32) (CL : Nat → Nat → Int64) (CR : Nat → Nat → Option Nat) (M : Nat → Msg) (n : Nat) (sz : Nat) (a : Nat) (i : Nat) (mm : Nat) (hm : CI 38 0 = nI mm) (ha : a < mm) (hmm : mm < 25) (hi : CR 3 a = some i) (hin : i < n) (hcl : mcls (M i) = 7) : Met l y_LC_message [Cond.code y_LC_message b_LC_message 4 (some .int)] { frames := 1, cells := 0, slots := 0, locals := 21 } (va_Pc [.ref o, .int (nI a), .int 3] (CPre D ac (cwm ac o ad al CI CL CR M n) sz)) (va_Qi (fun r u => r = f_LC_message_3Return ∧ u = cwm ac o ad al CI CL CR M n) (CPost D (cwm ac o ad al CI CL CR M n) sz) (va_A (cwm ac o ad al CI CL CR M n) sz)) 0 0 (va_A (cwm ac o ad al CI CL CR M n) sz) := by
  refine kofW (by decide) (Nat.le_of_ble_eq_true rfl) ?_
  intro p ev s m args below meth c0 ls X hr hk hnm hex hsz w hl
  have X : Cx b_LC_message 4 R_LC D ac p m args c0 s := X
  have hx := X.1
  have hb := X.2.1
  have hl : lv_has ls 4 [(0, .ref o), (1, .int (nI a)), (2, .int 3)] := hl
  refine lv_aload_n hx hb d_LC_message_0 rfl (lv_at hl 0 rfl) ?_
  refine lv_iload_n hx hb d_LC_message_1 rfl (lv_at hl 1 rfl) ?_
  refine kcallq (ws0 := []) w (krunV (ws0 := []) (wc := cwm ac o ad al CI CL CR M n) (n := 1) (As := [.int (nI a)]) (rest := []) (C := R_LC) X w (c_LC_at l D ac o ad al CI CL CR M n _ a i mm hm (by omega) (by omega) hi) wk_LC_at wi_LC wm_LC_62 wx_LC_at ws_LC_LC_at (by decide +kernel) rfl rfl ⟨(Nat.le_of_ble_eq_true rfl), (Nat.le_of_ble_eq_true rfl)⟩ ⟨(Nat.le_of_ble_eq_true rfl), (Nat.le_of_ble_eq_true rfl)⟩ (crecv X w) rfl hl.1 rfl (Nat.le_of_ble_eq_true rfl) d_LC_message_2) (fun r1 u H locs hp w => ?_)
  obtain ⟨rfl, rfl⟩ := hp
  have w : Wo D _ (cwm ac o ad al CI CL CR M n) s.heap _ _ := w
  refine W.eq (g2 := F0 m 5 ls (.ref (al i) :: [])) rfl ?_
  refine lv_astore_n (lv' := [(3, .ref (al i)), (0, .ref o), (1, .int (nI a)), (2, .int 3)]) hx hb d_LC_message_5 rfl hl (by decide) rfl (fun ls hl => ?_)
  refine lv_iload_n hx hb d_LC_message_6 rfl (lv_at hl 3 rfl) ?_
  refine lv_tableIn (off := 47) (tgt := 54) hx hb d_LC_message_7 (by decide) (by decide) (by decide) (by decide) ?_
  refine lv_aload_n hx hb d_LC_message_54 rfl (lv_at hl 0 rfl) ?_
  refine kcalli (ws0 := []) w (krunU (owner := R_Message) (ws0 := []) (wc := cwm ac o ad al CI CL CR M n) (n := 0) (As := []) (rest := []) (C := R_Return) X w (c_Return_toManager l D ac o ad al CI CL CR M n _ i) wk_Return_toManager wi_Return wm_LC_216 wq_Message_toManager (va_Decl.of (X.2.2.2.2.1.at (a := #[]) wx_Message_toManager) (X.2.2.2.2.1.at wk_Message_toManager)) wx_Return_toManager ws_Return_Message_toManager (by decide +kernel) rfl rfl ⟨(Nat.le_of_ble_eq_true rfl), (Nat.le_of_ble_eq_true rfl)⟩ ⟨(Nat.le_of_ble_eq_true rfl), (Nat.le_of_ble_eq_true rfl)⟩ (mrecvC X w (q := i) (by omega) (mcell7 hcl) rfl) rfl hl.1 rfl (Nat.le_of_ble_eq_true rfl) d_LC_message_55) (fun r2 u H locs hp w => ?_)
  obtain ⟨rfl, rfl⟩ := hp
  have w : Wo D _ (cwm ac o ad al CI CL CR M n) s.heap _ _ := w
  refine W.eq (g2 := F0 m 58 ls (.int 1 :: [])) rfl ?_
  refine lv_if_eq (tgt := 65) hx hb d_LC_message_58 (by decide) (fun h => absurd h (by decide)) (fun _ => ?_)
  refine lv_iconst (v := 1) hx hb d_LC_message_61 (by decide) ?_
  refine lv_goto (tgt := 66) hx hb d_LC_message_62 (by decide) ?_
  have hF : f_LC_message_3Return = 1 := by rfl
  exact kiret X w hr hk ⟨by rw [hF], rfl⟩ d_LC_message_66
def f_LC_operate_83 (CI : Nat → Nat → Int32) (CL : Nat → Nat → Int64) (CR : Nat → Nat → Option Nat) (M : Nat → Msg) (n : Nat) (kd : Nat) (a : Nat) (v : Int32) (x : Int32) (c : Nat) (mm : Nat) : Int32 × (Nat → Nat → Int32) × (Nat → Nat → Int64) × (Nat → Nat → Option Nat) × (Nat → Msg) × (Nat) :=
  oc ((f_Core_find (up2 (up2 (up2 (up2 CI 2 c (nI kd)) 3 c (nI a)) 4 c v) 5 c x) c (nI a))) (
    if (nI kd) = 0 then
      (0, up2 (up2 (up2 (up2 (up2 (up2 CI 2 c (nI kd)) 3 c (nI a)) 4 c v) 5 c x) 1 c 1) 38 0 (nI (mm + 1)), CL, up2 CR 3 mm (some n), upM M n (4, 1, (nI a), some c, 0, (CL 0 c), (-1), 0), n + 1)
    else
      (0, up2 (up2 (up2 (up2 (up2 (up2 CI 2 c (nI kd)) 3 c (nI a)) 4 c v) 5 c x) 1 c 1) 38 0 (nI (mm + 1)), CL, up2 CR 3 mm (some n), upM M n (4, 2, (nI a), some c, 0, (CL 0 c), (-1), 0), n + 1))
    (fun y3 =>
    if (f_Core_may_s (up2 (up2 (up2 (up2 CI 2 c (nI kd)) 3 c (nI a)) 4 c v) 5 c x) CL c y3) = 0 then
      if (nI kd) = 0 then
        (0, up2 (up2 (up2 (up2 (up2 (up2 CI 2 c (nI kd)) 3 c (nI a)) 4 c v) 5 c x) 1 c 1) 38 0 (nI (mm + 1)), CL, up2 CR 3 mm (some n), upM M n (4, 1, (nI a), some c, 0, (CL 0 c), (CL 13 y3), 0), n + 1)
      else
        (0, up2 (up2 (up2 (up2 (up2 (up2 CI 2 c (nI kd)) 3 c (nI a)) 4 c v) 5 c x) 1 c 1) 38 0 (nI (mm + 1)), CL, up2 CR 3 mm (some n), upM M n (4, 2, (nI a), some c, 0, (CL 0 c), (CL 13 y3), 0), n + 1)
    else
      (1, (f_Core_perform (up2 (up2 (up2 (up2 (up2 (up2 CI 2 c (nI kd)) 3 c (nI a)) 4 c v) 5 c x) 39 0 (((up2 (up2 (up2 (up2 CI 2 c (nI kd)) 3 c (nI a)) 4 c v) 5 c x) 39 0) + 1)) 15 y3 (((up2 (up2 (up2 (up2 CI 2 c (nI kd)) 3 c (nI a)) 4 c v) 5 c x) 39 0) + 1)) CL c y3).1, (f_Core_perform (up2 (up2 (up2 (up2 (up2 (up2 CI 2 c (nI kd)) 3 c (nI a)) 4 c v) 5 c x) 39 0 (((up2 (up2 (up2 (up2 CI 2 c (nI kd)) 3 c (nI a)) 4 c v) 5 c x) 39 0) + 1)) 15 y3 (((up2 (up2 (up2 (up2 CI 2 c (nI kd)) 3 c (nI a)) 4 c v) 5 c x) 39 0) + 1)) CL c y3).2, CR, M, n))
set_option maxHeartbeats 4000000 in
set_option maxRecDepth 100000 in
theorem g_LC_operate_83 {p : Program} {l : Launch} {ev : Env} {s : State} {m : MethodId} {args : Array Value} {below : List Frame} {meth : Method} {c0 : Code} {D : va_G} {ac : Nat → ClassId} {o : Nat} {ad : Nat → Nat} {ws0 : va_W} {sz : Nat} {post : Int32 → va_W → Prop} (X : Cx b_LC_operate 8 R_LC D ac p m args c0 s) (hr : meth.sig.returnType = (some .boolean)) (hk : meth.locks = false) (al : Nat → Nat) (CI : Nat → Nat → Int32) (CL : Nat → Nat → Int64) (CR : Nat → Nat → Option Nat) (M : Nat → Msg) (n : Nat) (kd : Nat) (a : Nat) (v : Int32) (x : Int32) (c : Nat) (mm : Nat) (hc : c < 3) (hkd : kd < 3) (ha : a < 12) (hm : CI 38 0 = nI mm) (hmm : mm < 24) (hok : CRok CR n) {H : Heap} {locs : List Loc} {ls : Array Slot} (w : Wo D (va_A ws0 sz) (cwm ac o ad al CI CL CR M n) s.heap H locs) (hl : lv_has ls 8 [(0, .ref o), (2, .int (nI kd)), (3, .int (nI a)), (4, .int v), (5, .int x), (6, .ref (ad (4 + c)))]) (hp : ∀ a9 : Nat → Nat, (∀ i, i < n → a9 i = al i) → n ≤ (f_LC_operate_83 CI CL CR M n kd a v x c mm).2.2.2.2.2 → CRok ((f_LC_operate_83 CI CL CR M n kd a v x c mm).2.2.2.1) ((f_LC_operate_83 CI CL CR M n kd a v x c mm).2.2.2.2.2) → post ((f_LC_operate_83 CI CL CR M n kd a v x c mm).1) (cwm ac o ad a9 ((f_LC_operate_83 CI CL CR M n kd a v x c mm).2.1) ((f_LC_operate_83 CI CL CR M n kd a v x c mm).2.2.1) ((f_LC_operate_83 CI CL CR M n kd a v x c mm).2.2.2.1) ((f_LC_operate_83 CI CL CR M n kd a v x c mm).2.2.2.2.1) ((f_LC_operate_83 CI CL CR M n kd a v x c mm).2.2.2.2.2))) : W p l ev ({ frames := 3, cells := 1, slots := 7, locals := 80 } : Room) s m args below meth c0 H locs 0 0 (MQ below (va_Qi post (CPost D ws0 sz) (va_A ws0 sz)) args s 1 7 (va_A ws0 sz)) (F0 m 83 ls []) := by
  have hx := X.1
  have hb := X.2.1
  have hal : ∀ i, i < n → al i = al i := fun _ _ => rfl
  have hn : n ≤ n := Nat.le_refl n
  refine lv_aload hx hb d_LC_operate_83 (lv_at hl 5 rfl) ?_
  refine lv_iload_n hx hb d_LC_operate_85 rfl (lv_at hl 1 rfl) ?_
  refine cp_LC_122 X w c (by omega) d_LC_operate_86 (fun H locs w => ?_)
  refine lv_aload hx hb d_LC_operate_89 (lv_at hl 5 rfl) ?_
  refine lv_iload_n hx hb d_LC_operate_91 rfl (lv_at hl 2 rfl) ?_
  refine cp_LC_125 X w c (by omega) d_LC_operate_92 (fun H locs w => ?_)
  refine lv_aload hx hb d_LC_operate_95 (lv_at hl 5 rfl) ?_
  refine lv_iload hx hb d_LC_operate_97 (lv_at hl 3 rfl) ?_
  refine cp_LC_126 X w c (by omega) d_LC_operate_99 (fun H locs w => ?_)
  refine lv_aload hx hb d_LC_operate_102 (lv_at hl 5 rfl) ?_
  refine lv_iload hx hb d_LC_operate_104 (lv_at hl 4 rfl) ?_
  refine cp_LC_129 X w c (by omega) d_LC_operate_106 (fun H locs w => ?_)
  refine lv_aload hx hb d_LC_operate_109 (lv_at hl 5 rfl) ?_
  refine lv_iload_n hx hb d_LC_operate_111 rfl (lv_at hl 2 rfl) ?_
  refine kcallq (ws0 := []) w (krunV (ws0 := []) (wc := cwm ac o ad al (up2 (up2 (up2 (up2 CI 2 c (nI kd)) 3 c (nI a)) 4 c v) 5 c x) CL CR M n) (n := 1) (As := [.int (nI a)]) (rest := []) (C := R_Core) X w (c_Core_find l D ac o ad al (up2 (up2 (up2 (up2 CI 2 c (nI kd)) 3 c (nI a)) 4 c v) 5 c x) CL CR M n _ c (nI a) (by omega)) wk_Core_find wi_Core wm_LC_132 wx_Core_find ws_Core_Core_find (by decide +kernel) rfl rfl ⟨(Nat.le_of_ble_eq_true rfl), (Nat.le_of_ble_eq_true rfl)⟩ ⟨(Nat.le_of_ble_eq_true rfl), (Nat.le_of_ble_eq_true rfl)⟩ (crecv_Core X w c (by omega)) rfl hl.1 rfl (Nat.le_of_ble_eq_true rfl) d_LC_operate_112) (fun r1 u H locs hp w => ?_)
  obtain ⟨rfl, rfl⟩ := hp
  have w : Wo D _ (cwm ac o ad al (up2 (up2 (up2 (up2 CI 2 c (nI kd)) 3 c (nI a)) 4 c v) 5 c x) CL CR M n) s.heap _ _ := w
  cases ho2 : (f_Core_find (up2 (up2 (up2 (up2 CI 2 c (nI kd)) 3 c (nI a)) 4 c v) 5 c x) c (nI a)) with
  | none =>
    refine W.eq (g2 := F0 m 115 ls [.null]) (by first | rfl | exact congrArg (fun z => F0 m 115 ls [va_rf (rP ad z)]) ho2) ?_
    refine lv_astoreN (lv' := [(7, .null), (0, .ref o), (2, .int (nI kd)), (3, .int (nI a)), (4, .int v), (5, .int x), (6, .ref (ad (4 + c)))]) hx hb d_LC_operate_115 hl (by decide) rfl (fun ls hl => ?_)
    refine lv_aload hx hb d_LC_operate_117 (lv_at hl 6 rfl) ?_
    refine lv_aloadN hx hb d_LC_operate_119 (lv_at hl 0 rfl) ?_
    refine kcalli (ws0 := []) w (krunV (ws0 := []) (wc := cwm ac o ad al (up2 (up2 (up2 (up2 CI 2 c (nI kd)) 3 c (nI a)) 4 c v) 5 c x) CL CR M n) (n := 1) (As := [.null]) (rest := []) (C := R_Core) X w (c_Core_may_n l D ac o ad al (up2 (up2 (up2 (up2 CI 2 c (nI kd)) 3 c (nI a)) 4 c v) 5 c x) CL CR M n _ c (by omega)) wk_Core_may wi_Core wm_LC_136 wx_Core_may ws_Core_Core_may (by decide +kernel) rfl rfl ⟨(Nat.le_of_ble_eq_true rfl), (Nat.le_of_ble_eq_true rfl)⟩ ⟨(Nat.le_of_ble_eq_true rfl), (Nat.le_of_ble_eq_true rfl)⟩ (crecv_Core X w c (by omega)) rfl hl.1 rfl (Nat.le_of_ble_eq_true rfl) d_LC_operate_121) (fun r4 u H locs hp w => ?_)
    obtain ⟨rfl, rfl⟩ := hp
    have w : Wo D _ (cwm ac o ad al (up2 (up2 (up2 (up2 CI 2 c (nI kd)) 3 c (nI a)) 4 c v) 5 c x) CL CR M n) s.heap _ _ := w
    refine W.eq (g2 := F0 m 124 ls (.int 0 :: [])) rfl ?_
    refine lv_if_eq (tgt := 142) hx hb d_LC_operate_124 (by decide) (fun _ => ?_) (fun h => absurd h (by decide))
    refine lv_aload hx hb d_LC_operate_142 (lv_at hl 6 rfl) ?_
    refine lv_iconst (v := 1) hx hb d_LC_operate_144 (by decide) ?_
    refine cp_LC_109 X w c (by omega) (by decide) d_LC_operate_145 (fun H locs w => ?_)
    refine lv_aload_n hx hb d_LC_operate_148 rfl (lv_at hl 1 rfl) ?_
    refine knew X w (C := R_Request) (T := F_Request) (N := 5) (ci := 4) rfl i_Request t_Request t_Request_ok wc_LC_147 wn_Request wi_Request (fs := [.int 0, .int 0, .null, .long 0, .long 0]) (by decide) (Nat.le_of_ble_eq_true rfl) (Nat.le_of_ble_eq_true rfl) d_LC_operate_149 (fun q5 H w => ?_)
    have w : Wo D _ (cws ac o ad (up2 (up2 (up2 (up2 (up2 CI 2 c (nI kd)) 3 c (nI a)) 4 c v) 5 c x) 1 c 1) CL (mapR al CR) (mtl ad al M n ++ [(q5, .inr (4, [.int 0, .int 0, .null, .long 0, .long 0]))])) s.heap _ _ := w
    refine lv_dup hx hb d_LC_operate_152 rfl ?_
    refine lv_iload_n hx hb d_LC_operate_153 rfl (lv_at hl 2 rfl) ?_
    refine lv_if_ne (tgt := 161) hx hb d_LC_operate_154 (by decide) (fun h6 => ?_) (fun h6 => ?_)
    · skip
      refine lv_iconst (v := 2) hx hb d_LC_operate_161 (by decide) ?_
      refine lv_iload_n hx hb d_LC_operate_162 rfl (lv_at hl 3 rfl) ?_
      refine lv_aload hx hb d_LC_operate_163 (lv_at hl 6 rfl) ?_
      refine lv_aload hx hb d_LC_operate_165 (lv_at hl 6 rfl) ?_
      refine cg_LC_118 X w c (by omega) (v := CL 0 c) rfl d_LC_operate_167 ?_
      refine lv_aloadN hx hb d_LC_operate_170 (lv_at hl 0 rfl) ?_
      refine lv_ifnonnullN hx hb d_LC_operate_172 ?_
      refine lv_ldc2 (v := -1) hx hb X.2.2.2.1 (X.2.2.2.2.1.at wl_LC_149) d_LC_operate_175 ?_
      refine lv_goto (tgt := 186) hx hb d_LC_operate_178 (by decide) ?_
      refine kcallv (ws0 := []) w (krunI (ws0 := []) (wc := cws ac o ad (up2 (up2 (up2 (up2 (up2 CI 2 c (nI kd)) 3 c (nI a)) 4 c v) 5 c x) 1 c 1) CL (mapR al CR) (mtl ad al M n ++ [(q5, .inr (4, [.int 0, .int 0, .null, .long 0, .long 0]))])) (n := 5) (As := [.int 2, .int (nI a), .ref (ad (4 + c)), .long (CL 0 c), .long (-1)]) (rest := [.ref q5, .ref o]) X w (c_Request_init l D ac o ad (up2 (up2 (up2 (up2 (up2 CI 2 c (nI kd)) 3 c (nI a)) 4 c v) 5 c x) 1 c 1) CL (mapR al CR) (mtl ad al M n) q5 _ 2 (nI a) c (CL 0 c) (-1)) wk_Request_init wi_Request wm_LC_154 wx_Request_init rfl (by decide +kernel) rfl rfl ⟨(Nat.le_of_ble_eq_true rfl), (Nat.le_of_ble_eq_true rfl)⟩ ⟨(Nat.le_of_ble_eq_true rfl), (Nat.le_of_ble_eq_true rfl)⟩ rfl hl.1 rfl (Nat.le_of_ble_eq_true rfl) d_LC_operate_186) (fun u H locs hp w => ?_)
      obtain rfl := hp
      have w : Wo D _ (cws ac o ad (up2 (up2 (up2 (up2 (up2 CI 2 c (nI kd)) 3 c (nI a)) 4 c v) 5 c x) 1 c 1) CL (mapR al CR) (mtl ad al M n ++ [(q5, .inr (4, [.int 2, .int (nI a), .ref (ad (4 + c)), .long (CL 0 c), .long (-1)]))])) s.heap _ _ := w
      obtain ⟨al7, hal9, hq8, w9⟩ := kjoinM (al := al) (CR := CR) (m := (4, 2, (nI a), some c, 0, (CL 0 c), (-1), 0)) w rfl hok
      clear w
      subst hq8
      have w := w9
      clear w9
      have hal : ∀ i, i < n → al7 i = al i := fun i h => (hal9 i (by omega)).trans (hal i h)
      have hok := crok_le hok (Nat.le_succ _)
      have hn : n ≤ n + 1 := by omega
      have w : Wo D _ (cwm ac o ad al7 (up2 (up2 (up2 (up2 (up2 CI 2 c (nI kd)) 3 c (nI a)) 4 c v) 5 c x) 1 c 1) CL CR (upM M n (4, 2, (nI a), some c, 0, (CL 0 c), (-1), 0)) (n + 1)) s.heap _ _ := w
      refine kcallv (ws0 := []) w (krunV (ws0 := []) (wc := cwm ac o ad al7 (up2 (up2 (up2 (up2 (up2 CI 2 c (nI kd)) 3 c (nI a)) 4 c v) 5 c x) 1 c 1) CL CR (upM M n (4, 2, (nI a), some c, 0, (CL 0 c), (-1), 0)) (n + 1)) (n := 1) (As := [.ref (al7 n)]) (rest := []) (C := R_LC) X w (c_LC_send l D ac o ad al7 (up2 (up2 (up2 (up2 (up2 CI 2 c (nI kd)) 3 c (nI a)) 4 c v) 5 c x) 1 c 1) CL CR (upM M n (4, 2, (nI a), some c, 0, (CL 0 c), (-1), 0)) (n + 1) _ n mm hm (by omega) (by omega) hok) wk_LC_send wi_LC wm_LC_95 wx_LC_send ws_LC_LC_send (by decide +kernel) rfl rfl ⟨(Nat.le_of_ble_eq_true rfl), (Nat.le_of_ble_eq_true rfl)⟩ ⟨(Nat.le_of_ble_eq_true rfl), (Nat.le_of_ble_eq_true rfl)⟩ (crecv X w) rfl hl.1 rfl (Nat.le_of_ble_eq_true rfl) d_LC_operate_189) (fun u H locs hp w => ?_)
      obtain ⟨hok9, rfl⟩ := hp
      have hok := hok9
      have w : Wo D _ (cwm ac o ad al7 (up2 (up2 (up2 (up2 (up2 (up2 CI 2 c (nI kd)) 3 c (nI a)) 4 c v) 5 c x) 1 c 1) 38 0 (nI (mm + 1))) CL (up2 CR 3 mm (some n)) (upM M n (4, 2, (nI a), some c, 0, (CL 0 c), (-1), 0)) (n + 1)) s.heap _ _ := w
      refine lv_iconst (v := 0) hx hb d_LC_operate_192 (by decide) ?_
      have hF : f_LC_operate_83 CI CL CR M n kd a v x c mm = (0, up2 (up2 (up2 (up2 (up2 (up2 CI 2 c (nI kd)) 3 c (nI a)) 4 c v) 5 c x) 1 c 1) 38 0 (nI (mm + 1)), CL, up2 CR 3 mm (some n), upM M n (4, 2, (nI a), some c, 0, (CL 0 c), (-1), 0), n + 1) := by unfold f_LC_operate_83; rw [ho2, oc_none, if_neg h6]
      refine W.widen (k := 1) (n := 7) (Nat.le_of_ble_eq_true rfl) (Nat.le_of_ble_eq_true rfl) ?_
      exact kzret X w hr hk (by decide) (by have hp := hp al7 hal (by rw [hF]; exact hn) (by rw [hF]; exact hok); rw [hF] at hp; exact hp) d_LC_operate_193
    · skip
      refine lv_iconst (v := 1) hx hb d_LC_operate_157 (by decide) ?_
      refine lv_goto (tgt := 162) hx hb d_LC_operate_158 (by decide) ?_
      refine lv_iload_n hx hb d_LC_operate_162 rfl (lv_at hl 3 rfl) ?_
      refine lv_aload hx hb d_LC_operate_163 (lv_at hl 6 rfl) ?_
      refine lv_aload hx hb d_LC_operate_165 (lv_at hl 6 rfl) ?_
      refine cg_LC_118 X w c (by omega) (v := CL 0 c) rfl d_LC_operate_167 ?_
      refine lv_aloadN hx hb d_LC_operate_170 (lv_at hl 0 rfl) ?_
      refine lv_ifnonnullN hx hb d_LC_operate_172 ?_
      refine lv_ldc2 (v := -1) hx hb X.2.2.2.1 (X.2.2.2.2.1.at wl_LC_149) d_LC_operate_175 ?_
      refine lv_goto (tgt := 186) hx hb d_LC_operate_178 (by decide) ?_
      refine kcallv (ws0 := []) w (krunI (ws0 := []) (wc := cws ac o ad (up2 (up2 (up2 (up2 (up2 CI 2 c (nI kd)) 3 c (nI a)) 4 c v) 5 c x) 1 c 1) CL (mapR al CR) (mtl ad al M n ++ [(q5, .inr (4, [.int 0, .int 0, .null, .long 0, .long 0]))])) (n := 5) (As := [.int 1, .int (nI a), .ref (ad (4 + c)), .long (CL 0 c), .long (-1)]) (rest := [.ref q5, .ref o]) X w (c_Request_init l D ac o ad (up2 (up2 (up2 (up2 (up2 CI 2 c (nI kd)) 3 c (nI a)) 4 c v) 5 c x) 1 c 1) CL (mapR al CR) (mtl ad al M n) q5 _ 1 (nI a) c (CL 0 c) (-1)) wk_Request_init wi_Request wm_LC_154 wx_Request_init rfl (by decide +kernel) rfl rfl ⟨(Nat.le_of_ble_eq_true rfl), (Nat.le_of_ble_eq_true rfl)⟩ ⟨(Nat.le_of_ble_eq_true rfl), (Nat.le_of_ble_eq_true rfl)⟩ rfl hl.1 rfl (Nat.le_of_ble_eq_true rfl) d_LC_operate_186) (fun u H locs hp w => ?_)
      obtain rfl := hp
      have w : Wo D _ (cws ac o ad (up2 (up2 (up2 (up2 (up2 CI 2 c (nI kd)) 3 c (nI a)) 4 c v) 5 c x) 1 c 1) CL (mapR al CR) (mtl ad al M n ++ [(q5, .inr (4, [.int 1, .int (nI a), .ref (ad (4 + c)), .long (CL 0 c), .long (-1)]))])) s.heap _ _ := w
      obtain ⟨al9, hal9, hq10, w9⟩ := kjoinM (al := al) (CR := CR) (m := (4, 1, (nI a), some c, 0, (CL 0 c), (-1), 0)) w rfl hok
      clear w
      subst hq10
      have w := w9
      clear w9
      have hal : ∀ i, i < n → al9 i = al i := fun i h => (hal9 i (by omega)).trans (hal i h)
      have hok := crok_le hok (Nat.le_succ _)
      have hn : n ≤ n + 1 := by omega
      have w : Wo D _ (cwm ac o ad al9 (up2 (up2 (up2 (up2 (up2 CI 2 c (nI kd)) 3 c (nI a)) 4 c v) 5 c x) 1 c 1) CL CR (upM M n (4, 1, (nI a), some c, 0, (CL 0 c), (-1), 0)) (n + 1)) s.heap _ _ := w
      refine kcallv (ws0 := []) w (krunV (ws0 := []) (wc := cwm ac o ad al9 (up2 (up2 (up2 (up2 (up2 CI 2 c (nI kd)) 3 c (nI a)) 4 c v) 5 c x) 1 c 1) CL CR (upM M n (4, 1, (nI a), some c, 0, (CL 0 c), (-1), 0)) (n + 1)) (n := 1) (As := [.ref (al9 n)]) (rest := []) (C := R_LC) X w (c_LC_send l D ac o ad al9 (up2 (up2 (up2 (up2 (up2 CI 2 c (nI kd)) 3 c (nI a)) 4 c v) 5 c x) 1 c 1) CL CR (upM M n (4, 1, (nI a), some c, 0, (CL 0 c), (-1), 0)) (n + 1) _ n mm hm (by omega) (by omega) hok) wk_LC_send wi_LC wm_LC_95 wx_LC_send ws_LC_LC_send (by decide +kernel) rfl rfl ⟨(Nat.le_of_ble_eq_true rfl), (Nat.le_of_ble_eq_true rfl)⟩ ⟨(Nat.le_of_ble_eq_true rfl), (Nat.le_of_ble_eq_true rfl)⟩ (crecv X w) rfl hl.1 rfl (Nat.le_of_ble_eq_true rfl) d_LC_operate_189) (fun u H locs hp w => ?_)
      obtain ⟨hok9, rfl⟩ := hp
      have hok := hok9
      have w : Wo D _ (cwm ac o ad al9 (up2 (up2 (up2 (up2 (up2 (up2 CI 2 c (nI kd)) 3 c (nI a)) 4 c v) 5 c x) 1 c 1) 38 0 (nI (mm + 1))) CL (up2 CR 3 mm (some n)) (upM M n (4, 1, (nI a), some c, 0, (CL 0 c), (-1), 0)) (n + 1)) s.heap _ _ := w
      refine lv_iconst (v := 0) hx hb d_LC_operate_192 (by decide) ?_
      have hF : f_LC_operate_83 CI CL CR M n kd a v x c mm = (0, up2 (up2 (up2 (up2 (up2 (up2 CI 2 c (nI kd)) 3 c (nI a)) 4 c v) 5 c x) 1 c 1) 38 0 (nI (mm + 1)), CL, up2 CR 3 mm (some n), upM M n (4, 1, (nI a), some c, 0, (CL 0 c), (-1), 0), n + 1) := by unfold f_LC_operate_83; rw [ho2, oc_none, if_pos h6]
      refine W.widen (k := 1) (n := 7) (Nat.le_of_ble_eq_true rfl) (Nat.le_of_ble_eq_true rfl) ?_
      exact kzret X w hr hk (by decide) (by have hp := hp al9 hal (by rw [hF]; exact hn) (by rw [hF]; exact hok); rw [hF] at hp; exact hp) d_LC_operate_193
  | some y3 =>
    refine W.eq (g2 := F0 m 115 ls [.ref (ad (10 + y3))]) (by first | rfl | exact congrArg (fun z => F0 m 115 ls [va_rf (rP ad z)]) ho2) ?_
    have hy3 := f_Core_find_lt ho2
    have hy3c := f_Core_find_line ho2
    refine lv_astore (lv' := [(7, .ref (ad (10 + y3))), (0, .ref o), (2, .int (nI kd)), (3, .int (nI a)), (4, .int v), (5, .int x), (6, .ref (ad (4 + c)))]) hx hb d_LC_operate_115 hl (by decide) rfl (fun ls hl => ?_)
    refine lv_aload hx hb d_LC_operate_117 (lv_at hl 6 rfl) ?_
    refine lv_aload hx hb d_LC_operate_119 (lv_at hl 0 rfl) ?_
    refine kcalli (ws0 := []) w (krunV (ws0 := []) (wc := cwm ac o ad al (up2 (up2 (up2 (up2 CI 2 c (nI kd)) 3 c (nI a)) 4 c v) 5 c x) CL CR M n) (n := 1) (As := [.ref (ad (10 + y3))]) (rest := []) (C := R_Core) X w (c_Core_may_s l D ac o ad al (up2 (up2 (up2 (up2 CI 2 c (nI kd)) 3 c (nI a)) 4 c v) 5 c x) CL CR M n _ c y3 (by omega) (by omega)) wk_Core_may wi_Core wm_LC_136 wx_Core_may ws_Core_Core_may (by decide +kernel) rfl rfl ⟨(Nat.le_of_ble_eq_true rfl), (Nat.le_of_ble_eq_true rfl)⟩ ⟨(Nat.le_of_ble_eq_true rfl), (Nat.le_of_ble_eq_true rfl)⟩ (crecv_Core X w c (by omega)) rfl hl.1 rfl (Nat.le_of_ble_eq_true rfl) d_LC_operate_121) (fun r11 u H locs hp w => ?_)
    obtain ⟨rfl, rfl⟩ := hp
    have w : Wo D _ (cwm ac o ad al (up2 (up2 (up2 (up2 CI 2 c (nI kd)) 3 c (nI a)) 4 c v) 5 c x) CL CR M n) s.heap _ _ := w
    refine lv_if_eq (tgt := 142) hx hb d_LC_operate_124 (by decide) (fun h12 => ?_) (fun h12 => ?_)
    · skip
      refine lv_aload hx hb d_LC_operate_142 (lv_at hl 6 rfl) ?_
      refine lv_iconst (v := 1) hx hb d_LC_operate_144 (by decide) ?_
      refine cp_LC_109 X w c (by omega) (by decide) d_LC_operate_145 (fun H locs w => ?_)
      refine lv_aload_n hx hb d_LC_operate_148 rfl (lv_at hl 1 rfl) ?_
      refine knew X w (C := R_Request) (T := F_Request) (N := 5) (ci := 4) rfl i_Request t_Request t_Request_ok wc_LC_147 wn_Request wi_Request (fs := [.int 0, .int 0, .null, .long 0, .long 0]) (by decide) (Nat.le_of_ble_eq_true rfl) (Nat.le_of_ble_eq_true rfl) d_LC_operate_149 (fun q13 H w => ?_)
      have w : Wo D _ (cws ac o ad (up2 (up2 (up2 (up2 (up2 CI 2 c (nI kd)) 3 c (nI a)) 4 c v) 5 c x) 1 c 1) CL (mapR al CR) (mtl ad al M n ++ [(q13, .inr (4, [.int 0, .int 0, .null, .long 0, .long 0]))])) s.heap _ _ := w
      refine lv_dup hx hb d_LC_operate_152 rfl ?_
      refine lv_iload_n hx hb d_LC_operate_153 rfl (lv_at hl 2 rfl) ?_
      refine lv_if_ne (tgt := 161) hx hb d_LC_operate_154 (by decide) (fun h14 => ?_) (fun h14 => ?_)
      · skip
        refine lv_iconst (v := 2) hx hb d_LC_operate_161 (by decide) ?_
        refine lv_iload_n hx hb d_LC_operate_162 rfl (lv_at hl 3 rfl) ?_
        refine lv_aload hx hb d_LC_operate_163 (lv_at hl 6 rfl) ?_
        refine lv_aload hx hb d_LC_operate_165 (lv_at hl 6 rfl) ?_
        refine cg_LC_118 X w c (by omega) (v := CL 0 c) rfl d_LC_operate_167 ?_
        refine lv_aload hx hb d_LC_operate_170 (lv_at hl 0 rfl) ?_
        refine lv_ifnonnull (tgt := 181) hx hb d_LC_operate_172 (by decide) ?_
        refine lv_aload hx hb d_LC_operate_181 (lv_at hl 0 rfl) ?_
        refine cg_LC_151 X w y3 (by omega) (v := CL 13 y3) rfl d_LC_operate_183 ?_
        refine kcallv (ws0 := []) w (krunI (ws0 := []) (wc := cws ac o ad (up2 (up2 (up2 (up2 (up2 CI 2 c (nI kd)) 3 c (nI a)) 4 c v) 5 c x) 1 c 1) CL (mapR al CR) (mtl ad al M n ++ [(q13, .inr (4, [.int 0, .int 0, .null, .long 0, .long 0]))])) (n := 5) (As := [.int 2, .int (nI a), .ref (ad (4 + c)), .long (CL 0 c), .long (CL 13 y3)]) (rest := [.ref q13, .ref o]) X w (c_Request_init l D ac o ad (up2 (up2 (up2 (up2 (up2 CI 2 c (nI kd)) 3 c (nI a)) 4 c v) 5 c x) 1 c 1) CL (mapR al CR) (mtl ad al M n) q13 _ 2 (nI a) c (CL 0 c) (CL 13 y3)) wk_Request_init wi_Request wm_LC_154 wx_Request_init rfl (by decide +kernel) rfl rfl ⟨(Nat.le_of_ble_eq_true rfl), (Nat.le_of_ble_eq_true rfl)⟩ ⟨(Nat.le_of_ble_eq_true rfl), (Nat.le_of_ble_eq_true rfl)⟩ rfl hl.1 rfl (Nat.le_of_ble_eq_true rfl) d_LC_operate_186) (fun u H locs hp w => ?_)
        obtain rfl := hp
        have w : Wo D _ (cws ac o ad (up2 (up2 (up2 (up2 (up2 CI 2 c (nI kd)) 3 c (nI a)) 4 c v) 5 c x) 1 c 1) CL (mapR al CR) (mtl ad al M n ++ [(q13, .inr (4, [.int 2, .int (nI a), .ref (ad (4 + c)), .long (CL 0 c), .long (CL 13 y3)]))])) s.heap _ _ := w
        obtain ⟨al15, hal9, hq16, w9⟩ := kjoinM (al := al) (CR := CR) (m := (4, 2, (nI a), some c, 0, (CL 0 c), (CL 13 y3), 0)) w rfl hok
        clear w
        subst hq16
        have w := w9
        clear w9
        have hal : ∀ i, i < n → al15 i = al i := fun i h => (hal9 i (by omega)).trans (hal i h)
        have hok := crok_le hok (Nat.le_succ _)
        have hn : n ≤ n + 1 := by omega
        have w : Wo D _ (cwm ac o ad al15 (up2 (up2 (up2 (up2 (up2 CI 2 c (nI kd)) 3 c (nI a)) 4 c v) 5 c x) 1 c 1) CL CR (upM M n (4, 2, (nI a), some c, 0, (CL 0 c), (CL 13 y3), 0)) (n + 1)) s.heap _ _ := w
        refine kcallv (ws0 := []) w (krunV (ws0 := []) (wc := cwm ac o ad al15 (up2 (up2 (up2 (up2 (up2 CI 2 c (nI kd)) 3 c (nI a)) 4 c v) 5 c x) 1 c 1) CL CR (upM M n (4, 2, (nI a), some c, 0, (CL 0 c), (CL 13 y3), 0)) (n + 1)) (n := 1) (As := [.ref (al15 n)]) (rest := []) (C := R_LC) X w (c_LC_send l D ac o ad al15 (up2 (up2 (up2 (up2 (up2 CI 2 c (nI kd)) 3 c (nI a)) 4 c v) 5 c x) 1 c 1) CL CR (upM M n (4, 2, (nI a), some c, 0, (CL 0 c), (CL 13 y3), 0)) (n + 1) _ n mm hm (by omega) (by omega) hok) wk_LC_send wi_LC wm_LC_95 wx_LC_send ws_LC_LC_send (by decide +kernel) rfl rfl ⟨(Nat.le_of_ble_eq_true rfl), (Nat.le_of_ble_eq_true rfl)⟩ ⟨(Nat.le_of_ble_eq_true rfl), (Nat.le_of_ble_eq_true rfl)⟩ (crecv X w) rfl hl.1 rfl (Nat.le_of_ble_eq_true rfl) d_LC_operate_189) (fun u H locs hp w => ?_)
        obtain ⟨hok9, rfl⟩ := hp
        have hok := hok9
        have w : Wo D _ (cwm ac o ad al15 (up2 (up2 (up2 (up2 (up2 (up2 CI 2 c (nI kd)) 3 c (nI a)) 4 c v) 5 c x) 1 c 1) 38 0 (nI (mm + 1))) CL (up2 CR 3 mm (some n)) (upM M n (4, 2, (nI a), some c, 0, (CL 0 c), (CL 13 y3), 0)) (n + 1)) s.heap _ _ := w
        refine lv_iconst (v := 0) hx hb d_LC_operate_192 (by decide) ?_
        have hF : f_LC_operate_83 CI CL CR M n kd a v x c mm = (0, up2 (up2 (up2 (up2 (up2 (up2 CI 2 c (nI kd)) 3 c (nI a)) 4 c v) 5 c x) 1 c 1) 38 0 (nI (mm + 1)), CL, up2 CR 3 mm (some n), upM M n (4, 2, (nI a), some c, 0, (CL 0 c), (CL 13 y3), 0), n + 1) := by unfold f_LC_operate_83; rw [ho2, oc_some, if_pos h12, if_neg h14]
        refine W.widen (k := 1) (n := 7) (Nat.le_of_ble_eq_true rfl) (Nat.le_of_ble_eq_true rfl) ?_
        exact kzret X w hr hk (by decide) (by have hp := hp al15 hal (by rw [hF]; exact hn) (by rw [hF]; exact hok); rw [hF] at hp; exact hp) d_LC_operate_193
      · skip
        refine lv_iconst (v := 1) hx hb d_LC_operate_157 (by decide) ?_
        refine lv_goto (tgt := 162) hx hb d_LC_operate_158 (by decide) ?_
        refine lv_iload_n hx hb d_LC_operate_162 rfl (lv_at hl 3 rfl) ?_
        refine lv_aload hx hb d_LC_operate_163 (lv_at hl 6 rfl) ?_
        refine lv_aload hx hb d_LC_operate_165 (lv_at hl 6 rfl) ?_
        refine cg_LC_118 X w c (by omega) (v := CL 0 c) rfl d_LC_operate_167 ?_
        refine lv_aload hx hb d_LC_operate_170 (lv_at hl 0 rfl) ?_
        refine lv_ifnonnull (tgt := 181) hx hb d_LC_operate_172 (by decide) ?_
        refine lv_aload hx hb d_LC_operate_181 (lv_at hl 0 rfl) ?_
        refine cg_LC_151 X w y3 (by omega) (v := CL 13 y3) rfl d_LC_operate_183 ?_
        refine kcallv (ws0 := []) w (krunI (ws0 := []) (wc := cws ac o ad (up2 (up2 (up2 (up2 (up2 CI 2 c (nI kd)) 3 c (nI a)) 4 c v) 5 c x) 1 c 1) CL (mapR al CR) (mtl ad al M n ++ [(q13, .inr (4, [.int 0, .int 0, .null, .long 0, .long 0]))])) (n := 5) (As := [.int 1, .int (nI a), .ref (ad (4 + c)), .long (CL 0 c), .long (CL 13 y3)]) (rest := [.ref q13, .ref o]) X w (c_Request_init l D ac o ad (up2 (up2 (up2 (up2 (up2 CI 2 c (nI kd)) 3 c (nI a)) 4 c v) 5 c x) 1 c 1) CL (mapR al CR) (mtl ad al M n) q13 _ 1 (nI a) c (CL 0 c) (CL 13 y3)) wk_Request_init wi_Request wm_LC_154 wx_Request_init rfl (by decide +kernel) rfl rfl ⟨(Nat.le_of_ble_eq_true rfl), (Nat.le_of_ble_eq_true rfl)⟩ ⟨(Nat.le_of_ble_eq_true rfl), (Nat.le_of_ble_eq_true rfl)⟩ rfl hl.1 rfl (Nat.le_of_ble_eq_true rfl) d_LC_operate_186) (fun u H locs hp w => ?_)
        obtain rfl := hp
        have w : Wo D _ (cws ac o ad (up2 (up2 (up2 (up2 (up2 CI 2 c (nI kd)) 3 c (nI a)) 4 c v) 5 c x) 1 c 1) CL (mapR al CR) (mtl ad al M n ++ [(q13, .inr (4, [.int 1, .int (nI a), .ref (ad (4 + c)), .long (CL 0 c), .long (CL 13 y3)]))])) s.heap _ _ := w
        obtain ⟨al17, hal9, hq18, w9⟩ := kjoinM (al := al) (CR := CR) (m := (4, 1, (nI a), some c, 0, (CL 0 c), (CL 13 y3), 0)) w rfl hok
        clear w
        subst hq18
        have w := w9
        clear w9
        have hal : ∀ i, i < n → al17 i = al i := fun i h => (hal9 i (by omega)).trans (hal i h)
        have hok := crok_le hok (Nat.le_succ _)
        have hn : n ≤ n + 1 := by omega
        have w : Wo D _ (cwm ac o ad al17 (up2 (up2 (up2 (up2 (up2 CI 2 c (nI kd)) 3 c (nI a)) 4 c v) 5 c x) 1 c 1) CL CR (upM M n (4, 1, (nI a), some c, 0, (CL 0 c), (CL 13 y3), 0)) (n + 1)) s.heap _ _ := w
        refine kcallv (ws0 := []) w (krunV (ws0 := []) (wc := cwm ac o ad al17 (up2 (up2 (up2 (up2 (up2 CI 2 c (nI kd)) 3 c (nI a)) 4 c v) 5 c x) 1 c 1) CL CR (upM M n (4, 1, (nI a), some c, 0, (CL 0 c), (CL 13 y3), 0)) (n + 1)) (n := 1) (As := [.ref (al17 n)]) (rest := []) (C := R_LC) X w (c_LC_send l D ac o ad al17 (up2 (up2 (up2 (up2 (up2 CI 2 c (nI kd)) 3 c (nI a)) 4 c v) 5 c x) 1 c 1) CL CR (upM M n (4, 1, (nI a), some c, 0, (CL 0 c), (CL 13 y3), 0)) (n + 1) _ n mm hm (by omega) (by omega) hok) wk_LC_send wi_LC wm_LC_95 wx_LC_send ws_LC_LC_send (by decide +kernel) rfl rfl ⟨(Nat.le_of_ble_eq_true rfl), (Nat.le_of_ble_eq_true rfl)⟩ ⟨(Nat.le_of_ble_eq_true rfl), (Nat.le_of_ble_eq_true rfl)⟩ (crecv X w) rfl hl.1 rfl (Nat.le_of_ble_eq_true rfl) d_LC_operate_189) (fun u H locs hp w => ?_)
        obtain ⟨hok9, rfl⟩ := hp
        have hok := hok9
        have w : Wo D _ (cwm ac o ad al17 (up2 (up2 (up2 (up2 (up2 (up2 CI 2 c (nI kd)) 3 c (nI a)) 4 c v) 5 c x) 1 c 1) 38 0 (nI (mm + 1))) CL (up2 CR 3 mm (some n)) (upM M n (4, 1, (nI a), some c, 0, (CL 0 c), (CL 13 y3), 0)) (n + 1)) s.heap _ _ := w
        refine lv_iconst (v := 0) hx hb d_LC_operate_192 (by decide) ?_
        have hF : f_LC_operate_83 CI CL CR M n kd a v x c mm = (0, up2 (up2 (up2 (up2 (up2 (up2 CI 2 c (nI kd)) 3 c (nI a)) 4 c v) 5 c x) 1 c 1) 38 0 (nI (mm + 1)), CL, up2 CR 3 mm (some n), upM M n (4, 1, (nI a), some c, 0, (CL 0 c), (CL 13 y3), 0), n + 1) := by unfold f_LC_operate_83; rw [ho2, oc_some, if_pos h12, if_pos h14]
        refine W.widen (k := 1) (n := 7) (Nat.le_of_ble_eq_true rfl) (Nat.le_of_ble_eq_true rfl) ?_
        exact kzret X w hr hk (by decide) (by have hp := hp al17 hal (by rw [hF]; exact hn) (by rw [hF]; exact hok); rw [hF] at hp; exact hp) d_LC_operate_193
    · skip
      refine lv_aload_n hx hb d_LC_operate_127 rfl (lv_at hl 1 rfl) ?_
      refine lv_aload hx hb d_LC_operate_128 (lv_at hl 0 rfl) ?_
      refine kcallv (ws0 := []) w (krunV (ws0 := []) (wc := cwm ac o ad al (up2 (up2 (up2 (up2 CI 2 c (nI kd)) 3 c (nI a)) 4 c v) 5 c x) CL CR M n) (n := 1) (As := [.ref (ad (10 + y3))]) (rest := []) (C := R_LC) X w (c_LC_use l D ac o ad al (up2 (up2 (up2 (up2 CI 2 c (nI kd)) 3 c (nI a)) 4 c v) 5 c x) CL CR M n _ y3 (by omega)) wk_LC_use wi_LC wm_LC_140 wx_LC_use ws_LC_LC_use (by decide +kernel) rfl rfl ⟨(Nat.le_of_ble_eq_true rfl), (Nat.le_of_ble_eq_true rfl)⟩ ⟨(Nat.le_of_ble_eq_true rfl), (Nat.le_of_ble_eq_true rfl)⟩ (crecv X w) rfl hl.1 rfl (Nat.le_of_ble_eq_true rfl) d_LC_operate_130) (fun u H locs hp w => ?_)
      obtain rfl := hp
      have w : Wo D _ (cwm ac o ad al (up2 (up2 (up2 (up2 (up2 (up2 CI 2 c (nI kd)) 3 c (nI a)) 4 c v) 5 c x) 39 0 (((up2 (up2 (up2 (up2 CI 2 c (nI kd)) 3 c (nI a)) 4 c v) 5 c x) 39 0) + 1)) 15 y3 (((up2 (up2 (up2 (up2 CI 2 c (nI kd)) 3 c (nI a)) 4 c v) 5 c x) 39 0) + 1)) CL CR M n) s.heap _ _ := w
      refine lv_aload hx hb d_LC_operate_133 (lv_at hl 6 rfl) ?_
      refine lv_aload hx hb d_LC_operate_135 (lv_at hl 0 rfl) ?_
      refine kcallv (ws0 := []) w (krunV (ws0 := []) (wc := cwm ac o ad al (up2 (up2 (up2 (up2 (up2 (up2 CI 2 c (nI kd)) 3 c (nI a)) 4 c v) 5 c x) 39 0 (((up2 (up2 (up2 (up2 CI 2 c (nI kd)) 3 c (nI a)) 4 c v) 5 c x) 39 0) + 1)) 15 y3 (((up2 (up2 (up2 (up2 CI 2 c (nI kd)) 3 c (nI a)) 4 c v) 5 c x) 39 0) + 1)) CL CR M n) (n := 1) (As := [.ref (ad (10 + y3))]) (rest := []) (C := R_Core) X w (c_Core_perform l D ac o ad al (up2 (up2 (up2 (up2 (up2 (up2 CI 2 c (nI kd)) 3 c (nI a)) 4 c v) 5 c x) 39 0 (((up2 (up2 (up2 (up2 CI 2 c (nI kd)) 3 c (nI a)) 4 c v) 5 c x) 39 0) + 1)) 15 y3 (((up2 (up2 (up2 (up2 CI 2 c (nI kd)) 3 c (nI a)) 4 c v) 5 c x) 39 0) + 1)) CL CR M n _ c y3 (by omega) (by omega)) wk_Core_perform wi_Core wm_LC_144 wx_Core_perform ws_Core_Core_perform (by decide +kernel) rfl rfl ⟨(Nat.le_of_ble_eq_true rfl), (Nat.le_of_ble_eq_true rfl)⟩ ⟨(Nat.le_of_ble_eq_true rfl), (Nat.le_of_ble_eq_true rfl)⟩ (crecv_Core X w c (by omega)) rfl hl.1 rfl (Nat.le_of_ble_eq_true rfl) d_LC_operate_137) (fun u H locs hp w => ?_)
      obtain rfl := hp
      have w : Wo D _ (cwm ac o ad al ((f_Core_perform (up2 (up2 (up2 (up2 (up2 (up2 CI 2 c (nI kd)) 3 c (nI a)) 4 c v) 5 c x) 39 0 (((up2 (up2 (up2 (up2 CI 2 c (nI kd)) 3 c (nI a)) 4 c v) 5 c x) 39 0) + 1)) 15 y3 (((up2 (up2 (up2 (up2 CI 2 c (nI kd)) 3 c (nI a)) 4 c v) 5 c x) 39 0) + 1)) CL c y3).1) ((f_Core_perform (up2 (up2 (up2 (up2 (up2 (up2 CI 2 c (nI kd)) 3 c (nI a)) 4 c v) 5 c x) 39 0 (((up2 (up2 (up2 (up2 CI 2 c (nI kd)) 3 c (nI a)) 4 c v) 5 c x) 39 0) + 1)) 15 y3 (((up2 (up2 (up2 (up2 CI 2 c (nI kd)) 3 c (nI a)) 4 c v) 5 c x) 39 0) + 1)) CL c y3).2) CR M n) s.heap _ _ := w
      refine lv_iconst (v := 1) hx hb d_LC_operate_140 (by decide) ?_
      have hF : f_LC_operate_83 CI CL CR M n kd a v x c mm = (1, (f_Core_perform (up2 (up2 (up2 (up2 (up2 (up2 CI 2 c (nI kd)) 3 c (nI a)) 4 c v) 5 c x) 39 0 (((up2 (up2 (up2 (up2 CI 2 c (nI kd)) 3 c (nI a)) 4 c v) 5 c x) 39 0) + 1)) 15 y3 (((up2 (up2 (up2 (up2 CI 2 c (nI kd)) 3 c (nI a)) 4 c v) 5 c x) 39 0) + 1)) CL c y3).1, (f_Core_perform (up2 (up2 (up2 (up2 (up2 (up2 CI 2 c (nI kd)) 3 c (nI a)) 4 c v) 5 c x) 39 0 (((up2 (up2 (up2 (up2 CI 2 c (nI kd)) 3 c (nI a)) 4 c v) 5 c x) 39 0) + 1)) 15 y3 (((up2 (up2 (up2 (up2 CI 2 c (nI kd)) 3 c (nI a)) 4 c v) 5 c x) 39 0) + 1)) CL c y3).2, CR, M, n) := by unfold f_LC_operate_83; rw [ho2, oc_some, if_neg h12]
      refine W.widen (k := 1) (n := 7) (Nat.le_of_ble_eq_true rfl) (Nat.le_of_ble_eq_true rfl) ?_
      exact kzret X w hr hk (by decide) (by have hp := hp al hal (by rw [hF]; exact hn) (by rw [hF]; exact hok); rw [hF] at hp; exact hp) d_LC_operate_141
def f_LC_operate (CI : Nat → Nat → Int32) (CL : Nat → Nat → Int64) (CR : Nat → Nat → Option Nat) (M : Nat → Msg) (n : Nat) (c : Nat) (kd : Nat) (a : Nat) (v : Int32) (x : Int32) (mm : Nat) : Int32 × (Nat → Nat → Int32) × (Nat → Nat → Int64) × (Nat → Nat → Option Nat) × (Nat → Msg) × (Nat) :=
  if (((CI 6 c) + 1) - ((CI 6 c) + 1) / (CI 37 0) * (CI 37 0)) = 0 then
    f_LC_operate_83 (up2 CI 6 c ((CI 6 c) + 1)) (up2 CL 0 c ((CL 0 c) + 1)) CR M n kd a v x c mm
  else
    f_LC_operate_83 (up2 CI 6 c ((CI 6 c) + 1)) (up2 CL 0 c ((CL 0 c) + 0)) CR M n kd a v x c mm
set_option maxHeartbeats 4000000 in
set_option maxRecDepth 100000 in
theorem c_LC_operate (l : Launch) (D : va_G) (ac : Nat → ClassId) (o : Nat) (ad : Nat → Nat) (al : Nat → Nat) (CI : Nat → Nat → Int32) (CL : Nat → Nat → Int64) (CR : Nat → Nat → Option Nat) (M : Nat → Msg) (n : Nat) (sz : Nat) (c : Nat) (kd : Nat) (a : Nat) (v : Int32) (x : Int32) (mm : Nat) (hc : c < 3) (hkd : kd < 3) (ha : a < 12) (hwt : CI 1 c = 0) (hpace : ¬ CI 37 0 = 0) (hm : CI 38 0 = nI mm) (hmm : mm < 24) (hok : CRok CR n) : Met l y_LC_operate [Cond.code y_LC_operate b_LC_operate 8 (some .boolean)] { frames := 3, cells := 1, slots := 7, locals := 80 } (va_Pc [.ref o, .int (nI c), .int (nI kd), .int (nI a), .int v, .int x] (CPre D ac (cwm ac o ad al CI CL CR M n) sz)) (va_Qi (fun r u => ∃ a9 : Nat → Nat, (∀ i, i < n → a9 i = al i) ∧ n ≤ (f_LC_operate CI CL CR M n c kd a v x mm).2.2.2.2.2 ∧ CRok ((f_LC_operate CI CL CR M n c kd a v x mm).2.2.2.1) ((f_LC_operate CI CL CR M n c kd a v x mm).2.2.2.2.2) ∧ r = (f_LC_operate CI CL CR M n c kd a v x mm).1 ∧ u = cwm ac o ad a9 ((f_LC_operate CI CL CR M n c kd a v x mm).2.1) ((f_LC_operate CI CL CR M n c kd a v x mm).2.2.1) ((f_LC_operate CI CL CR M n c kd a v x mm).2.2.2.1) ((f_LC_operate CI CL CR M n c kd a v x mm).2.2.2.2.1) ((f_LC_operate CI CL CR M n c kd a v x mm).2.2.2.2.2)) (CPost D (cwm ac o ad al CI CL CR M n) sz) (va_A (cwm ac o ad al CI CL CR M n) sz)) 1 7 (va_A (cwm ac o ad al CI CL CR M n) sz) := by
  refine kofW (by decide) (Nat.le_of_ble_eq_true rfl) ?_
  intro p ev s m args below meth c0 ls X hr hk hnm hex hsz w hl
  have X : Cx b_LC_operate 8 R_LC D ac p m args c0 s := X
  have hx := X.1
  have hb := X.2.1
  have hl : lv_has ls 8 [(0, .ref o), (1, .int (nI c)), (2, .int (nI kd)), (3, .int (nI a)), (4, .int v), (5, .int x)] := hl
  have hal : ∀ i, i < n → al i = al i := fun _ _ => rfl
  have hn : n ≤ n := Nat.le_refl n
  refine lv_aload_n hx hb d_LC_operate_0 rfl (lv_at hl 0 rfl) ?_
  refine lv_iload_n hx hb d_LC_operate_1 rfl (lv_at hl 1 rfl) ?_
  refine kcallq (ws0 := []) w (krunV (ws0 := []) (wc := cwm ac o ad al CI CL CR M n) (n := 1) (As := [.int (nI c)]) (rest := []) (C := R_LC) X w (c_LC_needCore l D ac o ad al CI CL CR M n _ c (by omega)) wk_LC_needCore wi_LC wm_LC_102 wx_LC_needCore ws_LC_LC_needCore (by decide +kernel) rfl rfl ⟨(Nat.le_of_ble_eq_true rfl), (Nat.le_of_ble_eq_true rfl)⟩ ⟨(Nat.le_of_ble_eq_true rfl), (Nat.le_of_ble_eq_true rfl)⟩ (crecv X w) rfl hl.1 rfl (Nat.le_of_ble_eq_true rfl) d_LC_operate_2) (fun r1 u H locs hp w => ?_)
  obtain ⟨rfl, rfl⟩ := hp
  have w : Wo D _ (cwm ac o ad al CI CL CR M n) s.heap _ _ := w
  refine W.eq (g2 := F0 m 5 ls (.ref (ad (4 + c)) :: [])) rfl ?_
  refine lv_astore (lv' := [(6, .ref (ad (4 + c))), (0, .ref o), (1, .int (nI c)), (2, .int (nI kd)), (3, .int (nI a)), (4, .int v), (5, .int x)]) hx hb d_LC_operate_5 hl (by decide) rfl (fun ls hl => ?_)
  refine lv_iload_n hx hb d_LC_operate_7 rfl (lv_at hl 4 rfl) ?_
  refine kcallv (ws0 := []) w (krunS (ws0 := []) (wc := cwm ac o ad al CI CL CR M n) (n := 1) (As := [.int (nI a)]) (rest := []) X w (c_LC_needLine l D ac o ad al CI CL CR M n _ a (by omega)) wk_LC_needLine wi_LC wm_LC_106 wt_LC_needLine (by decide +kernel) rfl rfl ⟨(Nat.le_of_ble_eq_true rfl), (Nat.le_of_ble_eq_true rfl)⟩ ⟨(Nat.le_of_ble_eq_true rfl), (Nat.le_of_ble_eq_true rfl)⟩ rfl hl.1 rfl (Nat.le_of_ble_eq_true rfl) d_LC_operate_8) (fun u H locs hp w => ?_)
  obtain rfl := hp
  have w : Wo D _ (cwm ac o ad al CI CL CR M n) s.heap _ _ := w
  refine lv_iload_n hx hb d_LC_operate_11 rfl (lv_at hl 3 rfl) ?_
  refine lv_if_lt (tgt := 20) hx hb d_LC_operate_12 (by decide) (fun h => absurd h (nI_pos (by omega))) (fun _ => ?_)
  refine lv_iload_n hx hb d_LC_operate_15 rfl (lv_at hl 3 rfl) ?_
  refine lv_iconst (v := 3) hx hb d_LC_operate_16 (by decide) ?_
  refine lv_icmp_lt (tgt := 28) hx hb d_LC_operate_17 (by decide) (fun _ => ?_) (fun h => absurd (nI_lt (b := 3) (by omega) (by omega)) h)
  refine lv_aload hx hb d_LC_operate_28 (lv_at hl 0 rfl) ?_
  refine cg_LC_109 X w c (by omega) (v := CI 1 c) rfl d_LC_operate_30 ?_
  refine lv_if_eq (tgt := 44) hx hb d_LC_operate_33 (by decide) (fun _ => ?_) (fun h => absurd hwt h)
  refine lv_aload hx hb d_LC_operate_44 (lv_at hl 0 rfl) ?_
  refine lv_dup hx hb d_LC_operate_46 rfl ?_
  refine cg_LC_115 X w c (by omega) (v := CI 6 c) rfl d_LC_operate_47 ?_
  refine lv_iconst (v := 1) hx hb d_LC_operate_50 (by decide) ?_
  refine lv_iadd hx hb d_LC_operate_51 ?_
  refine cp_LC_115 X w c (by omega) d_LC_operate_52 (fun H locs w => ?_)
  refine lv_aload hx hb d_LC_operate_55 (lv_at hl 0 rfl) ?_
  refine lv_dup hx hb d_LC_operate_57 rfl ?_
  refine cg_LC_118 X w c (by omega) (v := CL 0 c) rfl d_LC_operate_58 ?_
  refine lv_aload hx hb d_LC_operate_61 (lv_at hl 0 rfl) ?_
  refine cg_LC_115 X w c (by omega) (v := (CI 6 c) + 1) (by simp [up2]) d_LC_operate_63 ?_
  refine lv_aload_n hx hb d_LC_operate_66 rfl (lv_at hl 1 rfl) ?_
  refine cg_LC_44 X w (v := CI 37 0) rfl d_LC_operate_67 ?_
  refine lv_irem hx hb d_LC_operate_70 hpace ?_
  refine lv_if_ne (tgt := 78) hx hb d_LC_operate_71 (by decide) (fun h2 => ?_) (fun h2 => ?_)
  · skip
    refine lv_lconst (v := 0) hx hb d_LC_operate_78 (by decide) ?_
    refine lv_ladd hx hb d_LC_operate_79 ?_
    refine cp_LC_118 X w c (by omega) d_LC_operate_80 (fun H locs w => ?_)
    have hF : f_LC_operate CI CL CR M n c kd a v x mm = f_LC_operate_83 (up2 CI 6 c ((CI 6 c) + 1)) (up2 CL 0 c ((CL 0 c) + 0)) CR M n kd a v x c mm := by unfold f_LC_operate; rw [if_neg h2]
    exact g_LC_operate_83 X hr hk al (up2 CI 6 c ((CI 6 c) + 1)) (up2 CL 0 c ((CL 0 c) + 0)) CR M n kd a v x c mm (by omega) (by omega) (by omega) hm (by omega) hok w (lv_sub hl [1, 3, 4, 5, 6, 0] rfl) (fun a9 h1 h2 h3 => ⟨a9, fun i h => (h1 i (by omega)).trans (hal i h), by rw [hF]; exact Nat.le_trans hn h2, by rw [hF]; exact h3, by rw [hF] <;> rfl, by rw [hF]⟩)
  · skip
    refine lv_lconst (v := 1) hx hb d_LC_operate_74 (by decide) ?_
    refine lv_goto (tgt := 79) hx hb d_LC_operate_75 (by decide) ?_
    refine lv_ladd hx hb d_LC_operate_79 ?_
    refine cp_LC_118 X w c (by omega) d_LC_operate_80 (fun H locs w => ?_)
    have hF : f_LC_operate CI CL CR M n c kd a v x mm = f_LC_operate_83 (up2 CI 6 c ((CI 6 c) + 1)) (up2 CL 0 c ((CL 0 c) + 1)) CR M n kd a v x c mm := by unfold f_LC_operate; rw [if_pos h2]
    exact g_LC_operate_83 X hr hk al (up2 CI 6 c ((CI 6 c) + 1)) (up2 CL 0 c ((CL 0 c) + 1)) CR M n kd a v x c mm (by omega) (by omega) (by omega) hm (by omega) hok w (lv_sub hl [1, 3, 4, 5, 6, 0] rfl) (fun a9 h1 h2 h3 => ⟨a9, fun i h => (h1 i (by omega)).trans (hal i h), by rw [hF]; exact Nat.le_trans hn h2, by rw [hF]; exact h3, by rw [hF] <;> rfl, by rw [hF]⟩)
