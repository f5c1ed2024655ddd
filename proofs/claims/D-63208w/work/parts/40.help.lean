set_option maxHeartbeats 4000000 in
set_option maxRecDepth 100000 in
theorem h_operate_t_c (l : Launch) (hfl : l.flags = pinnedFlags ++ [noTraceFlag]) (D : va_G) (ac : Nat → ClassId) (o : Nat) (ad : Nat → Nat) (al : Nat → Nat) (CI : Nat → Nat → Int32) (CL : Nat → Nat → Int64) (CR : Nat → Nat → Option Nat) (M : Nat → Msg) (n : Nat) (ou : Nat) (f : Nat → Int64) (sz : Nat) (x : Int32) (kd : Int32) (a : Int32) (v : Int32) (z : Int32) (hbad : ¬ (0 ≤ x ∧ x < 3)) (hok : CRok CR n) : Met l y_Law_operate [Cond.codeWith y_Law_operate b_Law_operate 8 (some .int) [(0, 23, 26, 13), (0, 23, 30, 15)]] { frames := 10, cells := 3, slots := 21, locals := 300 } (va_Pc [.ref o, .int x, .int kd, .int a, .int v, .int z, .ref ou] (CPreT D ac ((ou, .inl (ac 1, 1, .inr (.inl f))) :: cwm ac o ad al CI CL CR M n) sz)) (va_Qi (fun r u => ∃ a9 : Nat → Nat, (∀ i, i < n → a9 i = al i) ∧ n ≤ n ∧ CRok CR n ∧ r = 1 ∧ u = (ou, .inl (ac 1, 1, .inr (.inl (f)))) :: cwm ac o ad a9 CI CL CR M n) (CPost D ((ou, .inl (ac 1, 1, .inr (.inl f))) :: cwm ac o ad al CI CL CR M n) sz) (va_A ((ou, .inl (ac 1, 1, .inr (.inl f))) :: cwm ac o ad al CI CL CR M n) sz)) 3 21 (va_A ((ou, .inl (ac 1, 1, .inr (.inl f))) :: cwm ac o ad al CI CL CR M n) sz) := by
  refine kofH (by decide) (Nat.le_of_ble_eq_true rfl) ?_
  intro p ev s m args below meth c0 ls X hr hk hex hS w hl
  have X : Cx b_Law_operate 8 R_Law D ac p m args c0 s := X
  have hx := X.1
  have hb := X.2.1
  have hl : lv_has ls 8 [(0, .ref o), (1, .int x), (2, .int kd), (3, .int a), (4, .int v), (5, .int z), (6, .ref ou)] := hl
  refine lv_aload hx hb d_Law_operate_0 (lv_at hl 6 rfl) ?_
  refine lv_iconst (v := 0) hx hb d_Law_operate_2 (by decide) ?_
  refine lv_aload_n hx hb d_Law_operate_3 rfl (lv_at hl 0 rfl) ?_
  refine lv_iload_n hx hb d_Law_operate_4 rfl (lv_at hl 1 rfl) ?_
  refine lv_iload_n hx hb d_Law_operate_5 rfl (lv_at hl 2 rfl) ?_
  refine lv_iload_n hx hb d_Law_operate_6 rfl (lv_at hl 3 rfl) ?_
  refine lv_iload hx hb d_Law_operate_7 (lv_at hl 4 rfl) ?_
  refine lv_iload hx hb d_Law_operate_9 (lv_at hl 5 rfl) ?_
  refine kcatch1 X (krunVT (ws0 := [(ou, .inl (ac 1, 1, .inr (.inl (f))))]) (wc := cwm ac o ad al CI CL CR M n) (n := 5) (As := [.int x, .int kd, .int a, .int v, .int z]) (rest := [.int 0, .ref ou]) (C := R_LC) X w (fun U hU hW => by rw [hU]; exact hS.moved hW.alike) (t_LC_operate_c l hfl D ac o ad al CI CL CR M n _ x kd a v z hbad) wk_LC_operate wi_LC wm_Law_7 wx_LC_operate ws_LC_LC_operate (by decide +kernel) rfl rfl ⟨(Nat.le_of_ble_eq_true rfl), (Nat.le_of_ble_eq_true rfl)⟩ ⟨(Nat.le_of_ble_eq_true rfl), (Nat.le_of_ble_eq_true rfl)⟩ (krecv (ws0 := [(ou, .inl (ac 1, 1, .inr (.inl (f))))]) X w 0 rfl rfl) rfl hl.1 rfl (Nat.le_of_ble_eq_true rfl) d_Law_operate_11) hex (by decide) (by decide) wc_Law_13 wv_IAE_IAE (fun x1 H1 hold => ?_)
  have w := wo_old w hold
  refine lv_astore (lv' := [(7, .ref x1), (0, .ref o), (1, .int x), (2, .int kd), (3, .int a), (4, .int v), (5, .int z), (6, .ref ou)]) hx hb d_Law_operate_26 hl (by decide) rfl (fun ls hl => ?_)
  refine lv_iconst (v := 1) hx hb d_Law_operate_28 (by decide) ?_
  refine W.widen (k := 3) (n := 21) (Nat.le_of_ble_eq_true rfl) (Nat.le_of_ble_eq_true rfl) ?_
  exact kiret X w hr hk ⟨al, (fun _ _ => rfl), (Nat.le_refl _), hok, rfl, rfl⟩ d_Law_operate_29
set_option maxHeartbeats 4000000 in
set_option maxRecDepth 100000 in
theorem h_operate_t_l (l : Launch) (hfl : l.flags = pinnedFlags ++ [noTraceFlag]) (D : va_G) (ac : Nat → ClassId) (o : Nat) (ad : Nat → Nat) (al : Nat → Nat) (CI : Nat → Nat → Int32) (CL : Nat → Nat → Int64) (CR : Nat → Nat → Option Nat) (M : Nat → Msg) (n : Nat) (ou : Nat) (f : Nat → Int64) (sz : Nat) (c : Nat) (kd : Int32) (x : Int32) (v : Int32) (z : Int32) (hc : c < 3) (hbad : ¬ (0 ≤ x ∧ x < 12)) (hok : CRok CR n) : Met l y_Law_operate [Cond.codeWith y_Law_operate b_Law_operate 8 (some .int) [(0, 23, 26, 13), (0, 23, 30, 15)]] { frames := 10, cells := 3, slots := 21, locals := 300 } (va_Pc [.ref o, .int (nI c), .int kd, .int x, .int v, .int z, .ref ou] (CPreT D ac ((ou, .inl (ac 1, 1, .inr (.inl f))) :: cwm ac o ad al CI CL CR M n) sz)) (va_Qi (fun r u => ∃ a9 : Nat → Nat, (∀ i, i < n → a9 i = al i) ∧ n ≤ n ∧ CRok CR n ∧ r = 1 ∧ u = (ou, .inl (ac 1, 1, .inr (.inl (f)))) :: cwm ac o ad a9 CI CL CR M n) (CPost D ((ou, .inl (ac 1, 1, .inr (.inl f))) :: cwm ac o ad al CI CL CR M n) sz) (va_A ((ou, .inl (ac 1, 1, .inr (.inl f))) :: cwm ac o ad al CI CL CR M n) sz)) 3 21 (va_A ((ou, .inl (ac 1, 1, .inr (.inl f))) :: cwm ac o ad al CI CL CR M n) sz) := by
  refine kofH (by decide) (Nat.le_of_ble_eq_true rfl) ?_
  intro p ev s m args below meth c0 ls X hr hk hex hS w hl
  have X : Cx b_Law_operate 8 R_Law D ac p m args c0 s := X
  have hx := X.1
  have hb := X.2.1
  have hl : lv_has ls 8 [(0, .ref o), (1, .int (nI c)), (2, .int kd), (3, .int x), (4, .int v), (5, .int z), (6, .ref ou)] := hl
  refine lv_aload hx hb d_Law_operate_0 (lv_at hl 6 rfl) ?_
  refine lv_iconst (v := 0) hx hb d_Law_operate_2 (by decide) ?_
  refine lv_aload_n hx hb d_Law_operate_3 rfl (lv_at hl 0 rfl) ?_
  refine lv_iload_n hx hb d_Law_operate_4 rfl (lv_at hl 1 rfl) ?_
  refine lv_iload_n hx hb d_Law_operate_5 rfl (lv_at hl 2 rfl) ?_
  refine lv_iload_n hx hb d_Law_operate_6 rfl (lv_at hl 3 rfl) ?_
  refine lv_iload hx hb d_Law_operate_7 (lv_at hl 4 rfl) ?_
  refine lv_iload hx hb d_Law_operate_9 (lv_at hl 5 rfl) ?_
  refine kcatch1 X (krunVT (ws0 := [(ou, .inl (ac 1, 1, .inr (.inl (f))))]) (wc := cwm ac o ad al CI CL CR M n) (n := 5) (As := [.int (nI c), .int kd, .int x, .int v, .int z]) (rest := [.int 0, .ref ou]) (C := R_LC) X w (fun U hU hW => by rw [hU]; exact hS.moved hW.alike) (t_LC_operate_l l hfl D ac o ad al CI CL CR M n _ c kd x v z hc hbad) wk_LC_operate wi_LC wm_Law_7 wx_LC_operate ws_LC_LC_operate (by decide +kernel) rfl rfl ⟨(Nat.le_of_ble_eq_true rfl), (Nat.le_of_ble_eq_true rfl)⟩ ⟨(Nat.le_of_ble_eq_true rfl), (Nat.le_of_ble_eq_true rfl)⟩ (krecv (ws0 := [(ou, .inl (ac 1, 1, .inr (.inl (f))))]) X w 0 rfl rfl) rfl hl.1 rfl (Nat.le_of_ble_eq_true rfl) d_Law_operate_11) hex (by decide) (by decide) wc_Law_13 wv_IAE_IAE (fun x1 H1 hold => ?_)
  have w := wo_old w hold
  refine lv_astore (lv' := [(7, .ref x1), (0, .ref o), (1, .int (nI c)), (2, .int kd), (3, .int x), (4, .int v), (5, .int z), (6, .ref ou)]) hx hb d_Law_operate_26 hl (by decide) rfl (fun ls hl => ?_)
  refine lv_iconst (v := 1) hx hb d_Law_operate_28 (by decide) ?_
  refine W.widen (k := 3) (n := 21) (Nat.le_of_ble_eq_true rfl) (Nat.le_of_ble_eq_true rfl) ?_
  exact kiret X w hr hk ⟨al, (fun _ _ => rfl), (Nat.le_refl _), hok, rfl, rfl⟩ d_Law_operate_29
set_option maxHeartbeats 4000000 in
set_option maxRecDepth 100000 in
theorem h_operate_t_k (l : Launch) (hfl : l.flags = pinnedFlags ++ [noTraceFlag]) (D : va_G) (ac : Nat → ClassId) (o : Nat) (ad : Nat → Nat) (al : Nat → Nat) (CI : Nat → Nat → Int32) (CL : Nat → Nat → Int64) (CR : Nat → Nat → Option Nat) (M : Nat → Msg) (n : Nat) (ou : Nat) (f : Nat → Int64) (sz : Nat) (c : Nat) (x : Int32) (a : Nat) (v : Int32) (z : Int32) (hc : c < 3) (ha : a < 12) (hbad : ¬ (0 ≤ x ∧ x < 3)) (hok : CRok CR n) : Met l y_Law_operate [Cond.codeWith y_Law_operate b_Law_operate 8 (some .int) [(0, 23, 26, 13), (0, 23, 30, 15)]] { frames := 10, cells := 3, slots := 21, locals := 300 } (va_Pc [.ref o, .int (nI c), .int x, .int (nI a), .int v, .int z, .ref ou] (CPreT D ac ((ou, .inl (ac 1, 1, .inr (.inl f))) :: cwm ac o ad al CI CL CR M n) sz)) (va_Qi (fun r u => ∃ a9 : Nat → Nat, (∀ i, i < n → a9 i = al i) ∧ n ≤ n ∧ CRok CR n ∧ r = 1 ∧ u = (ou, .inl (ac 1, 1, .inr (.inl (f)))) :: cwm ac o ad a9 CI CL CR M n) (CPost D ((ou, .inl (ac 1, 1, .inr (.inl f))) :: cwm ac o ad al CI CL CR M n) sz) (va_A ((ou, .inl (ac 1, 1, .inr (.inl f))) :: cwm ac o ad al CI CL CR M n) sz)) 3 21 (va_A ((ou, .inl (ac 1, 1, .inr (.inl f))) :: cwm ac o ad al CI CL CR M n) sz) := by
  refine kofH (by decide) (Nat.le_of_ble_eq_true rfl) ?_
  intro p ev s m args below meth c0 ls X hr hk hex hS w hl
  have X : Cx b_Law_operate 8 R_Law D ac p m args c0 s := X
  have hx := X.1
  have hb := X.2.1
  have hl : lv_has ls 8 [(0, .ref o), (1, .int (nI c)), (2, .int x), (3, .int (nI a)), (4, .int v), (5, .int z), (6, .ref ou)] := hl
  refine lv_aload hx hb d_Law_operate_0 (lv_at hl 6 rfl) ?_
  refine lv_iconst (v := 0) hx hb d_Law_operate_2 (by decide) ?_
  refine lv_aload_n hx hb d_Law_operate_3 rfl (lv_at hl 0 rfl) ?_
  refine lv_iload_n hx hb d_Law_operate_4 rfl (lv_at hl 1 rfl) ?_
  refine lv_iload_n hx hb d_Law_operate_5 rfl (lv_at hl 2 rfl) ?_
  refine lv_iload_n hx hb d_Law_operate_6 rfl (lv_at hl 3 rfl) ?_
  refine lv_iload hx hb d_Law_operate_7 (lv_at hl 4 rfl) ?_
  refine lv_iload hx hb d_Law_operate_9 (lv_at hl 5 rfl) ?_
  refine kcatch1 X (krunVT (ws0 := [(ou, .inl (ac 1, 1, .inr (.inl (f))))]) (wc := cwm ac o ad al CI CL CR M n) (n := 5) (As := [.int (nI c), .int x, .int (nI a), .int v, .int z]) (rest := [.int 0, .ref ou]) (C := R_LC) X w (fun U hU hW => by rw [hU]; exact hS.moved hW.alike) (t_LC_operate_k l hfl D ac o ad al CI CL CR M n _ c x a v z hc ha hbad) wk_LC_operate wi_LC wm_Law_7 wx_LC_operate ws_LC_LC_operate (by decide +kernel) rfl rfl ⟨(Nat.le_of_ble_eq_true rfl), (Nat.le_of_ble_eq_true rfl)⟩ ⟨(Nat.le_of_ble_eq_true rfl), (Nat.le_of_ble_eq_true rfl)⟩ (krecv (ws0 := [(ou, .inl (ac 1, 1, .inr (.inl (f))))]) X w 0 rfl rfl) rfl hl.1 rfl (Nat.le_of_ble_eq_true rfl) d_Law_operate_11) hex (by decide) (by decide) wc_Law_13 wv_IAE_IAE (fun x1 H1 hold => ?_)
  have w := wo_old w hold
  refine lv_astore (lv' := [(7, .ref x1), (0, .ref o), (1, .int (nI c)), (2, .int x), (3, .int (nI a)), (4, .int v), (5, .int z), (6, .ref ou)]) hx hb d_Law_operate_26 hl (by decide) rfl (fun ls hl => ?_)
  refine lv_iconst (v := 1) hx hb d_Law_operate_28 (by decide) ?_
  refine W.widen (k := 3) (n := 21) (Nat.le_of_ble_eq_true rfl) (Nat.le_of_ble_eq_true rfl) ?_
  exact kiret X w hr hk ⟨al, (fun _ _ => rfl), (Nat.le_refl _), hok, rfl, rfl⟩ d_Law_operate_29
set_option maxHeartbeats 4000000 in
set_option maxRecDepth 100000 in
theorem h_operate_t_w (l : Launch) (hfl : l.flags = pinnedFlags ++ [noTraceFlag]) (D : va_G) (ac : Nat → ClassId) (o : Nat) (ad : Nat → Nat) (al : Nat → Nat) (CI : Nat → Nat → Int32) (CL : Nat → Nat → Int64) (CR : Nat → Nat → Option Nat) (M : Nat → Msg) (n : Nat) (ou : Nat) (f : Nat → Int64) (sz : Nat) (c : Nat) (kd : Nat) (a : Nat) (v : Int32) (z : Int32) (hc : c < 3) (ha : a < 12) (hkd : kd < 3) (hwt : ¬ CI 1 c = 0) (hok : CRok CR n) : Met l y_Law_operate [Cond.codeWith y_Law_operate b_Law_operate 8 (some .int) [(0, 23, 26, 13), (0, 23, 30, 15)]] { frames := 10, cells := 3, slots := 21, locals := 300 } (va_Pc [.ref o, .int (nI c), .int (nI kd), .int (nI a), .int v, .int z, .ref ou] (CPreT D ac ((ou, .inl (ac 1, 1, .inr (.inl f))) :: cwm ac o ad al CI CL CR M n) sz)) (va_Qi (fun r u => ∃ a9 : Nat → Nat, (∀ i, i < n → a9 i = al i) ∧ n ≤ n ∧ CRok CR n ∧ r = 2 ∧ u = (ou, .inl (ac 1, 1, .inr (.inl (f)))) :: cwm ac o ad a9 CI CL CR M n) (CPost D ((ou, .inl (ac 1, 1, .inr (.inl f))) :: cwm ac o ad al CI CL CR M n) sz) (va_A ((ou, .inl (ac 1, 1, .inr (.inl f))) :: cwm ac o ad al CI CL CR M n) sz)) 3 21 (va_A ((ou, .inl (ac 1, 1, .inr (.inl f))) :: cwm ac o ad al CI CL CR M n) sz) := by
  refine kofH (by decide) (Nat.le_of_ble_eq_true rfl) ?_
  intro p ev s m args below meth c0 ls X hr hk hex hS w hl
  have X : Cx b_Law_operate 8 R_Law D ac p m args c0 s := X
  have hx := X.1
  have hb := X.2.1
  have hl : lv_has ls 8 [(0, .ref o), (1, .int (nI c)), (2, .int (nI kd)), (3, .int (nI a)), (4, .int v), (5, .int z), (6, .ref ou)] := hl
  refine lv_aload hx hb d_Law_operate_0 (lv_at hl 6 rfl) ?_
  refine lv_iconst (v := 0) hx hb d_Law_operate_2 (by decide) ?_
  refine lv_aload_n hx hb d_Law_operate_3 rfl (lv_at hl 0 rfl) ?_
  refine lv_iload_n hx hb d_Law_operate_4 rfl (lv_at hl 1 rfl) ?_
  refine lv_iload_n hx hb d_Law_operate_5 rfl (lv_at hl 2 rfl) ?_
  refine lv_iload_n hx hb d_Law_operate_6 rfl (lv_at hl 3 rfl) ?_
  refine lv_iload hx hb d_Law_operate_7 (lv_at hl 4 rfl) ?_
  refine lv_iload hx hb d_Law_operate_9 (lv_at hl 5 rfl) ?_
  refine kcatch2 X (krunVT (ws0 := [(ou, .inl (ac 1, 1, .inr (.inl (f))))]) (wc := cwm ac o ad al CI CL CR M n) (n := 5) (As := [.int (nI c), .int (nI kd), .int (nI a), .int v, .int z]) (rest := [.int 0, .ref ou]) (C := R_LC) X w (fun U hU hW => by rw [hU]; exact hS.moved hW.alike) (t_LC_operate_w l hfl D ac o ad al CI CL CR M n _ c kd a v z hc ha hkd hwt) wk_LC_operate wi_LC wm_Law_7 wx_LC_operate ws_LC_LC_operate (by decide +kernel) rfl rfl ⟨(Nat.le_of_ble_eq_true rfl), (Nat.le_of_ble_eq_true rfl)⟩ ⟨(Nat.le_of_ble_eq_true rfl), (Nat.le_of_ble_eq_true rfl)⟩ (krecv (ws0 := [(ou, .inl (ac 1, 1, .inr (.inl (f))))]) X w 0 rfl rfl) rfl hl.1 rfl (Nat.le_of_ble_eq_true rfl) d_Law_operate_11) hex (by decide) (by decide) (by decide) (by decide) wc_Law_13 (by decide) wc_Law_15 wv_ISE_ISE (fun x1 H1 hold => ?_)
  have w := wo_old w hold
  refine lv_astore (lv' := [(7, .ref x1), (0, .ref o), (1, .int (nI c)), (2, .int (nI kd)), (3, .int (nI a)), (4, .int v), (5, .int z), (6, .ref ou)]) hx hb d_Law_operate_30 hl (by decide) rfl (fun ls hl => ?_)
  refine lv_iconst (v := 2) hx hb d_Law_operate_32 (by decide) ?_
  refine W.widen (k := 3) (n := 21) (Nat.le_of_ble_eq_true rfl) (Nat.le_of_ble_eq_true rfl) ?_
  exact kiret X w hr hk ⟨al, (fun _ _ => rfl), (Nat.le_refl _), hok, rfl, rfl⟩ d_Law_operate_33
set_option maxHeartbeats 4000000 in
set_option maxRecDepth 100000 in
theorem h_operate_c (l : Launch) (D : va_G) (ac : Nat → ClassId) (o : Nat) (ad : Nat → Nat) (al : Nat → Nat) (CI : Nat → Nat → Int32) (CL : Nat → Nat → Int64) (CR : Nat → Nat → Option Nat) (M : Nat → Msg) (n : Nat) (ou : Nat) (f : Nat → Int64) (sz : Nat) (c : Nat) (kd : Nat) (a : Nat) (v : Int32) (x : Int32) (mm : Nat) (hc : c < 3) (hkd : kd < 3) (ha : a < 12) (hwt : CI 1 c = 0) (hpace : ¬ CI 37 0 = 0) (hm : CI 38 0 = nI mm) (hmm : mm < 24) (hok : CRok CR n) : Met l y_Law_operate [Cond.codeWith y_Law_operate b_Law_operate 8 (some .int) [(0, 23, 26, 13), (0, 23, 30, 15)]] { frames := 10, cells := 3, slots := 21, locals := 300 } (va_Pc [.ref o, .int (nI c), .int (nI kd), .int (nI a), .int v, .int x, .ref ou] (CPreT D ac ((ou, .inl (ac 1, 1, .inr (.inl f))) :: cwm ac o ad al CI CL CR M n) sz)) (va_Qi (fun r u => ∃ a9 : Nat → Nat, (∀ i, i < n → a9 i = al i) ∧ n ≤ (f_LC_operate CI CL CR M n c kd a v x mm).2.2.2.2.2 ∧ CRok ((f_LC_operate CI CL CR M n c kd a v x mm).2.2.2.1) ((f_LC_operate CI CL CR M n c kd a v x mm).2.2.2.2.2) ∧ r = 0 ∧ u = (ou, .inl (ac 1, 1, .inr (.inl ((if ((f_LC_operate CI CL CR M n c kd a v x mm).1) = 0 then (vp_updL (f) 0 0) else (vp_updL (f) 0 1)))))) :: cwm ac o ad a9 ((f_LC_operate CI CL CR M n c kd a v x mm).2.1) ((f_LC_operate CI CL CR M n c kd a v x mm).2.2.1) ((f_LC_operate CI CL CR M n c kd a v x mm).2.2.2.1) ((f_LC_operate CI CL CR M n c kd a v x mm).2.2.2.2.1) ((f_LC_operate CI CL CR M n c kd a v x mm).2.2.2.2.2)) (CPost D ((ou, .inl (ac 1, 1, .inr (.inl f))) :: cwm ac o ad al CI CL CR M n) sz) (va_A ((ou, .inl (ac 1, 1, .inr (.inl f))) :: cwm ac o ad al CI CL CR M n) sz)) 3 21 (va_A ((ou, .inl (ac 1, 1, .inr (.inl f))) :: cwm ac o ad al CI CL CR M n) sz) := by
  refine kofH (by decide) (Nat.le_of_ble_eq_true rfl) ?_
  intro p ev s m args below meth c0 ls X hr hk hex hS w hl
  have X : Cx b_Law_operate 8 R_Law D ac p m args c0 s := X
  have hx := X.1
  have hb := X.2.1
  have hl : lv_has ls 8 [(0, .ref o), (1, .int (nI c)), (2, .int (nI kd)), (3, .int (nI a)), (4, .int v), (5, .int x), (6, .ref ou)] := hl
  refine lv_aload hx hb d_Law_operate_0 (lv_at hl 6 rfl) ?_
  refine lv_iconst (v := 0) hx hb d_Law_operate_2 (by decide) ?_
  refine lv_aload_n hx hb d_Law_operate_3 rfl (lv_at hl 0 rfl) ?_
  refine lv_iload_n hx hb d_Law_operate_4 rfl (lv_at hl 1 rfl) ?_
  refine lv_iload_n hx hb d_Law_operate_5 rfl (lv_at hl 2 rfl) ?_
  refine lv_iload_n hx hb d_Law_operate_6 rfl (lv_at hl 3 rfl) ?_
  refine lv_iload hx hb d_Law_operate_7 (lv_at hl 4 rfl) ?_
  refine lv_iload hx hb d_Law_operate_9 (lv_at hl 5 rfl) ?_
  refine kcalli (ws0 := [(ou, .inl (ac 1, 1, .inr (.inl (f))))]) w (krunV (ws0 := [(ou, .inl (ac 1, 1, .inr (.inl (f))))]) (wc := cwm ac o ad al CI CL CR M n) (n := 5) (As := [.int (nI c), .int (nI kd), .int (nI a), .int v, .int x]) (rest := [.int 0, .ref ou]) (C := R_LC) X w (c_LC_operate l D ac o ad al CI CL CR M n _ c kd a v x mm hc hkd ha hwt hpace hm hmm hok) wk_LC_operate wi_LC wm_Law_7 wx_LC_operate ws_LC_LC_operate (by decide +kernel) rfl rfl ⟨(Nat.le_of_ble_eq_true rfl), (Nat.le_of_ble_eq_true rfl)⟩ ⟨(Nat.le_of_ble_eq_true rfl), (Nat.le_of_ble_eq_true rfl)⟩ (krecv (ws0 := [(ou, .inl (ac 1, 1, .inr (.inl (f))))]) X w 0 rfl rfl) rfl hl.1 rfl (Nat.le_of_ble_eq_true rfl) d_Law_operate_11) (fun r1 u H locs hp w => ?_)
  obtain ⟨al9, hal, hn, hok, rfl, rfl⟩ := hp
  have w : Wo D _ ((ou, .inl (ac 1, 1, .inr (.inl (f)))) :: cwm ac o ad al9 ((f_LC_operate CI CL CR M n c kd a v x mm).2.1) ((f_LC_operate CI CL CR M n c kd a v x mm).2.2.1) ((f_LC_operate CI CL CR M n c kd a v x mm).2.2.2.1) ((f_LC_operate CI CL CR M n c kd a v x mm).2.2.2.2.1) ((f_LC_operate CI CL CR M n c kd a v x mm).2.2.2.2.2)) s.heap _ _ := w
  refine lv_if_eq (tgt := 21) hx hb d_Law_operate_14 (by decide) (fun h2 => ?_) (fun h2 => ?_)
  · skip
    refine lv_lconst (v := 0) hx hb d_Law_operate_21 (by decide) ?_
    refine klast X w 0 (f := f) (f' := fun _ => 0) rfl 0 (by decide) (by decide) rfl rfl d_Law_operate_22 (fun H locs w => ?_)
    have w : Wo D _ ((ou, .inl (ac 1, 1, .inr (.inl (vp_updL (f) 0 0)))) :: cwm ac o ad al9 ((f_LC_operate CI CL CR M n c kd a v x mm).2.1) ((f_LC_operate CI CL CR M n c kd a v x mm).2.2.1) ((f_LC_operate CI CL CR M n c kd a v x mm).2.2.2.1) ((f_LC_operate CI CL CR M n c kd a v x mm).2.2.2.2.1) ((f_LC_operate CI CL CR M n c kd a v x mm).2.2.2.2.2)) s.heap _ _ := w
    refine lv_goto (tgt := 34) hx hb d_Law_operate_23 (by decide) ?_
    refine lv_iconst (v := 0) hx hb d_Law_operate_34 (by decide) ?_
    refine W.widen (k := 3) (n := 21) (Nat.le_of_ble_eq_true rfl) (Nat.le_of_ble_eq_true rfl) ?_
    exact kiret X w hr hk ⟨al9, hal, hn, hok, rfl, by rw [if_pos h2]⟩ d_Law_operate_35
  · skip
    refine lv_lconst (v := 1) hx hb d_Law_operate_17 (by decide) ?_
    refine lv_goto (tgt := 22) hx hb d_Law_operate_18 (by decide) ?_
    refine klast X w 0 (f := f) (f' := fun _ => 0) rfl 0 (by decide) (by decide) rfl rfl d_Law_operate_22 (fun H locs w => ?_)
    have w : Wo D _ ((ou, .inl (ac 1, 1, .inr (.inl (vp_updL (f) 0 1)))) :: cwm ac o ad al9 ((f_LC_operate CI CL CR M n c kd a v x mm).2.1) ((f_LC_operate CI CL CR M n c kd a v x mm).2.2.1) ((f_LC_operate CI CL CR M n c kd a v x mm).2.2.2.1) ((f_LC_operate CI CL CR M n c kd a v x mm).2.2.2.2.1) ((f_LC_operate CI CL CR M n c kd a v x mm).2.2.2.2.2)) s.heap _ _ := w
    refine lv_goto (tgt := 34) hx hb d_Law_operate_23 (by decide) ?_
    refine lv_iconst (v := 0) hx hb d_Law_operate_34 (by decide) ?_
    refine W.widen (k := 3) (n := 21) (Nat.le_of_ble_eq_true rfl) (Nat.le_of_ble_eq_true rfl) ?_
    exact kiret X w hr hk ⟨al9, hal, hn, hok, rfl, by rw [if_neg h2]⟩ d_Law_operate_35
set_option maxHeartbeats 4000000 in
set_option maxRecDepth 100000 in
theorem h_deliver_t (l : Launch) (hfl : l.flags = pinnedFlags ++ [noTraceFlag]) (D : va_G) (ac : Nat → ClassId) (o : Nat) (ad : Nat → Nat) (al : Nat → Nat) (CI : Nat → Nat → Int32) (CL : Nat → Nat → Int64) (CR : Nat → Nat → Option Nat) (M : Nat → Msg) (n : Nat) (ou : Nat) (f : Nat → Int64) (sz : Nat) (x : Int32) (hbad : ¬ (0 ≤ x ∧ x < CI 38 0)) (hok : CRok CR n) : Met l y_Law_deliver [Cond.codeWith y_Law_deliver b_Law_deliver 4 (some .int) [(0, 16, 19, 21)]] { frames := 10, cells := 3, slots := 21, locals := 300 } (va_Pc [.ref o, .int x, .ref ou] (CPreT D ac ((ou, .inl (ac 1, 1, .inr (.inl f))) :: cwm ac o ad al CI CL CR M n) sz)) (va_Qi (fun r u => ∃ a9 : Nat → Nat, (∀ i, i < n → a9 i = al i) ∧ n ≤ n ∧ CRok CR n ∧ r = 1 ∧ u = (ou, .inl (ac 1, 1, .inr (.inl (f)))) :: cwm ac o ad a9 CI CL CR M n) (CPost D ((ou, .inl (ac 1, 1, .inr (.inl f))) :: cwm ac o ad al CI CL CR M n) sz) (va_A ((ou, .inl (ac 1, 1, .inr (.inl f))) :: cwm ac o ad al CI CL CR M n) sz)) 3 21 (va_A ((ou, .inl (ac 1, 1, .inr (.inl f))) :: cwm ac o ad al CI CL CR M n) sz) := by
  refine kofH (by decide) (Nat.le_of_ble_eq_true rfl) ?_
  intro p ev s m args below meth c0 ls X hr hk hex hS w hl
  have X : Cx b_Law_deliver 4 R_Law D ac p m args c0 s := X
  have hx := X.1
  have hb := X.2.1
  have hl : lv_has ls 4 [(0, .ref o), (1, .int x), (2, .ref ou)] := hl
  refine lv_aload_n hx hb d_Law_deliver_0 rfl (lv_at hl 2 rfl) ?_
  refine lv_iconst (v := 0) hx hb d_Law_deliver_1 (by decide) ?_
  refine lv_aload_n hx hb d_Law_deliver_2 rfl (lv_at hl 0 rfl) ?_
  refine lv_iload_n hx hb d_Law_deliver_3 rfl (lv_at hl 1 rfl) ?_
  refine kcatch1 X (krunVT (ws0 := [(ou, .inl (ac 1, 1, .inr (.inl (f))))]) (wc := cwm ac o ad al CI CL CR M n) (n := 1) (As := [.int x]) (rest := [.int 0, .ref ou]) (C := R_LC) X w (fun U hU hW => by rw [hU]; exact hS.moved hW.alike) (t_LC_deliver l hfl D ac o ad al CI CL CR M n _ x hbad) wk_LC_deliver wi_LC wm_Law_17 wx_LC_deliver ws_LC_LC_deliver (by decide +kernel) rfl rfl ⟨(Nat.le_of_ble_eq_true rfl), (Nat.le_of_ble_eq_true rfl)⟩ ⟨(Nat.le_of_ble_eq_true rfl), (Nat.le_of_ble_eq_true rfl)⟩ (krecv (ws0 := [(ou, .inl (ac 1, 1, .inr (.inl (f))))]) X w 0 rfl rfl) rfl hl.1 rfl (Nat.le_of_ble_eq_true rfl) d_Law_deliver_4) hex (by decide) (by decide) wc_Law_21 wv_NSE_NSE (fun x1 H1 hold => ?_)
  have w := wo_old w hold
  refine lv_astore_n (lv' := [(3, .ref x1), (0, .ref o), (1, .int x), (2, .ref ou)]) hx hb d_Law_deliver_19 rfl hl (by decide) rfl (fun ls hl => ?_)
  refine lv_iconst (v := 1) hx hb d_Law_deliver_20 (by decide) ?_
  refine W.widen (k := 3) (n := 21) (Nat.le_of_ble_eq_true rfl) (Nat.le_of_ble_eq_true rfl) ?_
  exact kiret X w hr hk ⟨al, (fun _ _ => rfl), (Nat.le_refl _), hok, rfl, rfl⟩ d_Law_deliver_21
set_option maxHeartbeats 4000000 in
set_option maxRecDepth 100000 in
theorem h_deliver_c_Answer (l : Launch) (D : va_G) (ac : Nat → ClassId) (o : Nat) (ad : Nat → Nat) (al : Nat → Nat) (CI : Nat → Nat → Int32) (CL : Nat → Nat → Int64) (CR : Nat → Nat → Option Nat) (M : Nat → Msg) (n : Nat) (ou : Nat) (f : Nat → Int64) (sz : Nat) (a : Nat) (i : Nat) (c : Nat) (li : Nat) (mm : Nat) (hm : CI 38 0 = nI mm) (ha : a < mm) (hmm : mm < 22) (hi : CR 3 a = some i) (hin : i < n) (hcl : mcls (M i) = 5) (hco : mcore (M i) = some c) (hc : c < 3) (hli : mline (M i) = nI li) (hl12 : li < 12) (hown : mown (M i) = 0 ∨ mown (M i) = 1) (hok : CRok CR n) : Met l y_Law_deliver [Cond.codeWith y_Law_deliver b_Law_deliver 4 (some .int) [(0, 16, 19, 21)]] { frames := 10, cells := 3, slots := 21, locals := 300 } (va_Pc [.ref o, .int (nI a), .ref ou] (CPreT D ac ((ou, .inl (ac 1, 1, .inr (.inl f))) :: cwm ac o ad al CI CL CR M n) sz)) (va_Qi (fun r u => ∃ a9 : Nat → Nat, (∀ i, i < n → a9 i = al i) ∧ n ≤ (f_LC_deliver_Answer CI CL CR M n a i c li mm).2.2.2.2.2 ∧ CRok ((f_LC_deliver_Answer CI CL CR M n a i c li mm).2.2.2.1) ((f_LC_deliver_Answer CI CL CR M n a i c li mm).2.2.2.2.2) ∧ r = 0 ∧ u = (ou, .inl (ac 1, 1, .inr (.inl ((if ((f_LC_deliver_Answer CI CL CR M n a i c li mm).1) = 0 then (vp_updL (f) 0 0) else (vp_updL (f) 0 1)))))) :: cwm ac o ad a9 ((f_LC_deliver_Answer CI CL CR M n a i c li mm).2.1) ((f_LC_deliver_Answer CI CL CR M n a i c li mm).2.2.1) ((f_LC_deliver_Answer CI CL CR M n a i c li mm).2.2.2.1) ((f_LC_deliver_Answer CI CL CR M n a i c li mm).2.2.2.2.1) ((f_LC_deliver_Answer CI CL CR M n a i c li mm).2.2.2.2.2)) (CPost D ((ou, .inl (ac 1, 1, .inr (.inl f))) :: cwm ac o ad al CI CL CR M n) sz) (va_A ((ou, .inl (ac 1, 1, .inr (.inl f))) :: cwm ac o ad al CI CL CR M n) sz)) 3 21 (va_A ((ou, .inl (ac 1, 1, .inr (.inl f))) :: cwm ac o ad al CI CL CR M n) sz) := by
  refine kofH (by decide) (Nat.le_of_ble_eq_true rfl) ?_
  intro p ev s m args below meth c0 ls X hr hk hex hS w hl
  have X : Cx b_Law_deliver 4 R_Law D ac p m args c0 s := X
  have hx := X.1
  have hb := X.2.1
  have hl : lv_has ls 4 [(0, .ref o), (1, .int (nI a)), (2, .ref ou)] := hl
  refine lv_aload_n hx hb d_Law_deliver_0 rfl (lv_at hl 2 rfl) ?_
  refine lv_iconst (v := 0) hx hb d_Law_deliver_1 (by decide) ?_
  refine lv_aload_n hx hb d_Law_deliver_2 rfl (lv_at hl 0 rfl) ?_
  refine lv_iload_n hx hb d_Law_deliver_3 rfl (lv_at hl 1 rfl) ?_
  refine kcalli (ws0 := [(ou, .inl (ac 1, 1, .inr (.inl (f))))]) w (krunV (ws0 := [(ou, .inl (ac 1, 1, .inr (.inl (f))))]) (wc := cwm ac o ad al CI CL CR M n) (n := 1) (As := [.int (nI a)]) (rest := [.int 0, .ref ou]) (C := R_LC) X w (c_LC_deliver_Answer l D ac o ad al CI CL CR M n _ a i c li mm hm ha hmm hi hin hcl hco hc hli hl12 hown hok) wk_LC_deliver wi_LC wm_Law_17 wx_LC_deliver ws_LC_LC_deliver (by decide +kernel) rfl rfl ⟨(Nat.le_of_ble_eq_true rfl), (Nat.le_of_ble_eq_true rfl)⟩ ⟨(Nat.le_of_ble_eq_true rfl), (Nat.le_of_ble_eq_true rfl)⟩ (krecv (ws0 := [(ou, .inl (ac 1, 1, .inr (.inl (f))))]) X w 0 rfl rfl) rfl hl.1 rfl (Nat.le_of_ble_eq_true rfl) d_Law_deliver_4) (fun r1 u H locs hp w => ?_)
  obtain ⟨al9, hal, hn, hok, rfl, rfl⟩ := hp
  have w : Wo D _ ((ou, .inl (ac 1, 1, .inr (.inl (f)))) :: cwm ac o ad al9 ((f_LC_deliver_Answer CI CL CR M n a i c li mm).2.1) ((f_LC_deliver_Answer CI CL CR M n a i c li mm).2.2.1) ((f_LC_deliver_Answer CI CL CR M n a i c li mm).2.2.2.1) ((f_LC_deliver_Answer CI CL CR M n a i c li mm).2.2.2.2.1) ((f_LC_deliver_Answer CI CL CR M n a i c li mm).2.2.2.2.2)) s.heap _ _ := w
  refine lv_if_eq (tgt := 14) hx hb d_Law_deliver_7 (by decide) (fun h2 => ?_) (fun h2 => ?_)
  · skip
    refine lv_lconst (v := 0) hx hb d_Law_deliver_14 (by decide) ?_
    refine klast X w 0 (f := f) (f' := fun _ => 0) rfl 0 (by decide) (by decide) rfl rfl d_Law_deliver_15 (fun H locs w => ?_)
    have w : Wo D _ ((ou, .inl (ac 1, 1, .inr (.inl (vp_updL (f) 0 0)))) :: cwm ac o ad al9 ((f_LC_deliver_Answer CI CL CR M n a i c li mm).2.1) ((f_LC_deliver_Answer CI CL CR M n a i c li mm).2.2.1) ((f_LC_deliver_Answer CI CL CR M n a i c li mm).2.2.2.1) ((f_LC_deliver_Answer CI CL CR M n a i c li mm).2.2.2.2.1) ((f_LC_deliver_Answer CI CL CR M n a i c li mm).2.2.2.2.2)) s.heap _ _ := w
    refine lv_goto (tgt := 22) hx hb d_Law_deliver_16 (by decide) ?_
    refine lv_iconst (v := 0) hx hb d_Law_deliver_22 (by decide) ?_
    refine W.widen (k := 3) (n := 21) (Nat.le_of_ble_eq_true rfl) (Nat.le_of_ble_eq_true rfl) ?_
    exact kiret X w hr hk ⟨al9, hal, hn, hok, rfl, by rw [if_pos h2]⟩ d_Law_deliver_23
  · skip
    refine lv_lconst (v := 1) hx hb d_Law_deliver_10 (by decide) ?_
    refine lv_goto (tgt := 15) hx hb d_Law_deliver_11 (by decide) ?_
    refine klast X w 0 (f := f) (f' := fun _ => 0) rfl 0 (by decide) (by decide) rfl rfl d_Law_deliver_15 (fun H locs w => ?_)
    have w : Wo D _ ((ou, .inl (ac 1, 1, .inr (.inl (vp_updL (f) 0 1)))) :: cwm ac o ad al9 ((f_LC_deliver_Answer CI CL CR M n a i c li mm).2.1) ((f_LC_deliver_Answer CI CL CR M n a i c li mm).2.2.1) ((f_LC_deliver_Answer CI CL CR M n a i c li mm).2.2.2.1) ((f_LC_deliver_Answer CI CL CR M n a i c li mm).2.2.2.2.1) ((f_LC_deliver_Answer CI CL CR M n a i c li mm).2.2.2.2.2)) s.heap _ _ := w
    refine lv_goto (tgt := 22) hx hb d_Law_deliver_16 (by decide) ?_
    refine lv_iconst (v := 0) hx hb d_Law_deliver_22 (by decide) ?_
    refine W.widen (k := 3) (n := 21) (Nat.le_of_ble_eq_true rfl) (Nat.le_of_ble_eq_true rfl) ?_
    exact kiret X w hr hk ⟨al9, hal, hn, hok, rfl, by rw [if_neg h2]⟩ d_Law_deliver_23
set_option maxHeartbeats 4000000 in
set_option maxRecDepth 100000 in
theorem h_deliver_c_Return (l : Launch) (D : va_G) (ac : Nat → ClassId) (o : Nat) (ad : Nat → Nat) (al : Nat → Nat) (CI : Nat → Nat → Int32) (CL : Nat → Nat → Int64) (CR : Nat → Nat → Option Nat) (M : Nat → Msg) (n : Nat) (ou : Nat) (f : Nat → Int64) (sz : Nat) (a : Nat) (i : Nat) (mm : Nat) (hm : CI 38 0 = nI mm) (ha : a < mm) (hmm : mm < 22) (hi : CR 3 a = some i) (hin : i < n) (hcl : mcls (M i) = 7) (hent : f_LC_entryOf CI (mline (M i)) ≠ none) (hP : ∀ e q, e < 6 → CR 1 e = some q → mcls (M q) = 4) (hQ : ∀ e j q, e < 6 → CR (10 + e) j = some q → mcls (M q) = 4) (hw : ∀ e, e < 6 → CI 22 e = nI (tn (CI 22 e)) ∧ tn (CI 22 e) < 3) (hall : ∀ j, j < mm → ∃ i, CR 3 j = some i) (hok : CRok CR n) : Met l y_Law_deliver [Cond.codeWith y_Law_deliver b_Law_deliver 4 (some .int) [(0, 16, 19, 21)]] { frames := 10, cells := 3, slots := 21, locals := 300 } (va_Pc [.ref o, .int (nI a), .ref ou] (CPreT D ac ((ou, .inl (ac 1, 1, .inr (.inl f))) :: cwm ac o ad al CI CL CR M n) sz)) (va_Qi (fun r u => ∃ a9 : Nat → Nat, (∀ i, i < n → a9 i = al i) ∧ n ≤ (f_LC_deliver_Return CI CL CR M n a i mm).2.2.2.2.2 ∧ CRok ((f_LC_deliver_Return CI CL CR M n a i mm).2.2.2.1) ((f_LC_deliver_Return CI CL CR M n a i mm).2.2.2.2.2) ∧ r = 0 ∧ u = (ou, .inl (ac 1, 1, .inr (.inl ((if ((f_LC_deliver_Return CI CL CR M n a i mm).1) = 0 then (vp_updL (f) 0 0) else (vp_updL (f) 0 1)))))) :: cwm ac o ad a9 ((f_LC_deliver_Return CI CL CR M n a i mm).2.1) ((f_LC_deliver_Return CI CL CR M n a i mm).2.2.1) ((f_LC_deliver_Return CI CL CR M n a i mm).2.2.2.1) ((f_LC_deliver_Return CI CL CR M n a i mm).2.2.2.2.1) ((f_LC_deliver_Return CI CL CR M n a i mm).2.2.2.2.2)) (CPost D ((ou, .inl (ac 1, 1, .inr (.inl f))) :: cwm ac o ad al CI CL CR M n) sz) (va_A ((ou, .inl (ac 1, 1, .inr (.inl f))) :: cwm ac o ad al CI CL CR M n) sz)) 3 21 (va_A ((ou, .inl (ac 1, 1, .inr (.inl f))) :: cwm ac o ad al CI CL CR M n) sz) := by
  refine kofH (by decide) (Nat.le_of_ble_eq_true rfl) ?_
  intro p ev s m args below meth c0 ls X hr hk hex hS w hl
  have X : Cx b_Law_deliver 4 R_Law D ac p m args c0 s := X
  have hx := X.1
  have hb := X.2.1
  have hl : lv_has ls 4 [(0, .ref o), (1, .int (nI a)), (2, .ref ou)] := hl
  refine lv_aload_n hx hb d_Law_deliver_0 rfl (lv_at hl 2 rfl) ?_
  refine lv_iconst (v := 0) hx hb d_Law_deliver_1 (by decide) ?_
  refine lv_aload_n hx hb d_Law_deliver_2 rfl (lv_at hl 0 rfl) ?_
  refine lv_iload_n hx hb d_Law_deliver_3 rfl (lv_at hl 1 rfl) ?_
  refine kcalli (ws0 := [(ou, .inl (ac 1, 1, .inr (.inl (f))))]) w (krunV (ws0 := [(ou, .inl (ac 1, 1, .inr (.inl (f))))]) (wc := cwm ac o ad al CI CL CR M n) (n := 1) (As := [.int (nI a)]) (rest := [.int 0, .ref ou]) (C := R_LC) X w (c_LC_deliver_Return l D ac o ad al CI CL CR M n _ a i mm hm ha hmm hi hin hcl hent hP hQ hw hall hok) wk_LC_deliver wi_LC wm_Law_17 wx_LC_deliver ws_LC_LC_deliver (by decide +kernel) rfl rfl ⟨(Nat.le_of_ble_eq_true rfl), (Nat.le_of_ble_eq_true rfl)⟩ ⟨(Nat.le_of_ble_eq_true rfl), (Nat.le_of_ble_eq_true rfl)⟩ (krecv (ws0 := [(ou, .inl (ac 1, 1, .inr (.inl (f))))]) X w 0 rfl rfl) rfl hl.1 rfl (Nat.le_of_ble_eq_true rfl) d_Law_deliver_4) (fun r1 u H locs hp w => ?_)
  obtain ⟨al9, hal, hn, hok, rfl, rfl⟩ := hp
  have w : Wo D _ ((ou, .inl (ac 1, 1, .inr (.inl (f)))) :: cwm ac o ad al9 ((f_LC_deliver_Return CI CL CR M n a i mm).2.1) ((f_LC_deliver_Return CI CL CR M n a i mm).2.2.1) ((f_LC_deliver_Return CI CL CR M n a i mm).2.2.2.1) ((f_LC_deliver_Return CI CL CR M n a i mm).2.2.2.2.1) ((f_LC_deliver_Return CI CL CR M n a i mm).2.2.2.2.2)) s.heap _ _ := w
  refine lv_if_eq (tgt := 14) hx hb d_Law_deliver_7 (by decide) (fun h2 => ?_) (fun h2 => ?_)
  · skip
    refine lv_lconst (v := 0) hx hb d_Law_deliver_14 (by decide) ?_
    refine klast X w 0 (f := f) (f' := fun _ => 0) rfl 0 (by decide) (by decide) rfl rfl d_Law_deliver_15 (fun H locs w => ?_)
    have w : Wo D _ ((ou, .inl (ac 1, 1, .inr (.inl (vp_updL (f) 0 0)))) :: cwm ac o ad al9 ((f_LC_deliver_Return CI CL CR M n a i mm).2.1) ((f_LC_deliver_Return CI CL CR M n a i mm).2.2.1) ((f_LC_deliver_Return CI CL CR M n a i mm).2.2.2.1) ((f_LC_deliver_Return CI CL CR M n a i mm).2.2.2.2.1) ((f_LC_deliver_Return CI CL CR M n a i mm).2.2.2.2.2)) s.heap _ _ := w
    refine lv_goto (tgt := 22) hx hb d_Law_deliver_16 (by decide) ?_
    refine lv_iconst (v := 0) hx hb d_Law_deliver_22 (by decide) ?_
    refine W.widen (k := 3) (n := 21) (Nat.le_of_ble_eq_true rfl) (Nat.le_of_ble_eq_true rfl) ?_
    exact kiret X w hr hk ⟨al9, hal, hn, hok, rfl, by rw [if_pos h2]⟩ d_Law_deliver_23
  · skip
    refine lv_lconst (v := 1) hx hb d_Law_deliver_10 (by decide) ?_
    refine lv_goto (tgt := 15) hx hb d_Law_deliver_11 (by decide) ?_
    refine klast X w 0 (f := f) (f' := fun _ => 0) rfl 0 (by decide) (by decide) rfl rfl d_Law_deliver_15 (fun H locs w => ?_)
    have w : Wo D _ ((ou, .inl (ac 1, 1, .inr (.inl (vp_updL (f) 0 1)))) :: cwm ac o ad al9 ((f_LC_deliver_Return CI CL CR M n a i mm).2.1) ((f_LC_deliver_Return CI CL CR M n a i mm).2.2.1) ((f_LC_deliver_Return CI CL CR M n a i mm).2.2.2.1) ((f_LC_deliver_Return CI CL CR M n a i mm).2.2.2.2.1) ((f_LC_deliver_Return CI CL CR M n a i mm).2.2.2.2.2)) s.heap _ _ := w
    refine lv_goto (tgt := 22) hx hb d_Law_deliver_16 (by decide) ?_
    refine lv_iconst (v := 0) hx hb d_Law_deliver_22 (by decide) ?_
    refine W.widen (k := 3) (n := 21) (Nat.le_of_ble_eq_true rfl) (Nat.le_of_ble_eq_true rfl) ?_
    exact kiret X w hr hk ⟨al9, hal, hn, hok, rfl, by rw [if_neg h2]⟩ d_Law_deliver_23
set_option maxHeartbeats 4000000 in
set_option maxRecDepth 100000 in
theorem h_deliver_c_Call (l : Launch) (D : va_G) (ac : Nat → ClassId) (o : Nat) (ad : Nat → Nat) (al : Nat → Nat) (CI : Nat → Nat → Int32) (CL : Nat → Nat → Int64) (CR : Nat → Nat → Option Nat) (M : Nat → Msg) (n : Nat) (ou : Nat) (f : Nat → Int64) (sz : Nat) (a : Nat) (i : Nat) (c : Nat) (mm : Nat) (hm : CI 38 0 = nI mm) (ha : a < mm) (hmm : mm < 22) (hi : CR 3 a = some i) (hin : i < n) (hcl : mcls (M i) = 6) (hco : mcore (M i) = some c) (hc : c < 3) (hok : CRok CR n) : Met l y_Law_deliver [Cond.codeWith y_Law_deliver b_Law_deliver 4 (some .int) [(0, 16, 19, 21)]] { frames := 10, cells := 3, slots := 21, locals := 300 } (va_Pc [.ref o, .int (nI a), .ref ou] (CPreT D ac ((ou, .inl (ac 1, 1, .inr (.inl f))) :: cwm ac o ad al CI CL CR M n) sz)) (va_Qi (fun r u => ∃ a9 : Nat → Nat, (∀ i, i < n → a9 i = al i) ∧ n ≤ (f_LC_deliver_Call CI CL CR M n a i c mm).2.2.2.2.2 ∧ CRok ((f_LC_deliver_Call CI CL CR M n a i c mm).2.2.2.1) ((f_LC_deliver_Call CI CL CR M n a i c mm).2.2.2.2.2) ∧ r = 0 ∧ u = (ou, .inl (ac 1, 1, .inr (.inl ((if ((f_LC_deliver_Call CI CL CR M n a i c mm).1) = 0 then (vp_updL (f) 0 0) else (vp_updL (f) 0 1)))))) :: cwm ac o ad a9 ((f_LC_deliver_Call CI CL CR M n a i c mm).2.1) ((f_LC_deliver_Call CI CL CR M n a i c mm).2.2.1) ((f_LC_deliver_Call CI CL CR M n a i c mm).2.2.2.1) ((f_LC_deliver_Call CI CL CR M n a i c mm).2.2.2.2.1) ((f_LC_deliver_Call CI CL CR M n a i c mm).2.2.2.2.2)) (CPost D ((ou, .inl (ac 1, 1, .inr (.inl f))) :: cwm ac o ad al CI CL CR M n) sz) (va_A ((ou, .inl (ac 1, 1, .inr (.inl f))) :: cwm ac o ad al CI CL CR M n) sz)) 3 21 (va_A ((ou, .inl (ac 1, 1, .inr (.inl f))) :: cwm ac o ad al CI CL CR M n) sz) := by
  refine kofH (by decide) (Nat.le_of_ble_eq_true rfl) ?_
  intro p ev s m args below meth c0 ls X hr hk hex hS w hl
  have X : Cx b_Law_deliver 4 R_Law D ac p m args c0 s := X
  have hx := X.1
  have hb := X.2.1
  have hl : lv_has ls 4 [(0, .ref o), (1, .int (nI a)), (2, .ref ou)] := hl
  refine lv_aload_n hx hb d_Law_deliver_0 rfl (lv_at hl 2 rfl) ?_
  refine lv_iconst (v := 0) hx hb d_Law_deliver_1 (by decide) ?_
  refine lv_aload_n hx hb d_Law_deliver_2 rfl (lv_at hl 0 rfl) ?_
  refine lv_iload_n hx hb d_Law_deliver_3 rfl (lv_at hl 1 rfl) ?_
  refine kcalli (ws0 := [(ou, .inl (ac 1, 1, .inr (.inl (f))))]) w (krunV (ws0 := [(ou, .inl (ac 1, 1, .inr (.inl (f))))]) (wc := cwm ac o ad al CI CL CR M n) (n := 1) (As := [.int (nI a)]) (rest := [.int 0, .ref ou]) (C := R_LC) X w (c_LC_deliver_Call l D ac o ad al CI CL CR M n _ a i c mm hm ha hmm hi hin hcl hco hc hok) wk_LC_deliver wi_LC wm_Law_17 wx_LC_deliver ws_LC_LC_deliver (by decide +kernel) rfl rfl ⟨(Nat.le_of_ble_eq_true rfl), (Nat.le_of_ble_eq_true rfl)⟩ ⟨(Nat.le_of_ble_eq_true rfl), (Nat.le_of_ble_eq_true rfl)⟩ (krecv (ws0 := [(ou, .inl (ac 1, 1, .inr (.inl (f))))]) X w 0 rfl rfl) rfl hl.1 rfl (Nat.le_of_ble_eq_true rfl) d_Law_deliver_4) (fun r1 u H locs hp w => ?_)
  obtain ⟨al9, hal, hn, hok, rfl, rfl⟩ := hp
  have w : Wo D _ ((ou, .inl (ac 1, 1, .inr (.inl (f)))) :: cwm ac o ad al9 ((f_LC_deliver_Call CI CL CR M n a i c mm).2.1) ((f_LC_deliver_Call CI CL CR M n a i c mm).2.2.1) ((f_LC_deliver_Call CI CL CR M n a i c mm).2.2.2.1) ((f_LC_deliver_Call CI CL CR M n a i c mm).2.2.2.2.1) ((f_LC_deliver_Call CI CL CR M n a i c mm).2.2.2.2.2)) s.heap _ _ := w
  refine lv_if_eq (tgt := 14) hx hb d_Law_deliver_7 (by decide) (fun h2 => ?_) (fun h2 => ?_)
  · skip
    refine lv_lconst (v := 0) hx hb d_Law_deliver_14 (by decide) ?_
    refine klast X w 0 (f := f) (f' := fun _ => 0) rfl 0 (by decide) (by decide) rfl rfl d_Law_deliver_15 (fun H locs w => ?_)
    have w : Wo D _ ((ou, .inl (ac 1, 1, .inr (.inl (vp_updL (f) 0 0)))) :: cwm ac o ad al9 ((f_LC_deliver_Call CI CL CR M n a i c mm).2.1) ((f_LC_deliver_Call CI CL CR M n a i c mm).2.2.1) ((f_LC_deliver_Call CI CL CR M n a i c mm).2.2.2.1) ((f_LC_deliver_Call CI CL CR M n a i c mm).2.2.2.2.1) ((f_LC_deliver_Call CI CL CR M n a i c mm).2.2.2.2.2)) s.heap _ _ := w
    refine lv_goto (tgt := 22) hx hb d_Law_deliver_16 (by decide) ?_
    refine lv_iconst (v := 0) hx hb d_Law_deliver_22 (by decide) ?_
    refine W.widen (k := 3) (n := 21) (Nat.le_of_ble_eq_true rfl) (Nat.le_of_ble_eq_true rfl) ?_
    exact kiret X w hr hk ⟨al9, hal, hn, hok, rfl, by rw [if_pos h2]⟩ d_Law_deliver_23
  · skip
    refine lv_lconst (v := 1) hx hb d_Law_deliver_10 (by decide) ?_
    refine lv_goto (tgt := 15) hx hb d_Law_deliver_11 (by decide) ?_
    refine klast X w 0 (f := f) (f' := fun _ => 0) rfl 0 (by decide) (by decide) rfl rfl d_Law_deliver_15 (fun H locs w => ?_)
    have w : Wo D _ ((ou, .inl (ac 1, 1, .inr (.inl (vp_updL (f) 0 1)))) :: cwm ac o ad al9 ((f_LC_deliver_Call CI CL CR M n a i c mm).2.1) ((f_LC_deliver_Call CI CL CR M n a i c mm).2.2.1) ((f_LC_deliver_Call CI CL CR M n a i c mm).2.2.2.1) ((f_LC_deliver_Call CI CL CR M n a i c mm).2.2.2.2.1) ((f_LC_deliver_Call CI CL CR M n a i c mm).2.2.2.2.2)) s.heap _ _ := w
    refine lv_goto (tgt := 22) hx hb d_Law_deliver_16 (by decide) ?_
    refine lv_iconst (v := 0) hx hb d_Law_deliver_22 (by decide) ?_
    refine W.widen (k := 3) (n := 21) (Nat.le_of_ble_eq_true rfl) (Nat.le_of_ble_eq_true rfl) ?_
    exact kiret X w hr hk ⟨al9, hal, hn, hok, rfl, by rw [if_neg h2]⟩ d_Law_deliver_23
set_option maxHeartbeats 4000000 in
set_option maxRecDepth 100000 in
theorem h_deliver_c_Request (l : Launch) (D : va_G) (ac : Nat → ClassId) (o : Nat) (ad : Nat → Nat) (al : Nat → Nat) (CI : Nat → Nat → Int32) (CL : Nat → Nat → Int64) (CR : Nat → Nat → Option Nat) (M : Nat → Msg) (n : Nat) (ou : Nat) (f : Nat → Int64) (sz : Nat) (a : Nat) (i : Nat) (li : Nat) (mm : Nat) (hm : CI 38 0 = nI mm) (ha : a < mm) (hmm : mm < 22) (hi : CR 3 a = some i) (hin : i < n) (hcl : mcls (M i) = 4) (hli : mline (M i) = nI li) (hl12 : li < 12) (hel : ∀ k, k < 6 → CI 16 k = -1 ∨ (CI 16 k = nI (tn (CI 16 k)) ∧ tn (CI 16 k) < 12)) (hw : ∀ e q, e < 6 → CR 1 e = some q → CI 22 e = nI (tn (CI 22 e)) ∧ tn (CI 22 e) < 2) (hok : CRok CR n) : Met l y_Law_deliver [Cond.codeWith y_Law_deliver b_Law_deliver 4 (some .int) [(0, 16, 19, 21)]] { frames := 10, cells := 3, slots := 21, locals := 300 } (va_Pc [.ref o, .int (nI a), .ref ou] (CPreT D ac ((ou, .inl (ac 1, 1, .inr (.inl f))) :: cwm ac o ad al CI CL CR M n) sz)) (va_Qi (fun r u => ∃ a9 : Nat → Nat, (∀ i, i < n → a9 i = al i) ∧ n ≤ (f_LC_deliver_Request CI CL CR M n a i li mm).2.2.2.2.2 ∧ CRok ((f_LC_deliver_Request CI CL CR M n a i li mm).2.2.2.1) ((f_LC_deliver_Request CI CL CR M n a i li mm).2.2.2.2.2) ∧ r = 0 ∧ u = (ou, .inl (ac 1, 1, .inr (.inl ((if ((f_LC_deliver_Request CI CL CR M n a i li mm).1) = 0 then (vp_updL (f) 0 0) else (vp_updL (f) 0 1)))))) :: cwm ac o ad a9 ((f_LC_deliver_Request CI CL CR M n a i li mm).2.1) ((f_LC_deliver_Request CI CL CR M n a i li mm).2.2.1) ((f_LC_deliver_Request CI CL CR M n a i li mm).2.2.2.1) ((f_LC_deliver_Request CI CL CR M n a i li mm).2.2.2.2.1) ((f_LC_deliver_Request CI CL CR M n a i li mm).2.2.2.2.2)) (CPost D ((ou, .inl (ac 1, 1, .inr (.inl f))) :: cwm ac o ad al CI CL CR M n) sz) (va_A ((ou, .inl (ac 1, 1, .inr (.inl f))) :: cwm ac o ad al CI CL CR M n) sz)) 3 21 (va_A ((ou, .inl (ac 1, 1, .inr (.inl f))) :: cwm ac o ad al CI CL CR M n) sz) := by
  refine kofH (by decide) (Nat.le_of_ble_eq_true rfl) ?_
  intro p ev s m args below meth c0 ls X hr hk hex hS w hl
  have X : Cx b_Law_deliver 4 R_Law D ac p m args c0 s := X
  have hx := X.1
  have hb := X.2.1
  have hl : lv_has ls 4 [(0, .ref o), (1, .int (nI a)), (2, .ref ou)] := hl
  refine lv_aload_n hx hb d_Law_deliver_0 rfl (lv_at hl 2 rfl) ?_
  refine lv_iconst (v := 0) hx hb d_Law_deliver_1 (by decide) ?_
  refine lv_aload_n hx hb d_Law_deliver_2 rfl (lv_at hl 0 rfl) ?_
  refine lv_iload_n hx hb d_Law_deliver_3 rfl (lv_at hl 1 rfl) ?_
  refine kcalli (ws0 := [(ou, .inl (ac 1, 1, .inr (.inl (f))))]) w (krunV (ws0 := [(ou, .inl (ac 1, 1, .inr (.inl (f))))]) (wc := cwm ac o ad al CI CL CR M n) (n := 1) (As := [.int (nI a)]) (rest := [.int 0, .ref ou]) (C := R_LC) X w (c_LC_deliver_Request l D ac o ad al CI CL CR M n _ a i li mm hm ha hmm hi hin hcl hli hl12 hel hw hok) wk_LC_deliver wi_LC wm_Law_17 wx_LC_deliver ws_LC_LC_deliver (by decide +kernel) rfl rfl ⟨(Nat.le_of_ble_eq_true rfl), (Nat.le_of_ble_eq_true rfl)⟩ ⟨(Nat.le_of_ble_eq_true rfl), (Nat.le_of_ble_eq_true rfl)⟩ (krecv (ws0 := [(ou, .inl (ac 1, 1, .inr (.inl (f))))]) X w 0 rfl rfl) rfl hl.1 rfl (Nat.le_of_ble_eq_true rfl) d_Law_deliver_4) (fun r1 u H locs hp w => ?_)
  obtain ⟨al9, hal, hn, hok, rfl, rfl⟩ := hp
  have w : Wo D _ ((ou, .inl (ac 1, 1, .inr (.inl (f)))) :: cwm ac o ad al9 ((f_LC_deliver_Request CI CL CR M n a i li mm).2.1) ((f_LC_deliver_Request CI CL CR M n a i li mm).2.2.1) ((f_LC_deliver_Request CI CL CR M n a i li mm).2.2.2.1) ((f_LC_deliver_Request CI CL CR M n a i li mm).2.2.2.2.1) ((f_LC_deliver_Request CI CL CR M n a i li mm).2.2.2.2.2)) s.heap _ _ := w
  refine lv_if_eq (tgt := 14) hx hb d_Law_deliver_7 (by decide) (fun h2 => ?_) (fun h2 => ?_)
  · skip
    refine lv_lconst (v := 0) hx hb d_Law_deliver_14 (by decide) ?_
    refine klast X w 0 (f := f) (f' := fun _ => 0) rfl 0 (by decide) (by decide) rfl rfl d_Law_deliver_15 (fun H locs w => ?_)
    have w : Wo D _ ((ou, .inl (ac 1, 1, .inr (.inl (vp_updL (f) 0 0)))) :: cwm ac o ad al9 ((f_LC_deliver_Request CI CL CR M n a i li mm).2.1) ((f_LC_deliver_Request CI CL CR M n a i li mm).2.2.1) ((f_LC_deliver_Request CI CL CR M n a i li mm).2.2.2.1) ((f_LC_deliver_Request CI CL CR M n a i li mm).2.2.2.2.1) ((f_LC_deliver_Request CI CL CR M n a i li mm).2.2.2.2.2)) s.heap _ _ := w
    refine lv_goto (tgt := 22) hx hb d_Law_deliver_16 (by decide) ?_
    refine lv_iconst (v := 0) hx hb d_Law_deliver_22 (by decide) ?_
    refine W.widen (k := 3) (n := 21) (Nat.le_of_ble_eq_true rfl) (Nat.le_of_ble_eq_true rfl) ?_
    exact kiret X w hr hk ⟨al9, hal, hn, hok, rfl, by rw [if_pos h2]⟩ d_Law_deliver_23
  · skip
    refine lv_lconst (v := 1) hx hb d_Law_deliver_10 (by decide) ?_
    refine lv_goto (tgt := 15) hx hb d_Law_deliver_11 (by decide) ?_
    refine klast X w 0 (f := f) (f' := fun _ => 0) rfl 0 (by decide) (by decide) rfl rfl d_Law_deliver_15 (fun H locs w => ?_)
    have w : Wo D _ ((ou, .inl (ac 1, 1, .inr (.inl (vp_updL (f) 0 1)))) :: cwm ac o ad al9 ((f_LC_deliver_Request CI CL CR M n a i li mm).2.1) ((f_LC_deliver_Request CI CL CR M n a i li mm).2.2.1) ((f_LC_deliver_Request CI CL CR M n a i li mm).2.2.2.1) ((f_LC_deliver_Request CI CL CR M n a i li mm).2.2.2.2.1) ((f_LC_deliver_Request CI CL CR M n a i li mm).2.2.2.2.2)) s.heap _ _ := w
    refine lv_goto (tgt := 22) hx hb d_Law_deliver_16 (by decide) ?_
    refine lv_iconst (v := 0) hx hb d_Law_deliver_22 (by decide) ?_
    refine W.widen (k := 3) (n := 21) (Nat.le_of_ble_eq_true rfl) (Nat.le_of_ble_eq_true rfl) ?_
    exact kiret X w hr hk ⟨al9, hal, hn, hok, rfl, by rw [if_neg h2]⟩ d_Law_deliver_23
set_option maxHeartbeats 4000000 in
set_option maxRecDepth 100000 in
theorem h_message_t_k (l : Launch) (hfl : l.flags = pinnedFlags ++ [noTraceFlag]) (D : va_G) (ac : Nat → ClassId) (o : Nat) (ad : Nat → Nat) (al : Nat → Nat) (CI : Nat → Nat → Int32) (CL : Nat → Nat → Int64) (CR : Nat → Nat → Option Nat) (M : Nat → Msg) (n : Nat) (ou : Nat) (f : Nat → Int64) (sz : Nat) (x : Int32) (wh : Int32) (hbad : ¬ (0 ≤ x ∧ x < CI 38 0)) (hok : CRok CR n) : Met l y_Law_message [Cond.codeWith y_Law_message b_Law_message 5 (some .int) [(0, 10, 13, 21), (0, 10, 17, 13)]] { frames := 10, cells := 3, slots := 21, locals := 300 } (va_Pc [.ref o, .int x, .int wh, .ref ou] (CPreT D ac ((ou, .inl (ac 1, 1, .inr (.inl f))) :: cwm ac o ad al CI CL CR M n) sz)) (va_Qi (fun r u => ∃ a9 : Nat → Nat, (∀ i, i < n → a9 i = al i) ∧ n ≤ n ∧ CRok CR n ∧ r = 1 ∧ u = (ou, .inl (ac 1, 1, .inr (.inl (f)))) :: cwm ac o ad a9 CI CL CR M n) (CPost D ((ou, .inl (ac 1, 1, .inr (.inl f))) :: cwm ac o ad al CI CL CR M n) sz) (va_A ((ou, .inl (ac 1, 1, .inr (.inl f))) :: cwm ac o ad al CI CL CR M n) sz)) 3 21 (va_A ((ou, .inl (ac 1, 1, .inr (.inl f))) :: cwm ac o ad al CI CL CR M n) sz) := by
  refine kofH (by decide) (Nat.le_of_ble_eq_true rfl) ?_
  intro p ev s m args below meth c0 ls X hr hk hex hS w hl
  have X : Cx b_Law_message 5 R_Law D ac p m args c0 s := X
  have hx := X.1
  have hb := X.2.1
  have hl : lv_has ls 5 [(0, .ref o), (1, .int x), (2, .int wh), (3, .ref ou)] := hl
  refine lv_aload_n hx hb d_Law_message_0 rfl (lv_at hl 3 rfl) ?_
  refine lv_iconst (v := 0) hx hb d_Law_message_1 (by decide) ?_
  refine lv_aload_n hx hb d_Law_message_2 rfl (lv_at hl 0 rfl) ?_
  refine lv_iload_n hx hb d_Law_message_3 rfl (lv_at hl 1 rfl) ?_
  refine lv_iload_n hx hb d_Law_message_4 rfl (lv_at hl 2 rfl) ?_
  refine kcatch1 X (krunVT (ws0 := [(ou, .inl (ac 1, 1, .inr (.inl (f))))]) (wc := cwm ac o ad al CI CL CR M n) (n := 2) (As := [.int x, .int wh]) (rest := [.int 0, .ref ou]) (C := R_LC) X w (fun U hU hW => by rw [hU]; exact hS.moved hW.alike) (t_LC_message_k l hfl D ac o ad al CI CL CR M n _ x wh hbad) wk_LC_message wi_LC wm_Law_23 wx_LC_message ws_LC_LC_message (by decide +kernel) rfl rfl ⟨(Nat.le_of_ble_eq_true rfl), (Nat.le_of_ble_eq_true rfl)⟩ ⟨(Nat.le_of_ble_eq_true rfl), (Nat.le_of_ble_eq_true rfl)⟩ (krecv (ws0 := [(ou, .inl (ac 1, 1, .inr (.inl (f))))]) X w 0 rfl rfl) rfl hl.1 rfl (Nat.le_of_ble_eq_true rfl) d_Law_message_5) hex (by decide) (by decide) wc_Law_21 wv_NSE_NSE (fun x1 H1 hold => ?_)
  have w := wo_old w hold
  refine lv_astore (lv' := [(4, .ref x1), (0, .ref o), (1, .int x), (2, .int wh), (3, .ref ou)]) hx hb d_Law_message_13 hl (by decide) rfl (fun ls hl => ?_)
  refine lv_iconst (v := 1) hx hb d_Law_message_15 (by decide) ?_
  refine W.widen (k := 3) (n := 21) (Nat.le_of_ble_eq_true rfl) (Nat.le_of_ble_eq_true rfl) ?_
  exact kiret X w hr hk ⟨al, (fun _ _ => rfl), (Nat.le_refl _), hok, rfl, rfl⟩ d_Law_message_16
set_option maxHeartbeats 4000000 in
set_option maxRecDepth 100000 in
theorem h_message_t_w (l : Launch) (hfl : l.flags = pinnedFlags ++ [noTraceFlag]) (D : va_G) (ac : Nat → ClassId) (o : Nat) (ad : Nat → Nat) (al : Nat → Nat) (CI : Nat → Nat → Int32) (CL : Nat → Nat → Int64) (CR : Nat → Nat → Option Nat) (M : Nat → Msg) (n : Nat) (ou : Nat) (f : Nat → Int64) (sz : Nat) (a : Nat) (wh : Int32) (i : Nat) (mm : Nat) (hm : CI 38 0 = nI mm) (ha : a < mm) (hmm : mm < 25) (hi : CR 3 a = some i) (hbad : wh.toInt < 0 ∨ 3 < wh.toInt) (hok : CRok CR n) : Met l y_Law_message [Cond.codeWith y_Law_message b_Law_message 5 (some .int) [(0, 10, 13, 21), (0, 10, 17, 13)]] { frames := 10, cells := 3, slots := 21, locals := 300 } (va_Pc [.ref o, .int (nI a), .int wh, .ref ou] (CPreT D ac ((ou, .inl (ac 1, 1, .inr (.inl f))) :: cwm ac o ad al CI CL CR M n) sz)) (va_Qi (fun r u => ∃ a9 : Nat → Nat, (∀ i, i < n → a9 i = al i) ∧ n ≤ n ∧ CRok CR n ∧ r = 2 ∧ u = (ou, .inl (ac 1, 1, .inr (.inl (f)))) :: cwm ac o ad a9 CI CL CR M n) (CPost D ((ou, .inl (ac 1, 1, .inr (.inl f))) :: cwm ac o ad al CI CL CR M n) sz) (va_A ((ou, .inl (ac 1, 1, .inr (.inl f))) :: cwm ac o ad al CI CL CR M n) sz)) 3 21 (va_A ((ou, .inl (ac 1, 1, .inr (.inl f))) :: cwm ac o ad al CI CL CR M n) sz) := by
  refine kofH (by decide) (Nat.le_of_ble_eq_true rfl) ?_
  intro p ev s m args below meth c0 ls X hr hk hex hS w hl
  have X : Cx b_Law_message 5 R_Law D ac p m args c0 s := X
  have hx := X.1
  have hb := X.2.1
  have hl : lv_has ls 5 [(0, .ref o), (1, .int (nI a)), (2, .int wh), (3, .ref ou)] := hl
  refine lv_aload_n hx hb d_Law_message_0 rfl (lv_at hl 3 rfl) ?_
  refine lv_iconst (v := 0) hx hb d_Law_message_1 (by decide) ?_
  refine lv_aload_n hx hb d_Law_message_2 rfl (lv_at hl 0 rfl) ?_
  refine lv_iload_n hx hb d_Law_message_3 rfl (lv_at hl 1 rfl) ?_
  refine lv_iload_n hx hb d_Law_message_4 rfl (lv_at hl 2 rfl) ?_
  refine kcatch2 X (krunVT (ws0 := [(ou, .inl (ac 1, 1, .inr (.inl (f))))]) (wc := cwm ac o ad al CI CL CR M n) (n := 2) (As := [.int (nI a), .int wh]) (rest := [.int 0, .ref ou]) (C := R_LC) X w (fun U hU hW => by rw [hU]; exact hS.moved hW.alike) (t_LC_message_w l hfl D ac o ad al CI CL CR M n _ a wh i mm hm ha hmm hi hbad) wk_LC_message wi_LC wm_Law_23 wx_LC_message ws_LC_LC_message (by decide +kernel) rfl rfl ⟨(Nat.le_of_ble_eq_true rfl), (Nat.le_of_ble_eq_true rfl)⟩ ⟨(Nat.le_of_ble_eq_true rfl), (Nat.le_of_ble_eq_true rfl)⟩ (krecv (ws0 := [(ou, .inl (ac 1, 1, .inr (.inl (f))))]) X w 0 rfl rfl) rfl hl.1 rfl (Nat.le_of_ble_eq_true rfl) d_Law_message_5) hex (by decide) (by decide) (by decide) (by decide) wc_Law_21 (by decide) wc_Law_13 wv_IAE_IAE (fun x1 H1 hold => ?_)
  have w := wo_old w hold
  refine lv_astore (lv' := [(4, .ref x1), (0, .ref o), (1, .int (nI a)), (2, .int wh), (3, .ref ou)]) hx hb d_Law_message_17 hl (by decide) rfl (fun ls hl => ?_)
  refine lv_iconst (v := 2) hx hb d_Law_message_19 (by decide) ?_
  refine W.widen (k := 3) (n := 21) (Nat.le_of_ble_eq_true rfl) (Nat.le_of_ble_eq_true rfl) ?_
  exact kiret X w hr hk ⟨al, (fun _ _ => rfl), (Nat.le_refl _), hok, rfl, rfl⟩ d_Law_message_20
set_option maxHeartbeats 4000000 in
set_option maxRecDepth 100000 in
theorem h_message_c_0 (l : Launch) (D : va_G) (ac : Nat → ClassId) (o : Nat) (ad : Nat → Nat) (al : Nat → Nat) (CI : Nat → Nat → Int32) (CL : Nat → Nat → Int64) (CR : Nat → Nat → Option Nat) (M : Nat → Msg) (n : Nat) (ou : Nat) (f : Nat → Int64) (sz : Nat) (a : Nat) (i : Nat) (mm : Nat) (hm : CI 38 0 = nI mm) (ha : a < mm) (hmm : mm < 25) (hi : CR 3 a = some i) (hin : i < n) (hok : CRok CR n) : Met l y_Law_message [Cond.codeWith y_Law_message b_Law_message 5 (some .int) [(0, 10, 13, 21), (0, 10, 17, 13)]] { frames := 10, cells := 3, slots := 21, locals := 300 } (va_Pc [.ref o, .int (nI a), .int 0, .ref ou] (CPreT D ac ((ou, .inl (ac 1, 1, .inr (.inl f))) :: cwm ac o ad al CI CL CR M n) sz)) (va_Qi (fun r u => ∃ a9 : Nat → Nat, (∀ i, i < n → a9 i = al i) ∧ n ≤ n ∧ CRok CR n ∧ r = 0 ∧ u = (ou, .inl (ac 1, 1, .inr (.inl ((vp_updL (f) 0 ((f_LC_message_0 M i).toInt64)))))) :: cwm ac o ad a9 CI CL CR M n) (CPost D ((ou, .inl (ac 1, 1, .inr (.inl f))) :: cwm ac o ad al CI CL CR M n) sz) (va_A ((ou, .inl (ac 1, 1, .inr (.inl f))) :: cwm ac o ad al CI CL CR M n) sz)) 3 21 (va_A ((ou, .inl (ac 1, 1, .inr (.inl f))) :: cwm ac o ad al CI CL CR M n) sz) := by
  refine kofH (by decide) (Nat.le_of_ble_eq_true rfl) ?_
  intro p ev s m args below meth c0 ls X hr hk hex hS w hl
  have X : Cx b_Law_message 5 R_Law D ac p m args c0 s := X
  have hx := X.1
  have hb := X.2.1
  have hl : lv_has ls 5 [(0, .ref o), (1, .int (nI a)), (2, .int 0), (3, .ref ou)] := hl
  refine lv_aload_n hx hb d_Law_message_0 rfl (lv_at hl 3 rfl) ?_
  refine lv_iconst (v := 0) hx hb d_Law_message_1 (by decide) ?_
  refine lv_aload_n hx hb d_Law_message_2 rfl (lv_at hl 0 rfl) ?_
  refine lv_iload_n hx hb d_Law_message_3 rfl (lv_at hl 1 rfl) ?_
  refine lv_iload_n hx hb d_Law_message_4 rfl (lv_at hl 2 rfl) ?_
  refine kcalli (ws0 := [(ou, .inl (ac 1, 1, .inr (.inl (f))))]) w (krunV (ws0 := [(ou, .inl (ac 1, 1, .inr (.inl (f))))]) (wc := cwm ac o ad al CI CL CR M n) (n := 2) (As := [.int (nI a), .int 0]) (rest := [.int 0, .ref ou]) (C := R_LC) X w (c_LC_message_0 l D ac o ad al CI CL CR M n _ a i mm hm ha hmm hi hin) wk_LC_message wi_LC wm_Law_23 wx_LC_message ws_LC_LC_message (by decide +kernel) rfl rfl ⟨(Nat.le_of_ble_eq_true rfl), (Nat.le_of_ble_eq_true rfl)⟩ ⟨(Nat.le_of_ble_eq_true rfl), (Nat.le_of_ble_eq_true rfl)⟩ (krecv (ws0 := [(ou, .inl (ac 1, 1, .inr (.inl (f))))]) X w 0 rfl rfl) rfl hl.1 rfl (Nat.le_of_ble_eq_true rfl) d_Law_message_5) (fun r1 u H locs hp w => ?_)
  obtain ⟨rfl, rfl⟩ := hp
  have w : Wo D _ ((ou, .inl (ac 1, 1, .inr (.inl (f)))) :: cwm ac o ad al CI CL CR M n) s.heap _ _ := w
  refine lv_i2l (v := (f_LC_message_0 M i).toInt64) hx hb d_Law_message_8 (rfl) ?_
  refine klast X w 0 (f := f) (f' := fun _ => 0) rfl 0 (by decide) (by decide) rfl rfl d_Law_message_9 (fun H locs w => ?_)
  have w : Wo D _ ((ou, .inl (ac 1, 1, .inr (.inl (vp_updL (f) 0 ((f_LC_message_0 M i).toInt64))))) :: cwm ac o ad al CI CL CR M n) s.heap _ _ := w
  refine lv_goto (tgt := 21) hx hb d_Law_message_10 (by decide) ?_
  refine lv_iconst (v := 0) hx hb d_Law_message_21 (by decide) ?_
  refine W.widen (k := 3) (n := 21) (Nat.le_of_ble_eq_true rfl) (Nat.le_of_ble_eq_true rfl) ?_
  exact kiret X w hr hk ⟨al, (fun _ _ => rfl), (Nat.le_refl _), hok, rfl, rfl⟩ d_Law_message_22
set_option maxHeartbeats 4000000 in
set_option maxRecDepth 100000 in
theorem h_message_c_1 (l : Launch) (D : va_G) (ac : Nat → ClassId) (o : Nat) (ad : Nat → Nat) (al : Nat → Nat) (CI : Nat → Nat → Int32) (CL : Nat → Nat → Int64) (CR : Nat → Nat → Option Nat) (M : Nat → Msg) (n : Nat) (ou : Nat) (f : Nat → Int64) (sz : Nat) (a : Nat) (i : Nat) (mm : Nat) (hm : CI 38 0 = nI mm) (ha : a < mm) (hmm : mm < 25) (hi : CR 3 a = some i) (hin : i < n) (hok : CRok CR n) : Met l y_Law_message [Cond.codeWith y_Law_message b_Law_message 5 (some .int) [(0, 10, 13, 21), (0, 10, 17, 13)]] { frames := 10, cells := 3, slots := 21, locals := 300 } (va_Pc [.ref o, .int (nI a), .int 1, .ref ou] (CPreT D ac ((ou, .inl (ac 1, 1, .inr (.inl f))) :: cwm ac o ad al CI CL CR M n) sz)) (va_Qi (fun r u => ∃ a9 : Nat → Nat, (∀ i, i < n → a9 i = al i) ∧ n ≤ n ∧ CRok CR n ∧ r = 0 ∧ u = (ou, .inl (ac 1, 1, .inr (.inl ((vp_updL (f) 0 ((f_LC_message_1 M i).toInt64)))))) :: cwm ac o ad a9 CI CL CR M n) (CPost D ((ou, .inl (ac 1, 1, .inr (.inl f))) :: cwm ac o ad al CI CL CR M n) sz) (va_A ((ou, .inl (ac 1, 1, .inr (.inl f))) :: cwm ac o ad al CI CL CR M n) sz)) 3 21 (va_A ((ou, .inl (ac 1, 1, .inr (.inl f))) :: cwm ac o ad al CI CL CR M n) sz) := by
  refine kofH (by decide) (Nat.le_of_ble_eq_true rfl) ?_
  intro p ev s m args below meth c0 ls X hr hk hex hS w hl
  have X : Cx b_Law_message 5 R_Law D ac p m args c0 s := X
  have hx := X.1
  have hb := X.2.1
  have hl : lv_has ls 5 [(0, .ref o), (1, .int (nI a)), (2, .int 1), (3, .ref ou)] := hl
  refine lv_aload_n hx hb d_Law_message_0 rfl (lv_at hl 3 rfl) ?_
  refine lv_iconst (v := 0) hx hb d_Law_message_1 (by decide) ?_
  refine lv_aload_n hx hb d_Law_message_2 rfl (lv_at hl 0 rfl) ?_
  refine lv_iload_n hx hb d_Law_message_3 rfl (lv_at hl 1 rfl) ?_
  refine lv_iload_n hx hb d_Law_message_4 rfl (lv_at hl 2 rfl) ?_
  refine kcalli (ws0 := [(ou, .inl (ac 1, 1, .inr (.inl (f))))]) w (krunV (ws0 := [(ou, .inl (ac 1, 1, .inr (.inl (f))))]) (wc := cwm ac o ad al CI CL CR M n) (n := 2) (As := [.int (nI a), .int 1]) (rest := [.int 0, .ref ou]) (C := R_LC) X w (c_LC_message_1 l D ac o ad al CI CL CR M n _ a i mm hm ha hmm hi hin) wk_LC_message wi_LC wm_Law_23 wx_LC_message ws_LC_LC_message (by decide +kernel) rfl rfl ⟨(Nat.le_of_ble_eq_true rfl), (Nat.le_of_ble_eq_true rfl)⟩ ⟨(Nat.le_of_ble_eq_true rfl), (Nat.le_of_ble_eq_true rfl)⟩ (krecv (ws0 := [(ou, .inl (ac 1, 1, .inr (.inl (f))))]) X w 0 rfl rfl) rfl hl.1 rfl (Nat.le_of_ble_eq_true rfl) d_Law_message_5) (fun r1 u H locs hp w => ?_)
  obtain ⟨rfl, rfl⟩ := hp
  have w : Wo D _ ((ou, .inl (ac 1, 1, .inr (.inl (f)))) :: cwm ac o ad al CI CL CR M n) s.heap _ _ := w
  refine lv_i2l (v := (f_LC_message_1 M i).toInt64) hx hb d_Law_message_8 (rfl) ?_
  refine klast X w 0 (f := f) (f' := fun _ => 0) rfl 0 (by decide) (by decide) rfl rfl d_Law_message_9 (fun H locs w => ?_)
  have w : Wo D _ ((ou, .inl (ac 1, 1, .inr (.inl (vp_updL (f) 0 ((f_LC_message_1 M i).toInt64))))) :: cwm ac o ad al CI CL CR M n) s.heap _ _ := w
  refine lv_goto (tgt := 21) hx hb d_Law_message_10 (by decide) ?_
  refine lv_iconst (v := 0) hx hb d_Law_message_21 (by decide) ?_
  refine W.widen (k := 3) (n := 21) (Nat.le_of_ble_eq_true rfl) (Nat.le_of_ble_eq_true rfl) ?_
  exact kiret X w hr hk ⟨al, (fun _ _ => rfl), (Nat.le_refl _), hok, rfl, rfl⟩ d_Law_message_22
set_option maxHeartbeats 4000000 in
set_option maxRecDepth 100000 in
theorem h_message_c_2 (l : Launch) (D : va_G) (ac : Nat → ClassId) (o : Nat) (ad : Nat → Nat) (al : Nat → Nat) (CI : Nat → Nat → Int32) (CL : Nat → Nat → Int64) (CR : Nat → Nat → Option Nat) (M : Nat → Msg) (n : Nat) (ou : Nat) (f : Nat → Int64) (sz : Nat) (a : Nat) (i : Nat) (c : Nat) (mm : Nat) (hm : CI 38 0 = nI mm) (ha : a < mm) (hmm : mm < 25) (hi : CR 3 a = some i) (hin : i < n) (hco : mcore (M i) = some c) (hc : c < 3) (hok : CRok CR n) : Met l y_Law_message [Cond.codeWith y_Law_message b_Law_message 5 (some .int) [(0, 10, 13, 21), (0, 10, 17, 13)]] { frames := 10, cells := 3, slots := 21, locals := 300 } (va_Pc [.ref o, .int (nI a), .int 2, .ref ou] (CPreT D ac ((ou, .inl (ac 1, 1, .inr (.inl f))) :: cwm ac o ad al CI CL CR M n) sz)) (va_Qi (fun r u => ∃ a9 : Nat → Nat, (∀ i, i < n → a9 i = al i) ∧ n ≤ n ∧ CRok CR n ∧ r = 0 ∧ u = (ou, .inl (ac 1, 1, .inr (.inl ((vp_updL (f) 0 ((f_LC_message_2 M c).toInt64)))))) :: cwm ac o ad a9 CI CL CR M n) (CPost D ((ou, .inl (ac 1, 1, .inr (.inl f))) :: cwm ac o ad al CI CL CR M n) sz) (va_A ((ou, .inl (ac 1, 1, .inr (.inl f))) :: cwm ac o ad al CI CL CR M n) sz)) 3 21 (va_A ((ou, .inl (ac 1, 1, .inr (.inl f))) :: cwm ac o ad al CI CL CR M n) sz) := by
  refine kofH (by decide) (Nat.le_of_ble_eq_true rfl) ?_
  intro p ev s m args below meth c0 ls X hr hk hex hS w hl
  have X : Cx b_Law_message 5 R_Law D ac p m args c0 s := X
  have hx := X.1
  have hb := X.2.1
  have hl : lv_has ls 5 [(0, .ref o), (1, .int (nI a)), (2, .int 2), (3, .ref ou)] := hl
  refine lv_aload_n hx hb d_Law_message_0 rfl (lv_at hl 3 rfl) ?_
  refine lv_iconst (v := 0) hx hb d_Law_message_1 (by decide) ?_
  refine lv_aload_n hx hb d_Law_message_2 rfl (lv_at hl 0 rfl) ?_
  refine lv_iload_n hx hb d_Law_message_3 rfl (lv_at hl 1 rfl) ?_
  refine lv_iload_n hx hb d_Law_message_4 rfl (lv_at hl 2 rfl) ?_
  refine kcalli (ws0 := [(ou, .inl (ac 1, 1, .inr (.inl (f))))]) w (krunV (ws0 := [(ou, .inl (ac 1, 1, .inr (.inl (f))))]) (wc := cwm ac o ad al CI CL CR M n) (n := 2) (As := [.int (nI a), .int 2]) (rest := [.int 0, .ref ou]) (C := R_LC) X w (c_LC_message_2 l D ac o ad al CI CL CR M n _ a i c mm hm ha hmm hi hin hco hc) wk_LC_message wi_LC wm_Law_23 wx_LC_message ws_LC_LC_message (by decide +kernel) rfl rfl ⟨(Nat.le_of_ble_eq_true rfl), (Nat.le_of_ble_eq_true rfl)⟩ ⟨(Nat.le_of_ble_eq_true rfl), (Nat.le_of_ble_eq_true rfl)⟩ (krecv (ws0 := [(ou, .inl (ac 1, 1, .inr (.inl (f))))]) X w 0 rfl rfl) rfl hl.1 rfl (Nat.le_of_ble_eq_true rfl) d_Law_message_5) (fun r1 u H locs hp w => ?_)
  obtain ⟨rfl, rfl⟩ := hp
  have w : Wo D _ ((ou, .inl (ac 1, 1, .inr (.inl (f)))) :: cwm ac o ad al CI CL CR M n) s.heap _ _ := w
  refine lv_i2l (v := (f_LC_message_2 M c).toInt64) hx hb d_Law_message_8 (rfl) ?_
  refine klast X w 0 (f := f) (f' := fun _ => 0) rfl 0 (by decide) (by decide) rfl rfl d_Law_message_9 (fun H locs w => ?_)
  have w : Wo D _ ((ou, .inl (ac 1, 1, .inr (.inl (vp_updL (f) 0 ((f_LC_message_2 M c).toInt64))))) :: cwm ac o ad al CI CL CR M n) s.heap _ _ := w
  refine lv_goto (tgt := 21) hx hb d_Law_message_10 (by decide) ?_
  refine lv_iconst (v := 0) hx hb d_Law_message_21 (by decide) ?_
  refine W.widen (k := 3) (n := 21) (Nat.le_of_ble_eq_true rfl) (Nat.le_of_ble_eq_true rfl) ?_
  exact kiret X w hr hk ⟨al, (fun _ _ => rfl), (Nat.le_refl _), hok, rfl, rfl⟩ d_Law_message_22
set_option maxHeartbeats 4000000 in
set_option maxRecDepth 100000 in
theorem h_message_c_3Request (l : Launch) (D : va_G) (ac : Nat → ClassId) (o : Nat) (ad : Nat → Nat) (al : Nat → Nat) (CI : Nat → Nat → Int32) (CL : Nat → Nat → Int64) (CR : Nat → Nat → Option Nat) (M : Nat → Msg) (n : Nat) (ou : Nat) (f : Nat → Int64) (sz : Nat) (a : Nat) (i : Nat) (mm : Nat) (hm : CI 38 0 = nI mm) (ha : a < mm) (hmm : mm < 25) (hi : CR 3 a = some i) (hin : i < n) (hcl : mcls (M i) = 4) (hok : CRok CR n) : Met l y_Law_message [Cond.codeWith y_Law_message b_Law_message 5 (some .int) [(0, 10, 13, 21), (0, 10, 17, 13)]] { frames := 10, cells := 3, slots := 21, locals := 300 } (va_Pc [.ref o, .int (nI a), .int 3, .ref ou] (CPreT D ac ((ou, .inl (ac 1, 1, .inr (.inl f))) :: cwm ac o ad al CI CL CR M n) sz)) (va_Qi (fun r u => ∃ a9 : Nat → Nat, (∀ i, i < n → a9 i = al i) ∧ n ≤ n ∧ CRok CR n ∧ r = 0 ∧ u = (ou, .inl (ac 1, 1, .inr (.inl ((vp_updL (f) 0 f_LC_message_3Request.toInt64))))) :: cwm ac o ad a9 CI CL CR M n) (CPost D ((ou, .inl (ac 1, 1, .inr (.inl f))) :: cwm ac o ad al CI CL CR M n) sz) (va_A ((ou, .inl (ac 1, 1, .inr (.inl f))) :: cwm ac o ad al CI CL CR M n) sz)) 3 21 (va_A ((ou, .inl (ac 1, 1, .inr (.inl f))) :: cwm ac o ad al CI CL CR M n) sz) := by
  refine kofH (by decide) (Nat.le_of_ble_eq_true rfl) ?_
  intro p ev s m args below meth c0 ls X hr hk hex hS w hl
  have X : Cx b_Law_message 5 R_Law D ac p m args c0 s := X
  have hx := X.1
  have hb := X.2.1
  have hl : lv_has ls 5 [(0, .ref o), (1, .int (nI a)), (2, .int 3), (3, .ref ou)] := hl
  refine lv_aload_n hx hb d_Law_message_0 rfl (lv_at hl 3 rfl) ?_
  refine lv_iconst (v := 0) hx hb d_Law_message_1 (by decide) ?_
  refine lv_aload_n hx hb d_Law_message_2 rfl (lv_at hl 0 rfl) ?_
  refine lv_iload_n hx hb d_Law_message_3 rfl (lv_at hl 1 rfl) ?_
  refine lv_iload_n hx hb d_Law_message_4 rfl (lv_at hl 2 rfl) ?_
  refine kcalli (ws0 := [(ou, .inl (ac 1, 1, .inr (.inl (f))))]) w (krunV (ws0 := [(ou, .inl (ac 1, 1, .inr (.inl (f))))]) (wc := cwm ac o ad al CI CL CR M n) (n := 2) (As := [.int (nI a), .int 3]) (rest := [.int 0, .ref ou]) (C := R_LC) X w (c_LC_message_3Request l D ac o ad al CI CL CR M n _ a i mm hm ha hmm hi hin hcl) wk_LC_message wi_LC wm_Law_23 wx_LC_message ws_LC_LC_message (by decide +kernel) rfl rfl ⟨(Nat.le_of_ble_eq_true rfl), (Nat.le_of_ble_eq_true rfl)⟩ ⟨(Nat.le_of_ble_eq_true rfl), (Nat.le_of_ble_eq_true rfl)⟩ (krecv (ws0 := [(ou, .inl (ac 1, 1, .inr (.inl (f))))]) X w 0 rfl rfl) rfl hl.1 rfl (Nat.le_of_ble_eq_true rfl) d_Law_message_5) (fun r1 u H locs hp w => ?_)
  obtain ⟨rfl, rfl⟩ := hp
  have w : Wo D _ ((ou, .inl (ac 1, 1, .inr (.inl (f)))) :: cwm ac o ad al CI CL CR M n) s.heap _ _ := w
  refine lv_i2l (v := f_LC_message_3Request.toInt64) hx hb d_Law_message_8 (rfl) ?_
  refine klast X w 0 (f := f) (f' := fun _ => 0) rfl 0 (by decide) (by decide) rfl rfl d_Law_message_9 (fun H locs w => ?_)
  have w : Wo D _ ((ou, .inl (ac 1, 1, .inr (.inl (vp_updL (f) 0 f_LC_message_3Request.toInt64)))) :: cwm ac o ad al CI CL CR M n) s.heap _ _ := w
  refine lv_goto (tgt := 21) hx hb d_Law_message_10 (by decide) ?_
  refine lv_iconst (v := 0) hx hb d_Law_message_21 (by decide) ?_
  refine W.widen (k := 3) (n := 21) (Nat.le_of_ble_eq_true rfl) (Nat.le_of_ble_eq_true rfl) ?_
  exact kiret X w hr hk ⟨al, (fun _ _ => rfl), (Nat.le_refl _), hok, rfl, rfl⟩ d_Law_message_22
set_option maxHeartbeats 4000000 in
set_option maxRecDepth 100000 in
theorem h_message_c_3Answer (l : Launch) (D : va_G) (ac : Nat → ClassId) (o : Nat) (ad : Nat → Nat) (al : Nat → Nat) (CI : Nat → Nat → Int32) (CL : Nat → Nat → Int64) (CR : Nat → Nat → Option Nat) (M : Nat → Msg) (n : Nat) (ou : Nat) (f : Nat → Int64) (sz : Nat) (a : Nat) (i : Nat) (mm : Nat) (hm : CI 38 0 = nI mm) (ha : a < mm) (hmm : mm < 25) (hi : CR 3 a = some i) (hin : i < n) (hcl : mcls (M i) = 5) (hok : CRok CR n) : Met l y_Law_message [Cond.codeWith y_Law_message b_Law_message 5 (some .int) [(0, 10, 13, 21), (0, 10, 17, 13)]] { frames := 10, cells := 3, slots := 21, locals := 300 } (va_Pc [.ref o, .int (nI a), .int 3, .ref ou] (CPreT D ac ((ou, .inl (ac 1, 1, .inr (.inl f))) :: cwm ac o ad al CI CL CR M n) sz)) (va_Qi (fun r u => ∃ a9 : Nat → Nat, (∀ i, i < n → a9 i = al i) ∧ n ≤ n ∧ CRok CR n ∧ r = 0 ∧ u = (ou, .inl (ac 1, 1, .inr (.inl ((vp_updL (f) 0 f_LC_message_3Answer.toInt64))))) :: cwm ac o ad a9 CI CL CR M n) (CPost D ((ou, .inl (ac 1, 1, .inr (.inl f))) :: cwm ac o ad al CI CL CR M n) sz) (va_A ((ou, .inl (ac 1, 1, .inr (.inl f))) :: cwm ac o ad al CI CL CR M n) sz)) 3 21 (va_A ((ou, .inl (ac 1, 1, .inr (.inl f))) :: cwm ac o ad al CI CL CR M n) sz) := by
  refine kofH (by decide) (Nat.le_of_ble_eq_true rfl) ?_
  intro p ev s m args below meth c0 ls X hr hk hex hS w hl
  have X : Cx b_Law_message 5 R_Law D ac p m args c0 s := X
  have hx := X.1
  have hb := X.2.1
  have hl : lv_has ls 5 [(0, .ref o), (1, .int (nI a)), (2, .int 3), (3, .ref ou)] := hl
  refine lv_aload_n hx hb d_Law_message_0 rfl (lv_at hl 3 rfl) ?_
  refine lv_iconst (v := 0) hx hb d_Law_message_1 (by decide) ?_
  refine lv_aload_n hx hb d_Law_message_2 rfl (lv_at hl 0 rfl) ?_
  refine lv_iload_n hx hb d_Law_message_3 rfl (lv_at hl 1 rfl) ?_
  refine lv_iload_n hx hb d_Law_message_4 rfl (lv_at hl 2 rfl) ?_
  refine kcalli (ws0 := [(ou, .inl (ac 1, 1, .inr (.inl (f))))]) w (krunV (ws0 := [(ou, .inl (ac 1, 1, .inr (.inl (f))))]) (wc := cwm ac o ad al CI CL CR M n) (n := 2) (As := [.int (nI a), .int 3]) (rest := [.int 0, .ref ou]) (C := R_LC) X w (c_LC_message_3Answer l D ac o ad al CI CL CR M n _ a i mm hm ha hmm hi hin hcl) wk_LC_message wi_LC wm_Law_23 wx_LC_message ws_LC_LC_message (by decide +kernel) rfl rfl ⟨(Nat.le_of_ble_eq_true rfl), (Nat.le_of_ble_eq_true rfl)⟩ ⟨(Nat.le_of_ble_eq_true rfl), (Nat.le_of_ble_eq_true rfl)⟩ (krecv (ws0 := [(ou, .inl (ac 1, 1, .inr (.inl (f))))]) X w 0 rfl rfl) rfl hl.1 rfl (Nat.le_of_ble_eq_true rfl) d_Law_message_5) (fun r1 u H locs hp w => ?_)
  obtain ⟨rfl, rfl⟩ := hp
  have w : Wo D _ ((ou, .inl (ac 1, 1, .inr (.inl (f)))) :: cwm ac o ad al CI CL CR M n) s.heap _ _ := w
  refine lv_i2l (v := f_LC_message_3Answer.toInt64) hx hb d_Law_message_8 (rfl) ?_
  refine klast X w 0 (f := f) (f' := fun _ => 0) rfl 0 (by decide) (by decide) rfl rfl d_Law_message_9 (fun H locs w => ?_)
  have w : Wo D _ ((ou, .inl (ac 1, 1, .inr (.inl (vp_updL (f) 0 f_LC_message_3Answer.toInt64)))) :: cwm ac o ad al CI CL CR M n) s.heap _ _ := w
  refine lv_goto (tgt := 21) hx hb d_Law_message_10 (by decide) ?_
  refine lv_iconst (v := 0) hx hb d_Law_message_21 (by decide) ?_
  refine W.widen (k := 3) (n := 21) (Nat.le_of_ble_eq_true rfl) (Nat.le_of_ble_eq_true rfl) ?_
  exact kiret X w hr hk ⟨al, (fun _ _ => rfl), (Nat.le_refl _), hok, rfl, rfl⟩ d_Law_message_22
set_option maxHeartbeats 4000000 in
set_option maxRecDepth 100000 in
theorem h_message_c_3Call (l : Launch) (D : va_G) (ac : Nat → ClassId) (o : Nat) (ad : Nat → Nat) (al : Nat → Nat) (CI : Nat → Nat → Int32) (CL : Nat → Nat → Int64) (CR : Nat → Nat → Option Nat) (M : Nat → Msg) (n : Nat) (ou : Nat) (f : Nat → Int64) (sz : Nat) (a : Nat) (i : Nat) (mm : Nat) (hm : CI 38 0 = nI mm) (ha : a < mm) (hmm : mm < 25) (hi : CR 3 a = some i) (hin : i < n) (hcl : mcls (M i) = 6) (hok : CRok CR n) : Met l y_Law_message [Cond.codeWith y_Law_message b_Law_message 5 (some .int) [(0, 10, 13, 21), (0, 10, 17, 13)]] { frames := 10, cells := 3, slots := 21, locals := 300 } (va_Pc [.ref o, .int (nI a), .int 3, .ref ou] (CPreT D ac ((ou, .inl (ac 1, 1, .inr (.inl f))) :: cwm ac o ad al CI CL CR M n) sz)) (va_Qi (fun r u => ∃ a9 : Nat → Nat, (∀ i, i < n → a9 i = al i) ∧ n ≤ n ∧ CRok CR n ∧ r = 0 ∧ u = (ou, .inl (ac 1, 1, .inr (.inl ((vp_updL (f) 0 f_LC_message_3Call.toInt64))))) :: cwm ac o ad a9 CI CL CR M n) (CPost D ((ou, .inl (ac 1, 1, .inr (.inl f))) :: cwm ac o ad al CI CL CR M n) sz) (va_A ((ou, .inl (ac 1, 1, .inr (.inl f))) :: cwm ac o ad al CI CL CR M n) sz)) 3 21 (va_A ((ou, .inl (ac 1, 1, .inr (.inl f))) :: cwm ac o ad al CI CL CR M n) sz) := by
  refine kofH (by decide) (Nat.le_of_ble_eq_true rfl) ?_
  intro p ev s m args below meth c0 ls X hr hk hex hS w hl
  have X : Cx b_Law_message 5 R_Law D ac p m args c0 s := X
  have hx := X.1
  have hb := X.2.1
  have hl : lv_has ls 5 [(0, .ref o), (1, .int (nI a)), (2, .int 3), (3, .ref ou)] := hl
  refine lv_aload_n hx hb d_Law_message_0 rfl (lv_at hl 3 rfl) ?_
  refine lv_iconst (v := 0) hx hb d_Law_message_1 (by decide) ?_
  refine lv_aload_n hx hb d_Law_message_2 rfl (lv_at hl 0 rfl) ?_
  refine lv_iload_n hx hb d_Law_message_3 rfl (lv_at hl 1 rfl) ?_
  refine lv_iload_n hx hb d_Law_message_4 rfl (lv_at hl 2 rfl) ?_
  refine kcalli (ws0 := [(ou, .inl (ac 1, 1, .inr (.inl (f))))]) w (krunV (ws0 := [(ou, .inl (ac 1, 1, .inr (.inl (f))))]) (wc := cwm ac o ad al CI CL CR M n) (n := 2) (As := [.int (nI a), .int 3]) (rest := [.int 0, .ref ou]) (C := R_LC) X w (c_LC_message_3Call l D ac o ad al CI CL CR M n _ a i mm hm ha hmm hi hin hcl) wk_LC_message wi_LC wm_Law_23 wx_LC_message ws_LC_LC_message (by decide +kernel) rfl rfl ⟨(Nat.le_of_ble_eq_true rfl), (Nat.le_of_ble_eq_true rfl)⟩ ⟨(Nat.le_of_ble_eq_true rfl), (Nat.le_of_ble_eq_true rfl)⟩ (krecv (ws0 := [(ou, .inl (ac 1, 1, .inr (.inl (f))))]) X w 0 rfl rfl) rfl hl.1 rfl (Nat.le_of_ble_eq_true rfl) d_Law_message_5) (fun r1 u H locs hp w => ?_)
  obtain ⟨rfl, rfl⟩ := hp
  have w : Wo D _ ((ou, .inl (ac 1, 1, .inr (.inl (f)))) :: cwm ac o ad al CI CL CR M n) s.heap _ _ := w
  refine lv_i2l (v := f_LC_message_3Call.toInt64) hx hb d_Law_message_8 (rfl) ?_
  refine klast X w 0 (f := f) (f' := fun _ => 0) rfl 0 (by decide) (by decide) rfl rfl d_Law_message_9 (fun H locs w => ?_)
  have w : Wo D _ ((ou, .inl (ac 1, 1, .inr (.inl (vp_updL (f) 0 f_LC_message_3Call.toInt64)))) :: cwm ac o ad al CI CL CR M n) s.heap _ _ := w
  refine lv_goto (tgt := 21) hx hb d_Law_message_10 (by decide) ?_
  refine lv_iconst (v := 0) hx hb d_Law_message_21 (by decide) ?_
  refine W.widen (k := 3) (n := 21) (Nat.le_of_ble_eq_true rfl) (Nat.le_of_ble_eq_true rfl) ?_
  exact kiret X w hr hk ⟨al, (fun _ _ => rfl), (Nat.le_refl _), hok, rfl, rfl⟩ d_Law_message_22
set_option maxHeartbeats 4000000 in
set_option maxRecDepth 100000 in
theorem h_message_c_3Return (l : Launch) (D : va_G) (ac : Nat → ClassId) (o : Nat) (ad : Nat → Nat) (al : Nat → Nat) (CI : Nat → Nat → Int32) (CL : Nat → Nat → Int64) (CR : Nat → Nat → Option Nat) (M : Nat → Msg) (n : Nat) (ou : Nat) (f : Nat → Int64) (sz : Nat) (a : Nat) (i : Nat) (mm : Nat) (hm : CI 38 0 = nI mm) (ha : a < mm) (hmm : mm < 25) (hi : CR 3 a = some i) (hin : i < n) (hcl : mcls (M i) = 7) (hok : CRok CR n) : Met l y_Law_message [Cond.codeWith y_Law_message b_Law_message 5 (some .int) [(0, 10, 13, 21), (0, 10, 17, 13)]] { frames := 10, cells := 3, slots := 21, locals := 300 } (va_Pc [.ref o, .int (nI a), .int 3, .ref ou] (CPreT D ac ((ou, .inl (ac 1, 1, .inr (.inl f))) :: cwm ac o ad al CI CL CR M n) sz)) (va_Qi (fun r u => ∃ a9 : Nat → Nat, (∀ i, i < n → a9 i = al i) ∧ n ≤ n ∧ CRok CR n ∧ r = 0 ∧ u = (ou, .inl (ac 1, 1, .inr (.inl ((vp_updL (f) 0 f_LC_message_3Return.toInt64))))) :: cwm ac o ad a9 CI CL CR M n) (CPost D ((ou, .inl (ac 1, 1, .inr (.inl f))) :: cwm ac o ad al CI CL CR M n) sz) (va_A ((ou, .inl (ac 1, 1, .inr (.inl f))) :: cwm ac o ad al CI CL CR M n) sz)) 3 21 (va_A ((ou, .inl (ac 1, 1, .inr (.inl f))) :: cwm ac o ad al CI CL CR M n) sz) := by
  refine kofH (by decide) (Nat.le_of_ble_eq_true rfl) ?_
  intro p ev s m args below meth c0 ls X hr hk hex hS w hl
  have X : Cx b_Law_message 5 R_Law D ac p m args c0 s := X
  have hx := X.1
  have hb := X.2.1
  have hl : lv_has ls 5 [(0, .ref o), (1, .int (nI a)), (2, .int 3), (3, .ref ou)] := hl
  refine lv_aload_n hx hb d_Law_message_0 rfl (lv_at hl 3 rfl) ?_
  refine lv_iconst (v := 0) hx hb d_Law_message_1 (by decide) ?_
  refine lv_aload_n hx hb d_Law_message_2 rfl (lv_at hl 0 rfl) ?_
  refine lv_iload_n hx hb d_Law_message_3 rfl (lv_at hl 1 rfl) ?_
  refine lv_iload_n hx hb d_Law_message_4 rfl (lv_at hl 2 rfl) ?_
  refine kcalli (ws0 := [(ou, .inl (ac 1, 1, .inr (.inl (f))))]) w (krunV (ws0 := [(ou, .inl (ac 1, 1, .inr (.inl (f))))]) (wc := cwm ac o ad al CI CL CR M n) (n := 2) (As := [.int (nI a), .int 3]) (rest := [.int 0, .ref ou]) (C := R_LC) X w (c_LC_message_3Return l D ac o ad al CI CL CR M n _ a i mm hm ha hmm hi hin hcl) wk_LC_message wi_LC wm_Law_23 wx_LC_message ws_LC_LC_message (by decide +kernel) rfl rfl ⟨(Nat.le_of_ble_eq_true rfl), (Nat.le_of_ble_eq_true rfl)⟩ ⟨(Nat.le_of_ble_eq_true rfl), (Nat.le_of_ble_eq_true rfl)⟩ (krecv (ws0 := [(ou, .inl (ac 1, 1, .inr (.inl (f))))]) X w 0 rfl rfl) rfl hl.1 rfl (Nat.le_of_ble_eq_true rfl) d_Law_message_5) (fun r1 u H locs hp w => ?_)
  obtain ⟨rfl, rfl⟩ := hp
  have w : Wo D _ ((ou, .inl (ac 1, 1, .inr (.inl (f)))) :: cwm ac o ad al CI CL CR M n) s.heap _ _ := w
  refine lv_i2l (v := f_LC_message_3Return.toInt64) hx hb d_Law_message_8 (rfl) ?_
  refine klast X w 0 (f := f) (f' := fun _ => 0) rfl 0 (by decide) (by decide) rfl rfl d_Law_message_9 (fun H locs w => ?_)
  have w : Wo D _ ((ou, .inl (ac 1, 1, .inr (.inl (vp_updL (f) 0 f_LC_message_3Return.toInt64)))) :: cwm ac o ad al CI CL CR M n) s.heap _ _ := w
  refine lv_goto (tgt := 21) hx hb d_Law_message_10 (by decide) ?_
  refine lv_iconst (v := 0) hx hb d_Law_message_21 (by decide) ?_
  refine W.widen (k := 3) (n := 21) (Nat.le_of_ble_eq_true rfl) (Nat.le_of_ble_eq_true rfl) ?_
  exact kiret X w hr hk ⟨al, (fun _ _ => rfl), (Nat.le_refl _), hok, rfl, rfl⟩ d_Law_message_22
set_option maxHeartbeats 4000000 in
set_option maxRecDepth 100000 in
theorem h_core_t_c (l : Launch) (hfl : l.flags = pinnedFlags ++ [noTraceFlag]) (D : va_G) (ac : Nat → ClassId) (o : Nat) (ad : Nat → Nat) (al : Nat → Nat) (CI : Nat → Nat → Int32) (CL : Nat → Nat → Int64) (CR : Nat → Nat → Option Nat) (M : Nat → Msg) (n : Nat) (ou : Nat) (f : Nat → Int64) (sz : Nat) (x : Int32) (wh : Int32) (hbad : ¬ (0 ≤ x ∧ x < 3)) (hok : CRok CR n) : Met l y_Law_core [Cond.codeWith y_Law_core b_Law_core 5 (some .int) [(0, 10, 13, 13)]] { frames := 10, cells := 3, slots := 21, locals := 300 } (va_Pc [.ref o, .int x, .int wh, .ref ou] (CPreT D ac ((ou, .inl (ac 1, 1, .inr (.inl f))) :: cwm ac o ad al CI CL CR M n) sz)) (va_Qi (fun r u => ∃ a9 : Nat → Nat, (∀ i, i < n → a9 i = al i) ∧ n ≤ n ∧ CRok CR n ∧ r = 1 ∧ u = (ou, .inl (ac 1, 1, .inr (.inl (f)))) :: cwm ac o ad a9 CI CL CR M n) (CPost D ((ou, .inl (ac 1, 1, .inr (.inl f))) :: cwm ac o ad al CI CL CR M n) sz) (va_A ((ou, .inl (ac 1, 1, .inr (.inl f))) :: cwm ac o ad al CI CL CR M n) sz)) 3 21 (va_A ((ou, .inl (ac 1, 1, .inr (.inl f))) :: cwm ac o ad al CI CL CR M n) sz) := by
  refine kofH (by decide) (Nat.le_of_ble_eq_true rfl) ?_
  intro p ev s m args below meth c0 ls X hr hk hex hS w hl
  have X : Cx b_Law_core 5 R_Law D ac p m args c0 s := X
  have hx := X.1
  have hb := X.2.1
  have hl : lv_has ls 5 [(0, .ref o), (1, .int x), (2, .int wh), (3, .ref ou)] := hl
  refine lv_aload_n hx hb d_Law_core_0 rfl (lv_at hl 3 rfl) ?_
  refine lv_iconst (v := 0) hx hb d_Law_core_1 (by decide) ?_
  refine lv_aload_n hx hb d_Law_core_2 rfl (lv_at hl 0 rfl) ?_
  refine lv_iload_n hx hb d_Law_core_3 rfl (lv_at hl 1 rfl) ?_
  refine lv_iload_n hx hb d_Law_core_4 rfl (lv_at hl 2 rfl) ?_
  refine kcatch1 X (krunVT (ws0 := [(ou, .inl (ac 1, 1, .inr (.inl (f))))]) (wc := cwm ac o ad al CI CL CR M n) (n := 2) (As := [.int x, .int wh]) (rest := [.int 0, .ref ou]) (C := R_LC) X w (fun U hU hW => by rw [hU]; exact hS.moved hW.alike) (t_LC_core_c l hfl D ac o ad al CI CL CR M n _ x wh hbad) wk_LC_core wi_LC wm_Law_27 wx_LC_core ws_LC_LC_core (by decide +kernel) rfl rfl ⟨(Nat.le_of_ble_eq_true rfl), (Nat.le_of_ble_eq_true rfl)⟩ ⟨(Nat.le_of_ble_eq_true rfl), (Nat.le_of_ble_eq_true rfl)⟩ (krecv (ws0 := [(ou, .inl (ac 1, 1, .inr (.inl (f))))]) X w 0 rfl rfl) rfl hl.1 rfl (Nat.le_of_ble_eq_true rfl) d_Law_core_5) hex (by decide) (by decide) wc_Law_13 wv_IAE_IAE (fun x1 H1 hold => ?_)
  have w := wo_old w hold
  refine lv_astore (lv' := [(4, .ref x1), (0, .ref o), (1, .int x), (2, .int wh), (3, .ref ou)]) hx hb d_Law_core_13 hl (by decide) rfl (fun ls hl => ?_)
  refine lv_iconst (v := 1) hx hb d_Law_core_15 (by decide) ?_
  refine W.widen (k := 3) (n := 21) (Nat.le_of_ble_eq_true rfl) (Nat.le_of_ble_eq_true rfl) ?_
  exact kiret X w hr hk ⟨al, (fun _ _ => rfl), (Nat.le_refl _), hok, rfl, rfl⟩ d_Law_core_16
set_option maxHeartbeats 4000000 in
set_option maxRecDepth 100000 in
theorem h_core_t_w (l : Launch) (hfl : l.flags = pinnedFlags ++ [noTraceFlag]) (D : va_G) (ac : Nat → ClassId) (o : Nat) (ad : Nat → Nat) (al : Nat → Nat) (CI : Nat → Nat → Int32) (CL : Nat → Nat → Int64) (CR : Nat → Nat → Option Nat) (M : Nat → Msg) (n : Nat) (ou : Nat) (f : Nat → Int64) (sz : Nat) (c : Nat) (wh : Int32) (hc : c < 3) (hbad : wh.toInt < 0 ∨ 4 < wh.toInt) (hok : CRok CR n) : Met l y_Law_core [Cond.codeWith y_Law_core b_Law_core 5 (some .int) [(0, 10, 13, 13)]] { frames := 10, cells := 3, slots := 21, locals := 300 } (va_Pc [.ref o, .int (nI c), .int wh, .ref ou] (CPreT D ac ((ou, .inl (ac 1, 1, .inr (.inl f))) :: cwm ac o ad al CI CL CR M n) sz)) (va_Qi (fun r u => ∃ a9 : Nat → Nat, (∀ i, i < n → a9 i = al i) ∧ n ≤ n ∧ CRok CR n ∧ r = 1 ∧ u = (ou, .inl (ac 1, 1, .inr (.inl (f)))) :: cwm ac o ad a9 CI CL CR M n) (CPost D ((ou, .inl (ac 1, 1, .inr (.inl f))) :: cwm ac o ad al CI CL CR M n) sz) (va_A ((ou, .inl (ac 1, 1, .inr (.inl f))) :: cwm ac o ad al CI CL CR M n) sz)) 3 21 (va_A ((ou, .inl (ac 1, 1, .inr (.inl f))) :: cwm ac o ad al CI CL CR M n) sz) := by
  refine kofH (by decide) (Nat.le_of_ble_eq_true rfl) ?_
  intro p ev s m args below meth c0 ls X hr hk hex hS w hl
  have X : Cx b_Law_core 5 R_Law D ac p m args c0 s := X
  have hx := X.1
  have hb := X.2.1
  have hl : lv_has ls 5 [(0, .ref o), (1, .int (nI c)), (2, .int wh), (3, .ref ou)] := hl
  refine lv_aload_n hx hb d_Law_core_0 rfl (lv_at hl 3 rfl) ?_
  refine lv_iconst (v := 0) hx hb d_Law_core_1 (by decide) ?_
  refine lv_aload_n hx hb d_Law_core_2 rfl (lv_at hl 0 rfl) ?_
  refine lv_iload_n hx hb d_Law_core_3 rfl (lv_at hl 1 rfl) ?_
  refine lv_iload_n hx hb d_Law_core_4 rfl (lv_at hl 2 rfl) ?_
  refine kcatch1 X (krunVT (ws0 := [(ou, .inl (ac 1, 1, .inr (.inl (f))))]) (wc := cwm ac o ad al CI CL CR M n) (n := 2) (As := [.int (nI c), .int wh]) (rest := [.int 0, .ref ou]) (C := R_LC) X w (fun U hU hW => by rw [hU]; exact hS.moved hW.alike) (t_LC_core_w l hfl D ac o ad al CI CL CR M n _ c wh hc hbad) wk_LC_core wi_LC wm_Law_27 wx_LC_core ws_LC_LC_core (by decide +kernel) rfl rfl ⟨(Nat.le_of_ble_eq_true rfl), (Nat.le_of_ble_eq_true rfl)⟩ ⟨(Nat.le_of_ble_eq_true rfl), (Nat.le_of_ble_eq_true rfl)⟩ (krecv (ws0 := [(ou, .inl (ac 1, 1, .inr (.inl (f))))]) X w 0 rfl rfl) rfl hl.1 rfl (Nat.le_of_ble_eq_true rfl) d_Law_core_5) hex (by decide) (by decide) wc_Law_13 wv_IAE_IAE (fun x1 H1 hold => ?_)
  have w := wo_old w hold
  refine lv_astore (lv' := [(4, .ref x1), (0, .ref o), (1, .int (nI c)), (2, .int wh), (3, .ref ou)]) hx hb d_Law_core_13 hl (by decide) rfl (fun ls hl => ?_)
  refine lv_iconst (v := 1) hx hb d_Law_core_15 (by decide) ?_
  refine W.widen (k := 3) (n := 21) (Nat.le_of_ble_eq_true rfl) (Nat.le_of_ble_eq_true rfl) ?_
  exact kiret X w hr hk ⟨al, (fun _ _ => rfl), (Nat.le_refl _), hok, rfl, rfl⟩ d_Law_core_16
set_option maxHeartbeats 4000000 in
set_option maxRecDepth 100000 in
theorem h_core_c_0 (l : Launch) (D : va_G) (ac : Nat → ClassId) (o : Nat) (ad : Nat → Nat) (al : Nat → Nat) (CI : Nat → Nat → Int32) (CL : Nat → Nat → Int64) (CR : Nat → Nat → Option Nat) (M : Nat → Msg) (n : Nat) (ou : Nat) (f : Nat → Int64) (sz : Nat) (c : Nat) (hc : c < 3) (hok : CRok CR n) : Met l y_Law_core [Cond.codeWith y_Law_core b_Law_core 5 (some .int) [(0, 10, 13, 13)]] { frames := 10, cells := 3, slots := 21, locals := 300 } (va_Pc [.ref o, .int (nI c), .int 0, .ref ou] (CPreT D ac ((ou, .inl (ac 1, 1, .inr (.inl f))) :: cwm ac o ad al CI CL CR M n) sz)) (va_Qi (fun r u => ∃ a9 : Nat → Nat, (∀ i, i < n → a9 i = al i) ∧ n ≤ n ∧ CRok CR n ∧ r = 0 ∧ u = (ou, .inl (ac 1, 1, .inr (.inl ((vp_updL (f) 0 ((f_LC_core_0 CI c).toInt64)))))) :: cwm ac o ad a9 CI CL CR M n) (CPost D ((ou, .inl (ac 1, 1, .inr (.inl f))) :: cwm ac o ad al CI CL CR M n) sz) (va_A ((ou, .inl (ac 1, 1, .inr (.inl f))) :: cwm ac o ad al CI CL CR M n) sz)) 3 21 (va_A ((ou, .inl (ac 1, 1, .inr (.inl f))) :: cwm ac o ad al CI CL CR M n) sz) := by
  refine kofH (by decide) (Nat.le_of_ble_eq_true rfl) ?_
  intro p ev s m args below meth c0 ls X hr hk hex hS w hl
  have X : Cx b_Law_core 5 R_Law D ac p m args c0 s := X
  have hx := X.1
  have hb := X.2.1
  have hl : lv_has ls 5 [(0, .ref o), (1, .int (nI c)), (2, .int 0), (3, .ref ou)] := hl
  refine lv_aload_n hx hb d_Law_core_0 rfl (lv_at hl 3 rfl) ?_
  refine lv_iconst (v := 0) hx hb d_Law_core_1 (by decide) ?_
  refine lv_aload_n hx hb d_Law_core_2 rfl (lv_at hl 0 rfl) ?_
  refine lv_iload_n hx hb d_Law_core_3 rfl (lv_at hl 1 rfl) ?_
  refine lv_iload_n hx hb d_Law_core_4 rfl (lv_at hl 2 rfl) ?_
  refine kcalli (ws0 := [(ou, .inl (ac 1, 1, .inr (.inl (f))))]) w (krunV (ws0 := [(ou, .inl (ac 1, 1, .inr (.inl (f))))]) (wc := cwm ac o ad al CI CL CR M n) (n := 2) (As := [.int (nI c), .int 0]) (rest := [.int 0, .ref ou]) (C := R_LC) X w (c_LC_core_0 l D ac o ad al CI CL CR M n _ c hc) wk_LC_core wi_LC wm_Law_27 wx_LC_core ws_LC_LC_core (by decide +kernel) rfl rfl ⟨(Nat.le_of_ble_eq_true rfl), (Nat.le_of_ble_eq_true rfl)⟩ ⟨(Nat.le_of_ble_eq_true rfl), (Nat.le_of_ble_eq_true rfl)⟩ (krecv (ws0 := [(ou, .inl (ac 1, 1, .inr (.inl (f))))]) X w 0 rfl rfl) rfl hl.1 rfl (Nat.le_of_ble_eq_true rfl) d_Law_core_5) (fun r1 u H locs hp w => ?_)
  obtain ⟨rfl, rfl⟩ := hp
  have w : Wo D _ ((ou, .inl (ac 1, 1, .inr (.inl (f)))) :: cwm ac o ad al CI CL CR M n) s.heap _ _ := w
  refine lv_i2l (v := (f_LC_core_0 CI c).toInt64) hx hb d_Law_core_8 (rfl) ?_
  refine klast X w 0 (f := f) (f' := fun _ => 0) rfl 0 (by decide) (by decide) rfl rfl d_Law_core_9 (fun H locs w => ?_)
  have w : Wo D _ ((ou, .inl (ac 1, 1, .inr (.inl (vp_updL (f) 0 ((f_LC_core_0 CI c).toInt64))))) :: cwm ac o ad al CI CL CR M n) s.heap _ _ := w
  refine lv_goto (tgt := 17) hx hb d_Law_core_10 (by decide) ?_
  refine lv_iconst (v := 0) hx hb d_Law_core_17 (by decide) ?_
  refine W.widen (k := 3) (n := 21) (Nat.le_of_ble_eq_true rfl) (Nat.le_of_ble_eq_true rfl) ?_
  exact kiret X w hr hk ⟨al, (fun _ _ => rfl), (Nat.le_refl _), hok, rfl, rfl⟩ d_Law_core_18
set_option maxHeartbeats 4000000 in
set_option maxRecDepth 100000 in
theorem h_core_c_1 (l : Launch) (D : va_G) (ac : Nat → ClassId) (o : Nat) (ad : Nat → Nat) (al : Nat → Nat) (CI : Nat → Nat → Int32) (CL : Nat → Nat → Int64) (CR : Nat → Nat → Option Nat) (M : Nat → Msg) (n : Nat) (ou : Nat) (f : Nat → Int64) (sz : Nat) (c : Nat) (hc : c < 3) (hok : CRok CR n) : Met l y_Law_core [Cond.codeWith y_Law_core b_Law_core 5 (some .int) [(0, 10, 13, 13)]] { frames := 10, cells := 3, slots := 21, locals := 300 } (va_Pc [.ref o, .int (nI c), .int 1, .ref ou] (CPreT D ac ((ou, .inl (ac 1, 1, .inr (.inl f))) :: cwm ac o ad al CI CL CR M n) sz)) (va_Qi (fun r u => ∃ a9 : Nat → Nat, (∀ i, i < n → a9 i = al i) ∧ n ≤ n ∧ CRok CR n ∧ r = 0 ∧ u = (ou, .inl (ac 1, 1, .inr (.inl ((vp_updL (f) 0 ((f_LC_core_1 CI c).toInt64)))))) :: cwm ac o ad a9 CI CL CR M n) (CPost D ((ou, .inl (ac 1, 1, .inr (.inl f))) :: cwm ac o ad al CI CL CR M n) sz) (va_A ((ou, .inl (ac 1, 1, .inr (.inl f))) :: cwm ac o ad al CI CL CR M n) sz)) 3 21 (va_A ((ou, .inl (ac 1, 1, .inr (.inl f))) :: cwm ac o ad al CI CL CR M n) sz) := by
  refine kofH (by decide) (Nat.le_of_ble_eq_true rfl) ?_
  intro p ev s m args below meth c0 ls X hr hk hex hS w hl
  have X : Cx b_Law_core 5 R_Law D ac p m args c0 s := X
  have hx := X.1
  have hb := X.2.1
  have hl : lv_has ls 5 [(0, .ref o), (1, .int (nI c)), (2, .int 1), (3, .ref ou)] := hl
  refine lv_aload_n hx hb d_Law_core_0 rfl (lv_at hl 3 rfl) ?_
  refine lv_iconst (v := 0) hx hb d_Law_core_1 (by decide) ?_
  refine lv_aload_n hx hb d_Law_core_2 rfl (lv_at hl 0 rfl) ?_
  refine lv_iload_n hx hb d_Law_core_3 rfl (lv_at hl 1 rfl) ?_
  refine lv_iload_n hx hb d_Law_core_4 rfl (lv_at hl 2 rfl) ?_
  refine kcalli (ws0 := [(ou, .inl (ac 1, 1, .inr (.inl (f))))]) w (krunV (ws0 := [(ou, .inl (ac 1, 1, .inr (.inl (f))))]) (wc := cwm ac o ad al CI CL CR M n) (n := 2) (As := [.int (nI c), .int 1]) (rest := [.int 0, .ref ou]) (C := R_LC) X w (c_LC_core_1 l D ac o ad al CI CL CR M n _ c hc) wk_LC_core wi_LC wm_Law_27 wx_LC_core ws_LC_LC_core (by decide +kernel) rfl rfl ⟨(Nat.le_of_ble_eq_true rfl), (Nat.le_of_ble_eq_true rfl)⟩ ⟨(Nat.le_of_ble_eq_true rfl), (Nat.le_of_ble_eq_true rfl)⟩ (krecv (ws0 := [(ou, .inl (ac 1, 1, .inr (.inl (f))))]) X w 0 rfl rfl) rfl hl.1 rfl (Nat.le_of_ble_eq_true rfl) d_Law_core_5) (fun r1 u H locs hp w => ?_)
  obtain ⟨rfl, rfl⟩ := hp
  have w : Wo D _ ((ou, .inl (ac 1, 1, .inr (.inl (f)))) :: cwm ac o ad al CI CL CR M n) s.heap _ _ := w
  refine lv_i2l (v := (f_LC_core_1 CI c).toInt64) hx hb d_Law_core_8 (rfl) ?_
  refine klast X w 0 (f := f) (f' := fun _ => 0) rfl 0 (by decide) (by decide) rfl rfl d_Law_core_9 (fun H locs w => ?_)
  have w : Wo D _ ((ou, .inl (ac 1, 1, .inr (.inl (vp_updL (f) 0 ((f_LC_core_1 CI c).toInt64))))) :: cwm ac o ad al CI CL CR M n) s.heap _ _ := w
  refine lv_goto (tgt := 17) hx hb d_Law_core_10 (by decide) ?_
  refine lv_iconst (v := 0) hx hb d_Law_core_17 (by decide) ?_
  refine W.widen (k := 3) (n := 21) (Nat.le_of_ble_eq_true rfl) (Nat.le_of_ble_eq_true rfl) ?_
  exact kiret X w hr hk ⟨al, (fun _ _ => rfl), (Nat.le_refl _), hok, rfl, rfl⟩ d_Law_core_18
set_option maxHeartbeats 4000000 in
set_option maxRecDepth 100000 in
theorem h_core_c_2 (l : Launch) (D : va_G) (ac : Nat → ClassId) (o : Nat) (ad : Nat → Nat) (al : Nat → Nat) (CI : Nat → Nat → Int32) (CL : Nat → Nat → Int64) (CR : Nat → Nat → Option Nat) (M : Nat → Msg) (n : Nat) (ou : Nat) (f : Nat → Int64) (sz : Nat) (c : Nat) (hc : c < 3) (hok : CRok CR n) : Met l y_Law_core [Cond.codeWith y_Law_core b_Law_core 5 (some .int) [(0, 10, 13, 13)]] { frames := 10, cells := 3, slots := 21, locals := 300 } (va_Pc [.ref o, .int (nI c), .int 2, .ref ou] (CPreT D ac ((ou, .inl (ac 1, 1, .inr (.inl f))) :: cwm ac o ad al CI CL CR M n) sz)) (va_Qi (fun r u => ∃ a9 : Nat → Nat, (∀ i, i < n → a9 i = al i) ∧ n ≤ n ∧ CRok CR n ∧ r = 0 ∧ u = (ou, .inl (ac 1, 1, .inr (.inl ((vp_updL (f) 0 ((f_LC_core_2 CI c).toInt64)))))) :: cwm ac o ad a9 CI CL CR M n) (CPost D ((ou, .inl (ac 1, 1, .inr (.inl f))) :: cwm ac o ad al CI CL CR M n) sz) (va_A ((ou, .inl (ac 1, 1, .inr (.inl f))) :: cwm ac o ad al CI CL CR M n) sz)) 3 21 (va_A ((ou, .inl (ac 1, 1, .inr (.inl f))) :: cwm ac o ad al CI CL CR M n) sz) := by
  refine kofH (by decide) (Nat.le_of_ble_eq_true rfl) ?_
  intro p ev s m args below meth c0 ls X hr hk hex hS w hl
  have X : Cx b_Law_core 5 R_Law D ac p m args c0 s := X
  have hx := X.1
  have hb := X.2.1
  have hl : lv_has ls 5 [(0, .ref o), (1, .int (nI c)), (2, .int 2), (3, .ref ou)] := hl
  refine lv_aload_n hx hb d_Law_core_0 rfl (lv_at hl 3 rfl) ?_
  refine lv_iconst (v := 0) hx hb d_Law_core_1 (by decide) ?_
  refine lv_aload_n hx hb d_Law_core_2 rfl (lv_at hl 0 rfl) ?_
  refine lv_iload_n hx hb d_Law_core_3 rfl (lv_at hl 1 rfl) ?_
  refine lv_iload_n hx hb d_Law_core_4 rfl (lv_at hl 2 rfl) ?_
  refine kcalli (ws0 := [(ou, .inl (ac 1, 1, .inr (.inl (f))))]) w (krunV (ws0 := [(ou, .inl (ac 1, 1, .inr (.inl (f))))]) (wc := cwm ac o ad al CI CL CR M n) (n := 2) (As := [.int (nI c), .int 2]) (rest := [.int 0, .ref ou]) (C := R_LC) X w (c_LC_core_2 l D ac o ad al CI CL CR M n _ c hc) wk_LC_core wi_LC wm_Law_27 wx_LC_core ws_LC_LC_core (by decide +kernel) rfl rfl ⟨(Nat.le_of_ble_eq_true rfl), (Nat.le_of_ble_eq_true rfl)⟩ ⟨(Nat.le_of_ble_eq_true rfl), (Nat.le_of_ble_eq_true rfl)⟩ (krecv (ws0 := [(ou, .inl (ac 1, 1, .inr (.inl (f))))]) X w 0 rfl rfl) rfl hl.1 rfl (Nat.le_of_ble_eq_true rfl) d_Law_core_5) (fun r1 u H locs hp w => ?_)
  obtain ⟨rfl, rfl⟩ := hp
  have w : Wo D _ ((ou, .inl (ac 1, 1, .inr (.inl (f)))) :: cwm ac o ad al CI CL CR M n) s.heap _ _ := w
  refine lv_i2l (v := (f_LC_core_2 CI c).toInt64) hx hb d_Law_core_8 (rfl) ?_
  refine klast X w 0 (f := f) (f' := fun _ => 0) rfl 0 (by decide) (by decide) rfl rfl d_Law_core_9 (fun H locs w => ?_)
  have w : Wo D _ ((ou, .inl (ac 1, 1, .inr (.inl (vp_updL (f) 0 ((f_LC_core_2 CI c).toInt64))))) :: cwm ac o ad al CI CL CR M n) s.heap _ _ := w
  refine lv_goto (tgt := 17) hx hb d_Law_core_10 (by decide) ?_
  refine lv_iconst (v := 0) hx hb d_Law_core_17 (by decide) ?_
  refine W.widen (k := 3) (n := 21) (Nat.le_of_ble_eq_true rfl) (Nat.le_of_ble_eq_true rfl) ?_
  exact kiret X w hr hk ⟨al, (fun _ _ => rfl), (Nat.le_refl _), hok, rfl, rfl⟩ d_Law_core_18
set_option maxHeartbeats 4000000 in
set_option maxRecDepth 100000 in
theorem h_core_c_3 (l : Launch) (D : va_G) (ac : Nat → ClassId) (o : Nat) (ad : Nat → Nat) (al : Nat → Nat) (CI : Nat → Nat → Int32) (CL : Nat → Nat → Int64) (CR : Nat → Nat → Option Nat) (M : Nat → Msg) (n : Nat) (ou : Nat) (f : Nat → Int64) (sz : Nat) (c : Nat) (hc : c < 3) (hok : CRok CR n) : Met l y_Law_core [Cond.codeWith y_Law_core b_Law_core 5 (some .int) [(0, 10, 13, 13)]] { frames := 10, cells := 3, slots := 21, locals := 300 } (va_Pc [.ref o, .int (nI c), .int 3, .ref ou] (CPreT D ac ((ou, .inl (ac 1, 1, .inr (.inl f))) :: cwm ac o ad al CI CL CR M n) sz)) (va_Qi (fun r u => ∃ a9 : Nat → Nat, (∀ i, i < n → a9 i = al i) ∧ n ≤ n ∧ CRok CR n ∧ r = 0 ∧ u = (ou, .inl (ac 1, 1, .inr (.inl ((vp_updL (f) 0 ((f_LC_core_3 CI c).toInt64)))))) :: cwm ac o ad a9 CI CL CR M n) (CPost D ((ou, .inl (ac 1, 1, .inr (.inl f))) :: cwm ac o ad al CI CL CR M n) sz) (va_A ((ou, .inl (ac 1, 1, .inr (.inl f))) :: cwm ac o ad al CI CL CR M n) sz)) 3 21 (va_A ((ou, .inl (ac 1, 1, .inr (.inl f))) :: cwm ac o ad al CI CL CR M n) sz) := by
  refine kofH (by decide) (Nat.le_of_ble_eq_true rfl) ?_
  intro p ev s m args below meth c0 ls X hr hk hex hS w hl
  have X : Cx b_Law_core 5 R_Law D ac p m args c0 s := X
  have hx := X.1
  have hb := X.2.1
  have hl : lv_has ls 5 [(0, .ref o), (1, .int (nI c)), (2, .int 3), (3, .ref ou)] := hl
  refine lv_aload_n hx hb d_Law_core_0 rfl (lv_at hl 3 rfl) ?_
  refine lv_iconst (v := 0) hx hb d_Law_core_1 (by decide) ?_
  refine lv_aload_n hx hb d_Law_core_2 rfl (lv_at hl 0 rfl) ?_
  refine lv_iload_n hx hb d_Law_core_3 rfl (lv_at hl 1 rfl) ?_
  refine lv_iload_n hx hb d_Law_core_4 rfl (lv_at hl 2 rfl) ?_
  refine kcalli (ws0 := [(ou, .inl (ac 1, 1, .inr (.inl (f))))]) w (krunV (ws0 := [(ou, .inl (ac 1, 1, .inr (.inl (f))))]) (wc := cwm ac o ad al CI CL CR M n) (n := 2) (As := [.int (nI c), .int 3]) (rest := [.int 0, .ref ou]) (C := R_LC) X w (c_LC_core_3 l D ac o ad al CI CL CR M n _ c hc) wk_LC_core wi_LC wm_Law_27 wx_LC_core ws_LC_LC_core (by decide +kernel) rfl rfl ⟨(Nat.le_of_ble_eq_true rfl), (Nat.le_of_ble_eq_true rfl)⟩ ⟨(Nat.le_of_ble_eq_true rfl), (Nat.le_of_ble_eq_true rfl)⟩ (krecv (ws0 := [(ou, .inl (ac 1, 1, .inr (.inl (f))))]) X w 0 rfl rfl) rfl hl.1 rfl (Nat.le_of_ble_eq_true rfl) d_Law_core_5) (fun r1 u H locs hp w => ?_)
  obtain ⟨rfl, rfl⟩ := hp
  have w : Wo D _ ((ou, .inl (ac 1, 1, .inr (.inl (f)))) :: cwm ac o ad al CI CL CR M n) s.heap _ _ := w
  refine lv_i2l (v := (f_LC_core_3 CI c).toInt64) hx hb d_Law_core_8 (rfl) ?_
  refine klast X w 0 (f := f) (f' := fun _ => 0) rfl 0 (by decide) (by decide) rfl rfl d_Law_core_9 (fun H locs w => ?_)
  have w : Wo D _ ((ou, .inl (ac 1, 1, .inr (.inl (vp_updL (f) 0 ((f_LC_core_3 CI c).toInt64))))) :: cwm ac o ad al CI CL CR M n) s.heap _ _ := w
  refine lv_goto (tgt := 17) hx hb d_Law_core_10 (by decide) ?_
  refine lv_iconst (v := 0) hx hb d_Law_core_17 (by decide) ?_
  refine W.widen (k := 3) (n := 21) (Nat.le_of_ble_eq_true rfl) (Nat.le_of_ble_eq_true rfl) ?_
  exact kiret X w hr hk ⟨al, (fun _ _ => rfl), (Nat.le_refl _), hok, rfl, rfl⟩ d_Law_core_18
set_option maxHeartbeats 4000000 in
set_option maxRecDepth 100000 in
theorem h_core_c_4 (l : Launch) (D : va_G) (ac : Nat → ClassId) (o : Nat) (ad : Nat → Nat) (al : Nat → Nat) (CI : Nat → Nat → Int32) (CL : Nat → Nat → Int64) (CR : Nat → Nat → Option Nat) (M : Nat → Msg) (n : Nat) (ou : Nat) (f : Nat → Int64) (sz : Nat) (c : Nat) (hc : c < 3) (hok : CRok CR n) : Met l y_Law_core [Cond.codeWith y_Law_core b_Law_core 5 (some .int) [(0, 10, 13, 13)]] { frames := 10, cells := 3, slots := 21, locals := 300 } (va_Pc [.ref o, .int (nI c), .int 4, .ref ou] (CPreT D ac ((ou, .inl (ac 1, 1, .inr (.inl f))) :: cwm ac o ad al CI CL CR M n) sz)) (va_Qi (fun r u => ∃ a9 : Nat → Nat, (∀ i, i < n → a9 i = al i) ∧ n ≤ n ∧ CRok CR n ∧ r = 0 ∧ u = (ou, .inl (ac 1, 1, .inr (.inl ((vp_updL (f) 0 ((f_LC_core_4 CI c).toInt64)))))) :: cwm ac o ad a9 CI CL CR M n) (CPost D ((ou, .inl (ac 1, 1, .inr (.inl f))) :: cwm ac o ad al CI CL CR M n) sz) (va_A ((ou, .inl (ac 1, 1, .inr (.inl f))) :: cwm ac o ad al CI CL CR M n) sz)) 3 21 (va_A ((ou, .inl (ac 1, 1, .inr (.inl f))) :: cwm ac o ad al CI CL CR M n) sz) := by
  refine kofH (by decide) (Nat.le_of_ble_eq_true rfl) ?_
  intro p ev s m args below meth c0 ls X hr hk hex hS w hl
  have X : Cx b_Law_core 5 R_Law D ac p m args c0 s := X
  have hx := X.1
  have hb := X.2.1
  have hl : lv_has ls 5 [(0, .ref o), (1, .int (nI c)), (2, .int 4), (3, .ref ou)] := hl
  refine lv_aload_n hx hb d_Law_core_0 rfl (lv_at hl 3 rfl) ?_
  refine lv_iconst (v := 0) hx hb d_Law_core_1 (by decide) ?_
  refine lv_aload_n hx hb d_Law_core_2 rfl (lv_at hl 0 rfl) ?_
  refine lv_iload_n hx hb d_Law_core_3 rfl (lv_at hl 1 rfl) ?_
  refine lv_iload_n hx hb d_Law_core_4 rfl (lv_at hl 2 rfl) ?_
  refine kcalli (ws0 := [(ou, .inl (ac 1, 1, .inr (.inl (f))))]) w (krunV (ws0 := [(ou, .inl (ac 1, 1, .inr (.inl (f))))]) (wc := cwm ac o ad al CI CL CR M n) (n := 2) (As := [.int (nI c), .int 4]) (rest := [.int 0, .ref ou]) (C := R_LC) X w (c_LC_core_4 l D ac o ad al CI CL CR M n _ c hc) wk_LC_core wi_LC wm_Law_27 wx_LC_core ws_LC_LC_core (by decide +kernel) rfl rfl ⟨(Nat.le_of_ble_eq_true rfl), (Nat.le_of_ble_eq_true rfl)⟩ ⟨(Nat.le_of_ble_eq_true rfl), (Nat.le_of_ble_eq_true rfl)⟩ (krecv (ws0 := [(ou, .inl (ac 1, 1, .inr (.inl (f))))]) X w 0 rfl rfl) rfl hl.1 rfl (Nat.le_of_ble_eq_true rfl) d_Law_core_5) (fun r1 u H locs hp w => ?_)
  obtain ⟨rfl, rfl⟩ := hp
  have w : Wo D _ ((ou, .inl (ac 1, 1, .inr (.inl (f)))) :: cwm ac o ad al CI CL CR M n) s.heap _ _ := w
  refine lv_i2l (v := (f_LC_core_4 CI c).toInt64) hx hb d_Law_core_8 (rfl) ?_
  refine klast X w 0 (f := f) (f' := fun _ => 0) rfl 0 (by decide) (by decide) rfl rfl d_Law_core_9 (fun H locs w => ?_)
  have w : Wo D _ ((ou, .inl (ac 1, 1, .inr (.inl (vp_updL (f) 0 ((f_LC_core_4 CI c).toInt64))))) :: cwm ac o ad al CI CL CR M n) s.heap _ _ := w
  refine lv_goto (tgt := 17) hx hb d_Law_core_10 (by decide) ?_
  refine lv_iconst (v := 0) hx hb d_Law_core_17 (by decide) ?_
  refine W.widen (k := 3) (n := 21) (Nat.le_of_ble_eq_true rfl) (Nat.le_of_ble_eq_true rfl) ?_
  exact kiret X w hr hk ⟨al, (fun _ _ => rfl), (Nat.le_refl _), hok, rfl, rfl⟩ d_Law_core_18
set_option maxHeartbeats 4000000 in
set_option maxRecDepth 100000 in
theorem h_time_t (l : Launch) (hfl : l.flags = pinnedFlags ++ [noTraceFlag]) (D : va_G) (ac : Nat → ClassId) (o : Nat) (ad : Nat → Nat) (al : Nat → Nat) (CI : Nat → Nat → Int32) (CL : Nat → Nat → Int64) (CR : Nat → Nat → Option Nat) (M : Nat → Msg) (n : Nat) (ou : Nat) (f : Nat → Int64) (sz : Nat) (x : Int32) (hbad : ¬ (0 ≤ x ∧ x < 3)) (hok : CRok CR n) : Met l y_Law_time [Cond.codeWith y_Law_time b_Law_time 4 (some .int) [(0, 8, 11, 13)]] { frames := 10, cells := 3, slots := 21, locals := 300 } (va_Pc [.ref o, .int x, .ref ou] (CPreT D ac ((ou, .inl (ac 1, 1, .inr (.inl f))) :: cwm ac o ad al CI CL CR M n) sz)) (va_Qi (fun r u => ∃ a9 : Nat → Nat, (∀ i, i < n → a9 i = al i) ∧ n ≤ n ∧ CRok CR n ∧ r = 1 ∧ u = (ou, .inl (ac 1, 1, .inr (.inl (f)))) :: cwm ac o ad a9 CI CL CR M n) (CPost D ((ou, .inl (ac 1, 1, .inr (.inl f))) :: cwm ac o ad al CI CL CR M n) sz) (va_A ((ou, .inl (ac 1, 1, .inr (.inl f))) :: cwm ac o ad al CI CL CR M n) sz)) 3 21 (va_A ((ou, .inl (ac 1, 1, .inr (.inl f))) :: cwm ac o ad al CI CL CR M n) sz) := by
  refine kofH (by decide) (Nat.le_of_ble_eq_true rfl) ?_
  intro p ev s m args below meth c0 ls X hr hk hex hS w hl
  have X : Cx b_Law_time 4 R_Law D ac p m args c0 s := X
  have hx := X.1
  have hb := X.2.1
  have hl : lv_has ls 4 [(0, .ref o), (1, .int x), (2, .ref ou)] := hl
  refine lv_aload_n hx hb d_Law_time_0 rfl (lv_at hl 2 rfl) ?_
  refine lv_iconst (v := 0) hx hb d_Law_time_1 (by decide) ?_
  refine lv_aload_n hx hb d_Law_time_2 rfl (lv_at hl 0 rfl) ?_
  refine lv_iload_n hx hb d_Law_time_3 rfl (lv_at hl 1 rfl) ?_
  refine kcatch1 X (krunVT (ws0 := [(ou, .inl (ac 1, 1, .inr (.inl (f))))]) (wc := cwm ac o ad al CI CL CR M n) (n := 1) (As := [.int x]) (rest := [.int 0, .ref ou]) (C := R_LC) X w (fun U hU hW => by rw [hU]; exact hS.moved hW.alike) (t_LC_time l hfl D ac o ad al CI CL CR M n _ x hbad) wk_LC_time wi_LC wm_Law_30 wx_LC_time ws_LC_LC_time (by decide +kernel) rfl rfl ⟨(Nat.le_of_ble_eq_true rfl), (Nat.le_of_ble_eq_true rfl)⟩ ⟨(Nat.le_of_ble_eq_true rfl), (Nat.le_of_ble_eq_true rfl)⟩ (krecv (ws0 := [(ou, .inl (ac 1, 1, .inr (.inl (f))))]) X w 0 rfl rfl) rfl hl.1 rfl (Nat.le_of_ble_eq_true rfl) d_Law_time_4) hex (by decide) (by decide) wc_Law_13 wv_IAE_IAE (fun x1 H1 hold => ?_)
  have w := wo_old w hold
  refine lv_astore_n (lv' := [(3, .ref x1), (0, .ref o), (1, .int x), (2, .ref ou)]) hx hb d_Law_time_11 rfl hl (by decide) rfl (fun ls hl => ?_)
  refine lv_iconst (v := 1) hx hb d_Law_time_12 (by decide) ?_
  refine W.widen (k := 3) (n := 21) (Nat.le_of_ble_eq_true rfl) (Nat.le_of_ble_eq_true rfl) ?_
  exact kiret X w hr hk ⟨al, (fun _ _ => rfl), (Nat.le_refl _), hok, rfl, rfl⟩ d_Law_time_13
set_option maxHeartbeats 4000000 in
set_option maxRecDepth 100000 in
theorem h_time_c (l : Launch) (D : va_G) (ac : Nat → ClassId) (o : Nat) (ad : Nat → Nat) (al : Nat → Nat) (CI : Nat → Nat → Int32) (CL : Nat → Nat → Int64) (CR : Nat → Nat → Option Nat) (M : Nat → Msg) (n : Nat) (ou : Nat) (f : Nat → Int64) (sz : Nat) (c : Nat) (hc : c < 3) (hok : CRok CR n) : Met l y_Law_time [Cond.codeWith y_Law_time b_Law_time 4 (some .int) [(0, 8, 11, 13)]] { frames := 10, cells := 3, slots := 21, locals := 300 } (va_Pc [.ref o, .int (nI c), .ref ou] (CPreT D ac ((ou, .inl (ac 1, 1, .inr (.inl f))) :: cwm ac o ad al CI CL CR M n) sz)) (va_Qi (fun r u => ∃ a9 : Nat → Nat, (∀ i, i < n → a9 i = al i) ∧ n ≤ n ∧ CRok CR n ∧ r = 0 ∧ u = (ou, .inl (ac 1, 1, .inr (.inl ((vp_updL (f) 0 (f_LC_time CL c)))))) :: cwm ac o ad a9 CI CL CR M n) (CPost D ((ou, .inl (ac 1, 1, .inr (.inl f))) :: cwm ac o ad al CI CL CR M n) sz) (va_A ((ou, .inl (ac 1, 1, .inr (.inl f))) :: cwm ac o ad al CI CL CR M n) sz)) 3 21 (va_A ((ou, .inl (ac 1, 1, .inr (.inl f))) :: cwm ac o ad al CI CL CR M n) sz) := by
  refine kofH (by decide) (Nat.le_of_ble_eq_true rfl) ?_
  intro p ev s m args below meth c0 ls X hr hk hex hS w hl
  have X : Cx b_Law_time 4 R_Law D ac p m args c0 s := X
  have hx := X.1
  have hb := X.2.1
  have hl : lv_has ls 4 [(0, .ref o), (1, .int (nI c)), (2, .ref ou)] := hl
  refine lv_aload_n hx hb d_Law_time_0 rfl (lv_at hl 2 rfl) ?_
  refine lv_iconst (v := 0) hx hb d_Law_time_1 (by decide) ?_
  refine lv_aload_n hx hb d_Law_time_2 rfl (lv_at hl 0 rfl) ?_
  refine lv_iload_n hx hb d_Law_time_3 rfl (lv_at hl 1 rfl) ?_
  refine kcalll (ws0 := [(ou, .inl (ac 1, 1, .inr (.inl (f))))]) w (krunV (ws0 := [(ou, .inl (ac 1, 1, .inr (.inl (f))))]) (wc := cwm ac o ad al CI CL CR M n) (n := 1) (As := [.int (nI c)]) (rest := [.int 0, .ref ou]) (C := R_LC) X w (c_LC_time l D ac o ad al CI CL CR M n _ c hc) wk_LC_time wi_LC wm_Law_30 wx_LC_time ws_LC_LC_time (by decide +kernel) rfl rfl ⟨(Nat.le_of_ble_eq_true rfl), (Nat.le_of_ble_eq_true rfl)⟩ ⟨(Nat.le_of_ble_eq_true rfl), (Nat.le_of_ble_eq_true rfl)⟩ (krecv (ws0 := [(ou, .inl (ac 1, 1, .inr (.inl (f))))]) X w 0 rfl rfl) rfl hl.1 rfl (Nat.le_of_ble_eq_true rfl) d_Law_time_4) (fun r1 u H locs hp w => ?_)
  obtain ⟨rfl, rfl⟩ := hp
  have w : Wo D _ ((ou, .inl (ac 1, 1, .inr (.inl (f)))) :: cwm ac o ad al CI CL CR M n) s.heap _ _ := w
  refine klast X w 0 (f := f) (f' := fun _ => 0) rfl 0 (by decide) (by decide) rfl rfl d_Law_time_7 (fun H locs w => ?_)
  have w : Wo D _ ((ou, .inl (ac 1, 1, .inr (.inl (vp_updL (f) 0 (f_LC_time CL c))))) :: cwm ac o ad al CI CL CR M n) s.heap _ _ := w
  refine lv_goto (tgt := 14) hx hb d_Law_time_8 (by decide) ?_
  refine lv_iconst (v := 0) hx hb d_Law_time_14 (by decide) ?_
  refine W.widen (k := 3) (n := 21) (Nat.le_of_ble_eq_true rfl) (Nat.le_of_ble_eq_true rfl) ?_
  exact kiret X w hr hk ⟨al, (fun _ _ => rfl), (Nat.le_refl _), hok, rfl, rfl⟩ d_Law_time_15
set_option maxHeartbeats 4000000 in
set_option maxRecDepth 100000 in
theorem h_cached_t_c (l : Launch) (hfl : l.flags = pinnedFlags ++ [noTraceFlag]) (D : va_G) (ac : Nat → ClassId) (o : Nat) (ad : Nat → Nat) (al : Nat → Nat) (CI : Nat → Nat → Int32) (CL : Nat → Nat → Int64) (CR : Nat → Nat → Option Nat) (M : Nat → Msg) (n : Nat) (ou : Nat) (f : Nat → Int64) (sz : Nat) (x : Int32) (a : Int32) (wh : Int32) (hbad : ¬ (0 ≤ x ∧ x < 3)) (hok : CRok CR n) : Met l y_Law_cached [Cond.codeWith y_Law_cached b_Law_cached 6 (some .int) [(0, 11, 14, 13), (0, 11, 18, 21)]] { frames := 10, cells := 3, slots := 21, locals := 300 } (va_Pc [.ref o, .int x, .int a, .int wh, .ref ou] (CPreT D ac ((ou, .inl (ac 1, 1, .inr (.inl f))) :: cwm ac o ad al CI CL CR M n) sz)) (va_Qi (fun r u => ∃ a9 : Nat → Nat, (∀ i, i < n → a9 i = al i) ∧ n ≤ n ∧ CRok CR n ∧ r = 1 ∧ u = (ou, .inl (ac 1, 1, .inr (.inl (f)))) :: cwm ac o ad a9 CI CL CR M n) (CPost D ((ou, .inl (ac 1, 1, .inr (.inl f))) :: cwm ac o ad al CI CL CR M n) sz) (va_A ((ou, .inl (ac 1, 1, .inr (.inl f))) :: cwm ac o ad al CI CL CR M n) sz)) 3 21 (va_A ((ou, .inl (ac 1, 1, .inr (.inl f))) :: cwm ac o ad al CI CL CR M n) sz) := by
  refine kofH (by decide) (Nat.le_of_ble_eq_true rfl) ?_
  intro p ev s m args below meth c0 ls X hr hk hex hS w hl
  have X : Cx b_Law_cached 6 R_Law D ac p m args c0 s := X
  have hx := X.1
  have hb := X.2.1
  have hl : lv_has ls 6 [(0, .ref o), (1, .int x), (2, .int a), (3, .int wh), (4, .ref ou)] := hl
  refine lv_aload hx hb d_Law_cached_0 (lv_at hl 4 rfl) ?_
  refine lv_iconst (v := 0) hx hb d_Law_cached_2 (by decide) ?_
  refine lv_aload_n hx hb d_Law_cached_3 rfl (lv_at hl 0 rfl) ?_
  refine lv_iload_n hx hb d_Law_cached_4 rfl (lv_at hl 1 rfl) ?_
  refine lv_iload_n hx hb d_Law_cached_5 rfl (lv_at hl 2 rfl) ?_
  refine lv_iload_n hx hb d_Law_cached_6 rfl (lv_at hl 3 rfl) ?_
  refine kcatch1 X (krunVT (ws0 := [(ou, .inl (ac 1, 1, .inr (.inl (f))))]) (wc := cwm ac o ad al CI CL CR M n) (n := 3) (As := [.int x, .int a, .int wh]) (rest := [.int 0, .ref ou]) (C := R_LC) X w (fun U hU hW => by rw [hU]; exact hS.moved hW.alike) (t_LC_cached_c l hfl D ac o ad al CI CL CR M n _ x a wh hbad) wk_LC_cached wi_LC wm_Law_34 wx_LC_cached ws_LC_LC_cached (by decide +kernel) rfl rfl ⟨(Nat.le_of_ble_eq_true rfl), (Nat.le_of_ble_eq_true rfl)⟩ ⟨(Nat.le_of_ble_eq_true rfl), (Nat.le_of_ble_eq_true rfl)⟩ (krecv (ws0 := [(ou, .inl (ac 1, 1, .inr (.inl (f))))]) X w 0 rfl rfl) rfl hl.1 rfl (Nat.le_of_ble_eq_true rfl) d_Law_cached_7) hex (by decide) (by decide) wc_Law_13 wv_IAE_IAE (fun x1 H1 hold => ?_)
  have w := wo_old w hold
  refine lv_astore (lv' := [(5, .ref x1), (0, .ref o), (1, .int x), (2, .int a), (3, .int wh), (4, .ref ou)]) hx hb d_Law_cached_14 hl (by decide) rfl (fun ls hl => ?_)
  refine lv_iconst (v := 1) hx hb d_Law_cached_16 (by decide) ?_
  refine W.widen (k := 3) (n := 21) (Nat.le_of_ble_eq_true rfl) (Nat.le_of_ble_eq_true rfl) ?_
  exact kiret X w hr hk ⟨al, (fun _ _ => rfl), (Nat.le_refl _), hok, rfl, rfl⟩ d_Law_cached_17
set_option maxHeartbeats 4000000 in
set_option maxRecDepth 100000 in
theorem h_cached_t_l (l : Launch) (hfl : l.flags = pinnedFlags ++ [noTraceFlag]) (D : va_G) (ac : Nat → ClassId) (o : Nat) (ad : Nat → Nat) (al : Nat → Nat) (CI : Nat → Nat → Int32) (CL : Nat → Nat → Int64) (CR : Nat → Nat → Option Nat) (M : Nat → Msg) (n : Nat) (ou : Nat) (f : Nat → Int64) (sz : Nat) (c : Nat) (x : Int32) (wh : Int32) (hc : c < 3) (hbad : ¬ (0 ≤ x ∧ x < 12)) (hok : CRok CR n) : Met l y_Law_cached [Cond.codeWith y_Law_cached b_Law_cached 6 (some .int) [(0, 11, 14, 13), (0, 11, 18, 21)]] { frames := 10, cells := 3, slots := 21, locals := 300 } (va_Pc [.ref o, .int (nI c), .int x, .int wh, .ref ou] (CPreT D ac ((ou, .inl (ac 1, 1, .inr (.inl f))) :: cwm ac o ad al CI CL CR M n) sz)) (va_Qi (fun r u => ∃ a9 : Nat → Nat, (∀ i, i < n → a9 i = al i) ∧ n ≤ n ∧ CRok CR n ∧ r = 1 ∧ u = (ou, .inl (ac 1, 1, .inr (.inl (f)))) :: cwm ac o ad a9 CI CL CR M n) (CPost D ((ou, .inl (ac 1, 1, .inr (.inl f))) :: cwm ac o ad al CI CL CR M n) sz) (va_A ((ou, .inl (ac 1, 1, .inr (.inl f))) :: cwm ac o ad al CI CL CR M n) sz)) 3 21 (va_A ((ou, .inl (ac 1, 1, .inr (.inl f))) :: cwm ac o ad al CI CL CR M n) sz) := by
  refine kofH (by decide) (Nat.le_of_ble_eq_true rfl) ?_
  intro p ev s m args below meth c0 ls X hr hk hex hS w hl
  have X : Cx b_Law_cached 6 R_Law D ac p m args c0 s := X
  have hx := X.1
  have hb := X.2.1
  have hl : lv_has ls 6 [(0, .ref o), (1, .int (nI c)), (2, .int x), (3, .int wh), (4, .ref ou)] := hl
  refine lv_aload hx hb d_Law_cached_0 (lv_at hl 4 rfl) ?_
  refine lv_iconst (v := 0) hx hb d_Law_cached_2 (by decide) ?_
  refine lv_aload_n hx hb d_Law_cached_3 rfl (lv_at hl 0 rfl) ?_
  refine lv_iload_n hx hb d_Law_cached_4 rfl (lv_at hl 1 rfl) ?_
  refine lv_iload_n hx hb d_Law_cached_5 rfl (lv_at hl 2 rfl) ?_
  refine lv_iload_n hx hb d_Law_cached_6 rfl (lv_at hl 3 rfl) ?_
  refine kcatch1 X (krunVT (ws0 := [(ou, .inl (ac 1, 1, .inr (.inl (f))))]) (wc := cwm ac o ad al CI CL CR M n) (n := 3) (As := [.int (nI c), .int x, .int wh]) (rest := [.int 0, .ref ou]) (C := R_LC) X w (fun U hU hW => by rw [hU]; exact hS.moved hW.alike) (t_LC_cached_l l hfl D ac o ad al CI CL CR M n _ c x wh hc hbad) wk_LC_cached wi_LC wm_Law_34 wx_LC_cached ws_LC_LC_cached (by decide +kernel) rfl rfl ⟨(Nat.le_of_ble_eq_true rfl), (Nat.le_of_ble_eq_true rfl)⟩ ⟨(Nat.le_of_ble_eq_true rfl), (Nat.le_of_ble_eq_true rfl)⟩ (krecv (ws0 := [(ou, .inl (ac 1, 1, .inr (.inl (f))))]) X w 0 rfl rfl) rfl hl.1 rfl (Nat.le_of_ble_eq_true rfl) d_Law_cached_7) hex (by decide) (by decide) wc_Law_13 wv_IAE_IAE (fun x1 H1 hold => ?_)
  have w := wo_old w hold
  refine lv_astore (lv' := [(5, .ref x1), (0, .ref o), (1, .int (nI c)), (2, .int x), (3, .int wh), (4, .ref ou)]) hx hb d_Law_cached_14 hl (by decide) rfl (fun ls hl => ?_)
  refine lv_iconst (v := 1) hx hb d_Law_cached_16 (by decide) ?_
  refine W.widen (k := 3) (n := 21) (Nat.le_of_ble_eq_true rfl) (Nat.le_of_ble_eq_true rfl) ?_
  exact kiret X w hr hk ⟨al, (fun _ _ => rfl), (Nat.le_refl _), hok, rfl, rfl⟩ d_Law_cached_17
set_option maxHeartbeats 4000000 in
set_option maxRecDepth 100000 in
theorem h_cached_t_w (l : Launch) (hfl : l.flags = pinnedFlags ++ [noTraceFlag]) (D : va_G) (ac : Nat → ClassId) (o : Nat) (ad : Nat → Nat) (al : Nat → Nat) (CI : Nat → Nat → Int32) (CL : Nat → Nat → Int64) (CR : Nat → Nat → Option Nat) (M : Nat → Msg) (n : Nat) (ou : Nat) (f : Nat → Int64) (sz : Nat) (c : Nat) (a : Nat) (x : Int32) (hc : c < 3) (ha : a < 12) (hbad : ¬ (0 ≤ x ∧ x ≤ 3)) (hok : CRok CR n) : Met l y_Law_cached [Cond.codeWith y_Law_cached b_Law_cached 6 (some .int) [(0, 11, 14, 13), (0, 11, 18, 21)]] { frames := 10, cells := 3, slots := 21, locals := 300 } (va_Pc [.ref o, .int (nI c), .int (nI a), .int x, .ref ou] (CPreT D ac ((ou, .inl (ac 1, 1, .inr (.inl f))) :: cwm ac o ad al CI CL CR M n) sz)) (va_Qi (fun r u => ∃ a9 : Nat → Nat, (∀ i, i < n → a9 i = al i) ∧ n ≤ n ∧ CRok CR n ∧ r = 1 ∧ u = (ou, .inl (ac 1, 1, .inr (.inl (f)))) :: cwm ac o ad a9 CI CL CR M n) (CPost D ((ou, .inl (ac 1, 1, .inr (.inl f))) :: cwm ac o ad al CI CL CR M n) sz) (va_A ((ou, .inl (ac 1, 1, .inr (.inl f))) :: cwm ac o ad al CI CL CR M n) sz)) 3 21 (va_A ((ou, .inl (ac 1, 1, .inr (.inl f))) :: cwm ac o ad al CI CL CR M n) sz) := by
  refine kofH (by decide) (Nat.le_of_ble_eq_true rfl) ?_
  intro p ev s m args below meth c0 ls X hr hk hex hS w hl
  have X : Cx b_Law_cached 6 R_Law D ac p m args c0 s := X
  have hx := X.1
  have hb := X.2.1
  have hl : lv_has ls 6 [(0, .ref o), (1, .int (nI c)), (2, .int (nI a)), (3, .int x), (4, .ref ou)] := hl
  refine lv_aload hx hb d_Law_cached_0 (lv_at hl 4 rfl) ?_
  refine lv_iconst (v := 0) hx hb d_Law_cached_2 (by decide) ?_
  refine lv_aload_n hx hb d_Law_cached_3 rfl (lv_at hl 0 rfl) ?_
  refine lv_iload_n hx hb d_Law_cached_4 rfl (lv_at hl 1 rfl) ?_
  refine lv_iload_n hx hb d_Law_cached_5 rfl (lv_at hl 2 rfl) ?_
  refine lv_iload_n hx hb d_Law_cached_6 rfl (lv_at hl 3 rfl) ?_
  refine kcatch1 X (krunVT (ws0 := [(ou, .inl (ac 1, 1, .inr (.inl (f))))]) (wc := cwm ac o ad al CI CL CR M n) (n := 3) (As := [.int (nI c), .int (nI a), .int x]) (rest := [.int 0, .ref ou]) (C := R_LC) X w (fun U hU hW => by rw [hU]; exact hS.moved hW.alike) (t_LC_cached_w l hfl D ac o ad al CI CL CR M n _ c a x hc ha hbad) wk_LC_cached wi_LC wm_Law_34 wx_LC_cached ws_LC_LC_cached (by decide +kernel) rfl rfl ⟨(Nat.le_of_ble_eq_true rfl), (Nat.le_of_ble_eq_true rfl)⟩ ⟨(Nat.le_of_ble_eq_true rfl), (Nat.le_of_ble_eq_true rfl)⟩ (krecv (ws0 := [(ou, .inl (ac 1, 1, .inr (.inl (f))))]) X w 0 rfl rfl) rfl hl.1 rfl (Nat.le_of_ble_eq_true rfl) d_Law_cached_7) hex (by decide) (by decide) wc_Law_13 wv_IAE_IAE (fun x1 H1 hold => ?_)
  have w := wo_old w hold
  refine lv_astore (lv' := [(5, .ref x1), (0, .ref o), (1, .int (nI c)), (2, .int (nI a)), (3, .int x), (4, .ref ou)]) hx hb d_Law_cached_14 hl (by decide) rfl (fun ls hl => ?_)
  refine lv_iconst (v := 1) hx hb d_Law_cached_16 (by decide) ?_
  refine W.widen (k := 3) (n := 21) (Nat.le_of_ble_eq_true rfl) (Nat.le_of_ble_eq_true rfl) ?_
  exact kiret X w hr hk ⟨al, (fun _ _ => rfl), (Nat.le_refl _), hok, rfl, rfl⟩ d_Law_cached_17
set_option maxHeartbeats 4000000 in
set_option maxRecDepth 100000 in
theorem h_cached_t_n (l : Launch) (hfl : l.flags = pinnedFlags ++ [noTraceFlag]) (D : va_G) (ac : Nat → ClassId) (o : Nat) (ad : Nat → Nat) (al : Nat → Nat) (CI : Nat → Nat → Int32) (CL : Nat → Nat → Int64) (CR : Nat → Nat → Option Nat) (M : Nat → Msg) (n : Nat) (ou : Nat) (f : Nat → Int64) (sz : Nat) (c : Nat) (a : Nat) (wh : Nat) (hc : c < 3) (ha : a < 12) (hwh : wh < 4) (hno : f_Core_find CI c (nI a) = none) (hok : CRok CR n) : Met l y_Law_cached [Cond.codeWith y_Law_cached b_Law_cached 6 (some .int) [(0, 11, 14, 13), (0, 11, 18, 21)]] { frames := 10, cells := 3, slots := 21, locals := 300 } (va_Pc [.ref o, .int (nI c), .int (nI a), .int (nI wh), .ref ou] (CPreT D ac ((ou, .inl (ac 1, 1, .inr (.inl f))) :: cwm ac o ad al CI CL CR M n) sz)) (va_Qi (fun r u => ∃ a9 : Nat → Nat, (∀ i, i < n → a9 i = al i) ∧ n ≤ n ∧ CRok CR n ∧ r = 2 ∧ u = (ou, .inl (ac 1, 1, .inr (.inl (f)))) :: cwm ac o ad a9 CI CL CR M n) (CPost D ((ou, .inl (ac 1, 1, .inr (.inl f))) :: cwm ac o ad al CI CL CR M n) sz) (va_A ((ou, .inl (ac 1, 1, .inr (.inl f))) :: cwm ac o ad al CI CL CR M n) sz)) 3 21 (va_A ((ou, .inl (ac 1, 1, .inr (.inl f))) :: cwm ac o ad al CI CL CR M n) sz) := by
  refine kofH (by decide) (Nat.le_of_ble_eq_true rfl) ?_
  intro p ev s m args below meth c0 ls X hr hk hex hS w hl
  have X : Cx b_Law_cached 6 R_Law D ac p m args c0 s := X
  have hx := X.1
  have hb := X.2.1
  have hl : lv_has ls 6 [(0, .ref o), (1, .int (nI c)), (2, .int (nI a)), (3, .int (nI wh)), (4, .ref ou)] := hl
  refine lv_aload hx hb d_Law_cached_0 (lv_at hl 4 rfl) ?_
  refine lv_iconst (v := 0) hx hb d_Law_cached_2 (by decide) ?_
  refine lv_aload_n hx hb d_Law_cached_3 rfl (lv_at hl 0 rfl) ?_
  refine lv_iload_n hx hb d_Law_cached_4 rfl (lv_at hl 1 rfl) ?_
  refine lv_iload_n hx hb d_Law_cached_5 rfl (lv_at hl 2 rfl) ?_
  refine lv_iload_n hx hb d_Law_cached_6 rfl (lv_at hl 3 rfl) ?_
  refine kcatch2 X (krunVT (ws0 := [(ou, .inl (ac 1, 1, .inr (.inl (f))))]) (wc := cwm ac o ad al CI CL CR M n) (n := 3) (As := [.int (nI c), .int (nI a), .int (nI wh)]) (rest := [.int 0, .ref ou]) (C := R_LC) X w (fun U hU hW => by rw [hU]; exact hS.moved hW.alike) (t_LC_cached_n l hfl D ac o ad al CI CL CR M n _ c a wh hc ha hwh hno) wk_LC_cached wi_LC wm_Law_34 wx_LC_cached ws_LC_LC_cached (by decide +kernel) rfl rfl ⟨(Nat.le_of_ble_eq_true rfl), (Nat.le_of_ble_eq_true rfl)⟩ ⟨(Nat.le_of_ble_eq_true rfl), (Nat.le_of_ble_eq_true rfl)⟩ (krecv (ws0 := [(ou, .inl (ac 1, 1, .inr (.inl (f))))]) X w 0 rfl rfl) rfl hl.1 rfl (Nat.le_of_ble_eq_true rfl) d_Law_cached_7) hex (by decide) (by decide) (by decide) (by decide) wc_Law_13 (by decide) wc_Law_21 wv_NSE_NSE (fun x1 H1 hold => ?_)
  have w := wo_old w hold
  refine lv_astore (lv' := [(5, .ref x1), (0, .ref o), (1, .int (nI c)), (2, .int (nI a)), (3, .int (nI wh)), (4, .ref ou)]) hx hb d_Law_cached_18 hl (by decide) rfl (fun ls hl => ?_)
  refine lv_iconst (v := 2) hx hb d_Law_cached_20 (by decide) ?_
  refine W.widen (k := 3) (n := 21) (Nat.le_of_ble_eq_true rfl) (Nat.le_of_ble_eq_true rfl) ?_
  exact kiret X w hr hk ⟨al, (fun _ _ => rfl), (Nat.le_refl _), hok, rfl, rfl⟩ d_Law_cached_21
set_option maxHeartbeats 4000000 in
set_option maxRecDepth 100000 in
theorem h_cached_c_0 (l : Launch) (D : va_G) (ac : Nat → ClassId) (o : Nat) (ad : Nat → Nat) (al : Nat → Nat) (CI : Nat → Nat → Int32) (CL : Nat → Nat → Int64) (CR : Nat → Nat → Option Nat) (M : Nat → Msg) (n : Nat) (ou : Nat) (f : Nat → Int64) (sz : Nat) (c : Nat) (a : Nat) (hc : c < 3) (ha : a < 12) (hy : f_Core_find CI c (nI a) ≠ none) (hok : CRok CR n) : Met l y_Law_cached [Cond.codeWith y_Law_cached b_Law_cached 6 (some .int) [(0, 11, 14, 13), (0, 11, 18, 21)]] { frames := 10, cells := 3, slots := 21, locals := 300 } (va_Pc [.ref o, .int (nI c), .int (nI a), .int 0, .ref ou] (CPreT D ac ((ou, .inl (ac 1, 1, .inr (.inl f))) :: cwm ac o ad al CI CL CR M n) sz)) (va_Qi (fun r u => ∃ a9 : Nat → Nat, (∀ i, i < n → a9 i = al i) ∧ n ≤ n ∧ CRok CR n ∧ r = 0 ∧ u = (ou, .inl (ac 1, 1, .inr (.inl ((vp_updL (f) 0 (f_LC_cached_0 CI CL c a)))))) :: cwm ac o ad a9 CI CL CR M n) (CPost D ((ou, .inl (ac 1, 1, .inr (.inl f))) :: cwm ac o ad al CI CL CR M n) sz) (va_A ((ou, .inl (ac 1, 1, .inr (.inl f))) :: cwm ac o ad al CI CL CR M n) sz)) 3 21 (va_A ((ou, .inl (ac 1, 1, .inr (.inl f))) :: cwm ac o ad al CI CL CR M n) sz) := by
  refine kofH (by decide) (Nat.le_of_ble_eq_true rfl) ?_
  intro p ev s m args below meth c0 ls X hr hk hex hS w hl
  have X : Cx b_Law_cached 6 R_Law D ac p m args c0 s := X
  have hx := X.1
  have hb := X.2.1
  have hl : lv_has ls 6 [(0, .ref o), (1, .int (nI c)), (2, .int (nI a)), (3, .int 0), (4, .ref ou)] := hl
  refine lv_aload hx hb d_Law_cached_0 (lv_at hl 4 rfl) ?_
  refine lv_iconst (v := 0) hx hb d_Law_cached_2 (by decide) ?_
  refine lv_aload_n hx hb d_Law_cached_3 rfl (lv_at hl 0 rfl) ?_
  refine lv_iload_n hx hb d_Law_cached_4 rfl (lv_at hl 1 rfl) ?_
  refine lv_iload_n hx hb d_Law_cached_5 rfl (lv_at hl 2 rfl) ?_
  refine lv_iload_n hx hb d_Law_cached_6 rfl (lv_at hl 3 rfl) ?_
  refine kcalll (ws0 := [(ou, .inl (ac 1, 1, .inr (.inl (f))))]) w (krunV (ws0 := [(ou, .inl (ac 1, 1, .inr (.inl (f))))]) (wc := cwm ac o ad al CI CL CR M n) (n := 3) (As := [.int (nI c), .int (nI a), .int 0]) (rest := [.int 0, .ref ou]) (C := R_LC) X w (c_LC_cached_0 l D ac o ad al CI CL CR M n _ c a hc ha hy) wk_LC_cached wi_LC wm_Law_34 wx_LC_cached ws_LC_LC_cached (by decide +kernel) rfl rfl ⟨(Nat.le_of_ble_eq_true rfl), (Nat.le_of_ble_eq_true rfl)⟩ ⟨(Nat.le_of_ble_eq_true rfl), (Nat.le_of_ble_eq_true rfl)⟩ (krecv (ws0 := [(ou, .inl (ac 1, 1, .inr (.inl (f))))]) X w 0 rfl rfl) rfl hl.1 rfl (Nat.le_of_ble_eq_true rfl) d_Law_cached_7) (fun r1 u H locs hp w => ?_)
  obtain ⟨rfl, rfl⟩ := hp
  have w : Wo D _ ((ou, .inl (ac 1, 1, .inr (.inl (f)))) :: cwm ac o ad al CI CL CR M n) s.heap _ _ := w
  refine klast X w 0 (f := f) (f' := fun _ => 0) rfl 0 (by decide) (by decide) rfl rfl d_Law_cached_10 (fun H locs w => ?_)
  have w : Wo D _ ((ou, .inl (ac 1, 1, .inr (.inl (vp_updL (f) 0 (f_LC_cached_0 CI CL c a))))) :: cwm ac o ad al CI CL CR M n) s.heap _ _ := w
  refine lv_goto (tgt := 22) hx hb d_Law_cached_11 (by decide) ?_
  refine lv_iconst (v := 0) hx hb d_Law_cached_22 (by decide) ?_
  refine W.widen (k := 3) (n := 21) (Nat.le_of_ble_eq_true rfl) (Nat.le_of_ble_eq_true rfl) ?_
  exact kiret X w hr hk ⟨al, (fun _ _ => rfl), (Nat.le_refl _), hok, rfl, rfl⟩ d_Law_cached_23
set_option maxHeartbeats 4000000 in
set_option maxRecDepth 100000 in
theorem h_cached_c_1 (l : Launch) (D : va_G) (ac : Nat → ClassId) (o : Nat) (ad : Nat → Nat) (al : Nat → Nat) (CI : Nat → Nat → Int32) (CL : Nat → Nat → Int64) (CR : Nat → Nat → Option Nat) (M : Nat → Msg) (n : Nat) (ou : Nat) (f : Nat → Int64) (sz : Nat) (c : Nat) (a : Nat) (hc : c < 3) (ha : a < 12) (hy : f_Core_find CI c (nI a) ≠ none) (hok : CRok CR n) : Met l y_Law_cached [Cond.codeWith y_Law_cached b_Law_cached 6 (some .int) [(0, 11, 14, 13), (0, 11, 18, 21)]] { frames := 10, cells := 3, slots := 21, locals := 300 } (va_Pc [.ref o, .int (nI c), .int (nI a), .int 1, .ref ou] (CPreT D ac ((ou, .inl (ac 1, 1, .inr (.inl f))) :: cwm ac o ad al CI CL CR M n) sz)) (va_Qi (fun r u => ∃ a9 : Nat → Nat, (∀ i, i < n → a9 i = al i) ∧ n ≤ n ∧ CRok CR n ∧ r = 0 ∧ u = (ou, .inl (ac 1, 1, .inr (.inl ((vp_updL (f) 0 (f_LC_cached_1 CI CL c a)))))) :: cwm ac o ad a9 CI CL CR M n) (CPost D ((ou, .inl (ac 1, 1, .inr (.inl f))) :: cwm ac o ad al CI CL CR M n) sz) (va_A ((ou, .inl (ac 1, 1, .inr (.inl f))) :: cwm ac o ad al CI CL CR M n) sz)) 3 21 (va_A ((ou, .inl (ac 1, 1, .inr (.inl f))) :: cwm ac o ad al CI CL CR M n) sz) := by
  refine kofH (by decide) (Nat.le_of_ble_eq_true rfl) ?_
  intro p ev s m args below meth c0 ls X hr hk hex hS w hl
  have X : Cx b_Law_cached 6 R_Law D ac p m args c0 s := X
  have hx := X.1
  have hb := X.2.1
  have hl : lv_has ls 6 [(0, .ref o), (1, .int (nI c)), (2, .int (nI a)), (3, .int 1), (4, .ref ou)] := hl
  refine lv_aload hx hb d_Law_cached_0 (lv_at hl 4 rfl) ?_
  refine lv_iconst (v := 0) hx hb d_Law_cached_2 (by decide) ?_
  refine lv_aload_n hx hb d_Law_cached_3 rfl (lv_at hl 0 rfl) ?_
  refine lv_iload_n hx hb d_Law_cached_4 rfl (lv_at hl 1 rfl) ?_
  refine lv_iload_n hx hb d_Law_cached_5 rfl (lv_at hl 2 rfl) ?_
  refine lv_iload_n hx hb d_Law_cached_6 rfl (lv_at hl 3 rfl) ?_
  refine kcalll (ws0 := [(ou, .inl (ac 1, 1, .inr (.inl (f))))]) w (krunV (ws0 := [(ou, .inl (ac 1, 1, .inr (.inl (f))))]) (wc := cwm ac o ad al CI CL CR M n) (n := 3) (As := [.int (nI c), .int (nI a), .int 1]) (rest := [.int 0, .ref ou]) (C := R_LC) X w (c_LC_cached_1 l D ac o ad al CI CL CR M n _ c a hc ha hy) wk_LC_cached wi_LC wm_Law_34 wx_LC_cached ws_LC_LC_cached (by decide +kernel) rfl rfl ⟨(Nat.le_of_ble_eq_true rfl), (Nat.le_of_ble_eq_true rfl)⟩ ⟨(Nat.le_of_ble_eq_true rfl), (Nat.le_of_ble_eq_true rfl)⟩ (krecv (ws0 := [(ou, .inl (ac 1, 1, .inr (.inl (f))))]) X w 0 rfl rfl) rfl hl.1 rfl (Nat.le_of_ble_eq_true rfl) d_Law_cached_7) (fun r1 u H locs hp w => ?_)
  obtain ⟨rfl, rfl⟩ := hp
  have w : Wo D _ ((ou, .inl (ac 1, 1, .inr (.inl (f)))) :: cwm ac o ad al CI CL CR M n) s.heap _ _ := w
  refine klast X w 0 (f := f) (f' := fun _ => 0) rfl 0 (by decide) (by decide) rfl rfl d_Law_cached_10 (fun H locs w => ?_)
  have w : Wo D _ ((ou, .inl (ac 1, 1, .inr (.inl (vp_updL (f) 0 (f_LC_cached_1 CI CL c a))))) :: cwm ac o ad al CI CL CR M n) s.heap _ _ := w
  refine lv_goto (tgt := 22) hx hb d_Law_cached_11 (by decide) ?_
  refine lv_iconst (v := 0) hx hb d_Law_cached_22 (by decide) ?_
  refine W.widen (k := 3) (n := 21) (Nat.le_of_ble_eq_true rfl) (Nat.le_of_ble_eq_true rfl) ?_
  exact kiret X w hr hk ⟨al, (fun _ _ => rfl), (Nat.le_refl _), hok, rfl, rfl⟩ d_Law_cached_23
set_option maxHeartbeats 4000000 in
set_option maxRecDepth 100000 in
theorem h_cached_c_2 (l : Launch) (D : va_G) (ac : Nat → ClassId) (o : Nat) (ad : Nat → Nat) (al : Nat → Nat) (CI : Nat → Nat → Int32) (CL : Nat → Nat → Int64) (CR : Nat → Nat → Option Nat) (M : Nat → Msg) (n : Nat) (ou : Nat) (f : Nat → Int64) (sz : Nat) (c : Nat) (a : Nat) (hc : c < 3) (ha : a < 12) (hy : f_Core_find CI c (nI a) ≠ none) (hok : CRok CR n) : Met l y_Law_cached [Cond.codeWith y_Law_cached b_Law_cached 6 (some .int) [(0, 11, 14, 13), (0, 11, 18, 21)]] { frames := 10, cells := 3, slots := 21, locals := 300 } (va_Pc [.ref o, .int (nI c), .int (nI a), .int 2, .ref ou] (CPreT D ac ((ou, .inl (ac 1, 1, .inr (.inl f))) :: cwm ac o ad al CI CL CR M n) sz)) (va_Qi (fun r u => ∃ a9 : Nat → Nat, (∀ i, i < n → a9 i = al i) ∧ n ≤ n ∧ CRok CR n ∧ r = 0 ∧ u = (ou, .inl (ac 1, 1, .inr (.inl ((vp_updL (f) 0 (f_LC_cached_2 CI CL c a)))))) :: cwm ac o ad a9 CI CL CR M n) (CPost D ((ou, .inl (ac 1, 1, .inr (.inl f))) :: cwm ac o ad al CI CL CR M n) sz) (va_A ((ou, .inl (ac 1, 1, .inr (.inl f))) :: cwm ac o ad al CI CL CR M n) sz)) 3 21 (va_A ((ou, .inl (ac 1, 1, .inr (.inl f))) :: cwm ac o ad al CI CL CR M n) sz) := by
  refine kofH (by decide) (Nat.le_of_ble_eq_true rfl) ?_
  intro p ev s m args below meth c0 ls X hr hk hex hS w hl
  have X : Cx b_Law_cached 6 R_Law D ac p m args c0 s := X
  have hx := X.1
  have hb := X.2.1
  have hl : lv_has ls 6 [(0, .ref o), (1, .int (nI c)), (2, .int (nI a)), (3, .int 2), (4, .ref ou)] := hl
  refine lv_aload hx hb d_Law_cached_0 (lv_at hl 4 rfl) ?_
  refine lv_iconst (v := 0) hx hb d_Law_cached_2 (by decide) ?_
  refine lv_aload_n hx hb d_Law_cached_3 rfl (lv_at hl 0 rfl) ?_
  refine lv_iload_n hx hb d_Law_cached_4 rfl (lv_at hl 1 rfl) ?_
  refine lv_iload_n hx hb d_Law_cached_5 rfl (lv_at hl 2 rfl) ?_
  refine lv_iload_n hx hb d_Law_cached_6 rfl (lv_at hl 3 rfl) ?_
  refine kcalll (ws0 := [(ou, .inl (ac 1, 1, .inr (.inl (f))))]) w (krunV (ws0 := [(ou, .inl (ac 1, 1, .inr (.inl (f))))]) (wc := cwm ac o ad al CI CL CR M n) (n := 3) (As := [.int (nI c), .int (nI a), .int 2]) (rest := [.int 0, .ref ou]) (C := R_LC) X w (c_LC_cached_2 l D ac o ad al CI CL CR M n _ c a hc ha hy) wk_LC_cached wi_LC wm_Law_34 wx_LC_cached ws_LC_LC_cached (by decide +kernel) rfl rfl ⟨(Nat.le_of_ble_eq_true rfl), (Nat.le_of_ble_eq_true rfl)⟩ ⟨(Nat.le_of_ble_eq_true rfl), (Nat.le_of_ble_eq_true rfl)⟩ (krecv (ws0 := [(ou, .inl (ac 1, 1, .inr (.inl (f))))]) X w 0 rfl rfl) rfl hl.1 rfl (Nat.le_of_ble_eq_true rfl) d_Law_cached_7) (fun r1 u H locs hp w => ?_)
  obtain ⟨rfl, rfl⟩ := hp
  have w : Wo D _ ((ou, .inl (ac 1, 1, .inr (.inl (f)))) :: cwm ac o ad al CI CL CR M n) s.heap _ _ := w
  refine klast X w 0 (f := f) (f' := fun _ => 0) rfl 0 (by decide) (by decide) rfl rfl d_Law_cached_10 (fun H locs w => ?_)
  have w : Wo D _ ((ou, .inl (ac 1, 1, .inr (.inl (vp_updL (f) 0 (f_LC_cached_2 CI CL c a))))) :: cwm ac o ad al CI CL CR M n) s.heap _ _ := w
  refine lv_goto (tgt := 22) hx hb d_Law_cached_11 (by decide) ?_
  refine lv_iconst (v := 0) hx hb d_Law_cached_22 (by decide) ?_
  refine W.widen (k := 3) (n := 21) (Nat.le_of_ble_eq_true rfl) (Nat.le_of_ble_eq_true rfl) ?_
  exact kiret X w hr hk ⟨al, (fun _ _ => rfl), (Nat.le_refl _), hok, rfl, rfl⟩ d_Law_cached_23
set_option maxHeartbeats 4000000 in
set_option maxRecDepth 100000 in
theorem h_cached_c_3 (l : Launch) (D : va_G) (ac : Nat → ClassId) (o : Nat) (ad : Nat → Nat) (al : Nat → Nat) (CI : Nat → Nat → Int32) (CL : Nat → Nat → Int64) (CR : Nat → Nat → Option Nat) (M : Nat → Msg) (n : Nat) (ou : Nat) (f : Nat → Int64) (sz : Nat) (c : Nat) (a : Nat) (hc : c < 3) (ha : a < 12) (hy : f_Core_find CI c (nI a) ≠ none) (hok : CRok CR n) : Met l y_Law_cached [Cond.codeWith y_Law_cached b_Law_cached 6 (some .int) [(0, 11, 14, 13), (0, 11, 18, 21)]] { frames := 10, cells := 3, slots := 21, locals := 300 } (va_Pc [.ref o, .int (nI c), .int (nI a), .int 3, .ref ou] (CPreT D ac ((ou, .inl (ac 1, 1, .inr (.inl f))) :: cwm ac o ad al CI CL CR M n) sz)) (va_Qi (fun r u => ∃ a9 : Nat → Nat, (∀ i, i < n → a9 i = al i) ∧ n ≤ n ∧ CRok CR n ∧ r = 0 ∧ u = (ou, .inl (ac 1, 1, .inr (.inl ((vp_updL (f) 0 (f_LC_cached_3 CI CL c a)))))) :: cwm ac o ad a9 CI CL CR M n) (CPost D ((ou, .inl (ac 1, 1, .inr (.inl f))) :: cwm ac o ad al CI CL CR M n) sz) (va_A ((ou, .inl (ac 1, 1, .inr (.inl f))) :: cwm ac o ad al CI CL CR M n) sz)) 3 21 (va_A ((ou, .inl (ac 1, 1, .inr (.inl f))) :: cwm ac o ad al CI CL CR M n) sz) := by
  refine kofH (by decide) (Nat.le_of_ble_eq_true rfl) ?_
  intro p ev s m args below meth c0 ls X hr hk hex hS w hl
  have X : Cx b_Law_cached 6 R_Law D ac p m args c0 s := X
  have hx := X.1
  have hb := X.2.1
  have hl : lv_has ls 6 [(0, .ref o), (1, .int (nI c)), (2, .int (nI a)), (3, .int 3), (4, .ref ou)] := hl
  refine lv_aload hx hb d_Law_cached_0 (lv_at hl 4 rfl) ?_
  refine lv_iconst (v := 0) hx hb d_Law_cached_2 (by decide) ?_
  refine lv_aload_n hx hb d_Law_cached_3 rfl (lv_at hl 0 rfl) ?_
  refine lv_iload_n hx hb d_Law_cached_4 rfl (lv_at hl 1 rfl) ?_
  refine lv_iload_n hx hb d_Law_cached_5 rfl (lv_at hl 2 rfl) ?_
  refine lv_iload_n hx hb d_Law_cached_6 rfl (lv_at hl 3 rfl) ?_
  refine kcalll (ws0 := [(ou, .inl (ac 1, 1, .inr (.inl (f))))]) w (krunV (ws0 := [(ou, .inl (ac 1, 1, .inr (.inl (f))))]) (wc := cwm ac o ad al CI CL CR M n) (n := 3) (As := [.int (nI c), .int (nI a), .int 3]) (rest := [.int 0, .ref ou]) (C := R_LC) X w (c_LC_cached_3 l D ac o ad al CI CL CR M n _ c a hc ha hy) wk_LC_cached wi_LC wm_Law_34 wx_LC_cached ws_LC_LC_cached (by decide +kernel) rfl rfl ⟨(Nat.le_of_ble_eq_true rfl), (Nat.le_of_ble_eq_true rfl)⟩ ⟨(Nat.le_of_ble_eq_true rfl), (Nat.le_of_ble_eq_true rfl)⟩ (krecv (ws0 := [(ou, .inl (ac 1, 1, .inr (.inl (f))))]) X w 0 rfl rfl) rfl hl.1 rfl (Nat.le_of_ble_eq_true rfl) d_Law_cached_7) (fun r1 u H locs hp w => ?_)
  obtain ⟨rfl, rfl⟩ := hp
  have w : Wo D _ ((ou, .inl (ac 1, 1, .inr (.inl (f)))) :: cwm ac o ad al CI CL CR M n) s.heap _ _ := w
  refine klast X w 0 (f := f) (f' := fun _ => 0) rfl 0 (by decide) (by decide) rfl rfl d_Law_cached_10 (fun H locs w => ?_)
  have w : Wo D _ ((ou, .inl (ac 1, 1, .inr (.inl (vp_updL (f) 0 (f_LC_cached_3 CI CL c a))))) :: cwm ac o ad al CI CL CR M n) s.heap _ _ := w
  refine lv_goto (tgt := 22) hx hb d_Law_cached_11 (by decide) ?_
  refine lv_iconst (v := 0) hx hb d_Law_cached_22 (by decide) ?_
  refine W.widen (k := 3) (n := 21) (Nat.le_of_ble_eq_true rfl) (Nat.le_of_ble_eq_true rfl) ?_
  exact kiret X w hr hk ⟨al, (fun _ _ => rfl), (Nat.le_refl _), hok, rfl, rfl⟩ d_Law_cached_23
set_option maxHeartbeats 4000000 in
set_option maxRecDepth 100000 in
theorem h_entry_t_l (l : Launch) (hfl : l.flags = pinnedFlags ++ [noTraceFlag]) (D : va_G) (ac : Nat → ClassId) (o : Nat) (ad : Nat → Nat) (al : Nat → Nat) (CI : Nat → Nat → Int32) (CL : Nat → Nat → Int64) (CR : Nat → Nat → Option Nat) (M : Nat → Msg) (n : Nat) (ou : Nat) (f : Nat → Int64) (sz : Nat) (x : Int32) (wh : Int32) (hbad : ¬ (0 ≤ x ∧ x < 12)) (hok : CRok CR n) : Met l y_Law_entry [Cond.codeWith y_Law_entry b_Law_entry 5 (some .int) [(0, 9, 12, 13), (0, 9, 16, 21)]] { frames := 10, cells := 3, slots := 21, locals := 300 } (va_Pc [.ref o, .int x, .int wh, .ref ou] (CPreT D ac ((ou, .inl (ac 1, 1, .inr (.inl f))) :: cwm ac o ad al CI CL CR M n) sz)) (va_Qi (fun r u => ∃ a9 : Nat → Nat, (∀ i, i < n → a9 i = al i) ∧ n ≤ n ∧ CRok CR n ∧ r = 1 ∧ u = (ou, .inl (ac 1, 1, .inr (.inl (f)))) :: cwm ac o ad a9 CI CL CR M n) (CPost D ((ou, .inl (ac 1, 1, .inr (.inl f))) :: cwm ac o ad al CI CL CR M n) sz) (va_A ((ou, .inl (ac 1, 1, .inr (.inl f))) :: cwm ac o ad al CI CL CR M n) sz)) 3 21 (va_A ((ou, .inl (ac 1, 1, .inr (.inl f))) :: cwm ac o ad al CI CL CR M n) sz) := by
  refine kofH (by decide) (Nat.le_of_ble_eq_true rfl) ?_
  intro p ev s m args below meth c0 ls X hr hk hex hS w hl
  have X : Cx b_Law_entry 5 R_Law D ac p m args c0 s := X
  have hx := X.1
  have hb := X.2.1
  have hl : lv_has ls 5 [(0, .ref o), (1, .int x), (2, .int wh), (3, .ref ou)] := hl
  refine lv_aload_n hx hb d_Law_entry_0 rfl (lv_at hl 3 rfl) ?_
  refine lv_iconst (v := 0) hx hb d_Law_entry_1 (by decide) ?_
  refine lv_aload_n hx hb d_Law_entry_2 rfl (lv_at hl 0 rfl) ?_
  refine lv_iload_n hx hb d_Law_entry_3 rfl (lv_at hl 1 rfl) ?_
  refine lv_iload_n hx hb d_Law_entry_4 rfl (lv_at hl 2 rfl) ?_
  refine kcatch1 X (krunVT (ws0 := [(ou, .inl (ac 1, 1, .inr (.inl (f))))]) (wc := cwm ac o ad al CI CL CR M n) (n := 2) (As := [.int x, .int wh]) (rest := [.int 0, .ref ou]) (C := R_LC) X w (fun U hU hW => by rw [hU]; exact hS.moved hW.alike) (t_LC_entry_l l hfl D ac o ad al CI CL CR M n _ x wh hbad) wk_LC_entry wi_LC wm_Law_38 wx_LC_entry ws_LC_LC_entry (by decide +kernel) rfl rfl ⟨(Nat.le_of_ble_eq_true rfl), (Nat.le_of_ble_eq_true rfl)⟩ ⟨(Nat.le_of_ble_eq_true rfl), (Nat.le_of_ble_eq_true rfl)⟩ (krecv (ws0 := [(ou, .inl (ac 1, 1, .inr (.inl (f))))]) X w 0 rfl rfl) rfl hl.1 rfl (Nat.le_of_ble_eq_true rfl) d_Law_entry_5) hex (by decide) (by decide) wc_Law_13 wv_IAE_IAE (fun x1 H1 hold => ?_)
  have w := wo_old w hold
  refine lv_astore (lv' := [(4, .ref x1), (0, .ref o), (1, .int x), (2, .int wh), (3, .ref ou)]) hx hb d_Law_entry_12 hl (by decide) rfl (fun ls hl => ?_)
  refine lv_iconst (v := 1) hx hb d_Law_entry_14 (by decide) ?_
  refine W.widen (k := 3) (n := 21) (Nat.le_of_ble_eq_true rfl) (Nat.le_of_ble_eq_true rfl) ?_
  exact kiret X w hr hk ⟨al, (fun _ _ => rfl), (Nat.le_refl _), hok, rfl, rfl⟩ d_Law_entry_15
set_option maxHeartbeats 4000000 in
set_option maxRecDepth 100000 in
theorem h_entry_t_w (l : Launch) (hfl : l.flags = pinnedFlags ++ [noTraceFlag]) (D : va_G) (ac : Nat → ClassId) (o : Nat) (ad : Nat → Nat) (al : Nat → Nat) (CI : Nat → Nat → Int32) (CL : Nat → Nat → Int64) (CR : Nat → Nat → Option Nat) (M : Nat → Msg) (n : Nat) (ou : Nat) (f : Nat → Int64) (sz : Nat) (a : Nat) (x : Int32) (ha : a < 12) (hbad : ¬ (0 ≤ x ∧ x ≤ 5)) (hok : CRok CR n) : Met l y_Law_entry [Cond.codeWith y_Law_entry b_Law_entry 5 (some .int) [(0, 9, 12, 13), (0, 9, 16, 21)]] { frames := 10, cells := 3, slots := 21, locals := 300 } (va_Pc [.ref o, .int (nI a), .int x, .ref ou] (CPreT D ac ((ou, .inl (ac 1, 1, .inr (.inl f))) :: cwm ac o ad al CI CL CR M n) sz)) (va_Qi (fun r u => ∃ a9 : Nat → Nat, (∀ i, i < n → a9 i = al i) ∧ n ≤ n ∧ CRok CR n ∧ r = 1 ∧ u = (ou, .inl (ac 1, 1, .inr (.inl (f)))) :: cwm ac o ad a9 CI CL CR M n) (CPost D ((ou, .inl (ac 1, 1, .inr (.inl f))) :: cwm ac o ad al CI CL CR M n) sz) (va_A ((ou, .inl (ac 1, 1, .inr (.inl f))) :: cwm ac o ad al CI CL CR M n) sz)) 3 21 (va_A ((ou, .inl (ac 1, 1, .inr (.inl f))) :: cwm ac o ad al CI CL CR M n) sz) := by
  refine kofH (by decide) (Nat.le_of_ble_eq_true rfl) ?_
  intro p ev s m args below meth c0 ls X hr hk hex hS w hl
  have X : Cx b_Law_entry 5 R_Law D ac p m args c0 s := X
  have hx := X.1
  have hb := X.2.1
  have hl : lv_has ls 5 [(0, .ref o), (1, .int (nI a)), (2, .int x), (3, .ref ou)] := hl
  refine lv_aload_n hx hb d_Law_entry_0 rfl (lv_at hl 3 rfl) ?_
  refine lv_iconst (v := 0) hx hb d_Law_entry_1 (by decide) ?_
  refine lv_aload_n hx hb d_Law_entry_2 rfl (lv_at hl 0 rfl) ?_
  refine lv_iload_n hx hb d_Law_entry_3 rfl (lv_at hl 1 rfl) ?_
  refine lv_iload_n hx hb d_Law_entry_4 rfl (lv_at hl 2 rfl) ?_
  refine kcatch1 X (krunVT (ws0 := [(ou, .inl (ac 1, 1, .inr (.inl (f))))]) (wc := cwm ac o ad al CI CL CR M n) (n := 2) (As := [.int (nI a), .int x]) (rest := [.int 0, .ref ou]) (C := R_LC) X w (fun U hU hW => by rw [hU]; exact hS.moved hW.alike) (t_LC_entry_w l hfl D ac o ad al CI CL CR M n _ a x ha hbad) wk_LC_entry wi_LC wm_Law_38 wx_LC_entry ws_LC_LC_entry (by decide +kernel) rfl rfl ⟨(Nat.le_of_ble_eq_true rfl), (Nat.le_of_ble_eq_true rfl)⟩ ⟨(Nat.le_of_ble_eq_true rfl), (Nat.le_of_ble_eq_true rfl)⟩ (krecv (ws0 := [(ou, .inl (ac 1, 1, .inr (.inl (f))))]) X w 0 rfl rfl) rfl hl.1 rfl (Nat.le_of_ble_eq_true rfl) d_Law_entry_5) hex (by decide) (by decide) wc_Law_13 wv_IAE_IAE (fun x1 H1 hold => ?_)
  have w := wo_old w hold
  refine lv_astore (lv' := [(4, .ref x1), (0, .ref o), (1, .int (nI a)), (2, .int x), (3, .ref ou)]) hx hb d_Law_entry_12 hl (by decide) rfl (fun ls hl => ?_)
  refine lv_iconst (v := 1) hx hb d_Law_entry_14 (by decide) ?_
  refine W.widen (k := 3) (n := 21) (Nat.le_of_ble_eq_true rfl) (Nat.le_of_ble_eq_true rfl) ?_
  exact kiret X w hr hk ⟨al, (fun _ _ => rfl), (Nat.le_refl _), hok, rfl, rfl⟩ d_Law_entry_15
set_option maxHeartbeats 4000000 in
set_option maxRecDepth 100000 in
theorem h_entry_t_n (l : Launch) (hfl : l.flags = pinnedFlags ++ [noTraceFlag]) (D : va_G) (ac : Nat → ClassId) (o : Nat) (ad : Nat → Nat) (al : Nat → Nat) (CI : Nat → Nat → Int32) (CL : Nat → Nat → Int64) (CR : Nat → Nat → Option Nat) (M : Nat → Msg) (n : Nat) (ou : Nat) (f : Nat → Int64) (sz : Nat) (a : Nat) (wh : Nat) (ha : a < 12) (hwh : wh < 6) (hno : f_LC_entryOf CI (nI a) = none) (hok : CRok CR n) : Met l y_Law_entry [Cond.codeWith y_Law_entry b_Law_entry 5 (some .int) [(0, 9, 12, 13), (0, 9, 16, 21)]] { frames := 10, cells := 3, slots := 21, locals := 300 } (va_Pc [.ref o, .int (nI a), .int (nI wh), .ref ou] (CPreT D ac ((ou, .inl (ac 1, 1, .inr (.inl f))) :: cwm ac o ad al CI CL CR M n) sz)) (va_Qi (fun r u => ∃ a9 : Nat → Nat, (∀ i, i < n → a9 i = al i) ∧ n ≤ n ∧ CRok CR n ∧ r = 2 ∧ u = (ou, .inl (ac 1, 1, .inr (.inl (f)))) :: cwm ac o ad a9 CI CL CR M n) (CPost D ((ou, .inl (ac 1, 1, .inr (.inl f))) :: cwm ac o ad al CI CL CR M n) sz) (va_A ((ou, .inl (ac 1, 1, .inr (.inl f))) :: cwm ac o ad al CI CL CR M n) sz)) 3 21 (va_A ((ou, .inl (ac 1, 1, .inr (.inl f))) :: cwm ac o ad al CI CL CR M n) sz) := by
  refine kofH (by decide) (Nat.le_of_ble_eq_true rfl) ?_
  intro p ev s m args below meth c0 ls X hr hk hex hS w hl
  have X : Cx b_Law_entry 5 R_Law D ac p m args c0 s := X
  have hx := X.1
  have hb := X.2.1
  have hl : lv_has ls 5 [(0, .ref o), (1, .int (nI a)), (2, .int (nI wh)), (3, .ref ou)] := hl
  refine lv_aload_n hx hb d_Law_entry_0 rfl (lv_at hl 3 rfl) ?_
  refine lv_iconst (v := 0) hx hb d_Law_entry_1 (by decide) ?_
  refine lv_aload_n hx hb d_Law_entry_2 rfl (lv_at hl 0 rfl) ?_
  refine lv_iload_n hx hb d_Law_entry_3 rfl (lv_at hl 1 rfl) ?_
  refine lv_iload_n hx hb d_Law_entry_4 rfl (lv_at hl 2 rfl) ?_
  refine kcatch2 X (krunVT (ws0 := [(ou, .inl (ac 1, 1, .inr (.inl (f))))]) (wc := cwm ac o ad al CI CL CR M n) (n := 2) (As := [.int (nI a), .int (nI wh)]) (rest := [.int 0, .ref ou]) (C := R_LC) X w (fun U hU hW => by rw [hU]; exact hS.moved hW.alike) (t_LC_entry_n l hfl D ac o ad al CI CL CR M n _ a wh ha hwh hno) wk_LC_entry wi_LC wm_Law_38 wx_LC_entry ws_LC_LC_entry (by decide +kernel) rfl rfl ⟨(Nat.le_of_ble_eq_true rfl), (Nat.le_of_ble_eq_true rfl)⟩ ⟨(Nat.le_of_ble_eq_true rfl), (Nat.le_of_ble_eq_true rfl)⟩ (krecv (ws0 := [(ou, .inl (ac 1, 1, .inr (.inl (f))))]) X w 0 rfl rfl) rfl hl.1 rfl (Nat.le_of_ble_eq_true rfl) d_Law_entry_5) hex (by decide) (by decide) (by decide) (by decide) wc_Law_13 (by decide) wc_Law_21 wv_NSE_NSE (fun x1 H1 hold => ?_)
  have w := wo_old w hold
  refine lv_astore (lv' := [(4, .ref x1), (0, .ref o), (1, .int (nI a)), (2, .int (nI wh)), (3, .ref ou)]) hx hb d_Law_entry_16 hl (by decide) rfl (fun ls hl => ?_)
  refine lv_iconst (v := 2) hx hb d_Law_entry_18 (by decide) ?_
  refine W.widen (k := 3) (n := 21) (Nat.le_of_ble_eq_true rfl) (Nat.le_of_ble_eq_true rfl) ?_
  exact kiret X w hr hk ⟨al, (fun _ _ => rfl), (Nat.le_refl _), hok, rfl, rfl⟩ d_Law_entry_19
set_option maxHeartbeats 4000000 in
set_option maxRecDepth 100000 in
theorem h_entry_c_0 (l : Launch) (D : va_G) (ac : Nat → ClassId) (o : Nat) (ad : Nat → Nat) (al : Nat → Nat) (CI : Nat → Nat → Int32) (CL : Nat → Nat → Int64) (CR : Nat → Nat → Option Nat) (M : Nat → Msg) (n : Nat) (ou : Nat) (f : Nat → Int64) (sz : Nat) (a : Nat) (ha : a < 12) (hy : f_LC_entryOf CI (nI a) ≠ none) (ho : ∀ e c, CR 0 e = some c → c < 3) (hok : CRok CR n) : Met l y_Law_entry [Cond.codeWith y_Law_entry b_Law_entry 5 (some .int) [(0, 9, 12, 13), (0, 9, 16, 21)]] { frames := 10, cells := 3, slots := 21, locals := 300 } (va_Pc [.ref o, .int (nI a), .int 0, .ref ou] (CPreT D ac ((ou, .inl (ac 1, 1, .inr (.inl f))) :: cwm ac o ad al CI CL CR M n) sz)) (va_Qi (fun r u => ∃ a9 : Nat → Nat, (∀ i, i < n → a9 i = al i) ∧ n ≤ n ∧ CRok CR n ∧ r = 0 ∧ u = (ou, .inl (ac 1, 1, .inr (.inl ((vp_updL (f) 0 (f_LC_entry_0 CI CL CR a)))))) :: cwm ac o ad a9 CI CL CR M n) (CPost D ((ou, .inl (ac 1, 1, .inr (.inl f))) :: cwm ac o ad al CI CL CR M n) sz) (va_A ((ou, .inl (ac 1, 1, .inr (.inl f))) :: cwm ac o ad al CI CL CR M n) sz)) 3 21 (va_A ((ou, .inl (ac 1, 1, .inr (.inl f))) :: cwm ac o ad al CI CL CR M n) sz) := by
  refine kofH (by decide) (Nat.le_of_ble_eq_true rfl) ?_
  intro p ev s m args below meth c0 ls X hr hk hex hS w hl
  have X : Cx b_Law_entry 5 R_Law D ac p m args c0 s := X
  have hx := X.1
  have hb := X.2.1
  have hl : lv_has ls 5 [(0, .ref o), (1, .int (nI a)), (2, .int 0), (3, .ref ou)] := hl
  refine lv_aload_n hx hb d_Law_entry_0 rfl (lv_at hl 3 rfl) ?_
  refine lv_iconst (v := 0) hx hb d_Law_entry_1 (by decide) ?_
  refine lv_aload_n hx hb d_Law_entry_2 rfl (lv_at hl 0 rfl) ?_
  refine lv_iload_n hx hb d_Law_entry_3 rfl (lv_at hl 1 rfl) ?_
  refine lv_iload_n hx hb d_Law_entry_4 rfl (lv_at hl 2 rfl) ?_
  refine kcalll (ws0 := [(ou, .inl (ac 1, 1, .inr (.inl (f))))]) w (krunV (ws0 := [(ou, .inl (ac 1, 1, .inr (.inl (f))))]) (wc := cwm ac o ad al CI CL CR M n) (n := 2) (As := [.int (nI a), .int 0]) (rest := [.int 0, .ref ou]) (C := R_LC) X w (c_LC_entry_0 l D ac o ad al CI CL CR M n _ a ha hy ho) wk_LC_entry wi_LC wm_Law_38 wx_LC_entry ws_LC_LC_entry (by decide +kernel) rfl rfl ⟨(Nat.le_of_ble_eq_true rfl), (Nat.le_of_ble_eq_true rfl)⟩ ⟨(Nat.le_of_ble_eq_true rfl), (Nat.le_of_ble_eq_true rfl)⟩ (krecv (ws0 := [(ou, .inl (ac 1, 1, .inr (.inl (f))))]) X w 0 rfl rfl) rfl hl.1 rfl (Nat.le_of_ble_eq_true rfl) d_Law_entry_5) (fun r1 u H locs hp w => ?_)
  obtain ⟨rfl, rfl⟩ := hp
  have w : Wo D _ ((ou, .inl (ac 1, 1, .inr (.inl (f)))) :: cwm ac o ad al CI CL CR M n) s.heap _ _ := w
  refine klast X w 0 (f := f) (f' := fun _ => 0) rfl 0 (by decide) (by decide) rfl rfl d_Law_entry_8 (fun H locs w => ?_)
  have w : Wo D _ ((ou, .inl (ac 1, 1, .inr (.inl (vp_updL (f) 0 (f_LC_entry_0 CI CL CR a))))) :: cwm ac o ad al CI CL CR M n) s.heap _ _ := w
  refine lv_goto (tgt := 20) hx hb d_Law_entry_9 (by decide) ?_
  refine lv_iconst (v := 0) hx hb d_Law_entry_20 (by decide) ?_
  refine W.widen (k := 3) (n := 21) (Nat.le_of_ble_eq_true rfl) (Nat.le_of_ble_eq_true rfl) ?_
  exact kiret X w hr hk ⟨al, (fun _ _ => rfl), (Nat.le_refl _), hok, rfl, rfl⟩ d_Law_entry_21
set_option maxHeartbeats 4000000 in
set_option maxRecDepth 100000 in
theorem h_entry_c_1 (l : Launch) (D : va_G) (ac : Nat → ClassId) (o : Nat) (ad : Nat → Nat) (al : Nat → Nat) (CI : Nat → Nat → Int32) (CL : Nat → Nat → Int64) (CR : Nat → Nat → Option Nat) (M : Nat → Msg) (n : Nat) (ou : Nat) (f : Nat → Int64) (sz : Nat) (a : Nat) (ha : a < 12) (hy : f_LC_entryOf CI (nI a) ≠ none) (ho : ∀ e c, CR 0 e = some c → c < 3) (hok : CRok CR n) : Met l y_Law_entry [Cond.codeWith y_Law_entry b_Law_entry 5 (some .int) [(0, 9, 12, 13), (0, 9, 16, 21)]] { frames := 10, cells := 3, slots := 21, locals := 300 } (va_Pc [.ref o, .int (nI a), .int 1, .ref ou] (CPreT D ac ((ou, .inl (ac 1, 1, .inr (.inl f))) :: cwm ac o ad al CI CL CR M n) sz)) (va_Qi (fun r u => ∃ a9 : Nat → Nat, (∀ i, i < n → a9 i = al i) ∧ n ≤ n ∧ CRok CR n ∧ r = 0 ∧ u = (ou, .inl (ac 1, 1, .inr (.inl ((vp_updL (f) 0 (f_LC_entry_1 CI CL CR a)))))) :: cwm ac o ad a9 CI CL CR M n) (CPost D ((ou, .inl (ac 1, 1, .inr (.inl f))) :: cwm ac o ad al CI CL CR M n) sz) (va_A ((ou, .inl (ac 1, 1, .inr (.inl f))) :: cwm ac o ad al CI CL CR M n) sz)) 3 21 (va_A ((ou, .inl (ac 1, 1, .inr (.inl f))) :: cwm ac o ad al CI CL CR M n) sz) := by
  refine kofH (by decide) (Nat.le_of_ble_eq_true rfl) ?_
  intro p ev s m args below meth c0 ls X hr hk hex hS w hl
  have X : Cx b_Law_entry 5 R_Law D ac p m args c0 s := X
  have hx := X.1
  have hb := X.2.1
  have hl : lv_has ls 5 [(0, .ref o), (1, .int (nI a)), (2, .int 1), (3, .ref ou)] := hl
  refine lv_aload_n hx hb d_Law_entry_0 rfl (lv_at hl 3 rfl) ?_
  refine lv_iconst (v := 0) hx hb d_Law_entry_1 (by decide) ?_
  refine lv_aload_n hx hb d_Law_entry_2 rfl (lv_at hl 0 rfl) ?_
  refine lv_iload_n hx hb d_Law_entry_3 rfl (lv_at hl 1 rfl) ?_
  refine lv_iload_n hx hb d_Law_entry_4 rfl (lv_at hl 2 rfl) ?_
  refine kcalll (ws0 := [(ou, .inl (ac 1, 1, .inr (.inl (f))))]) w (krunV (ws0 := [(ou, .inl (ac 1, 1, .inr (.inl (f))))]) (wc := cwm ac o ad al CI CL CR M n) (n := 2) (As := [.int (nI a), .int 1]) (rest := [.int 0, .ref ou]) (C := R_LC) X w (c_LC_entry_1 l D ac o ad al CI CL CR M n _ a ha hy ho) wk_LC_entry wi_LC wm_Law_38 wx_LC_entry ws_LC_LC_entry (by decide +kernel) rfl rfl ⟨(Nat.le_of_ble_eq_true rfl), (Nat.le_of_ble_eq_true rfl)⟩ ⟨(Nat.le_of_ble_eq_true rfl), (Nat.le_of_ble_eq_true rfl)⟩ (krecv (ws0 := [(ou, .inl (ac 1, 1, .inr (.inl (f))))]) X w 0 rfl rfl) rfl hl.1 rfl (Nat.le_of_ble_eq_true rfl) d_Law_entry_5) (fun r1 u H locs hp w => ?_)
  obtain ⟨rfl, rfl⟩ := hp
  have w : Wo D _ ((ou, .inl (ac 1, 1, .inr (.inl (f)))) :: cwm ac o ad al CI CL CR M n) s.heap _ _ := w
  refine klast X w 0 (f := f) (f' := fun _ => 0) rfl 0 (by decide) (by decide) rfl rfl d_Law_entry_8 (fun H locs w => ?_)
  have w : Wo D _ ((ou, .inl (ac 1, 1, .inr (.inl (vp_updL (f) 0 (f_LC_entry_1 CI CL CR a))))) :: cwm ac o ad al CI CL CR M n) s.heap _ _ := w
  refine lv_goto (tgt := 20) hx hb d_Law_entry_9 (by decide) ?_
  refine lv_iconst (v := 0) hx hb d_Law_entry_20 (by decide) ?_
  refine W.widen (k := 3) (n := 21) (Nat.le_of_ble_eq_true rfl) (Nat.le_of_ble_eq_true rfl) ?_
  exact kiret X w hr hk ⟨al, (fun _ _ => rfl), (Nat.le_refl _), hok, rfl, rfl⟩ d_Law_entry_21
set_option maxHeartbeats 4000000 in
set_option maxRecDepth 100000 in
theorem h_entry_c_2 (l : Launch) (D : va_G) (ac : Nat → ClassId) (o : Nat) (ad : Nat → Nat) (al : Nat → Nat) (CI : Nat → Nat → Int32) (CL : Nat → Nat → Int64) (CR : Nat → Nat → Option Nat) (M : Nat → Msg) (n : Nat) (ou : Nat) (f : Nat → Int64) (sz : Nat) (a : Nat) (ha : a < 12) (hy : f_LC_entryOf CI (nI a) ≠ none) (ho : ∀ e c, CR 0 e = some c → c < 3) (hok : CRok CR n) : Met l y_Law_entry [Cond.codeWith y_Law_entry b_Law_entry 5 (some .int) [(0, 9, 12, 13), (0, 9, 16, 21)]] { frames := 10, cells := 3, slots := 21, locals := 300 } (va_Pc [.ref o, .int (nI a), .int 2, .ref ou] (CPreT D ac ((ou, .inl (ac 1, 1, .inr (.inl f))) :: cwm ac o ad al CI CL CR M n) sz)) (va_Qi (fun r u => ∃ a9 : Nat → Nat, (∀ i, i < n → a9 i = al i) ∧ n ≤ n ∧ CRok CR n ∧ r = 0 ∧ u = (ou, .inl (ac 1, 1, .inr (.inl ((vp_updL (f) 0 (f_LC_entry_2 CI CL CR a)))))) :: cwm ac o ad a9 CI CL CR M n) (CPost D ((ou, .inl (ac 1, 1, .inr (.inl f))) :: cwm ac o ad al CI CL CR M n) sz) (va_A ((ou, .inl (ac 1, 1, .inr (.inl f))) :: cwm ac o ad al CI CL CR M n) sz)) 3 21 (va_A ((ou, .inl (ac 1, 1, .inr (.inl f))) :: cwm ac o ad al CI CL CR M n) sz) := by
  refine kofH (by decide) (Nat.le_of_ble_eq_true rfl) ?_
  intro p ev s m args below meth c0 ls X hr hk hex hS w hl
  have X : Cx b_Law_entry 5 R_Law D ac p m args c0 s := X
  have hx := X.1
  have hb := X.2.1
  have hl : lv_has ls 5 [(0, .ref o), (1, .int (nI a)), (2, .int 2), (3, .ref ou)] := hl
  refine lv_aload_n hx hb d_Law_entry_0 rfl (lv_at hl 3 rfl) ?_
  refine lv_iconst (v := 0) hx hb d_Law_entry_1 (by decide) ?_
  refine lv_aload_n hx hb d_Law_entry_2 rfl (lv_at hl 0 rfl) ?_
  refine lv_iload_n hx hb d_Law_entry_3 rfl (lv_at hl 1 rfl) ?_
  refine lv_iload_n hx hb d_Law_entry_4 rfl (lv_at hl 2 rfl) ?_
  refine kcalll (ws0 := [(ou, .inl (ac 1, 1, .inr (.inl (f))))]) w (krunV (ws0 := [(ou, .inl (ac 1, 1, .inr (.inl (f))))]) (wc := cwm ac o ad al CI CL CR M n) (n := 2) (As := [.int (nI a), .int 2]) (rest := [.int 0, .ref ou]) (C := R_LC) X w (c_LC_entry_2 l D ac o ad al CI CL CR M n _ a ha hy ho) wk_LC_entry wi_LC wm_Law_38 wx_LC_entry ws_LC_LC_entry (by decide +kernel) rfl rfl ⟨(Nat.le_of_ble_eq_true rfl), (Nat.le_of_ble_eq_true rfl)⟩ ⟨(Nat.le_of_ble_eq_true rfl), (Nat.le_of_ble_eq_true rfl)⟩ (krecv (ws0 := [(ou, .inl (ac 1, 1, .inr (.inl (f))))]) X w 0 rfl rfl) rfl hl.1 rfl (Nat.le_of_ble_eq_true rfl) d_Law_entry_5) (fun r1 u H locs hp w => ?_)
  obtain ⟨rfl, rfl⟩ := hp
  have w : Wo D _ ((ou, .inl (ac 1, 1, .inr (.inl (f)))) :: cwm ac o ad al CI CL CR M n) s.heap _ _ := w
  refine klast X w 0 (f := f) (f' := fun _ => 0) rfl 0 (by decide) (by decide) rfl rfl d_Law_entry_8 (fun H locs w => ?_)
  have w : Wo D _ ((ou, .inl (ac 1, 1, .inr (.inl (vp_updL (f) 0 (f_LC_entry_2 CI CL CR a))))) :: cwm ac o ad al CI CL CR M n) s.heap _ _ := w
  refine lv_goto (tgt := 20) hx hb d_Law_entry_9 (by decide) ?_
  refine lv_iconst (v := 0) hx hb d_Law_entry_20 (by decide) ?_
  refine W.widen (k := 3) (n := 21) (Nat.le_of_ble_eq_true rfl) (Nat.le_of_ble_eq_true rfl) ?_
  exact kiret X w hr hk ⟨al, (fun _ _ => rfl), (Nat.le_refl _), hok, rfl, rfl⟩ d_Law_entry_21
set_option maxHeartbeats 4000000 in
set_option maxRecDepth 100000 in
theorem h_entry_c_3 (l : Launch) (D : va_G) (ac : Nat → ClassId) (o : Nat) (ad : Nat → Nat) (al : Nat → Nat) (CI : Nat → Nat → Int32) (CL : Nat → Nat → Int64) (CR : Nat → Nat → Option Nat) (M : Nat → Msg) (n : Nat) (ou : Nat) (f : Nat → Int64) (sz : Nat) (a : Nat) (ha : a < 12) (hy : f_LC_entryOf CI (nI a) ≠ none) (ho : ∀ e c, CR 0 e = some c → c < 3) (hok : CRok CR n) : Met l y_Law_entry [Cond.codeWith y_Law_entry b_Law_entry 5 (some .int) [(0, 9, 12, 13), (0, 9, 16, 21)]] { frames := 10, cells := 3, slots := 21, locals := 300 } (va_Pc [.ref o, .int (nI a), .int 3, .ref ou] (CPreT D ac ((ou, .inl (ac 1, 1, .inr (.inl f))) :: cwm ac o ad al CI CL CR M n) sz)) (va_Qi (fun r u => ∃ a9 : Nat → Nat, (∀ i, i < n → a9 i = al i) ∧ n ≤ n ∧ CRok CR n ∧ r = 0 ∧ u = (ou, .inl (ac 1, 1, .inr (.inl ((vp_updL (f) 0 (f_LC_entry_3 CI CL CR a)))))) :: cwm ac o ad a9 CI CL CR M n) (CPost D ((ou, .inl (ac 1, 1, .inr (.inl f))) :: cwm ac o ad al CI CL CR M n) sz) (va_A ((ou, .inl (ac 1, 1, .inr (.inl f))) :: cwm ac o ad al CI CL CR M n) sz)) 3 21 (va_A ((ou, .inl (ac 1, 1, .inr (.inl f))) :: cwm ac o ad al CI CL CR M n) sz) := by
  refine kofH (by decide) (Nat.le_of_ble_eq_true rfl) ?_
  intro p ev s m args below meth c0 ls X hr hk hex hS w hl
  have X : Cx b_Law_entry 5 R_Law D ac p m args c0 s := X
  have hx := X.1
  have hb := X.2.1
  have hl : lv_has ls 5 [(0, .ref o), (1, .int (nI a)), (2, .int 3), (3, .ref ou)] := hl
  refine lv_aload_n hx hb d_Law_entry_0 rfl (lv_at hl 3 rfl) ?_
  refine lv_iconst (v := 0) hx hb d_Law_entry_1 (by decide) ?_
  refine lv_aload_n hx hb d_Law_entry_2 rfl (lv_at hl 0 rfl) ?_
  refine lv_iload_n hx hb d_Law_entry_3 rfl (lv_at hl 1 rfl) ?_
  refine lv_iload_n hx hb d_Law_entry_4 rfl (lv_at hl 2 rfl) ?_
  refine kcalll (ws0 := [(ou, .inl (ac 1, 1, .inr (.inl (f))))]) w (krunV (ws0 := [(ou, .inl (ac 1, 1, .inr (.inl (f))))]) (wc := cwm ac o ad al CI CL CR M n) (n := 2) (As := [.int (nI a), .int 3]) (rest := [.int 0, .ref ou]) (C := R_LC) X w (c_LC_entry_3 l D ac o ad al CI CL CR M n _ a ha hy ho) wk_LC_entry wi_LC wm_Law_38 wx_LC_entry ws_LC_LC_entry (by decide +kernel) rfl rfl ⟨(Nat.le_of_ble_eq_true rfl), (Nat.le_of_ble_eq_true rfl)⟩ ⟨(Nat.le_of_ble_eq_true rfl), (Nat.le_of_ble_eq_true rfl)⟩ (krecv (ws0 := [(ou, .inl (ac 1, 1, .inr (.inl (f))))]) X w 0 rfl rfl) rfl hl.1 rfl (Nat.le_of_ble_eq_true rfl) d_Law_entry_5) (fun r1 u H locs hp w => ?_)
  obtain ⟨rfl, rfl⟩ := hp
  have w : Wo D _ ((ou, .inl (ac 1, 1, .inr (.inl (f)))) :: cwm ac o ad al CI CL CR M n) s.heap _ _ := w
  refine klast X w 0 (f := f) (f' := fun _ => 0) rfl 0 (by decide) (by decide) rfl rfl d_Law_entry_8 (fun H locs w => ?_)
  have w : Wo D _ ((ou, .inl (ac 1, 1, .inr (.inl (vp_updL (f) 0 (f_LC_entry_3 CI CL CR a))))) :: cwm ac o ad al CI CL CR M n) s.heap _ _ := w
  refine lv_goto (tgt := 20) hx hb d_Law_entry_9 (by decide) ?_
  refine lv_iconst (v := 0) hx hb d_Law_entry_20 (by decide) ?_
  refine W.widen (k := 3) (n := 21) (Nat.le_of_ble_eq_true rfl) (Nat.le_of_ble_eq_true rfl) ?_
  exact kiret X w hr hk ⟨al, (fun _ _ => rfl), (Nat.le_refl _), hok, rfl, rfl⟩ d_Law_entry_21
set_option maxHeartbeats 4000000 in
set_option maxRecDepth 100000 in
theorem h_entry_c_4 (l : Launch) (D : va_G) (ac : Nat → ClassId) (o : Nat) (ad : Nat → Nat) (al : Nat → Nat) (CI : Nat → Nat → Int32) (CL : Nat → Nat → Int64) (CR : Nat → Nat → Option Nat) (M : Nat → Msg) (n : Nat) (ou : Nat) (f : Nat → Int64) (sz : Nat) (a : Nat) (ha : a < 12) (hy : f_LC_entryOf CI (nI a) ≠ none) (ho : ∀ e c, CR 0 e = some c → c < 3) (hok : CRok CR n) : Met l y_Law_entry [Cond.codeWith y_Law_entry b_Law_entry 5 (some .int) [(0, 9, 12, 13), (0, 9, 16, 21)]] { frames := 10, cells := 3, slots := 21, locals := 300 } (va_Pc [.ref o, .int (nI a), .int 4, .ref ou] (CPreT D ac ((ou, .inl (ac 1, 1, .inr (.inl f))) :: cwm ac o ad al CI CL CR M n) sz)) (va_Qi (fun r u => ∃ a9 : Nat → Nat, (∀ i, i < n → a9 i = al i) ∧ n ≤ n ∧ CRok CR n ∧ r = 0 ∧ u = (ou, .inl (ac 1, 1, .inr (.inl ((vp_updL (f) 0 (f_LC_entry_4 CI CL CR a)))))) :: cwm ac o ad a9 CI CL CR M n) (CPost D ((ou, .inl (ac 1, 1, .inr (.inl f))) :: cwm ac o ad al CI CL CR M n) sz) (va_A ((ou, .inl (ac 1, 1, .inr (.inl f))) :: cwm ac o ad al CI CL CR M n) sz)) 3 21 (va_A ((ou, .inl (ac 1, 1, .inr (.inl f))) :: cwm ac o ad al CI CL CR M n) sz) := by
  refine kofH (by decide) (Nat.le_of_ble_eq_true rfl) ?_
  intro p ev s m args below meth c0 ls X hr hk hex hS w hl
  have X : Cx b_Law_entry 5 R_Law D ac p m args c0 s := X
  have hx := X.1
  have hb := X.2.1
  have hl : lv_has ls 5 [(0, .ref o), (1, .int (nI a)), (2, .int 4), (3, .ref ou)] := hl
  refine lv_aload_n hx hb d_Law_entry_0 rfl (lv_at hl 3 rfl) ?_
  refine lv_iconst (v := 0) hx hb d_Law_entry_1 (by decide) ?_
  refine lv_aload_n hx hb d_Law_entry_2 rfl (lv_at hl 0 rfl) ?_
  refine lv_iload_n hx hb d_Law_entry_3 rfl (lv_at hl 1 rfl) ?_
  refine lv_iload_n hx hb d_Law_entry_4 rfl (lv_at hl 2 rfl) ?_
  refine kcalll (ws0 := [(ou, .inl (ac 1, 1, .inr (.inl (f))))]) w (krunV (ws0 := [(ou, .inl (ac 1, 1, .inr (.inl (f))))]) (wc := cwm ac o ad al CI CL CR M n) (n := 2) (As := [.int (nI a), .int 4]) (rest := [.int 0, .ref ou]) (C := R_LC) X w (c_LC_entry_4 l D ac o ad al CI CL CR M n _ a ha hy ho) wk_LC_entry wi_LC wm_Law_38 wx_LC_entry ws_LC_LC_entry (by decide +kernel) rfl rfl ⟨(Nat.le_of_ble_eq_true rfl), (Nat.le_of_ble_eq_true rfl)⟩ ⟨(Nat.le_of_ble_eq_true rfl), (Nat.le_of_ble_eq_true rfl)⟩ (krecv (ws0 := [(ou, .inl (ac 1, 1, .inr (.inl (f))))]) X w 0 rfl rfl) rfl hl.1 rfl (Nat.le_of_ble_eq_true rfl) d_Law_entry_5) (fun r1 u H locs hp w => ?_)
  obtain ⟨rfl, rfl⟩ := hp
  have w : Wo D _ ((ou, .inl (ac 1, 1, .inr (.inl (f)))) :: cwm ac o ad al CI CL CR M n) s.heap _ _ := w
  refine klast X w 0 (f := f) (f' := fun _ => 0) rfl 0 (by decide) (by decide) rfl rfl d_Law_entry_8 (fun H locs w => ?_)
  have w : Wo D _ ((ou, .inl (ac 1, 1, .inr (.inl (vp_updL (f) 0 (f_LC_entry_4 CI CL CR a))))) :: cwm ac o ad al CI CL CR M n) s.heap _ _ := w
  refine lv_goto (tgt := 20) hx hb d_Law_entry_9 (by decide) ?_
  refine lv_iconst (v := 0) hx hb d_Law_entry_20 (by decide) ?_
  refine W.widen (k := 3) (n := 21) (Nat.le_of_ble_eq_true rfl) (Nat.le_of_ble_eq_true rfl) ?_
  exact kiret X w hr hk ⟨al, (fun _ _ => rfl), (Nat.le_refl _), hok, rfl, rfl⟩ d_Law_entry_21
set_option maxHeartbeats 4000000 in
set_option maxRecDepth 100000 in
theorem h_entry_c_5 (l : Launch) (D : va_G) (ac : Nat → ClassId) (o : Nat) (ad : Nat → Nat) (al : Nat → Nat) (CI : Nat → Nat → Int32) (CL : Nat → Nat → Int64) (CR : Nat → Nat → Option Nat) (M : Nat → Msg) (n : Nat) (ou : Nat) (f : Nat → Int64) (sz : Nat) (a : Nat) (ha : a < 12) (hy : f_LC_entryOf CI (nI a) ≠ none) (ho : ∀ e c, CR 0 e = some c → c < 3) (hok : CRok CR n) : Met l y_Law_entry [Cond.codeWith y_Law_entry b_Law_entry 5 (some .int) [(0, 9, 12, 13), (0, 9, 16, 21)]] { frames := 10, cells := 3, slots := 21, locals := 300 } (va_Pc [.ref o, .int (nI a), .int 5, .ref ou] (CPreT D ac ((ou, .inl (ac 1, 1, .inr (.inl f))) :: cwm ac o ad al CI CL CR M n) sz)) (va_Qi (fun r u => ∃ a9 : Nat → Nat, (∀ i, i < n → a9 i = al i) ∧ n ≤ n ∧ CRok CR n ∧ r = 0 ∧ u = (ou, .inl (ac 1, 1, .inr (.inl ((vp_updL (f) 0 (f_LC_entry_5 CI CL CR a)))))) :: cwm ac o ad a9 CI CL CR M n) (CPost D ((ou, .inl (ac 1, 1, .inr (.inl f))) :: cwm ac o ad al CI CL CR M n) sz) (va_A ((ou, .inl (ac 1, 1, .inr (.inl f))) :: cwm ac o ad al CI CL CR M n) sz)) 3 21 (va_A ((ou, .inl (ac 1, 1, .inr (.inl f))) :: cwm ac o ad al CI CL CR M n) sz) := by
  refine kofH (by decide) (Nat.le_of_ble_eq_true rfl) ?_
  intro p ev s m args below meth c0 ls X hr hk hex hS w hl
  have X : Cx b_Law_entry 5 R_Law D ac p m args c0 s := X
  have hx := X.1
  have hb := X.2.1
  have hl : lv_has ls 5 [(0, .ref o), (1, .int (nI a)), (2, .int 5), (3, .ref ou)] := hl
  refine lv_aload_n hx hb d_Law_entry_0 rfl (lv_at hl 3 rfl) ?_
  refine lv_iconst (v := 0) hx hb d_Law_entry_1 (by decide) ?_
  refine lv_aload_n hx hb d_Law_entry_2 rfl (lv_at hl 0 rfl) ?_
  refine lv_iload_n hx hb d_Law_entry_3 rfl (lv_at hl 1 rfl) ?_
  refine lv_iload_n hx hb d_Law_entry_4 rfl (lv_at hl 2 rfl) ?_
  refine kcalll (ws0 := [(ou, .inl (ac 1, 1, .inr (.inl (f))))]) w (krunV (ws0 := [(ou, .inl (ac 1, 1, .inr (.inl (f))))]) (wc := cwm ac o ad al CI CL CR M n) (n := 2) (As := [.int (nI a), .int 5]) (rest := [.int 0, .ref ou]) (C := R_LC) X w (c_LC_entry_5 l D ac o ad al CI CL CR M n _ a ha hy ho) wk_LC_entry wi_LC wm_Law_38 wx_LC_entry ws_LC_LC_entry (by decide +kernel) rfl rfl ⟨(Nat.le_of_ble_eq_true rfl), (Nat.le_of_ble_eq_true rfl)⟩ ⟨(Nat.le_of_ble_eq_true rfl), (Nat.le_of_ble_eq_true rfl)⟩ (krecv (ws0 := [(ou, .inl (ac 1, 1, .inr (.inl (f))))]) X w 0 rfl rfl) rfl hl.1 rfl (Nat.le_of_ble_eq_true rfl) d_Law_entry_5) (fun r1 u H locs hp w => ?_)
  obtain ⟨rfl, rfl⟩ := hp
  have w : Wo D _ ((ou, .inl (ac 1, 1, .inr (.inl (f)))) :: cwm ac o ad al CI CL CR M n) s.heap _ _ := w
  refine klast X w 0 (f := f) (f' := fun _ => 0) rfl 0 (by decide) (by decide) rfl rfl d_Law_entry_8 (fun H locs w => ?_)
  have w : Wo D _ ((ou, .inl (ac 1, 1, .inr (.inl (vp_updL (f) 0 (f_LC_entry_5 CI CL CR a))))) :: cwm ac o ad al CI CL CR M n) s.heap _ _ := w
  refine lv_goto (tgt := 20) hx hb d_Law_entry_9 (by decide) ?_
  refine lv_iconst (v := 0) hx hb d_Law_entry_20 (by decide) ?_
  refine W.widen (k := 3) (n := 21) (Nat.le_of_ble_eq_true rfl) (Nat.le_of_ble_eq_true rfl) ?_
  exact kiret X w hr hk ⟨al, (fun _ _ => rfl), (Nat.le_refl _), hok, rfl, rfl⟩ d_Law_entry_21
set_option maxHeartbeats 4000000 in
set_option maxRecDepth 100000 in
theorem h_memory_t (l : Launch) (hfl : l.flags = pinnedFlags ++ [noTraceFlag]) (D : va_G) (ac : Nat → ClassId) (o : Nat) (ad : Nat → Nat) (al : Nat → Nat) (CI : Nat → Nat → Int32) (CL : Nat → Nat → Int64) (CR : Nat → Nat → Option Nat) (M : Nat → Msg) (n : Nat) (ou : Nat) (f : Nat → Int64) (sz : Nat) (x : Int32) (hbad : ¬ (0 ≤ x ∧ x < 12)) (hok : CRok CR n) : Met l y_Law_memory [Cond.codeWith y_Law_memory b_Law_memory 4 (some .int) [(0, 9, 12, 13)]] { frames := 10, cells := 3, slots := 21, locals := 300 } (va_Pc [.ref o, .int x, .ref ou] (CPreT D ac ((ou, .inl (ac 1, 1, .inr (.inl f))) :: cwm ac o ad al CI CL CR M n) sz)) (va_Qi (fun r u => ∃ a9 : Nat → Nat, (∀ i, i < n → a9 i = al i) ∧ n ≤ n ∧ CRok CR n ∧ r = 1 ∧ u = (ou, .inl (ac 1, 1, .inr (.inl (f)))) :: cwm ac o ad a9 CI CL CR M n) (CPost D ((ou, .inl (ac 1, 1, .inr (.inl f))) :: cwm ac o ad al CI CL CR M n) sz) (va_A ((ou, .inl (ac 1, 1, .inr (.inl f))) :: cwm ac o ad al CI CL CR M n) sz)) 3 21 (va_A ((ou, .inl (ac 1, 1, .inr (.inl f))) :: cwm ac o ad al CI CL CR M n) sz) := by
  refine kofH (by decide) (Nat.le_of_ble_eq_true rfl) ?_
  intro p ev s m args below meth c0 ls X hr hk hex hS w hl
  have X : Cx b_Law_memory 4 R_Law D ac p m args c0 s := X
  have hx := X.1
  have hb := X.2.1
  have hl : lv_has ls 4 [(0, .ref o), (1, .int x), (2, .ref ou)] := hl
  refine lv_aload_n hx hb d_Law_memory_0 rfl (lv_at hl 2 rfl) ?_
  refine lv_iconst (v := 0) hx hb d_Law_memory_1 (by decide) ?_
  refine lv_aload_n hx hb d_Law_memory_2 rfl (lv_at hl 0 rfl) ?_
  refine lv_iload_n hx hb d_Law_memory_3 rfl (lv_at hl 1 rfl) ?_
  refine kcatch1 X (krunVT (ws0 := [(ou, .inl (ac 1, 1, .inr (.inl (f))))]) (wc := cwm ac o ad al CI CL CR M n) (n := 1) (As := [.int x]) (rest := [.int 0, .ref ou]) (C := R_LC) X w (fun U hU hW => by rw [hU]; exact hS.moved hW.alike) (t_LC_memory l hfl D ac o ad al CI CL CR M n _ x hbad) wk_LC_memory wi_LC wm_Law_42 wx_LC_memory ws_LC_LC_memory (by decide +kernel) rfl rfl ⟨(Nat.le_of_ble_eq_true rfl), (Nat.le_of_ble_eq_true rfl)⟩ ⟨(Nat.le_of_ble_eq_true rfl), (Nat.le_of_ble_eq_true rfl)⟩ (krecv (ws0 := [(ou, .inl (ac 1, 1, .inr (.inl (f))))]) X w 0 rfl rfl) rfl hl.1 rfl (Nat.le_of_ble_eq_true rfl) d_Law_memory_4) hex (by decide) (by decide) wc_Law_13 wv_IAE_IAE (fun x1 H1 hold => ?_)
  have w := wo_old w hold
  refine lv_astore_n (lv' := [(3, .ref x1), (0, .ref o), (1, .int x), (2, .ref ou)]) hx hb d_Law_memory_12 rfl hl (by decide) rfl (fun ls hl => ?_)
  refine lv_iconst (v := 1) hx hb d_Law_memory_13 (by decide) ?_
  refine W.widen (k := 3) (n := 21) (Nat.le_of_ble_eq_true rfl) (Nat.le_of_ble_eq_true rfl) ?_
  exact kiret X w hr hk ⟨al, (fun _ _ => rfl), (Nat.le_refl _), hok, rfl, rfl⟩ d_Law_memory_14
set_option maxHeartbeats 4000000 in
set_option maxRecDepth 100000 in
theorem h_memory_c (l : Launch) (D : va_G) (ac : Nat → ClassId) (o : Nat) (ad : Nat → Nat) (al : Nat → Nat) (CI : Nat → Nat → Int32) (CL : Nat → Nat → Int64) (CR : Nat → Nat → Option Nat) (M : Nat → Msg) (n : Nat) (ou : Nat) (f : Nat → Int64) (sz : Nat) (a : Nat) (ha : a < 12) (hok : CRok CR n) : Met l y_Law_memory [Cond.codeWith y_Law_memory b_Law_memory 4 (some .int) [(0, 9, 12, 13)]] { frames := 10, cells := 3, slots := 21, locals := 300 } (va_Pc [.ref o, .int (nI a), .ref ou] (CPreT D ac ((ou, .inl (ac 1, 1, .inr (.inl f))) :: cwm ac o ad al CI CL CR M n) sz)) (va_Qi (fun r u => ∃ a9 : Nat → Nat, (∀ i, i < n → a9 i = al i) ∧ n ≤ n ∧ CRok CR n ∧ r = 0 ∧ u = (ou, .inl (ac 1, 1, .inr (.inl ((vp_updL (f) 0 ((f_LC_memory CI a).toInt64)))))) :: cwm ac o ad a9 CI CL CR M n) (CPost D ((ou, .inl (ac 1, 1, .inr (.inl f))) :: cwm ac o ad al CI CL CR M n) sz) (va_A ((ou, .inl (ac 1, 1, .inr (.inl f))) :: cwm ac o ad al CI CL CR M n) sz)) 3 21 (va_A ((ou, .inl (ac 1, 1, .inr (.inl f))) :: cwm ac o ad al CI CL CR M n) sz) := by
  refine kofH (by decide) (Nat.le_of_ble_eq_true rfl) ?_
  intro p ev s m args below meth c0 ls X hr hk hex hS w hl
  have X : Cx b_Law_memory 4 R_Law D ac p m args c0 s := X
  have hx := X.1
  have hb := X.2.1
  have hl : lv_has ls 4 [(0, .ref o), (1, .int (nI a)), (2, .ref ou)] := hl
  refine lv_aload_n hx hb d_Law_memory_0 rfl (lv_at hl 2 rfl) ?_
  refine lv_iconst (v := 0) hx hb d_Law_memory_1 (by decide) ?_
  refine lv_aload_n hx hb d_Law_memory_2 rfl (lv_at hl 0 rfl) ?_
  refine lv_iload_n hx hb d_Law_memory_3 rfl (lv_at hl 1 rfl) ?_
  refine kcalli (ws0 := [(ou, .inl (ac 1, 1, .inr (.inl (f))))]) w (krunV (ws0 := [(ou, .inl (ac 1, 1, .inr (.inl (f))))]) (wc := cwm ac o ad al CI CL CR M n) (n := 1) (As := [.int (nI a)]) (rest := [.int 0, .ref ou]) (C := R_LC) X w (c_LC_memory l D ac o ad al CI CL CR M n _ a ha) wk_LC_memory wi_LC wm_Law_42 wx_LC_memory ws_LC_LC_memory (by decide +kernel) rfl rfl ⟨(Nat.le_of_ble_eq_true rfl), (Nat.le_of_ble_eq_true rfl)⟩ ⟨(Nat.le_of_ble_eq_true rfl), (Nat.le_of_ble_eq_true rfl)⟩ (krecv (ws0 := [(ou, .inl (ac 1, 1, .inr (.inl (f))))]) X w 0 rfl rfl) rfl hl.1 rfl (Nat.le_of_ble_eq_true rfl) d_Law_memory_4) (fun r1 u H locs hp w => ?_)
  obtain ⟨rfl, rfl⟩ := hp
  have w : Wo D _ ((ou, .inl (ac 1, 1, .inr (.inl (f)))) :: cwm ac o ad al CI CL CR M n) s.heap _ _ := w
  refine lv_i2l (v := (f_LC_memory CI a).toInt64) hx hb d_Law_memory_7 (rfl) ?_
  refine klast X w 0 (f := f) (f' := fun _ => 0) rfl 0 (by decide) (by decide) rfl rfl d_Law_memory_8 (fun H locs w => ?_)
  have w : Wo D _ ((ou, .inl (ac 1, 1, .inr (.inl (vp_updL (f) 0 ((f_LC_memory CI a).toInt64))))) :: cwm ac o ad al CI CL CR M n) s.heap _ _ := w
  refine lv_goto (tgt := 15) hx hb d_Law_memory_9 (by decide) ?_
  refine lv_iconst (v := 0) hx hb d_Law_memory_15 (by decide) ?_
  refine W.widen (k := 3) (n := 21) (Nat.le_of_ble_eq_true rfl) (Nat.le_of_ble_eq_true rfl) ?_
  exact kiret X w hr hk ⟨al, (fun _ _ => rfl), (Nat.le_refl _), hok, rfl, rfl⟩ d_Law_memory_16
