def f_LC_leave (CI : Nat → Nat → Int32) (CL : Nat → Nat → Int64) (CR : Nat → Nat → Option Nat) (M : Nat → Msg) (n : Nat) (c : Nat) (y : Nat) (li : Int32) (mm : Nat) : (Nat → Nat → Int32) × (Nat → Nat → Option Nat) × (Nat → Msg) × (Nat) :=
  if (CI 10 y) = (-1) then
    (up2 CI 11 y 0, CR, M, n)
  else
    if (CI 10 y) = li then
      (up2 CI 11 y 0, CR, M, n)
    else
      if (CI 11 y) = 0 then
        (up2 CI 11 y 0, CR, M, n)
      else
        (up2 (up2 CI 38 0 (nI (mm + 1))) 11 y 0, up2 CR 3 mm (some n), upM M n (7, 7, CI 10 y, some c, CI 12 y, CL 13 y, CL 14 y, 0), n + 1)
set_option maxHeartbeats 4000000 in
set_option maxRecDepth 100000 in
theorem c_LC_leave (l : Launch) (D : va_G) (ac : Nat → ClassId) (o : Nat) (ad : Nat → Nat) (al : Nat → Nat) (CI : Nat → Nat → Int32) (CL : Nat → Nat → Int64) (CR : Nat → Nat → Option Nat) (M : Nat → Msg) (n : Nat) (sz : Nat) (c : Nat) (y : Nat) (li : Int32) (mm : Nat) (hc : c < 3) (hy : y < 12) (hm : CI 38 0 = nI mm) (hmm : mm < 24) (hok : CRok CR n) : Met l y_LC_leave [Cond.code y_LC_leave b_LC_leave 4 none] { frames := 3, cells := 1, slots := 7, locals := 76 } (va_Pc [.ref o, .ref (ad (4 + c)), .ref (ad (10 + y)), .int li] (CPre D ac (cwm ac o ad al CI CL CR M n) sz)) (va_Qv (fun u => ∃ a9 : Nat → Nat, (∀ i, i < n → a9 i = al i) ∧ n ≤ (f_LC_leave CI CL CR M n c y li mm).2.2.2 ∧ CRok ((f_LC_leave CI CL CR M n c y li mm).2.1) ((f_LC_leave CI CL CR M n c y li mm).2.2.2) ∧ u = cwm ac o ad a9 ((f_LC_leave CI CL CR M n c y li mm).1) CL ((f_LC_leave CI CL CR M n c y li mm).2.1) ((f_LC_leave CI CL CR M n c y li mm).2.2.1) ((f_LC_leave CI CL CR M n c y li mm).2.2.2)) (CPost D (cwm ac o ad al CI CL CR M n) sz) (va_A (cwm ac o ad al CI CL CR M n) sz)) 1 7 (va_A (cwm ac o ad al CI CL CR M n) sz) := by
  refine kofW (by decide) (Nat.le_of_ble_eq_true rfl) ?_
  intro p ev s m args below meth c0 ls X hr hk hnm hex hsz w hl
  have X : Cx b_LC_leave 4 R_LC D ac p m args c0 s := X
  have hx := X.1
  have hb := X.2.1
  have hl : lv_has ls 4 [(0, .ref o), (1, .ref (ad (4 + c))), (2, .ref (ad (10 + y))), (3, .int li)] := hl
  have hal : ∀ i, i < n → al i = al i := fun _ _ => rfl
  have hn : n ≤ n := Nat.le_refl n
  refine lv_aload_n hx hb d_LC_leave_0 rfl (lv_at hl 2 rfl) ?_
  refine cg_LC_85 X w y (by omega) (v := CI 10 y) rfl d_LC_leave_1 ?_
  refine lv_iconst (v := (-1)) hx hb d_LC_leave_4 (by decide) ?_
  refine lv_icmp_eq (tgt := 38) hx hb d_LC_leave_5 (by decide) (fun h1 => ?_) (fun h1 => ?_)
  · skip
    refine lv_aload_n hx hb d_LC_leave_38 rfl (lv_at hl 2 rfl) ?_
    refine lv_iconst (v := 0) hx hb d_LC_leave_39 (by decide) ?_
    refine cp_LC_86 X w y (by omega) (by decide) d_LC_leave_40 (fun H locs w => ?_)
    have hF : f_LC_leave CI CL CR M n c y li mm = (up2 CI 11 y 0, CR, M, n) := by unfold f_LC_leave; rw [if_pos h1]
    refine W.widen (k := 1) (n := 7) (Nat.le_of_ble_eq_true rfl) (Nat.le_of_ble_eq_true rfl) ?_
    exact kvret (Qc := fun _ _ _ _ => True) X w hr hk ⟨al, hal, by rw [hF]; exact hn, by rw [hF]; exact hok, by rw [hF]⟩ d_LC_leave_43
  · skip
    refine lv_aload_n hx hb d_LC_leave_8 rfl (lv_at hl 2 rfl) ?_
    refine cg_LC_85 X w y (by omega) (v := CI 10 y) rfl d_LC_leave_9 ?_
    refine lv_iload_n hx hb d_LC_leave_12 rfl (lv_at hl 3 rfl) ?_
    refine lv_icmp_eq (tgt := 38) hx hb d_LC_leave_13 (by decide) (fun h2 => ?_) (fun h2 => ?_)
    · skip
      refine lv_aload_n hx hb d_LC_leave_38 rfl (lv_at hl 2 rfl) ?_
      refine lv_iconst (v := 0) hx hb d_LC_leave_39 (by decide) ?_
      refine cp_LC_86 X w y (by omega) (by decide) d_LC_leave_40 (fun H locs w => ?_)
      have hF : f_LC_leave CI CL CR M n c y li mm = (up2 CI 11 y 0, CR, M, n) := by unfold f_LC_leave; rw [if_neg h1, if_pos h2]
      refine W.widen (k := 1) (n := 7) (Nat.le_of_ble_eq_true rfl) (Nat.le_of_ble_eq_true rfl) ?_
      exact kvret (Qc := fun _ _ _ _ => True) X w hr hk ⟨al, hal, by rw [hF]; exact hn, by rw [hF]; exact hok, by rw [hF]⟩ d_LC_leave_43
    · skip
      refine lv_aload_n hx hb d_LC_leave_16 rfl (lv_at hl 2 rfl) ?_
      refine cg_LC_86 X w y (by omega) (v := CI 11 y) rfl d_LC_leave_17 ?_
      refine lv_if_eq (tgt := 38) hx hb d_LC_leave_20 (by decide) (fun h3 => ?_) (fun h3 => ?_)
      · skip
        refine lv_aload_n hx hb d_LC_leave_38 rfl (lv_at hl 2 rfl) ?_
        refine lv_iconst (v := 0) hx hb d_LC_leave_39 (by decide) ?_
        refine cp_LC_86 X w y (by omega) (by decide) d_LC_leave_40 (fun H locs w => ?_)
        have hF : f_LC_leave CI CL CR M n c y li mm = (up2 CI 11 y 0, CR, M, n) := by unfold f_LC_leave; rw [if_neg h1, if_neg h2, if_pos h3]
        refine W.widen (k := 1) (n := 7) (Nat.le_of_ble_eq_true rfl) (Nat.le_of_ble_eq_true rfl) ?_
        exact kvret (Qc := fun _ _ _ _ => True) X w hr hk ⟨al, hal, by rw [hF]; exact hn, by rw [hF]; exact hok, by rw [hF]⟩ d_LC_leave_43
      · skip
        refine lv_aload_n hx hb d_LC_leave_23 rfl (lv_at hl 0 rfl) ?_
        refine knew X w (C := R_Return) (T := F_Return) (N := 6) (ci := 7) rfl i_Return t_Return t_Return_ok wc_LC_90 wn_Return wi_Return (fs := [.int 0, .int 0, .null, .int 0, .long 0, .long 0]) (by decide) (Nat.le_of_ble_eq_true rfl) (Nat.le_of_ble_eq_true rfl) d_LC_leave_24 (fun q4 H w => ?_)
        have w : Wo D _ (cws ac o ad CI CL (mapR al CR) (mtl ad al M n ++ [(q4, .inr (7, [.int 0, .int 0, .null, .int 0, .long 0, .long 0]))])) s.heap _ _ := w
        refine lv_dup hx hb d_LC_leave_27 rfl ?_
        refine lv_bipush (v := 7) hx hb d_LC_leave_28 (by decide) ?_
        refine lv_aload_n hx hb d_LC_leave_30 rfl (lv_at hl 1 rfl) ?_
        refine lv_aload_n hx hb d_LC_leave_31 rfl (lv_at hl 2 rfl) ?_
        refine kcallv (ws0 := []) w (krunI (ws0 := []) (wc := cws ac o ad CI CL (mapR al CR) (mtl ad al M n ++ [(q4, .inr (7, [.int 0, .int 0, .null, .int 0, .long 0, .long 0]))])) (n := 3) (As := [.int 7, .ref (ad (4 + c)), .ref (ad (10 + y))]) (rest := [.ref q4, .ref o]) X w (c_Return_init l D ac o ad CI CL (mapR al CR) (mtl ad al M n) q4 _ 7 c y (by omega)) wk_Return_init wi_Return wm_LC_92 wx_Return_init rfl (by decide +kernel) rfl rfl ⟨(Nat.le_of_ble_eq_true rfl), (Nat.le_of_ble_eq_true rfl)⟩ ⟨(Nat.le_of_ble_eq_true rfl), (Nat.le_of_ble_eq_true rfl)⟩ rfl hl.1 rfl (Nat.le_of_ble_eq_true rfl) d_LC_leave_32) (fun u H locs hp w => ?_)
        obtain rfl := hp
        have w : Wo D _ (cws ac o ad CI CL (mapR al CR) (mtl ad al M n ++ [(q4, .inr (7, [.int 7, .int (CI 10 y), .ref (ad (4 + c)), .int (CI 12 y), .long (CL 13 y), .long (CL 14 y)]))])) s.heap _ _ := w
        obtain ⟨al5, hal9, hq6, w9⟩ := kjoinM (al := al) (CR := CR) (m := (7, 7, CI 10 y, some c, CI 12 y, CL 13 y, CL 14 y, 0)) w rfl hok
        clear w
        subst hq6
        have w := w9
        clear w9
        have hal : ∀ i, i < n → al5 i = al i := fun i h => (hal9 i (by omega)).trans (hal i h)
        have hok := crok_le hok (Nat.le_succ _)
        have hn : n ≤ n + 1 := by omega
        have w : Wo D _ (cwm ac o ad al5 CI CL CR (upM M n (7, 7, CI 10 y, some c, CI 12 y, CL 13 y, CL 14 y, 0)) (n + 1)) s.heap _ _ := w
        refine kcallv (ws0 := []) w (krunV (ws0 := []) (wc := cwm ac o ad al5 CI CL CR (upM M n (7, 7, CI 10 y, some c, CI 12 y, CL 13 y, CL 14 y, 0)) (n + 1)) (n := 1) (As := [.ref (al5 n)]) (rest := []) (C := R_LC) X w (c_LC_send l D ac o ad al5 CI CL CR (upM M n (7, 7, CI 10 y, some c, CI 12 y, CL 13 y, CL 14 y, 0)) (n + 1) _ n mm hm (by omega) (by omega) hok) wk_LC_send wi_LC wm_LC_95 wx_LC_send ws_LC_LC_send (by decide +kernel) rfl rfl ⟨(Nat.le_of_ble_eq_true rfl), (Nat.le_of_ble_eq_true rfl)⟩ ⟨(Nat.le_of_ble_eq_true rfl), (Nat.le_of_ble_eq_true rfl)⟩ (crecv X w) rfl hl.1 rfl (Nat.le_of_ble_eq_true rfl) d_LC_leave_35) (fun u H locs hp w => ?_)
        obtain ⟨hok9, rfl⟩ := hp
        have hok := hok9
        have w : Wo D _ (cwm ac o ad al5 (up2 CI 38 0 (nI (mm + 1))) CL (up2 CR 3 mm (some n)) (upM M n (7, 7, CI 10 y, some c, CI 12 y, CL 13 y, CL 14 y, 0)) (n + 1)) s.heap _ _ := w
        refine lv_aload_n hx hb d_LC_leave_38 rfl (lv_at hl 2 rfl) ?_
        refine lv_iconst (v := 0) hx hb d_LC_leave_39 (by decide) ?_
        refine cp_LC_86 X w y (by omega) (by decide) d_LC_leave_40 (fun H locs w => ?_)
        have hF : f_LC_leave CI CL CR M n c y li mm = (up2 (up2 CI 38 0 (nI (mm + 1))) 11 y 0, up2 CR 3 mm (some n), upM M n (7, 7, CI 10 y, some c, CI 12 y, CL 13 y, CL 14 y, 0), n + 1) := by unfold f_LC_leave; rw [if_neg h1, if_neg h2, if_neg h3]
        refine W.widen (k := 1) (n := 7) (Nat.le_of_ble_eq_true rfl) (Nat.le_of_ble_eq_true rfl) ?_
        exact kvret (Qc := fun _ _ _ _ => True) X w hr hk ⟨al5, hal, by rw [hF]; exact hn, by rw [hF]; exact hok, by rw [hF]⟩ d_LC_leave_43
def f_LC_serve (CI : Nat → Nat → Int32) (CL : Nat → Nat → Int64) (CR : Nat → Nat → Option Nat) (M : Nat → Msg) (n : Nat) (e : Nat) (i : Nat) (mm : Nat) : (Nat → Nat → Int32) × (Nat → Nat → Int64) × (Nat → Nat → Option Nat) × (Nat → Msg) × (Nat) :=
  oc (CR 0 e) (
    if (mkind (M i)) = 1 then
      if (mtb (M i)) = (CL 18 e) then
        (up2 CI 38 0 (nI (mm + 1)), up2 CL 19 e (if (if ((mta (M i)) + ((CI 36 0).toInt64)) < ((CL 18 e) + ((CI 36 0).toInt64)) then ((CL 18 e) + ((CI 36 0).toInt64)) else ((mta (M i)) + ((CI 36 0).toInt64))) < (CL 19 e) then (CL 19 e) else (if ((mta (M i)) + ((CI 36 0).toInt64)) < ((CL 18 e) + ((CI 36 0).toInt64)) then ((CL 18 e) + ((CI 36 0).toInt64)) else ((mta (M i)) + ((CI 36 0).toInt64)))), up2 CR 3 mm (some n), upM M n (5, 4, CI 16 e, mcore (M i), CI 17 e, (up2 CL 19 e (if (if ((mta (M i)) + ((CI 36 0).toInt64)) < ((CL 18 e) + ((CI 36 0).toInt64)) then ((CL 18 e) + ((CI 36 0).toInt64)) else ((mta (M i)) + ((CI 36 0).toInt64))) < (CL 19 e) then (CL 19 e) else (if ((mta (M i)) + ((CI 36 0).toInt64)) < ((CL 18 e) + ((CI 36 0).toInt64)) then ((CL 18 e) + ((CI 36 0).toInt64)) else ((mta (M i)) + ((CI 36 0).toInt64))))) 18 e, (up2 CL 19 e (if (if ((mta (M i)) + ((CI 36 0).toInt64)) < ((CL 18 e) + ((CI 36 0).toInt64)) then ((CL 18 e) + ((CI 36 0).toInt64)) else ((mta (M i)) + ((CI 36 0).toInt64))) < (CL 19 e) then (CL 19 e) else (if ((mta (M i)) + ((CI 36 0).toInt64)) < ((CL 18 e) + ((CI 36 0).toInt64)) then ((CL 18 e) + ((CI 36 0).toInt64)) else ((mta (M i)) + ((CI 36 0).toInt64))))) 19 e, if mkind (M i) = 2 then 1 else 0), n + 1)
      else
        (up2 CI 38 0 (nI (mm + 1)), up2 CL 19 e (if (if ((mta (M i)) + ((CI 36 0).toInt64)) < ((CL 18 e) + ((CI 36 0).toInt64)) then ((CL 18 e) + ((CI 36 0).toInt64)) else ((mta (M i)) + ((CI 36 0).toInt64))) < (CL 19 e) then (CL 19 e) else (if ((mta (M i)) + ((CI 36 0).toInt64)) < ((CL 18 e) + ((CI 36 0).toInt64)) then ((CL 18 e) + ((CI 36 0).toInt64)) else ((mta (M i)) + ((CI 36 0).toInt64)))), up2 CR 3 mm (some n), upM M n (5, 3, CI 16 e, mcore (M i), CI 17 e, (up2 CL 19 e (if (if ((mta (M i)) + ((CI 36 0).toInt64)) < ((CL 18 e) + ((CI 36 0).toInt64)) then ((CL 18 e) + ((CI 36 0).toInt64)) else ((mta (M i)) + ((CI 36 0).toInt64))) < (CL 19 e) then (CL 19 e) else (if ((mta (M i)) + ((CI 36 0).toInt64)) < ((CL 18 e) + ((CI 36 0).toInt64)) then ((CL 18 e) + ((CI 36 0).toInt64)) else ((mta (M i)) + ((CI 36 0).toInt64))))) 18 e, (up2 CL 19 e (if (if ((mta (M i)) + ((CI 36 0).toInt64)) < ((CL 18 e) + ((CI 36 0).toInt64)) then ((CL 18 e) + ((CI 36 0).toInt64)) else ((mta (M i)) + ((CI 36 0).toInt64))) < (CL 19 e) then (CL 19 e) else (if ((mta (M i)) + ((CI 36 0).toInt64)) < ((CL 18 e) + ((CI 36 0).toInt64)) then ((CL 18 e) + ((CI 36 0).toInt64)) else ((mta (M i)) + ((CI 36 0).toInt64))))) 19 e, if mkind (M i) = 2 then 1 else 0), n + 1)
    else
      if (mtb (M i)) = (CL 18 e) then
        (up2 CI 38 0 (nI (mm + 1)), CL, up2 (up2 CR 0 e (mcore (M i))) 3 mm (some n), upM M n (5, 4, CI 16 e, mcore (M i), CI 17 e, CL 18 e, CL 19 e, if mkind (M i) = 2 then 1 else 0), n + 1)
      else
        (up2 CI 38 0 (nI (mm + 1)), CL, up2 (up2 CR 0 e (mcore (M i))) 3 mm (some n), upM M n (5, 3, CI 16 e, mcore (M i), CI 17 e, CL 18 e, CL 19 e, if mkind (M i) = 2 then 1 else 0), n + 1))
    (fun y2 =>
    if (CI 21 e) = 0 then
      if (mkind (M i)) = 1 then
        (up2 CI 38 0 (nI (mm + 1)), CL, up2 (up2 CR 1 e (some i)) 3 mm (some n), upM M n (6, 5, CI 16 e, (up2 CR 1 e (some i)) 0 e, 0, ((mta (M i)) + ((CI 36 0).toInt64)), 0, 0), n + 1)
      else
        (up2 CI 38 0 (nI (mm + 1)), CL, up2 (up2 CR 1 e (some i)) 3 mm (some n), upM M n (6, 6, CI 16 e, (up2 CR 1 e (some i)) 0 e, 0, ((mta (M i)) + ((CI 36 0).toInt64)), 0, 0), n + 1)
    else
      (CI, CL, up2 CR 1 e (some i), M, n))
set_option maxHeartbeats 4000000 in
set_option maxRecDepth 100000 in
theorem c_LC_serve (l : Launch) (D : va_G) (ac : Nat → ClassId) (o : Nat) (ad : Nat → Nat) (al : Nat → Nat) (CI : Nat → Nat → Int32) (CL : Nat → Nat → Int64) (CR : Nat → Nat → Option Nat) (M : Nat → Msg) (n : Nat) (sz : Nat) (e : Nat) (i : Nat) (mm : Nat) (he : e < 6) (hi : i < n) (hcl : mcls (M i) = 4) (hm : CI 38 0 = nI mm) (hmm : mm < 24) (hok : CRok CR n) : Met l y_LC_serve [Cond.code y_LC_serve b_LC_serve 3 none] { frames := 3, cells := 1, slots := 7, locals := 77 } (va_Pc [.ref o, .ref (ad (22 + e)), .ref (al i)] (CPre D ac (cwm ac o ad al CI CL CR M n) sz)) (va_Qv (fun u => ∃ a9 : Nat → Nat, (∀ i, i < n → a9 i = al i) ∧ n ≤ (f_LC_serve CI CL CR M n e i mm).2.2.2.2 ∧ CRok ((f_LC_serve CI CL CR M n e i mm).2.2.1) ((f_LC_serve CI CL CR M n e i mm).2.2.2.2) ∧ u = cwm ac o ad a9 ((f_LC_serve CI CL CR M n e i mm).1) ((f_LC_serve CI CL CR M n e i mm).2.1) ((f_LC_serve CI CL CR M n e i mm).2.2.1) ((f_LC_serve CI CL CR M n e i mm).2.2.2.1) ((f_LC_serve CI CL CR M n e i mm).2.2.2.2)) (CPost D (cwm ac o ad al CI CL CR M n) sz) (va_A (cwm ac o ad al CI CL CR M n) sz)) 1 7 (va_A (cwm ac o ad al CI CL CR M n) sz) := by
  refine kofW (by decide) (Nat.le_of_ble_eq_true rfl) ?_
  intro p ev s m args below meth c0 ls X hr hk hnm hex hsz w hl
  have X : Cx b_LC_serve 3 R_LC D ac p m args c0 s := X
  have hx := X.1
  have hb := X.2.1
  have hl : lv_has ls 3 [(0, .ref o), (1, .ref (ad (22 + e))), (2, .ref (al i))] := hl
  have hal : ∀ i, i < n → al i = al i := fun _ _ => rfl
  have hn : n ≤ n := Nat.le_refl n
  refine lv_aload_n hx hb d_LC_serve_0 rfl (lv_at hl 1 rfl) ?_
  refine cg_LC_158 X w e (by omega) d_LC_serve_1 ?_
  cases ho1 : CR 0 e with
  | none =>
    refine W.eq (g2 := F0 m 4 ls [.null]) (by first | rfl | exact congrArg (fun z => F0 m 4 ls [va_rf (rC ad z)]) (show CR 0 e = _ from ho1)) ?_
    refine lv_ifnullN (tgt := 56) hx hb d_LC_serve_4 (by decide) ?_
    refine lv_aload_n hx hb d_LC_serve_56 rfl (lv_at hl 2 rfl) ?_
    refine qg_LC_199 (m9 := (M i)) X w (hs_mem0 (i := i) (by omega)) hcl d_LC_serve_57 ?_
    refine lv_iconst (v := 1) hx hb d_LC_serve_60 (by decide) ?_
    refine lv_icmp_ne (tgt := 101) hx hb d_LC_serve_61 (by decide) (fun h3 => ?_) (fun h3 => ?_)
    · skip
      refine lv_aload_n hx hb d_LC_serve_101 rfl (lv_at hl 1 rfl) ?_
      refine lv_aload_n hx hb d_LC_serve_102 rfl (lv_at hl 2 rfl) ?_
      refine qg_LC_202 (m9 := (M i)) X w (hs_mem0 (i := i) (by omega)) hcl d_LC_serve_103 ?_
      refine cm_LC_158 X w e (by omega) (x := mcore (M i)) d_LC_serve_106 (fun H locs w => ?_)
      have hok := crok_up (k := 0) (j := e) (x := mcore (M i)) hok (Or.inl rfl)
      refine lv_aload_n hx hb d_LC_serve_109 rfl (lv_at hl 0 rfl) ?_
      refine knew X w (C := R_Answer) (T := F_Answer) (N := 7) (ci := 5) rfl i_Answer t_Answer t_Answer_ok wc_LC_205 wn_Answer wi_Answer (fs := [.int 0, .int 0, .null, .int 0, .long 0, .long 0, .int 0]) (by decide) (Nat.le_of_ble_eq_true rfl) (Nat.le_of_ble_eq_true rfl) d_LC_serve_110 (fun q4 H w => ?_)
      have w : Wo D _ (cws ac o ad CI CL (mapR al (up2 CR 0 e (mcore (M i)))) (mtl ad al M n ++ [(q4, .inr (5, [.int 0, .int 0, .null, .int 0, .long 0, .long 0, .int 0]))])) s.heap _ _ := w
      refine lv_dup hx hb d_LC_serve_113 rfl ?_
      refine lv_aload_n hx hb d_LC_serve_114 rfl (lv_at hl 2 rfl) ?_
      refine qg_LC_207 (m9 := (M i)) X w (hs_mem (i := i) (by omega)) hcl d_LC_serve_115 ?_
      refine lv_aload_n hx hb d_LC_serve_118 rfl (lv_at hl 1 rfl) ?_
      refine cg_LC_201 X w e (by omega) (v := CL 18 e) rfl d_LC_serve_119 ?_
      refine klc_ne (tgt := 130) hx hb d_LC_serve_122 d_LC_serve_123 (by decide) (fun h5 => ?_) (fun h5 => ?_)
      · skip
        refine lv_iconst (v := 3) hx hb d_LC_serve_130 (by decide) ?_
        refine lv_aload_n hx hb d_LC_serve_131 rfl (lv_at hl 1 rfl) ?_
        refine lv_aload_n hx hb d_LC_serve_132 rfl (lv_at hl 2 rfl) ?_
        refine kcallv (ws0 := []) w (krunI (ws0 := []) (wc := cws ac o ad CI CL (mapR al (up2 CR 0 e (mcore (M i)))) (mtl ad al M n ++ [(q4, .inr (5, [.int 0, .int 0, .null, .int 0, .long 0, .long 0, .int 0]))])) (n := 3) (As := [.int 3, .ref (ad (22 + e)), .ref (al i)]) (rest := [.ref q4, .ref o]) X w (c_Answer_init l D ac o ad CI CL (mapR al (up2 CR 0 e (mcore (M i)))) (mtl ad al M n) q4 _ 3 e (al i) (M i) (by omega) (hs_mem0 (i := i) (by omega)) hcl) wk_Answer_init wi_Answer wm_LC_208 wx_Answer_init rfl (by decide +kernel) rfl rfl ⟨(Nat.le_of_ble_eq_true rfl), (Nat.le_of_ble_eq_true rfl)⟩ ⟨(Nat.le_of_ble_eq_true rfl), (Nat.le_of_ble_eq_true rfl)⟩ rfl hl.1 rfl (Nat.le_of_ble_eq_true rfl) d_LC_serve_133) (fun u H locs hp w => ?_)
        obtain rfl := hp
        have w : Wo D _ (cws ac o ad CI CL (mapR al (up2 CR 0 e (mcore (M i)))) (mtl ad al M n ++ [(q4, .inr (5, [.int 3, .int (CI 16 e), va_rf (rC ad (mcore (M i))), .int (CI 17 e), .long (CL 18 e), .long (CL 19 e), .int (if mkind (M i) = 2 then 1 else 0)]))])) s.heap _ _ := w
        obtain ⟨al6, hal9, hq7, w9⟩ := kjoinM (al := al) (CR := up2 CR 0 e (mcore (M i))) (m := (5, 3, CI 16 e, mcore (M i), CI 17 e, CL 18 e, CL 19 e, if mkind (M i) = 2 then 1 else 0)) w rfl hok
        clear w
        subst hq7
        have w := w9
        clear w9
        have hal : ∀ i, i < n → al6 i = al i := fun i h => (hal9 i (by omega)).trans (hal i h)
        have hok := crok_le hok (Nat.le_succ _)
        have hn : n ≤ n + 1 := by omega
        rw [← hal9 i (by omega)] at hl
        have hl : lv_has ls 3 [(0, .ref o), (1, .ref (ad (22 + e))), (2, .ref (al6 i))] := hl
        have w : Wo D _ (cwm ac o ad al6 CI CL (up2 CR 0 e (mcore (M i))) (upM M n (5, 3, CI 16 e, mcore (M i), CI 17 e, CL 18 e, CL 19 e, if mkind (M i) = 2 then 1 else 0)) (n + 1)) s.heap _ _ := w
        refine kcallv (ws0 := []) w (krunV (ws0 := []) (wc := cwm ac o ad al6 CI CL (up2 CR 0 e (mcore (M i))) (upM M n (5, 3, CI 16 e, mcore (M i), CI 17 e, CL 18 e, CL 19 e, if mkind (M i) = 2 then 1 else 0)) (n + 1)) (n := 1) (As := [.ref (al6 n)]) (rest := []) (C := R_LC) X w (c_LC_send l D ac o ad al6 CI CL (up2 CR 0 e (mcore (M i))) (upM M n (5, 3, CI 16 e, mcore (M i), CI 17 e, CL 18 e, CL 19 e, if mkind (M i) = 2 then 1 else 0)) (n + 1) _ n mm hm (by omega) (by omega) hok) wk_LC_send wi_LC wm_LC_95 wx_LC_send ws_LC_LC_send (by decide +kernel) rfl rfl ⟨(Nat.le_of_ble_eq_true rfl), (Nat.le_of_ble_eq_true rfl)⟩ ⟨(Nat.le_of_ble_eq_true rfl), (Nat.le_of_ble_eq_true rfl)⟩ (crecv X w) rfl hl.1 rfl (Nat.le_of_ble_eq_true rfl) d_LC_serve_136) (fun u H locs hp w => ?_)
        obtain ⟨hok9, rfl⟩ := hp
        have hok := hok9
        have w : Wo D _ (cwm ac o ad al6 (up2 CI 38 0 (nI (mm + 1))) CL (up2 (up2 CR 0 e (mcore (M i))) 3 mm (some n)) (upM M n (5, 3, CI 16 e, mcore (M i), CI 17 e, CL 18 e, CL 19 e, if mkind (M i) = 2 then 1 else 0)) (n + 1)) s.heap _ _ := w
        have hF : f_LC_serve CI CL CR M n e i mm = (up2 CI 38 0 (nI (mm + 1)), CL, up2 (up2 CR 0 e (mcore (M i))) 3 mm (some n), upM M n (5, 3, CI 16 e, mcore (M i), CI 17 e, CL 18 e, CL 19 e, if mkind (M i) = 2 then 1 else 0), n + 1) := by unfold f_LC_serve; rw [ho1, oc_none, if_neg h3, if_neg h5]
        refine W.widen (k := 1) (n := 7) (Nat.le_of_ble_eq_true rfl) (Nat.le_of_ble_eq_true rfl) ?_
        exact kvret (Qc := fun _ _ _ _ => True) X w hr hk ⟨al6, hal, by rw [hF]; exact hn, by rw [hF]; exact hok, by rw [hF]⟩ d_LC_serve_139
      · skip
        refine lv_iconst (v := 4) hx hb d_LC_serve_126 (by decide) ?_
        refine lv_goto (tgt := 131) hx hb d_LC_serve_127 (by decide) ?_
        refine lv_aload_n hx hb d_LC_serve_131 rfl (lv_at hl 1 rfl) ?_
        refine lv_aload_n hx hb d_LC_serve_132 rfl (lv_at hl 2 rfl) ?_
        refine kcallv (ws0 := []) w (krunI (ws0 := []) (wc := cws ac o ad CI CL (mapR al (up2 CR 0 e (mcore (M i)))) (mtl ad al M n ++ [(q4, .inr (5, [.int 0, .int 0, .null, .int 0, .long 0, .long 0, .int 0]))])) (n := 3) (As := [.int 4, .ref (ad (22 + e)), .ref (al i)]) (rest := [.ref q4, .ref o]) X w (c_Answer_init l D ac o ad CI CL (mapR al (up2 CR 0 e (mcore (M i)))) (mtl ad al M n) q4 _ 4 e (al i) (M i) (by omega) (hs_mem0 (i := i) (by omega)) hcl) wk_Answer_init wi_Answer wm_LC_208 wx_Answer_init rfl (by decide +kernel) rfl rfl ⟨(Nat.le_of_ble_eq_true rfl), (Nat.le_of_ble_eq_true rfl)⟩ ⟨(Nat.le_of_ble_eq_true rfl), (Nat.le_of_ble_eq_true rfl)⟩ rfl hl.1 rfl (Nat.le_of_ble_eq_true rfl) d_LC_serve_133) (fun u H locs hp w => ?_)
        obtain rfl := hp
        have w : Wo D _ (cws ac o ad CI CL (mapR al (up2 CR 0 e (mcore (M i)))) (mtl ad al M n ++ [(q4, .inr (5, [.int 4, .int (CI 16 e), va_rf (rC ad (mcore (M i))), .int (CI 17 e), .long (CL 18 e), .long (CL 19 e), .int (if mkind (M i) = 2 then 1 else 0)]))])) s.heap _ _ := w
        obtain ⟨al8, hal9, hq9, w9⟩ := kjoinM (al := al) (CR := up2 CR 0 e (mcore (M i))) (m := (5, 4, CI 16 e, mcore (M i), CI 17 e, CL 18 e, CL 19 e, if mkind (M i) = 2 then 1 else 0)) w rfl hok
        clear w
        subst hq9
        have w := w9
        clear w9
        have hal : ∀ i, i < n → al8 i = al i := fun i h => (hal9 i (by omega)).trans (hal i h)
        have hok := crok_le hok (Nat.le_succ _)
        have hn : n ≤ n + 1 := by omega
        rw [← hal9 i (by omega)] at hl
        have hl : lv_has ls 3 [(0, .ref o), (1, .ref (ad (22 + e))), (2, .ref (al8 i))] := hl
        have w : Wo D _ (cwm ac o ad al8 CI CL (up2 CR 0 e (mcore (M i))) (upM M n (5, 4, CI 16 e, mcore (M i), CI 17 e, CL 18 e, CL 19 e, if mkind (M i) = 2 then 1 else 0)) (n + 1)) s.heap _ _ := w
        refine kcallv (ws0 := []) w (krunV (ws0 := []) (wc := cwm ac o ad al8 CI CL (up2 CR 0 e (mcore (M i))) (upM M n (5, 4, CI 16 e, mcore (M i), CI 17 e, CL 18 e, CL 19 e, if mkind (M i) = 2 then 1 else 0)) (n + 1)) (n := 1) (As := [.ref (al8 n)]) (rest := []) (C := R_LC) X w (c_LC_send l D ac o ad al8 CI CL (up2 CR 0 e (mcore (M i))) (upM M n (5, 4, CI 16 e, mcore (M i), CI 17 e, CL 18 e, CL 19 e, if mkind (M i) = 2 then 1 else 0)) (n + 1) _ n mm hm (by omega) (by omega) hok) wk_LC_send wi_LC wm_LC_95 wx_LC_send ws_LC_LC_send (by decide +kernel) rfl rfl ⟨(Nat.le_of_ble_eq_true rfl), (Nat.le_of_ble_eq_true rfl)⟩ ⟨(Nat.le_of_ble_eq_true rfl), (Nat.le_of_ble_eq_true rfl)⟩ (crecv X w) rfl hl.1 rfl (Nat.le_of_ble_eq_true rfl) d_LC_serve_136) (fun u H locs hp w => ?_)
        obtain ⟨hok9, rfl⟩ := hp
        have hok := hok9
        have w : Wo D _ (cwm ac o ad al8 (up2 CI 38 0 (nI (mm + 1))) CL (up2 (up2 CR 0 e (mcore (M i))) 3 mm (some n)) (upM M n (5, 4, CI 16 e, mcore (M i), CI 17 e, CL 18 e, CL 19 e, if mkind (M i) = 2 then 1 else 0)) (n + 1)) s.heap _ _ := w
        have hF : f_LC_serve CI CL CR M n e i mm = (up2 CI 38 0 (nI (mm + 1)), CL, up2 (up2 CR 0 e (mcore (M i))) 3 mm (some n), upM M n (5, 4, CI 16 e, mcore (M i), CI 17 e, CL 18 e, CL 19 e, if mkind (M i) = 2 then 1 else 0), n + 1) := by unfold f_LC_serve; rw [ho1, oc_none, if_neg h3, if_pos h5]
        refine W.widen (k := 1) (n := 7) (Nat.le_of_ble_eq_true rfl) (Nat.le_of_ble_eq_true rfl) ?_
        exact kvret (Qc := fun _ _ _ _ => True) X w hr hk ⟨al8, hal, by rw [hF]; exact hn, by rw [hF]; exact hok, by rw [hF]⟩ d_LC_serve_139
    · skip
      refine lv_aload_n hx hb d_LC_serve_64 rfl (lv_at hl 1 rfl) ?_
      refine lv_aload_n hx hb d_LC_serve_65 rfl (lv_at hl 1 rfl) ?_
      refine cg_LC_166 X w e (by omega) (v := CL 19 e) rfl d_LC_serve_66 ?_
      refine lv_aload_n hx hb d_LC_serve_69 rfl (lv_at hl 1 rfl) ?_
      refine cg_LC_201 X w e (by omega) (v := CL 18 e) rfl d_LC_serve_70 ?_
      refine lv_aload_n hx hb d_LC_serve_73 rfl (lv_at hl 0 rfl) ?_
      refine cg_LC_40 X w (v := CI 36 0) rfl d_LC_serve_74 ?_
      refine lv_i2l (v := (CI 36 0).toInt64) hx hb d_LC_serve_77 (rfl) ?_
      refine lv_ladd hx hb d_LC_serve_78 ?_
      refine lv_aload_n hx hb d_LC_serve_79 rfl (lv_at hl 2 rfl) ?_
      refine qg_LC_200 (m9 := (M i)) X w (hs_mem0 (i := i) (by omega)) hcl d_LC_serve_80 ?_
      refine lv_aload_n hx hb d_LC_serve_83 rfl (lv_at hl 0 rfl) ?_
      refine cg_LC_40 X w (v := CI 36 0) rfl d_LC_serve_84 ?_
      refine lv_i2l (v := (CI 36 0).toInt64) hx hb d_LC_serve_87 (rfl) ?_
      refine lv_ladd hx hb d_LC_serve_88 ?_
      refine kmaxJ X wm_LC_183 hl.1 (Nat.le_of_ble_eq_true rfl) (Nat.le_of_ble_eq_true rfl) (Nat.le_of_ble_eq_true rfl) (Nat.le_of_ble_eq_true rfl) (v := if ((mta (M i)) + ((CI 36 0).toInt64)) < ((CL 18 e) + ((CI 36 0).toInt64)) then ((CL 18 e) + ((CI 36 0).toInt64)) else ((mta (M i)) + ((CI 36 0).toInt64))) rfl d_LC_serve_89 ?_
      refine kmaxJ X wm_LC_183 hl.1 (Nat.le_of_ble_eq_true rfl) (Nat.le_of_ble_eq_true rfl) (Nat.le_of_ble_eq_true rfl) (Nat.le_of_ble_eq_true rfl) (v := if (if ((mta (M i)) + ((CI 36 0).toInt64)) < ((CL 18 e) + ((CI 36 0).toInt64)) then ((CL 18 e) + ((CI 36 0).toInt64)) else ((mta (M i)) + ((CI 36 0).toInt64))) < (CL 19 e) then (CL 19 e) else (if ((mta (M i)) + ((CI 36 0).toInt64)) < ((CL 18 e) + ((CI 36 0).toInt64)) then ((CL 18 e) + ((CI 36 0).toInt64)) else ((mta (M i)) + ((CI 36 0).toInt64)))) rfl d_LC_serve_92 ?_
      refine cp_LC_166 X w e (by omega) d_LC_serve_95 (fun H locs w => ?_)
      refine lv_goto (tgt := 109) hx hb d_LC_serve_98 (by decide) ?_
      refine lv_aload_n hx hb d_LC_serve_109 rfl (lv_at hl 0 rfl) ?_
      refine knew X w (C := R_Answer) (T := F_Answer) (N := 7) (ci := 5) rfl i_Answer t_Answer t_Answer_ok wc_LC_205 wn_Answer wi_Answer (fs := [.int 0, .int 0, .null, .int 0, .long 0, .long 0, .int 0]) (by decide) (Nat.le_of_ble_eq_true rfl) (Nat.le_of_ble_eq_true rfl) d_LC_serve_110 (fun q10 H w => ?_)
      have w : Wo D _ (cws ac o ad CI (up2 CL 19 e (if (if ((mta (M i)) + ((CI 36 0).toInt64)) < ((CL 18 e) + ((CI 36 0).toInt64)) then ((CL 18 e) + ((CI 36 0).toInt64)) else ((mta (M i)) + ((CI 36 0).toInt64))) < (CL 19 e) then (CL 19 e) else (if ((mta (M i)) + ((CI 36 0).toInt64)) < ((CL 18 e) + ((CI 36 0).toInt64)) then ((CL 18 e) + ((CI 36 0).toInt64)) else ((mta (M i)) + ((CI 36 0).toInt64))))) (mapR al CR) (mtl ad al M n ++ [(q10, .inr (5, [.int 0, .int 0, .null, .int 0, .long 0, .long 0, .int 0]))])) s.heap _ _ := w
      refine lv_dup hx hb d_LC_serve_113 rfl ?_
      refine lv_aload_n hx hb d_LC_serve_114 rfl (lv_at hl 2 rfl) ?_
      refine qg_LC_207 (m9 := (M i)) X w (hs_mem (i := i) (by omega)) hcl d_LC_serve_115 ?_
      refine lv_aload_n hx hb d_LC_serve_118 rfl (lv_at hl 1 rfl) ?_
      refine cg_LC_201 X w e (by omega) (v := CL 18 e) rfl d_LC_serve_119 ?_
      refine klc_ne (tgt := 130) hx hb d_LC_serve_122 d_LC_serve_123 (by decide) (fun h11 => ?_) (fun h11 => ?_)
      · skip
        refine lv_iconst (v := 3) hx hb d_LC_serve_130 (by decide) ?_
        refine lv_aload_n hx hb d_LC_serve_131 rfl (lv_at hl 1 rfl) ?_
        refine lv_aload_n hx hb d_LC_serve_132 rfl (lv_at hl 2 rfl) ?_
        refine kcallv (ws0 := []) w (krunI (ws0 := []) (wc := cws ac o ad CI (up2 CL 19 e (if (if ((mta (M i)) + ((CI 36 0).toInt64)) < ((CL 18 e) + ((CI 36 0).toInt64)) then ((CL 18 e) + ((CI 36 0).toInt64)) else ((mta (M i)) + ((CI 36 0).toInt64))) < (CL 19 e) then (CL 19 e) else (if ((mta (M i)) + ((CI 36 0).toInt64)) < ((CL 18 e) + ((CI 36 0).toInt64)) then ((CL 18 e) + ((CI 36 0).toInt64)) else ((mta (M i)) + ((CI 36 0).toInt64))))) (mapR al CR) (mtl ad al M n ++ [(q10, .inr (5, [.int 0, .int 0, .null, .int 0, .long 0, .long 0, .int 0]))])) (n := 3) (As := [.int 3, .ref (ad (22 + e)), .ref (al i)]) (rest := [.ref q10, .ref o]) X w (c_Answer_init l D ac o ad CI (up2 CL 19 e (if (if ((mta (M i)) + ((CI 36 0).toInt64)) < ((CL 18 e) + ((CI 36 0).toInt64)) then ((CL 18 e) + ((CI 36 0).toInt64)) else ((mta (M i)) + ((CI 36 0).toInt64))) < (CL 19 e) then (CL 19 e) else (if ((mta (M i)) + ((CI 36 0).toInt64)) < ((CL 18 e) + ((CI 36 0).toInt64)) then ((CL 18 e) + ((CI 36 0).toInt64)) else ((mta (M i)) + ((CI 36 0).toInt64))))) (mapR al CR) (mtl ad al M n) q10 _ 3 e (al i) (M i) (by omega) (hs_mem0 (i := i) (by omega)) hcl) wk_Answer_init wi_Answer wm_LC_208 wx_Answer_init rfl (by decide +kernel) rfl rfl ⟨(Nat.le_of_ble_eq_true rfl), (Nat.le_of_ble_eq_true rfl)⟩ ⟨(Nat.le_of_ble_eq_true rfl), (Nat.le_of_ble_eq_true rfl)⟩ rfl hl.1 rfl (Nat.le_of_ble_eq_true rfl) d_LC_serve_133) (fun u H locs hp w => ?_)
        obtain rfl := hp
        have w : Wo D _ (cws ac o ad CI (up2 CL 19 e (if (if ((mta (M i)) + ((CI 36 0).toInt64)) < ((CL 18 e) + ((CI 36 0).toInt64)) then ((CL 18 e) + ((CI 36 0).toInt64)) else ((mta (M i)) + ((CI 36 0).toInt64))) < (CL 19 e) then (CL 19 e) else (if ((mta (M i)) + ((CI 36 0).toInt64)) < ((CL 18 e) + ((CI 36 0).toInt64)) then ((CL 18 e) + ((CI 36 0).toInt64)) else ((mta (M i)) + ((CI 36 0).toInt64))))) (mapR al CR) (mtl ad al M n ++ [(q10, .inr (5, [.int 3, .int (CI 16 e), va_rf (rC ad (mcore (M i))), .int (CI 17 e), .long ((up2 CL 19 e (if (if ((mta (M i)) + ((CI 36 0).toInt64)) < ((CL 18 e) + ((CI 36 0).toInt64)) then ((CL 18 e) + ((CI 36 0).toInt64)) else ((mta (M i)) + ((CI 36 0).toInt64))) < (CL 19 e) then (CL 19 e) else (if ((mta (M i)) + ((CI 36 0).toInt64)) < ((CL 18 e) + ((CI 36 0).toInt64)) then ((CL 18 e) + ((CI 36 0).toInt64)) else ((mta (M i)) + ((CI 36 0).toInt64))))) 18 e), .long ((up2 CL 19 e (if (if ((mta (M i)) + ((CI 36 0).toInt64)) < ((CL 18 e) + ((CI 36 0).toInt64)) then ((CL 18 e) + ((CI 36 0).toInt64)) else ((mta (M i)) + ((CI 36 0).toInt64))) < (CL 19 e) then (CL 19 e) else (if ((mta (M i)) + ((CI 36 0).toInt64)) < ((CL 18 e) + ((CI 36 0).toInt64)) then ((CL 18 e) + ((CI 36 0).toInt64)) else ((mta (M i)) + ((CI 36 0).toInt64))))) 19 e), .int (if mkind (M i) = 2 then 1 else 0)]))])) s.heap _ _ := w
        obtain ⟨al12, hal9, hq13, w9⟩ := kjoinM (al := al) (CR := CR) (m := (5, 3, CI 16 e, mcore (M i), CI 17 e, (up2 CL 19 e (if (if ((mta (M i)) + ((CI 36 0).toInt64)) < ((CL 18 e) + ((CI 36 0).toInt64)) then ((CL 18 e) + ((CI 36 0).toInt64)) else ((mta (M i)) + ((CI 36 0).toInt64))) < (CL 19 e) then (CL 19 e) else (if ((mta (M i)) + ((CI 36 0).toInt64)) < ((CL 18 e) + ((CI 36 0).toInt64)) then ((CL 18 e) + ((CI 36 0).toInt64)) else ((mta (M i)) + ((CI 36 0).toInt64))))) 18 e, (up2 CL 19 e (if (if ((mta (M i)) + ((CI 36 0).toInt64)) < ((CL 18 e) + ((CI 36 0).toInt64)) then ((CL 18 e) + ((CI 36 0).toInt64)) else ((mta (M i)) + ((CI 36 0).toInt64))) < (CL 19 e) then (CL 19 e) else (if ((mta (M i)) + ((CI 36 0).toInt64)) < ((CL 18 e) + ((CI 36 0).toInt64)) then ((CL 18 e) + ((CI 36 0).toInt64)) else ((mta (M i)) + ((CI 36 0).toInt64))))) 19 e, if mkind (M i) = 2 then 1 else 0)) w rfl hok
        clear w
        subst hq13
        have w := w9
        clear w9
        have hal : ∀ i, i < n → al12 i = al i := fun i h => (hal9 i (by omega)).trans (hal i h)
        have hok := crok_le hok (Nat.le_succ _)
        have hn : n ≤ n + 1 := by omega
        rw [← hal9 i (by omega)] at hl
        have hl : lv_has ls 3 [(0, .ref o), (1, .ref (ad (22 + e))), (2, .ref (al12 i))] := hl
        have w : Wo D _ (cwm ac o ad al12 CI (up2 CL 19 e (if (if ((mta (M i)) + ((CI 36 0).toInt64)) < ((CL 18 e) + ((CI 36 0).toInt64)) then ((CL 18 e) + ((CI 36 0).toInt64)) else ((mta (M i)) + ((CI 36 0).toInt64))) < (CL 19 e) then (CL 19 e) else (if ((mta (M i)) + ((CI 36 0).toInt64)) < ((CL 18 e) + ((CI 36 0).toInt64)) then ((CL 18 e) + ((CI 36 0).toInt64)) else ((mta (M i)) + ((CI 36 0).toInt64))))) CR (upM M n (5, 3, CI 16 e, mcore (M i), CI 17 e, (up2 CL 19 e (if (if ((mta (M i)) + ((CI 36 0).toInt64)) < ((CL 18 e) + ((CI 36 0).toInt64)) then ((CL 18 e) + ((CI 36 0).toInt64)) else ((mta (M i)) + ((CI 36 0).toInt64))) < (CL 19 e) then (CL 19 e) else (if ((mta (M i)) + ((CI 36 0).toInt64)) < ((CL 18 e) + ((CI 36 0).toInt64)) then ((CL 18 e) + ((CI 36 0).toInt64)) else ((mta (M i)) + ((CI 36 0).toInt64))))) 18 e, (up2 CL 19 e (if (if ((mta (M i)) + ((CI 36 0).toInt64)) < ((CL 18 e) + ((CI 36 0).toInt64)) then ((CL 18 e) + ((CI 36 0).toInt64)) else ((mta (M i)) + ((CI 36 0).toInt64))) < (CL 19 e) then (CL 19 e) else (if ((mta (M i)) + ((CI 36 0).toInt64)) < ((CL 18 e) + ((CI 36 0).toInt64)) then ((CL 18 e) + ((CI 36 0).toInt64)) else ((mta (M i)) + ((CI 36 0).toInt64))))) 19 e, if mkind (M i) = 2 then 1 else 0)) (n + 1)) s.heap _ _ := w
        refine kcallv (ws0 := []) w (krunV (ws0 := []) (wc := cwm ac o ad al12 CI (up2 CL 19 e (if (if ((mta (M i)) + ((CI 36 0).toInt64)) < ((CL 18 e) + ((CI 36 0).toInt64)) then ((CL 18 e) + ((CI 36 0).toInt64)) else ((mta (M i)) + ((CI 36 0).toInt64))) < (CL 19 e) then (CL 19 e) else (if ((mta (M i)) + ((CI 36 0).toInt64)) < ((CL 18 e) + ((CI 36 0).toInt64)) then ((CL 18 e) + ((CI 36 0).toInt64)) else ((mta (M i)) + ((CI 36 0).toInt64))))) CR (upM M n (5, 3, CI 16 e, mcore (M i), CI 17 e, (up2 CL 19 e (if (if ((mta (M i)) + ((CI 36 0).toInt64)) < ((CL 18 e) + ((CI 36 0).toInt64)) then ((CL 18 e) + ((CI 36 0).toInt64)) else ((mta (M i)) + ((CI 36 0).toInt64))) < (CL 19 e) then (CL 19 e) else (if ((mta (M i)) + ((CI 36 0).toInt64)) < ((CL 18 e) + ((CI 36 0).toInt64)) then ((CL 18 e) + ((CI 36 0).toInt64)) else ((mta (M i)) + ((CI 36 0).toInt64))))) 18 e, (up2 CL 19 e (if (if ((mta (M i)) + ((CI 36 0).toInt64)) < ((CL 18 e) + ((CI 36 0).toInt64)) then ((CL 18 e) + ((CI 36 0).toInt64)) else ((mta (M i)) + ((CI 36 0).toInt64))) < (CL 19 e) then (CL 19 e) else (if ((mta (M i)) + ((CI 36 0).toInt64)) < ((CL 18 e) + ((CI 36 0).toInt64)) then ((CL 18 e) + ((CI 36 0).toInt64)) else ((mta (M i)) + ((CI 36 0).toInt64))))) 19 e, if mkind (M i) = 2 then 1 else 0)) (n + 1)) (n := 1) (As := [.ref (al12 n)]) (rest := []) (C := R_LC) X w (c_LC_send l D ac o ad al12 CI (up2 CL 19 e (if (if ((mta (M i)) + ((CI 36 0).toInt64)) < ((CL 18 e) + ((CI 36 0).toInt64)) then ((CL 18 e) + ((CI 36 0).toInt64)) else ((mta (M i)) + ((CI 36 0).toInt64))) < (CL 19 e) then (CL 19 e) else (if ((mta (M i)) + ((CI 36 0).toInt64)) < ((CL 18 e) + ((CI 36 0).toInt64)) then ((CL 18 e) + ((CI 36 0).toInt64)) else ((mta (M i)) + ((CI 36 0).toInt64))))) CR (upM M n (5, 3, CI 16 e, mcore (M i), CI 17 e, (up2 CL 19 e (if (if ((mta (M i)) + ((CI 36 0).toInt64)) < ((CL 18 e) + ((CI 36 0).toInt64)) then ((CL 18 e) + ((CI 36 0).toInt64)) else ((mta (M i)) + ((CI 36 0).toInt64))) < (CL 19 e) then (CL 19 e) else (if ((mta (M i)) + ((CI 36 0).toInt64)) < ((CL 18 e) + ((CI 36 0).toInt64)) then ((CL 18 e) + ((CI 36 0).toInt64)) else ((mta (M i)) + ((CI 36 0).toInt64))))) 18 e, (up2 CL 19 e (if (if ((mta (M i)) + ((CI 36 0).toInt64)) < ((CL 18 e) + ((CI 36 0).toInt64)) then ((CL 18 e) + ((CI 36 0).toInt64)) else ((mta (M i)) + ((CI 36 0).toInt64))) < (CL 19 e) then (CL 19 e) else (if ((mta (M i)) + ((CI 36 0).toInt64)) < ((CL 18 e) + ((CI 36 0).toInt64)) then ((CL 18 e) + ((CI 36 0).toInt64)) else ((mta (M i)) + ((CI 36 0).toInt64))))) 19 e, if mkind (M i) = 2 then 1 else 0)) (n + 1) _ n mm hm (by omega) (by omega) hok) wk_LC_send wi_LC wm_LC_95 wx_LC_send ws_LC_LC_send (by decide +kernel) rfl rfl ⟨(Nat.le_of_ble_eq_true rfl), (Nat.le_of_ble_eq_true rfl)⟩ ⟨(Nat.le_of_ble_eq_true rfl), (Nat.le_of_ble_eq_true rfl)⟩ (crecv X w) rfl hl.1 rfl (Nat.le_of_ble_eq_true rfl) d_LC_serve_136) (fun u H locs hp w => ?_)
        obtain ⟨hok9, rfl⟩ := hp
        have hok := hok9
        have w : Wo D _ (cwm ac o ad al12 (up2 CI 38 0 (nI (mm + 1))) (up2 CL 19 e (if (if ((mta (M i)) + ((CI 36 0).toInt64)) < ((CL 18 e) + ((CI 36 0).toInt64)) then ((CL 18 e) + ((CI 36 0).toInt64)) else ((mta (M i)) + ((CI 36 0).toInt64))) < (CL 19 e) then (CL 19 e) else (if ((mta (M i)) + ((CI 36 0).toInt64)) < ((CL 18 e) + ((CI 36 0).toInt64)) then ((CL 18 e) + ((CI 36 0).toInt64)) else ((mta (M i)) + ((CI 36 0).toInt64))))) (up2 CR 3 mm (some n)) (upM M n (5, 3, CI 16 e, mcore (M i), CI 17 e, (up2 CL 19 e (if (if ((mta (M i)) + ((CI 36 0).toInt64)) < ((CL 18 e) + ((CI 36 0).toInt64)) then ((CL 18 e) + ((CI 36 0).toInt64)) else ((mta (M i)) + ((CI 36 0).toInt64))) < (CL 19 e) then (CL 19 e) else (if ((mta (M i)) + ((CI 36 0).toInt64)) < ((CL 18 e) + ((CI 36 0).toInt64)) then ((CL 18 e) + ((CI 36 0).toInt64)) else ((mta (M i)) + ((CI 36 0).toInt64))))) 18 e, (up2 CL 19 e (if (if ((mta (M i)) + ((CI 36 0).toInt64)) < ((CL 18 e) + ((CI 36 0).toInt64)) then ((CL 18 e) + ((CI 36 0).toInt64)) else ((mta (M i)) + ((CI 36 0).toInt64))) < (CL 19 e) then (CL 19 e) else (if ((mta (M i)) + ((CI 36 0).toInt64)) < ((CL 18 e) + ((CI 36 0).toInt64)) then ((CL 18 e) + ((CI 36 0).toInt64)) else ((mta (M i)) + ((CI 36 0).toInt64))))) 19 e, if mkind (M i) = 2 then 1 else 0)) (n + 1)) s.heap _ _ := w
        have hF : f_LC_serve CI CL CR M n e i mm = (up2 CI 38 0 (nI (mm + 1)), up2 CL 19 e (if (if ((mta (M i)) + ((CI 36 0).toInt64)) < ((CL 18 e) + ((CI 36 0).toInt64)) then ((CL 18 e) + ((CI 36 0).toInt64)) else ((mta (M i)) + ((CI 36 0).toInt64))) < (CL 19 e) then (CL 19 e) else (if ((mta (M i)) + ((CI 36 0).toInt64)) < ((CL 18 e) + ((CI 36 0).toInt64)) then ((CL 18 e) + ((CI 36 0).toInt64)) else ((mta (M i)) + ((CI 36 0).toInt64)))), up2 CR 3 mm (some n), upM M n (5, 3, CI 16 e, mcore (M i), CI 17 e, (up2 CL 19 e (if (if ((mta (M i)) + ((CI 36 0).toInt64)) < ((CL 18 e) + ((CI 36 0).toInt64)) then ((CL 18 e) + ((CI 36 0).toInt64)) else ((mta (M i)) + ((CI 36 0).toInt64))) < (CL 19 e) then (CL 19 e) else (if ((mta (M i)) + ((CI 36 0).toInt64)) < ((CL 18 e) + ((CI 36 0).toInt64)) then ((CL 18 e) + ((CI 36 0).toInt64)) else ((mta (M i)) + ((CI 36 0).toInt64))))) 18 e, (up2 CL 19 e (if (if ((mta (M i)) + ((CI 36 0).toInt64)) < ((CL 18 e) + ((CI 36 0).toInt64)) then ((CL 18 e) + ((CI 36 0).toInt64)) else ((mta (M i)) + ((CI 36 0).toInt64))) < (CL 19 e) then (CL 19 e) else (if ((mta (M i)) + ((CI 36 0).toInt64)) < ((CL 18 e) + ((CI 36 0).toInt64)) then ((CL 18 e) + ((CI 36 0).toInt64)) else ((mta (M i)) + ((CI 36 0).toInt64))))) 19 e, if mkind (M i) = 2 then 1 else 0), n + 1) := by unfold f_LC_serve; rw [ho1, oc_none, if_pos h3, if_neg h11]
        refine W.widen (k := 1) (n := 7) (Nat.le_of_ble_eq_true rfl) (Nat.le_of_ble_eq_true rfl) ?_
        exact kvret (Qc := fun _ _ _ _ => True) X w hr hk ⟨al12, hal, by rw [hF]; exact hn, by rw [hF]; exact hok, by rw [hF]⟩ d_LC_serve_139
      · skip
        refine lv_iconst (v := 4) hx hb d_LC_serve_126 (by decide) ?_
        refine lv_goto (tgt := 131) hx hb d_LC_serve_127 (by decide) ?_
        refine lv_aload_n hx hb d_LC_serve_131 rfl (lv_at hl 1 rfl) ?_
        refine lv_aload_n hx hb d_LC_serve_132 rfl (lv_at hl 2 rfl) ?_
        refine kcallv (ws0 := []) w (krunI (ws0 := []) (wc := cws ac o ad CI (up2 CL 19 e (if (if ((mta (M i)) + ((CI 36 0).toInt64)) < ((CL 18 e) + ((CI 36 0).toInt64)) then ((CL 18 e) + ((CI 36 0).toInt64)) else ((mta (M i)) + ((CI 36 0).toInt64))) < (CL 19 e) then (CL 19 e) else (if ((mta (M i)) + ((CI 36 0).toInt64)) < ((CL 18 e) + ((CI 36 0).toInt64)) then ((CL 18 e) + ((CI 36 0).toInt64)) else ((mta (M i)) + ((CI 36 0).toInt64))))) (mapR al CR) (mtl ad al M n ++ [(q10, .inr (5, [.int 0, .int 0, .null, .int 0, .long 0, .long 0, .int 0]))])) (n := 3) (As := [.int 4, .ref (ad (22 + e)), .ref (al i)]) (rest := [.ref q10, .ref o]) X w (c_Answer_init l D ac o ad CI (up2 CL 19 e (if (if ((mta (M i)) + ((CI 36 0).toInt64)) < ((CL 18 e) + ((CI 36 0).toInt64)) then ((CL 18 e) + ((CI 36 0).toInt64)) else ((mta (M i)) + ((CI 36 0).toInt64))) < (CL 19 e) then (CL 19 e) else (if ((mta (M i)) + ((CI 36 0).toInt64)) < ((CL 18 e) + ((CI 36 0).toInt64)) then ((CL 18 e) + ((CI 36 0).toInt64)) else ((mta (M i)) + ((CI 36 0).toInt64))))) (mapR al CR) (mtl ad al M n) q10 _ 4 e (al i) (M i) (by omega) (hs_mem0 (i := i) (by omega)) hcl) wk_Answer_init wi_Answer wm_LC_208 wx_Answer_init rfl (by decide +kernel) rfl rfl ⟨(Nat.le_of_ble_eq_true rfl), (Nat.le_of_ble_eq_true rfl)⟩ ⟨(Nat.le_of_ble_eq_true rfl), (Nat.le_of_ble_eq_true rfl)⟩ rfl hl.1 rfl (Nat.le_of_ble_eq_true rfl) d_LC_serve_133) (fun u H locs hp w => ?_)
        obtain rfl := hp
        have w : Wo D _ (cws ac o ad CI (up2 CL 19 e (if (if ((mta (M i)) + ((CI 36 0).toInt64)) < ((CL 18 e) + ((CI 36 0).toInt64)) then ((CL 18 e) + ((CI 36 0).toInt64)) else ((mta (M i)) + ((CI 36 0).toInt64))) < (CL 19 e) then (CL 19 e) else (if ((mta (M i)) + ((CI 36 0).toInt64)) < ((CL 18 e) + ((CI 36 0).toInt64)) then ((CL 18 e) + ((CI 36 0).toInt64)) else ((mta (M i)) + ((CI 36 0).toInt64))))) (mapR al CR) (mtl ad al M n ++ [(q10, .inr (5, [.int 4, .int (CI 16 e), va_rf (rC ad (mcore (M i))), .int (CI 17 e), .long ((up2 CL 19 e (if (if ((mta (M i)) + ((CI 36 0).toInt64)) < ((CL 18 e) + ((CI 36 0).toInt64)) then ((CL 18 e) + ((CI 36 0).toInt64)) else ((mta (M i)) + ((CI 36 0).toInt64))) < (CL 19 e) then (CL 19 e) else (if ((mta (M i)) + ((CI 36 0).toInt64)) < ((CL 18 e) + ((CI 36 0).toInt64)) then ((CL 18 e) + ((CI 36 0).toInt64)) else ((mta (M i)) + ((CI 36 0).toInt64))))) 18 e), .long ((up2 CL 19 e (if (if ((mta (M i)) + ((CI 36 0).toInt64)) < ((CL 18 e) + ((CI 36 0).toInt64)) then ((CL 18 e) + ((CI 36 0).toInt64)) else ((mta (M i)) + ((CI 36 0).toInt64))) < (CL 19 e) then (CL 19 e) else (if ((mta (M i)) + ((CI 36 0).toInt64)) < ((CL 18 e) + ((CI 36 0).toInt64)) then ((CL 18 e) + ((CI 36 0).toInt64)) else ((mta (M i)) + ((CI 36 0).toInt64))))) 19 e), .int (if mkind (M i) = 2 then 1 else 0)]))])) s.heap _ _ := w
        obtain ⟨al14, hal9, hq15, w9⟩ := kjoinM (al := al) (CR := CR) (m := (5, 4, CI 16 e, mcore (M i), CI 17 e, (up2 CL 19 e (if (if ((mta (M i)) + ((CI 36 0).toInt64)) < ((CL 18 e) + ((CI 36 0).toInt64)) then ((CL 18 e) + ((CI 36 0).toInt64)) else ((mta (M i)) + ((CI 36 0).toInt64))) < (CL 19 e) then (CL 19 e) else (if ((mta (M i)) + ((CI 36 0).toInt64)) < ((CL 18 e) + ((CI 36 0).toInt64)) then ((CL 18 e) + ((CI 36 0).toInt64)) else ((mta (M i)) + ((CI 36 0).toInt64))))) 18 e, (up2 CL 19 e (if (if ((mta (M i)) + ((CI 36 0).toInt64)) < ((CL 18 e) + ((CI 36 0).toInt64)) then ((CL 18 e) + ((CI 36 0).toInt64)) else ((mta (M i)) + ((CI 36 0).toInt64))) < (CL 19 e) then (CL 19 e) else (if ((mta (M i)) + ((CI 36 0).toInt64)) < ((CL 18 e) + ((CI 36 0).toInt64)) then ((CL 18 e) + ((CI 36 0).toInt64)) else ((mta (M i)) + ((CI 36 0).toInt64))))) 19 e, if mkind (M i) = 2 then 1 else 0)) w rfl hok
        clear w
        subst hq15
        have w := w9
        clear w9
        have hal : ∀ i, i < n → al14 i = al i := fun i h => (hal9 i (by omega)).trans (hal i h)
        have hok := crok_le hok (Nat.le_succ _)
        have hn : n ≤ n + 1 := by omega
        rw [← hal9 i (by omega)] at hl
        have hl : lv_has ls 3 [(0, .ref o), (1, .ref (ad (22 + e))), (2, .ref (al14 i))] := hl
        have w : Wo D _ (cwm ac o ad al14 CI (up2 CL 19 e (if (if ((mta (M i)) + ((CI 36 0).toInt64)) < ((CL 18 e) + ((CI 36 0).toInt64)) then ((CL 18 e) + ((CI 36 0).toInt64)) else ((mta (M i)) + ((CI 36 0).toInt64))) < (CL 19 e) then (CL 19 e) else (if ((mta (M i)) + ((CI 36 0).toInt64)) < ((CL 18 e) + ((CI 36 0).toInt64)) then ((CL 18 e) + ((CI 36 0).toInt64)) else ((mta (M i)) + ((CI 36 0).toInt64))))) CR (upM M n (5, 4, CI 16 e, mcore (M i), CI 17 e, (up2 CL 19 e (if (if ((mta (M i)) + ((CI 36 0).toInt64)) < ((CL 18 e) + ((CI 36 0).toInt64)) then ((CL 18 e) + ((CI 36 0).toInt64)) else ((mta (M i)) + ((CI 36 0).toInt64))) < (CL 19 e) then (CL 19 e) else (if ((mta (M i)) + ((CI 36 0).toInt64)) < ((CL 18 e) + ((CI 36 0).toInt64)) then ((CL 18 e) + ((CI 36 0).toInt64)) else ((mta (M i)) + ((CI 36 0).toInt64))))) 18 e, (up2 CL 19 e (if (if ((mta (M i)) + ((CI 36 0).toInt64)) < ((CL 18 e) + ((CI 36 0).toInt64)) then ((CL 18 e) + ((CI 36 0).toInt64)) else ((mta (M i)) + ((CI 36 0).toInt64))) < (CL 19 e) then (CL 19 e) else (if ((mta (M i)) + ((CI 36 0).toInt64)) < ((CL 18 e) + ((CI 36 0).toInt64)) then ((CL 18 e) + ((CI 36 0).toInt64)) else ((mta (M i)) + ((CI 36 0).toInt64))))) 19 e, if mkind (M i) = 2 then 1 else 0)) (n + 1)) s.heap _ _ := w
        refine kcallv (ws0 := []) w (krunV (ws0 := []) (wc := cwm ac o ad al14 CI (up2 CL 19 e (if (if ((mta (M i)) + ((CI 36 0).toInt64)) < ((CL 18 e) + ((CI 36 0).toInt64)) then ((CL 18 e) + ((CI 36 0).toInt64)) else ((mta (M i)) + ((CI 36 0).toInt64))) < (CL 19 e) then (CL 19 e) else (if ((mta (M i)) + ((CI 36 0).toInt64)) < ((CL 18 e) + ((CI 36 0).toInt64)) then ((CL 18 e) + ((CI 36 0).toInt64)) else ((mta (M i)) + ((CI 36 0).toInt64))))) CR (upM M n (5, 4, CI 16 e, mcore (M i), CI 17 e, (up2 CL 19 e (if (if ((mta (M i)) + ((CI 36 0).toInt64)) < ((CL 18 e) + ((CI 36 0).toInt64)) then ((CL 18 e) + ((CI 36 0).toInt64)) else ((mta (M i)) + ((CI 36 0).toInt64))) < (CL 19 e) then (CL 19 e) else (if ((mta (M i)) + ((CI 36 0).toInt64)) < ((CL 18 e) + ((CI 36 0).toInt64)) then ((CL 18 e) + ((CI 36 0).toInt64)) else ((mta (M i)) + ((CI 36 0).toInt64))))) 18 e, (up2 CL 19 e (if (if ((mta (M i)) + ((CI 36 0).toInt64)) < ((CL 18 e) + ((CI 36 0).toInt64)) then ((CL 18 e) + ((CI 36 0).toInt64)) else ((mta (M i)) + ((CI 36 0).toInt64))) < (CL 19 e) then (CL 19 e) else (if ((mta (M i)) + ((CI 36 0).toInt64)) < ((CL 18 e) + ((CI 36 0).toInt64)) then ((CL 18 e) + ((CI 36 0).toInt64)) else ((mta (M i)) + ((CI 36 0).toInt64))))) 19 e, if mkind (M i) = 2 then 1 else 0)) (n + 1)) (n := 1) (As := [.ref (al14 n)]) (rest := []) (C := R_LC) X w (c_LC_send l D ac o ad al14 CI (up2 CL 19 e (if (if ((mta (M i)) + ((CI 36 0).toInt64)) < ((CL 18 e) + ((CI 36 0).toInt64)) then ((CL 18 e) + ((CI 36 0).toInt64)) else ((mta (M i)) + ((CI 36 0).toInt64))) < (CL 19 e) then (CL 19 e) else (if ((mta (M i)) + ((CI 36 0).toInt64)) < ((CL 18 e) + ((CI 36 0).toInt64)) then ((CL 18 e) + ((CI 36 0).toInt64)) else ((mta (M i)) + ((CI 36 0).toInt64))))) CR (upM M n (5, 4, CI 16 e, mcore (M i), CI 17 e, (up2 CL 19 e (if (if ((mta (M i)) + ((CI 36 0).toInt64)) < ((CL 18 e) + ((CI 36 0).toInt64)) then ((CL 18 e) + ((CI 36 0).toInt64)) else ((mta (M i)) + ((CI 36 0).toInt64))) < (CL 19 e) then (CL 19 e) else (if ((mta (M i)) + ((CI 36 0).toInt64)) < ((CL 18 e) + ((CI 36 0).toInt64)) then ((CL 18 e) + ((CI 36 0).toInt64)) else ((mta (M i)) + ((CI 36 0).toInt64))))) 18 e, (up2 CL 19 e (if (if ((mta (M i)) + ((CI 36 0).toInt64)) < ((CL 18 e) + ((CI 36 0).toInt64)) then ((CL 18 e) + ((CI 36 0).toInt64)) else ((mta (M i)) + ((CI 36 0).toInt64))) < (CL 19 e) then (CL 19 e) else (if ((mta (M i)) + ((CI 36 0).toInt64)) < ((CL 18 e) + ((CI 36 0).toInt64)) then ((CL 18 e) + ((CI 36 0).toInt64)) else ((mta (M i)) + ((CI 36 0).toInt64))))) 19 e, if mkind (M i) = 2 then 1 else 0)) (n + 1) _ n mm hm (by omega) (by omega) hok) wk_LC_send wi_LC wm_LC_95 wx_LC_send ws_LC_LC_send (by decide +kernel) rfl rfl ⟨(Nat.le_of_ble_eq_true rfl), (Nat.le_of_ble_eq_true rfl)⟩ ⟨(Nat.le_of_ble_eq_true rfl), (Nat.le_of_ble_eq_true rfl)⟩ (crecv X w) rfl hl.1 rfl (Nat.le_of_ble_eq_true rfl) d_LC_serve_136) (fun u H locs hp w => ?_)
        obtain ⟨hok9, rfl⟩ := hp
        have hok := hok9
        have w : Wo D _ (cwm ac o ad al14 (up2 CI 38 0 (nI (mm + 1))) (up2 CL 19 e (if (if ((mta (M i)) + ((CI 36 0).toInt64)) < ((CL 18 e) + ((CI 36 0).toInt64)) then ((CL 18 e) + ((CI 36 0).toInt64)) else ((mta (M i)) + ((CI 36 0).toInt64))) < (CL 19 e) then (CL 19 e) else (if ((mta (M i)) + ((CI 36 0).toInt64)) < ((CL 18 e) + ((CI 36 0).toInt64)) then ((CL 18 e) + ((CI 36 0).toInt64)) else ((mta (M i)) + ((CI 36 0).toInt64))))) (up2 CR 3 mm (some n)) (upM M n (5, 4, CI 16 e, mcore (M i), CI 17 e, (up2 CL 19 e (if (if ((mta (M i)) + ((CI 36 0).toInt64)) < ((CL 18 e) + ((CI 36 0).toInt64)) then ((CL 18 e) + ((CI 36 0).toInt64)) else ((mta (M i)) + ((CI 36 0).toInt64))) < (CL 19 e) then (CL 19 e) else (if ((mta (M i)) + ((CI 36 0).toInt64)) < ((CL 18 e) + ((CI 36 0).toInt64)) then ((CL 18 e) + ((CI 36 0).toInt64)) else ((mta (M i)) + ((CI 36 0).toInt64))))) 18 e, (up2 CL 19 e (if (if ((mta (M i)) + ((CI 36 0).toInt64)) < ((CL 18 e) + ((CI 36 0).toInt64)) then ((CL 18 e) + ((CI 36 0).toInt64)) else ((mta (M i)) + ((CI 36 0).toInt64))) < (CL 19 e) then (CL 19 e) else (if ((mta (M i)) + ((CI 36 0).toInt64)) < ((CL 18 e) + ((CI 36 0).toInt64)) then ((CL 18 e) + ((CI 36 0).toInt64)) else ((mta (M i)) + ((CI 36 0).toInt64))))) 19 e, if mkind (M i) = 2 then 1 else 0)) (n + 1)) s.heap _ _ := w
        have hF : f_LC_serve CI CL CR M n e i mm = (up2 CI 38 0 (nI (mm + 1)), up2 CL 19 e (if (if ((mta (M i)) + ((CI 36 0).toInt64)) < ((CL 18 e) + ((CI 36 0).toInt64)) then ((CL 18 e) + ((CI 36 0).toInt64)) else ((mta (M i)) + ((CI 36 0).toInt64))) < (CL 19 e) then (CL 19 e) else (if ((mta (M i)) + ((CI 36 0).toInt64)) < ((CL 18 e) + ((CI 36 0).toInt64)) then ((CL 18 e) + ((CI 36 0).toInt64)) else ((mta (M i)) + ((CI 36 0).toInt64)))), up2 CR 3 mm (some n), upM M n (5, 4, CI 16 e, mcore (M i), CI 17 e, (up2 CL 19 e (if (if ((mta (M i)) + ((CI 36 0).toInt64)) < ((CL 18 e) + ((CI 36 0).toInt64)) then ((CL 18 e) + ((CI 36 0).toInt64)) else ((mta (M i)) + ((CI 36 0).toInt64))) < (CL 19 e) then (CL 19 e) else (if ((mta (M i)) + ((CI 36 0).toInt64)) < ((CL 18 e) + ((CI 36 0).toInt64)) then ((CL 18 e) + ((CI 36 0).toInt64)) else ((mta (M i)) + ((CI 36 0).toInt64))))) 18 e, (up2 CL 19 e (if (if ((mta (M i)) + ((CI 36 0).toInt64)) < ((CL 18 e) + ((CI 36 0).toInt64)) then ((CL 18 e) + ((CI 36 0).toInt64)) else ((mta (M i)) + ((CI 36 0).toInt64))) < (CL 19 e) then (CL 19 e) else (if ((mta (M i)) + ((CI 36 0).toInt64)) < ((CL 18 e) + ((CI 36 0).toInt64)) then ((CL 18 e) + ((CI 36 0).toInt64)) else ((mta (M i)) + ((CI 36 0).toInt64))))) 19 e, if mkind (M i) = 2 then 1 else 0), n + 1) := by unfold f_LC_serve; rw [ho1, oc_none, if_pos h3, if_pos h11]
        refine W.widen (k := 1) (n := 7) (Nat.le_of_ble_eq_true rfl) (Nat.le_of_ble_eq_true rfl) ?_
        exact kvret (Qc := fun _ _ _ _ => True) X w hr hk ⟨al14, hal, by rw [hF]; exact hn, by rw [hF]; exact hok, by rw [hF]⟩ d_LC_serve_139
  | some y2 =>
    refine W.eq (g2 := F0 m 4 ls [.ref (ad (4 + y2))]) (by first | rfl | exact congrArg (fun z => F0 m 4 ls [va_rf (rC ad z)]) (show CR 0 e = _ from ho1)) ?_
    refine lv_ifnull hx hb d_LC_serve_4 ?_
    refine lv_aload_n hx hb d_LC_serve_7 rfl (lv_at hl 1 rfl) ?_
    refine lv_aload_n hx hb d_LC_serve_8 rfl (lv_at hl 2 rfl) ?_
    refine cm_LC_162 X w e (by omega) (x := some i) d_LC_serve_9 (fun H locs w => ?_)
    have hok := crok_up (k := 1) (j := e) (x := some i) hok (Or.inr (fun i h => by cases h; omega))
    refine lv_aload_n hx hb d_LC_serve_12 rfl (lv_at hl 1 rfl) ?_
    refine cg_LC_193 X w e (by omega) (v := CI 21 e) rfl d_LC_serve_13 ?_
    refine lv_if_ne (tgt := 55) hx hb d_LC_serve_16 (by decide) (fun h16 => ?_) (fun h16 => ?_)
    · skip
      have hF : f_LC_serve CI CL CR M n e i mm = (CI, CL, up2 CR 1 e (some i), M, n) := by unfold f_LC_serve; rw [ho1, oc_some, if_neg h16]
      refine W.widen (k := 1) (n := 7) (Nat.le_of_ble_eq_true rfl) (Nat.le_of_ble_eq_true rfl) ?_
      exact kvret (Qc := fun _ _ _ _ => True) X w hr hk ⟨al, hal, by rw [hF]; exact hn, by rw [hF]; exact hok, by rw [hF]⟩ d_LC_serve_55
    · skip
      refine lv_aload_n hx hb d_LC_serve_19 rfl (lv_at hl 0 rfl) ?_
      refine knew X w (C := R_Call) (T := F_Call) (N := 4) (ci := 6) rfl i_Call t_Call t_Call_ok wc_LC_54 wn_Call wi_Call (fs := [.int 0, .int 0, .null, .long 0]) (by decide) (Nat.le_of_ble_eq_true rfl) (Nat.le_of_ble_eq_true rfl) d_LC_serve_20 (fun q17 H w => ?_)
      have w : Wo D _ (cws ac o ad CI CL (mapR al (up2 CR 1 e (some i))) (mtl ad al M n ++ [(q17, .inr (6, [.int 0, .int 0, .null, .long 0]))])) s.heap _ _ := w
      refine lv_dup hx hb d_LC_serve_23 rfl ?_
      refine lv_aload_n hx hb d_LC_serve_24 rfl (lv_at hl 2 rfl) ?_
      refine qg_LC_199 (m9 := (M i)) X w (hs_mem (i := i) (by omega)) hcl d_LC_serve_25 ?_
      refine lv_iconst (v := 1) hx hb d_LC_serve_28 (by decide) ?_
      refine lv_icmp_ne (tgt := 36) hx hb d_LC_serve_29 (by decide) (fun h18 => ?_) (fun h18 => ?_)
      · skip
        refine lv_bipush (v := 6) hx hb d_LC_serve_36 (by decide) ?_
        refine lv_aload_n hx hb d_LC_serve_38 rfl (lv_at hl 1 rfl) ?_
        refine lv_aload_n hx hb d_LC_serve_39 rfl (lv_at hl 2 rfl) ?_
        refine qg_LC_200 (m9 := (M i)) X w (hs_mem (i := i) (by omega)) hcl d_LC_serve_40 ?_
        refine lv_aload_n hx hb d_LC_serve_43 rfl (lv_at hl 0 rfl) ?_
        refine cg_LC_40 X w (v := CI 36 0) rfl d_LC_serve_44 ?_
        refine lv_i2l (v := (CI 36 0).toInt64) hx hb d_LC_serve_47 (rfl) ?_
        refine lv_ladd hx hb d_LC_serve_48 ?_
        refine kcallv (ws0 := []) w (krunI (ws0 := []) (wc := cws ac o ad CI CL (mapR al (up2 CR 1 e (some i))) (mtl ad al M n ++ [(q17, .inr (6, [.int 0, .int 0, .null, .long 0]))])) (n := 3) (As := [.int 6, .ref (ad (22 + e)), .long ((mta (M i)) + ((CI 36 0).toInt64))]) (rest := [.ref q17, .ref o]) X w (c_Call_init l D ac o ad CI CL (mapR al (up2 CR 1 e (some i))) (mtl ad al M n) q17 _ 6 e ((mta (M i)) + ((CI 36 0).toInt64)) (by omega)) wk_Call_init wi_Call wm_LC_196 wx_Call_init rfl (by decide +kernel) rfl rfl ⟨(Nat.le_of_ble_eq_true rfl), (Nat.le_of_ble_eq_true rfl)⟩ ⟨(Nat.le_of_ble_eq_true rfl), (Nat.le_of_ble_eq_true rfl)⟩ rfl hl.1 rfl (Nat.le_of_ble_eq_true rfl) d_LC_serve_49) (fun u H locs hp w => ?_)
        obtain rfl := hp
        have w : Wo D _ (cws ac o ad CI CL (mapR al (up2 CR 1 e (some i))) (mtl ad al M n ++ [(q17, .inr (6, [.int 6, .int (CI 16 e), va_rf (rC ad ((mapR al (up2 CR 1 e (some i))) 0 e)), .long ((mta (M i)) + ((CI 36 0).toInt64))]))])) s.heap _ _ := w
        obtain ⟨al19, hal9, hq20, w9⟩ := kjoinM (al := al) (CR := up2 CR 1 e (some i)) (m := (6, 6, CI 16 e, (up2 CR 1 e (some i)) 0 e, 0, ((mta (M i)) + ((CI 36 0).toInt64)), 0, 0)) w rfl hok
        clear w
        subst hq20
        have w := w9
        clear w9
        have hal : ∀ i, i < n → al19 i = al i := fun i h => (hal9 i (by omega)).trans (hal i h)
        have hok := crok_le hok (Nat.le_succ _)
        have hn : n ≤ n + 1 := by omega
        rw [← hal9 i (by omega)] at hl
        have hl : lv_has ls 3 [(0, .ref o), (1, .ref (ad (22 + e))), (2, .ref (al19 i))] := hl
        have w : Wo D _ (cwm ac o ad al19 CI CL (up2 CR 1 e (some i)) (upM M n (6, 6, CI 16 e, (up2 CR 1 e (some i)) 0 e, 0, ((mta (M i)) + ((CI 36 0).toInt64)), 0, 0)) (n + 1)) s.heap _ _ := w
        refine kcallv (ws0 := []) w (krunV (ws0 := []) (wc := cwm ac o ad al19 CI CL (up2 CR 1 e (some i)) (upM M n (6, 6, CI 16 e, (up2 CR 1 e (some i)) 0 e, 0, ((mta (M i)) + ((CI 36 0).toInt64)), 0, 0)) (n + 1)) (n := 1) (As := [.ref (al19 n)]) (rest := []) (C := R_LC) X w (c_LC_send l D ac o ad al19 CI CL (up2 CR 1 e (some i)) (upM M n (6, 6, CI 16 e, (up2 CR 1 e (some i)) 0 e, 0, ((mta (M i)) + ((CI 36 0).toInt64)), 0, 0)) (n + 1) _ n mm hm (by omega) (by omega) hok) wk_LC_send wi_LC wm_LC_95 wx_LC_send ws_LC_LC_send (by decide +kernel) rfl rfl ⟨(Nat.le_of_ble_eq_true rfl), (Nat.le_of_ble_eq_true rfl)⟩ ⟨(Nat.le_of_ble_eq_true rfl), (Nat.le_of_ble_eq_true rfl)⟩ (crecv X w) rfl hl.1 rfl (Nat.le_of_ble_eq_true rfl) d_LC_serve_52) (fun u H locs hp w => ?_)
        obtain ⟨hok9, rfl⟩ := hp
        have hok := hok9
        have w : Wo D _ (cwm ac o ad al19 (up2 CI 38 0 (nI (mm + 1))) CL (up2 (up2 CR 1 e (some i)) 3 mm (some n)) (upM M n (6, 6, CI 16 e, (up2 CR 1 e (some i)) 0 e, 0, ((mta (M i)) + ((CI 36 0).toInt64)), 0, 0)) (n + 1)) s.heap _ _ := w
        have hF : f_LC_serve CI CL CR M n e i mm = (up2 CI 38 0 (nI (mm + 1)), CL, up2 (up2 CR 1 e (some i)) 3 mm (some n), upM M n (6, 6, CI 16 e, (up2 CR 1 e (some i)) 0 e, 0, ((mta (M i)) + ((CI 36 0).toInt64)), 0, 0), n + 1) := by unfold f_LC_serve; rw [ho1, oc_some, if_pos h16, if_neg h18]
        refine W.widen (k := 1) (n := 7) (Nat.le_of_ble_eq_true rfl) (Nat.le_of_ble_eq_true rfl) ?_
        exact kvret (Qc := fun _ _ _ _ => True) X w hr hk ⟨al19, hal, by rw [hF]; exact hn, by rw [hF]; exact hok, by rw [hF]⟩ d_LC_serve_55
      · skip
        refine lv_iconst (v := 5) hx hb d_LC_serve_32 (by decide) ?_
        refine lv_goto (tgt := 38) hx hb d_LC_serve_33 (by decide) ?_
        refine lv_aload_n hx hb d_LC_serve_38 rfl (lv_at hl 1 rfl) ?_
        refine lv_aload_n hx hb d_LC_serve_39 rfl (lv_at hl 2 rfl) ?_
        refine qg_LC_200 (m9 := (M i)) X w (hs_mem (i := i) (by omega)) hcl d_LC_serve_40 ?_
        refine lv_aload_n hx hb d_LC_serve_43 rfl (lv_at hl 0 rfl) ?_
        refine cg_LC_40 X w (v := CI 36 0) rfl d_LC_serve_44 ?_
        refine lv_i2l (v := (CI 36 0).toInt64) hx hb d_LC_serve_47 (rfl) ?_
        refine lv_ladd hx hb d_LC_serve_48 ?_
        refine kcallv (ws0 := []) w (krunI (ws0 := []) (wc := cws ac o ad CI CL (mapR al (up2 CR 1 e (some i))) (mtl ad al M n ++ [(q17, .inr (6, [.int 0, .int 0, .null, .long 0]))])) (n := 3) (As := [.int 5, .ref (ad (22 + e)), .long ((mta (M i)) + ((CI 36 0).toInt64))]) (rest := [.ref q17, .ref o]) X w (c_Call_init l D ac o ad CI CL (mapR al (up2 CR 1 e (some i))) (mtl ad al M n) q17 _ 5 e ((mta (M i)) + ((CI 36 0).toInt64)) (by omega)) wk_Call_init wi_Call wm_LC_196 wx_Call_init rfl (by decide +kernel) rfl rfl ⟨(Nat.le_of_ble_eq_true rfl), (Nat.le_of_ble_eq_true rfl)⟩ ⟨(Nat.le_of_ble_eq_true rfl), (Nat.le_of_ble_eq_true rfl)⟩ rfl hl.1 rfl (Nat.le_of_ble_eq_true rfl) d_LC_serve_49) (fun u H locs hp w => ?_)
        obtain rfl := hp
        have w : Wo D _ (cws ac o ad CI CL (mapR al (up2 CR 1 e (some i))) (mtl ad al M n ++ [(q17, .inr (6, [.int 5, .int (CI 16 e), va_rf (rC ad ((mapR al (up2 CR 1 e (some i))) 0 e)), .long ((mta (M i)) + ((CI 36 0).toInt64))]))])) s.heap _ _ := w
        obtain ⟨al21, hal9, hq22, w9⟩ := kjoinM (al := al) (CR := up2 CR 1 e (some i)) (m := (6, 5, CI 16 e, (up2 CR 1 e (some i)) 0 e, 0, ((mta (M i)) + ((CI 36 0).toInt64)), 0, 0)) w rfl hok
        clear w
        subst hq22
        have w := w9
        clear w9
        have hal : ∀ i, i < n → al21 i = al i := fun i h => (hal9 i (by omega)).trans (hal i h)
        have hok := crok_le hok (Nat.le_succ _)
        have hn : n ≤ n + 1 := by omega
        rw [← hal9 i (by omega)] at hl
        have hl : lv_has ls 3 [(0, .ref o), (1, .ref (ad (22 + e))), (2, .ref (al21 i))] := hl
        have w : Wo D _ (cwm ac o ad al21 CI CL (up2 CR 1 e (some i)) (upM M n (6, 5, CI 16 e, (up2 CR 1 e (some i)) 0 e, 0, ((mta (M i)) + ((CI 36 0).toInt64)), 0, 0)) (n + 1)) s.heap _ _ := w
        refine kcallv (ws0 := []) w (krunV (ws0 := []) (wc := cwm ac o ad al21 CI CL (up2 CR 1 e (some i)) (upM M n (6, 5, CI 16 e, (up2 CR 1 e (some i)) 0 e, 0, ((mta (M i)) + ((CI 36 0).toInt64)), 0, 0)) (n + 1)) (n := 1) (As := [.ref (al21 n)]) (rest := []) (C := R_LC) X w (c_LC_send l D ac o ad al21 CI CL (up2 CR 1 e (some i)) (upM M n (6, 5, CI 16 e, (up2 CR 1 e (some i)) 0 e, 0, ((mta (M i)) + ((CI 36 0).toInt64)), 0, 0)) (n + 1) _ n mm hm (by omega) (by omega) hok) wk_LC_send wi_LC wm_LC_95 wx_LC_send ws_LC_LC_send (by decide +kernel) rfl rfl ⟨(Nat.le_of_ble_eq_true rfl), (Nat.le_of_ble_eq_true rfl)⟩ ⟨(Nat.le_of_ble_eq_true rfl), (Nat.le_of_ble_eq_true rfl)⟩ (crecv X w) rfl hl.1 rfl (Nat.le_of_ble_eq_true rfl) d_LC_serve_52) (fun u H locs hp w => ?_)
        obtain ⟨hok9, rfl⟩ := hp
        have hok := hok9
        have w : Wo D _ (cwm ac o ad al21 (up2 CI 38 0 (nI (mm + 1))) CL (up2 (up2 CR 1 e (some i)) 3 mm (some n)) (upM M n (6, 5, CI 16 e, (up2 CR 1 e (some i)) 0 e, 0, ((mta (M i)) + ((CI 36 0).toInt64)), 0, 0)) (n + 1)) s.heap _ _ := w
        have hF : f_LC_serve CI CL CR M n e i mm = (up2 CI 38 0 (nI (mm + 1)), CL, up2 (up2 CR 1 e (some i)) 3 mm (some n), upM M n (6, 5, CI 16 e, (up2 CR 1 e (some i)) 0 e, 0, ((mta (M i)) + ((CI 36 0).toInt64)), 0, 0), n + 1) := by unfold f_LC_serve; rw [ho1, oc_some, if_pos h16, if_pos h18]
        refine W.widen (k := 1) (n := 7) (Nat.le_of_ble_eq_true rfl) (Nat.le_of_ble_eq_true rfl) ?_
        exact kvret (Qc := fun _ _ _ _ => True) X w hr hk ⟨al21, hal, by rw [hF]; exact hn, by rw [hF]; exact hok, by rw [hF]⟩ d_LC_serve_55
def f_LC_call_38 (CI : Nat → Nat → Int32) (CL : Nat → Nat → Int64) (CR : Nat → Nat → Option Nat) (M : Nat → Msg) (n : Nat) (sm : Int32) (mm : Nat) : (Nat → Nat → Int32) × (Nat → Nat → Option Nat) × (Nat → Msg) × (Nat) :=
  if sm = 0 then
    oc ((f_LC_least CI CL CR 1)) (
      (CI, CR, M, n))
      (fun y4 =>
      (up2 (up2 CI 21 y4 1) 38 0 (nI (mm + 1)), up2 CR 3 mm (some n), upM M n (6, 6, (up2 CI 21 y4 1) 16 y4, CR 0 y4, 0, 0, 0, 0), n + 1))
  else
    (CI, CR, M, n)
set_option maxHeartbeats 4000000 in
set_option maxRecDepth 100000 in
theorem g_LC_call_38 {p : Program} {l : Launch} {ev : Env} {s : State} {m : MethodId} {args : Array Value} {below : List Frame} {meth : Method} {c0 : Code} {D : va_G} {ac : Nat → ClassId} {o : Nat} {ad : Nat → Nat} {ws0 : va_W} {sz : Nat} {post : va_W → Prop} (X : Cx b_LC_call 3 R_LC D ac p m args c0 s) (hr : meth.sig.returnType = none) (hk : meth.locks = false) (al : Nat → Nat) (CI : Nat → Nat → Int32) (CL : Nat → Nat → Int64) (CR : Nat → Nat → Option Nat) (M : Nat → Msg) (n : Nat) (sm : Int32) (mm : Nat) (hm : CI 38 0 = nI mm) (hmm : mm < 24) (hok : CRok CR n) {H : Heap} {locs : List Loc} {ls : Array Slot} (w : Wo D (va_A ws0 sz) (cwm ac o ad al CI CL CR M n) s.heap H locs) (hl : lv_has ls 3 [(0, .ref o), (1, .int sm)]) (hp : ∀ a9 : Nat → Nat, (∀ i, i < n → a9 i = al i) → n ≤ (f_LC_call_38 CI CL CR M n sm mm).2.2.2 → CRok ((f_LC_call_38 CI CL CR M n sm mm).2.1) ((f_LC_call_38 CI CL CR M n sm mm).2.2.2) → post (cwm ac o ad a9 ((f_LC_call_38 CI CL CR M n sm mm).1) CL ((f_LC_call_38 CI CL CR M n sm mm).2.1) ((f_LC_call_38 CI CL CR M n sm mm).2.2.1) ((f_LC_call_38 CI CL CR M n sm mm).2.2.2))) : W p l ev ({ frames := 3, cells := 1, slots := 7, locals := 77 } : Room) s m args below meth c0 H locs 0 0 (MQ below (va_Qv post (CPost D ws0 sz) (va_A ws0 sz)) args s 1 7 (va_A ws0 sz)) (F0 m 38 ls []) := by
  have hx := X.1
  have hb := X.2.1
  have hal : ∀ i, i < n → al i = al i := fun _ _ => rfl
  have hn : n ≤ n := Nat.le_refl n
  refine lv_iload_n hx hb d_LC_call_38 rfl (lv_at hl 1 rfl) ?_
  refine lv_if_eq (tgt := 46) hx hb d_LC_call_39 (by decide) (fun h1 => ?_) (fun h1 => ?_)
  · skip
    refine lv_aload_n hx hb d_LC_call_46 rfl (lv_at hl 0 rfl) ?_
    refine lv_iconst (v := 1) hx hb d_LC_call_47 (by decide) ?_
    refine kcallq (ws0 := []) w (krunV (ws0 := []) (wc := cwm ac o ad al CI CL CR M n) (n := 1) (As := [.int 1]) (rest := []) (C := R_LC) X w (c_LC_least l D ac o ad al CI CL CR M n _ 1) wk_LC_least wi_LC wm_LC_173 wx_LC_least ws_LC_LC_least (by decide +kernel) rfl rfl ⟨(Nat.le_of_ble_eq_true rfl), (Nat.le_of_ble_eq_true rfl)⟩ ⟨(Nat.le_of_ble_eq_true rfl), (Nat.le_of_ble_eq_true rfl)⟩ (crecv X w) rfl hl.1 rfl (Nat.le_of_ble_eq_true rfl) d_LC_call_48) (fun r2 u H locs hp w => ?_)
    obtain ⟨rfl, rfl⟩ := hp
    have w : Wo D _ (cwm ac o ad al CI CL CR M n) s.heap _ _ := w
    cases ho3 : (f_LC_least CI CL CR 1) with
    | none =>
      refine W.eq (g2 := F0 m 51 ls [.null]) rfl ?_
      refine lv_astore_nN (lv' := [(2, .null), (0, .ref o), (1, .int sm)]) hx hb d_LC_call_51 rfl hl (by decide) rfl (fun ls hl => ?_)
      refine lv_aload_nN hx hb d_LC_call_52 rfl (lv_at hl 0 rfl) ?_
      refine lv_ifnullN (tgt := 76) hx hb d_LC_call_53 (by decide) ?_
      have hF : f_LC_call_38 CI CL CR M n sm mm = (CI, CR, M, n) := by unfold f_LC_call_38; rw [if_pos h1, ho3, oc_none]
      refine W.widen (k := 1) (n := 7) (Nat.le_of_ble_eq_true rfl) (Nat.le_of_ble_eq_true rfl) ?_
      exact kvret (Qc := fun _ _ _ _ => True) X w hr hk (by have hp := hp al hal (by rw [hF]; exact hn) (by rw [hF]; exact hok); rw [hF] at hp; exact hp) d_LC_call_76
    | some y4 =>
      refine W.eq (g2 := F0 m 51 ls [.ref (ad (22 + y4))]) rfl ?_
      have hy4 : y4 < 6 := f_LC_least_lt ho3
      refine lv_astore_n (lv' := [(2, .ref (ad (22 + y4))), (0, .ref o), (1, .int sm)]) hx hb d_LC_call_51 rfl hl (by decide) rfl (fun ls hl => ?_)
      refine lv_aload_n hx hb d_LC_call_52 rfl (lv_at hl 0 rfl) ?_
      refine lv_ifnull hx hb d_LC_call_53 ?_
      refine lv_aload_n hx hb d_LC_call_56 rfl (lv_at hl 0 rfl) ?_
      refine lv_iconst (v := 1) hx hb d_LC_call_57 (by decide) ?_
      refine cp_LC_193 X w y4 (by omega) (by decide) d_LC_call_58 (fun H locs w => ?_)
      refine lv_aload_n hx hb d_LC_call_61 rfl (lv_at hl 1 rfl) ?_
      refine knew X w (C := R_Call) (T := F_Call) (N := 4) (ci := 6) rfl i_Call t_Call t_Call_ok wc_LC_54 wn_Call wi_Call (fs := [.int 0, .int 0, .null, .long 0]) (by decide) (Nat.le_of_ble_eq_true rfl) (Nat.le_of_ble_eq_true rfl) d_LC_call_62 (fun q5 H w => ?_)
      have w : Wo D _ (cws ac o ad (up2 CI 21 y4 1) CL (mapR al CR) (mtl ad al M n ++ [(q5, .inr (6, [.int 0, .int 0, .null, .long 0]))])) s.heap _ _ := w
      refine lv_dup hx hb d_LC_call_65 rfl ?_
      refine lv_bipush (v := 6) hx hb d_LC_call_66 (by decide) ?_
      refine lv_aload_n hx hb d_LC_call_68 rfl (lv_at hl 0 rfl) ?_
      refine lv_lconst (v := 0) hx hb d_LC_call_69 (by decide) ?_
      refine kcallv (ws0 := []) w (krunI (ws0 := []) (wc := cws ac o ad (up2 CI 21 y4 1) CL (mapR al CR) (mtl ad al M n ++ [(q5, .inr (6, [.int 0, .int 0, .null, .long 0]))])) (n := 3) (As := [.int 6, .ref (ad (22 + y4)), .long 0]) (rest := [.ref q5, .ref o]) X w (c_Call_init l D ac o ad (up2 CI 21 y4 1) CL (mapR al CR) (mtl ad al M n) q5 _ 6 y4 0 (by omega)) wk_Call_init wi_Call wm_LC_196 wx_Call_init rfl (by decide +kernel) rfl rfl ⟨(Nat.le_of_ble_eq_true rfl), (Nat.le_of_ble_eq_true rfl)⟩ ⟨(Nat.le_of_ble_eq_true rfl), (Nat.le_of_ble_eq_true rfl)⟩ rfl hl.1 rfl (Nat.le_of_ble_eq_true rfl) d_LC_call_70) (fun u H locs hp w => ?_)
      obtain rfl := hp
      have w : Wo D _ (cws ac o ad (up2 CI 21 y4 1) CL (mapR al CR) (mtl ad al M n ++ [(q5, .inr (6, [.int 6, .int ((up2 CI 21 y4 1) 16 y4), va_rf (rC ad ((mapR al CR) 0 y4)), .long 0]))])) s.heap _ _ := w
      obtain ⟨al6, hal9, hq7, w9⟩ := kjoinM (al := al) (CR := CR) (m := (6, 6, (up2 CI 21 y4 1) 16 y4, CR 0 y4, 0, 0, 0, 0)) w rfl hok
      clear w
      subst hq7
      have w := w9
      clear w9
      have hal : ∀ i, i < n → al6 i = al i := fun i h => (hal9 i (by omega)).trans (hal i h)
      have hok := crok_le hok (Nat.le_succ _)
      have hn : n ≤ n + 1 := by omega
      have w : Wo D _ (cwm ac o ad al6 (up2 CI 21 y4 1) CL CR (upM M n (6, 6, (up2 CI 21 y4 1) 16 y4, CR 0 y4, 0, 0, 0, 0)) (n + 1)) s.heap _ _ := w
      refine kcallv (ws0 := []) w (krunV (ws0 := []) (wc := cwm ac o ad al6 (up2 CI 21 y4 1) CL CR (upM M n (6, 6, (up2 CI 21 y4 1) 16 y4, CR 0 y4, 0, 0, 0, 0)) (n + 1)) (n := 1) (As := [.ref (al6 n)]) (rest := []) (C := R_LC) X w (c_LC_send l D ac o ad al6 (up2 CI 21 y4 1) CL CR (upM M n (6, 6, (up2 CI 21 y4 1) 16 y4, CR 0 y4, 0, 0, 0, 0)) (n + 1) _ n mm hm (by omega) (by omega) hok) wk_LC_send wi_LC wm_LC_95 wx_LC_send ws_LC_LC_send (by decide +kernel) rfl rfl ⟨(Nat.le_of_ble_eq_true rfl), (Nat.le_of_ble_eq_true rfl)⟩ ⟨(Nat.le_of_ble_eq_true rfl), (Nat.le_of_ble_eq_true rfl)⟩ (crecv X w) rfl hl.1 rfl (Nat.le_of_ble_eq_true rfl) d_LC_call_73) (fun u H locs hp w => ?_)
      obtain ⟨hok9, rfl⟩ := hp
      have hok := hok9
      have w : Wo D _ (cwm ac o ad al6 (up2 (up2 CI 21 y4 1) 38 0 (nI (mm + 1))) CL (up2 CR 3 mm (some n)) (upM M n (6, 6, (up2 CI 21 y4 1) 16 y4, CR 0 y4, 0, 0, 0, 0)) (n + 1)) s.heap _ _ := w
      have hF : f_LC_call_38 CI CL CR M n sm mm = (up2 (up2 CI 21 y4 1) 38 0 (nI (mm + 1)), up2 CR 3 mm (some n), upM M n (6, 6, (up2 CI 21 y4 1) 16 y4, CR 0 y4, 0, 0, 0, 0), n + 1) := by unfold f_LC_call_38; rw [if_pos h1, ho3, oc_some]
      refine W.widen (k := 1) (n := 7) (Nat.le_of_ble_eq_true rfl) (Nat.le_of_ble_eq_true rfl) ?_
      exact kvret (Qc := fun _ _ _ _ => True) X w hr hk (by have hp := hp al6 hal (by rw [hF]; exact hn) (by rw [hF]; exact hok); rw [hF] at hp; exact hp) d_LC_call_76
  · skip
    refine lv_null hx hb d_LC_call_42 ?_
    refine lv_goto (tgt := 51) hx hb d_LC_call_43 (by decide) ?_
    refine lv_astore_nN (lv' := [(2, .null), (0, .ref o), (1, .int sm)]) hx hb d_LC_call_51 rfl hl (by decide) rfl (fun ls hl => ?_)
    refine lv_aload_nN hx hb d_LC_call_52 rfl (lv_at hl 0 rfl) ?_
    refine lv_ifnullN (tgt := 76) hx hb d_LC_call_53 (by decide) ?_
    have hF : f_LC_call_38 CI CL CR M n sm mm = (CI, CR, M, n) := by unfold f_LC_call_38; rw [if_neg h1]
    refine W.widen (k := 1) (n := 7) (Nat.le_of_ble_eq_true rfl) (Nat.le_of_ble_eq_true rfl) ?_
    exact kvret (Qc := fun _ _ _ _ => True) X w hr hk (by have hp := hp al hal (by rw [hF]; exact hn) (by rw [hF]; exact hok); rw [hF] at hp; exact hp) d_LC_call_76
def f_LC_call_4 : Nat → (Nat → Nat → Int32) → (Nat → Nat → Int64) → (Nat → Nat → Option Nat) → (Nat → Msg) → (Nat) → Int32 → Nat → Nat → (Nat → Nat → Int32) × (Nat → Nat → Option Nat) × (Nat → Msg) × (Nat)
  | 0, CI, CL, CR, M, n, sm, k, mm =>
    f_LC_call_38 CI CL CR M n sm mm
  | d + 1, CI, CL, CR, M, n, sm, k, mm =>
    if sm = 0 then
      if (CI 21 k) = 0 then
        f_LC_call_4 d CI CL CR M n 0 (k + 1) mm
      else
        f_LC_call_4 d CI CL CR M n 1 (k + 1) mm
    else
      f_LC_call_4 d CI CL CR M n 1 (k + 1) mm
theorem f_LC_call_4_z (CI : Nat → Nat → Int32) (CL : Nat → Nat → Int64) (CR : Nat → Nat → Option Nat) (M : Nat → Msg) (n : Nat) (sm : Int32) (k : Nat) (mm : Nat) : f_LC_call_4 0 CI CL CR M n sm k mm =
    f_LC_call_38 CI CL CR M n sm mm := rfl
theorem f_LC_call_4_s (d : Nat) (CI : Nat → Nat → Int32) (CL : Nat → Nat → Int64) (CR : Nat → Nat → Option Nat) (M : Nat → Msg) (n : Nat) (sm : Int32) (k : Nat) (mm : Nat) : f_LC_call_4 (d + 1) CI CL CR M n sm k mm =
    if sm = 0 then
      if (CI 21 k) = 0 then
        f_LC_call_4 d CI CL CR M n 0 (k + 1) mm
      else
        f_LC_call_4 d CI CL CR M n 1 (k + 1) mm
    else
      f_LC_call_4 d CI CL CR M n 1 (k + 1) mm := rfl
set_option maxHeartbeats 4000000 in
set_option maxRecDepth 100000 in
theorem g_LC_call_4 {p : Program} {l : Launch} {ev : Env} {s : State} {m : MethodId} {args : Array Value} {below : List Frame} {meth : Method} {c0 : Code} {D : va_G} {ac : Nat → ClassId} {o : Nat} {ad : Nat → Nat} {ws0 : va_W} {sz : Nat} {post : va_W → Prop} (X : Cx b_LC_call 3 R_LC D ac p m args c0 s) (hr : meth.sig.returnType = none) (hk : meth.locks = false) (d : Nat) : ∀ (al : Nat → Nat) (CI : Nat → Nat → Int32) (CL : Nat → Nat → Int64) (CR : Nat → Nat → Option Nat) (M : Nat → Msg) (n : Nat) (sm : Int32) (k : Nat) (mm : Nat) (hkd : k + d = 6) (hm : CI 38 0 = nI mm) (hmm : mm < 24) (hok : CRok CR n) {H : Heap} {locs : List Loc} {ls : Array Slot} (_ : Wo D (va_A ws0 sz) (cwm ac o ad al CI CL CR M n) s.heap H locs) (_ : lv_has ls 3 [(0, .ref o), (1, .int sm), (2, .int (nI k))]) (_ : ∀ a9 : Nat → Nat, (∀ i, i < n → a9 i = al i) → n ≤ (f_LC_call_4 d CI CL CR M n sm k mm).2.2.2 → CRok ((f_LC_call_4 d CI CL CR M n sm k mm).2.1) ((f_LC_call_4 d CI CL CR M n sm k mm).2.2.2) → post (cwm ac o ad a9 ((f_LC_call_4 d CI CL CR M n sm k mm).1) CL ((f_LC_call_4 d CI CL CR M n sm k mm).2.1) ((f_LC_call_4 d CI CL CR M n sm k mm).2.2.1) ((f_LC_call_4 d CI CL CR M n sm k mm).2.2.2))), W p l ev ({ frames := 3, cells := 1, slots := 7, locals := 77 } : Room) s m args below meth c0 H locs 0 0 (MQ below (va_Qv post (CPost D ws0 sz) (va_A ws0 sz)) args s 1 7 (va_A ws0 sz)) (F0 m 4 ls []) := by
  have hx := X.1
  have hb := X.2.1
  induction d with
  | zero =>
    intro al CI CL CR M n sm k mm hkd hm hmm hok H locs ls w hl hp
    have hl : lv_has ls 3 [(0, .ref o), (1, .int sm), (2, .int (nI k))] := hl
    have hal : ∀ i, i < n → al i = al i := fun _ _ => rfl
    have hn : n ≤ n := Nat.le_refl n
    refine lv_iload_n hx hb d_LC_call_4 rfl (lv_at hl 2 rfl) ?_
    refine lv_bipush (v := 6) hx hb d_LC_call_5 (by decide) ?_
    refine lv_icmp_ge (tgt := 38) hx hb d_LC_call_7 (by decide) (fun _ => ?_) (fun h => absurd (nI_le (a := 6) (by omega) (by omega)) h)
    have hF : f_LC_call_4 0 CI CL CR M n sm k mm = f_LC_call_38 CI CL CR M n sm mm := by rw [f_LC_call_4_z]
    exact g_LC_call_38 X hr hk al CI CL CR M n sm mm hm (by omega) hok w (lv_sub hl [0, 1] rfl) (fun a9 h1 h2 h3 => by have hp := hp a9 (fun i h => (h1 i (by omega)).trans (hal i h)) (by rw [hF]; exact Nat.le_trans hn h2) (by rw [hF]; exact h3); rw [hF] at hp; exact hp)
  | succ d ih =>
    intro al CI CL CR M n sm k mm hkd hm hmm hok H locs ls w hl hp
    have hl : lv_has ls 3 [(0, .ref o), (1, .int sm), (2, .int (nI k))] := hl
    have hal : ∀ i, i < n → al i = al i := fun _ _ => rfl
    have hn : n ≤ n := Nat.le_refl n
    refine lv_iload_n hx hb d_LC_call_4 rfl (lv_at hl 2 rfl) ?_
    refine lv_bipush (v := 6) hx hb d_LC_call_5 (by decide) ?_
    refine lv_icmp_ge (tgt := 38) hx hb d_LC_call_7 (by decide) (fun h => absurd h (nI_ge (b := 6) (by omega) (by omega))) (fun _ => ?_)
    refine lv_iload_n hx hb d_LC_call_10 rfl (lv_at hl 1 rfl) ?_
    refine lv_if_ne (tgt := 26) hx hb d_LC_call_11 (by decide) (fun h1 => ?_) (fun h1 => ?_)
    · skip
      refine lv_iconst (v := 1) hx hb d_LC_call_26 (by decide) ?_
      refine lv_goto (tgt := 31) hx hb d_LC_call_27 (by decide) ?_
      refine lv_istore_n (lv' := [(1, .int 1), (0, .ref o), (2, .int (nI k))]) hx hb d_LC_call_31 rfl hl (by decide) rfl (fun ls hl => ?_)
      refine lv_iinc (v := nI (k + 1)) (lv' := [(2, .int (nI (k + 1))), (1, .int 1), (0, .ref o)]) hx hb d_LC_call_32 hl (k := 2) rfl (by rw [show (nI k) = nI k from rfl]; exact nI_1 _) (by decide) rfl (fun ls hl => ?_)
      refine lv_goto (tgt := 4) hx hb d_LC_call_35 (by decide) ?_
      have hF : f_LC_call_4 (d + 1) CI CL CR M n sm k mm = f_LC_call_4 d CI CL CR M n 1 (k + 1) mm := by rw [f_LC_call_4_s, if_neg h1]
      exact ih al CI CL CR M n 1 (k + 1) mm (by omega) hm (by omega) hok w (lv_sub hl [2, 1, 0] rfl) (fun a9 h1 h2 h3 => by have hp := hp a9 (fun i h => (h1 i (by omega)).trans (hal i h)) (by rw [hF]; exact Nat.le_trans hn h2) (by rw [hF]; exact h3); rw [hF] at hp; exact hp)
    · skip
      refine lv_aload_n hx hb d_LC_call_14 rfl (lv_at hl 0 rfl) ?_
      refine cg_LC_17 X w d_LC_call_15 ?_
      refine lv_iload_n hx hb d_LC_call_18 rfl (lv_at hl 2 rfl) ?_
      refine cl_entries X w k (by omega) rfl d_LC_call_19 ?_
      refine cg_LC_193 X w k (by omega) (v := CI 21 k) rfl d_LC_call_20 ?_
      refine lv_if_eq (tgt := 30) hx hb d_LC_call_23 (by decide) (fun h2 => ?_) (fun h2 => ?_)
      · skip
        refine lv_iconst (v := 0) hx hb d_LC_call_30 (by decide) ?_
        refine lv_istore_n (lv' := [(1, .int 0), (0, .ref o), (2, .int (nI k))]) hx hb d_LC_call_31 rfl hl (by decide) rfl (fun ls hl => ?_)
        refine lv_iinc (v := nI (k + 1)) (lv' := [(2, .int (nI (k + 1))), (1, .int 0), (0, .ref o)]) hx hb d_LC_call_32 hl (k := 2) rfl (by rw [show (nI k) = nI k from rfl]; exact nI_1 _) (by decide) rfl (fun ls hl => ?_)
        refine lv_goto (tgt := 4) hx hb d_LC_call_35 (by decide) ?_
        have hF : f_LC_call_4 (d + 1) CI CL CR M n sm k mm = f_LC_call_4 d CI CL CR M n 0 (k + 1) mm := by rw [f_LC_call_4_s, if_pos h1, if_pos h2]
        exact ih al CI CL CR M n 0 (k + 1) mm (by omega) hm (by omega) hok w (lv_sub hl [2, 1, 0] rfl) (fun a9 h1 h2 h3 => by have hp := hp a9 (fun i h => (h1 i (by omega)).trans (hal i h)) (by rw [hF]; exact Nat.le_trans hn h2) (by rw [hF]; exact h3); rw [hF] at hp; exact hp)
      · skip
        refine lv_iconst (v := 1) hx hb d_LC_call_26 (by decide) ?_
        refine lv_goto (tgt := 31) hx hb d_LC_call_27 (by decide) ?_
        refine lv_istore_n (lv' := [(1, .int 1), (0, .ref o), (2, .int (nI k))]) hx hb d_LC_call_31 rfl hl (by decide) rfl (fun ls hl => ?_)
        refine lv_iinc (v := nI (k + 1)) (lv' := [(2, .int (nI (k + 1))), (1, .int 1), (0, .ref o)]) hx hb d_LC_call_32 hl (k := 2) rfl (by rw [show (nI k) = nI k from rfl]; exact nI_1 _) (by decide) rfl (fun ls hl => ?_)
        refine lv_goto (tgt := 4) hx hb d_LC_call_35 (by decide) ?_
        have hF : f_LC_call_4 (d + 1) CI CL CR M n sm k mm = f_LC_call_4 d CI CL CR M n 1 (k + 1) mm := by rw [f_LC_call_4_s, if_pos h1, if_neg h2]
        exact ih al CI CL CR M n 1 (k + 1) mm (by omega) hm (by omega) hok w (lv_sub hl [2, 1, 0] rfl) (fun a9 h1 h2 h3 => by have hp := hp a9 (fun i h => (h1 i (by omega)).trans (hal i h)) (by rw [hF]; exact Nat.le_trans hn h2) (by rw [hF]; exact h3); rw [hF] at hp; exact hp)
def f_LC_call (CI : Nat → Nat → Int32) (CL : Nat → Nat → Int64) (CR : Nat → Nat → Option Nat) (M : Nat → Msg) (n : Nat) (mm : Nat) : (Nat → Nat → Int32) × (Nat → Nat → Option Nat) × (Nat → Msg) × (Nat) :=
  f_LC_call_4 6 CI CL CR M n 0 0 mm
set_option maxHeartbeats 4000000 in
set_option maxRecDepth 100000 in
theorem c_LC_call (l : Launch) (D : va_G) (ac : Nat → ClassId) (o : Nat) (ad : Nat → Nat) (al : Nat → Nat) (CI : Nat → Nat → Int32) (CL : Nat → Nat → Int64) (CR : Nat → Nat → Option Nat) (M : Nat → Msg) (n : Nat) (sz : Nat) (mm : Nat) (hm : CI 38 0 = nI mm) (hmm : mm < 24) (hok : CRok CR n) : Met l y_LC_call [Cond.code y_LC_call b_LC_call 3 none] { frames := 3, cells := 1, slots := 7, locals := 77 } (va_Pc [.ref o] (CPre D ac (cwm ac o ad al CI CL CR M n) sz)) (va_Qv (fun u => ∃ a9 : Nat → Nat, (∀ i, i < n → a9 i = al i) ∧ n ≤ (f_LC_call CI CL CR M n mm).2.2.2 ∧ CRok ((f_LC_call CI CL CR M n mm).2.1) ((f_LC_call CI CL CR M n mm).2.2.2) ∧ u = cwm ac o ad a9 ((f_LC_call CI CL CR M n mm).1) CL ((f_LC_call CI CL CR M n mm).2.1) ((f_LC_call CI CL CR M n mm).2.2.1) ((f_LC_call CI CL CR M n mm).2.2.2)) (CPost D (cwm ac o ad al CI CL CR M n) sz) (va_A (cwm ac o ad al CI CL CR M n) sz)) 1 7 (va_A (cwm ac o ad al CI CL CR M n) sz) := by
  refine kofW (by decide) (Nat.le_of_ble_eq_true rfl) ?_
  intro p ev s m args below meth c0 ls X hr hk hnm hex hsz w hl
  have X : Cx b_LC_call 3 R_LC D ac p m args c0 s := X
  have hx := X.1
  have hb := X.2.1
  have hl : lv_has ls 3 [(0, .ref o)] := hl
  have hal : ∀ i, i < n → al i = al i := fun _ _ => rfl
  have hn : n ≤ n := Nat.le_refl n
  refine lv_iconst (v := 0) hx hb d_LC_call_0 (by decide) ?_
  refine lv_istore_n (lv' := [(1, .int 0), (0, .ref o)]) hx hb d_LC_call_1 rfl hl (by decide) rfl (fun ls hl => ?_)
  refine lv_iconst (v := 0) hx hb d_LC_call_2 (by decide) ?_
  refine lv_istore_n (lv' := [(2, .int 0), (1, .int 0), (0, .ref o)]) hx hb d_LC_call_3 rfl hl (by decide) rfl (fun ls hl => ?_)
  have hF : f_LC_call CI CL CR M n mm = f_LC_call_4 6 CI CL CR M n 0 0 mm := by rfl
  exact g_LC_call_4 X hr hk 6 al CI CL CR M n 0 0 mm (by omega) hm (by omega) hok w (lv_sub hl [2, 1, 0] rfl) (fun a9 h1 h2 h3 => ⟨a9, fun i h => (h1 i (by omega)).trans (hal i h), by rw [hF]; exact Nat.le_trans hn h2, by rw [hF]; exact h3, by rw [hF]⟩)
