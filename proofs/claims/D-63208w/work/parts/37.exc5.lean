set_option maxHeartbeats 4000000 in
set_option maxRecDepth 100000 in
theorem r_LC_at (l : Launch) (D : va_G) (ac : Nat → ClassId) (o : Nat) (ad : Nat → Nat) (al : Nat → Nat) (CI : Nat → Nat → Int32) (CL : Nat → Nat → Int64) (CR : Nat → Nat → Option Nat) (M : Nat → Msg) (n : Nat) (sz : Nat) (a : Nat) (i : Nat) (mm : Nat) (hm : CI 38 0 = nI mm) (ha : a < mm) (hmm : mm < 25) (hi : CR 3 a = some i) : Met l y_LC_at [Cond.code y_LC_at b_LC_at 2 (some (.object "LeaseCores$Message"))] { frames := 0, cells := 0, slots := 0, locals := 0 } (va_Pc [.ref o, .int (nI a)] (CPre D ac (cwm ac o ad al CI CL CR M n) sz)) (Qro (some (va_rf (Option.map al (some i))))) 0 0 (fun _ => False) := by
  refine kofR (by decide) (Nat.le_of_ble_eq_true rfl) ?_
  intro p ev s m args below meth c0 ls X hr hk w hl
  have X : Cx b_LC_at 2 R_LC D ac p m args c0 s := X
  have hx := X.1
  have hb := X.2.1
  have hl : lv_has ls 2 [(0, .ref o), (1, .int (nI a))] := hl
  refine lv_iload_n hx hb d_LC_at_0 rfl (lv_at hl 1 rfl) ?_
  refine lv_if_lt (tgt := 12) hx hb d_LC_at_1 (by decide) (fun h => absurd h (nI_pos (by omega))) (fun _ => ?_)
  refine lv_iload_n hx hb d_LC_at_4 rfl (lv_at hl 1 rfl) ?_
  refine lv_aload_n hx hb d_LC_at_5 rfl (lv_at hl 0 rfl) ?_
  refine cg_LC_51 X w (v := CI 38 0) rfl d_LC_at_6 ?_
  refine lv_icmp_lt (tgt := 20) hx hb d_LC_at_9 (by decide) (fun _ => ?_) (fun h => absurd (by rw [hm]; exact nI_lt (by omega) (by omega)) h)
  refine lv_aload_n hx hb d_LC_at_20 rfl (lv_at hl 0 rfl) ?_
  refine cg_LC_27 X w d_LC_at_21 ?_
  refine lv_iload_n hx hb d_LC_at_24 rfl (lv_at hl 1 rfl) ?_
  refine cl_messages X w a (by omega) rfl d_LC_at_25 ?_
  refine W.eq (g2 := F0 m 26 ls [.ref (al i)]) (by first | rfl | exact congrArg (fun z => F0 m 26 ls [va_rf (Option.map al z)]) (show CR 3 a = _ from hi)) ?_
  exact krqret (r := some (al i)) (r' := Option.map al (some i)) X hr hk rfl d_LC_at_26
set_option maxHeartbeats 4000000 in
set_option maxRecDepth 100000 in
theorem r_LC_needCore (l : Launch) (D : va_G) (ac : Nat → ClassId) (o : Nat) (ad : Nat → Nat) (al : Nat → Nat) (CI : Nat → Nat → Int32) (CL : Nat → Nat → Int64) (CR : Nat → Nat → Option Nat) (M : Nat → Msg) (n : Nat) (sz : Nat) (c : Nat) (hc : c < 3) : Met l y_LC_needCore [Cond.code y_LC_needCore b_LC_needCore 2 (some (.object "LeaseCores$Core"))] { frames := 0, cells := 0, slots := 0, locals := 0 } (va_Pc [.ref o, .int (nI c)] (CPre D ac (cwm ac o ad al CI CL CR M n) sz)) (Qro (some (va_rf (rC ad (some c))))) 0 0 (fun _ => False) := by
  refine kofR (by decide) (Nat.le_of_ble_eq_true rfl) ?_
  intro p ev s m args below meth c0 ls X hr hk w hl
  have X : Cx b_LC_needCore 2 R_LC D ac p m args c0 s := X
  have hx := X.1
  have hb := X.2.1
  have hl : lv_has ls 2 [(0, .ref o), (1, .int (nI c))] := hl
  refine lv_iload_n hx hb d_LC_needCore_0 rfl (lv_at hl 1 rfl) ?_
  refine lv_if_lt (tgt := 9) hx hb d_LC_needCore_1 (by decide) (fun h => absurd h (nI_pos (by omega))) (fun _ => ?_)
  refine lv_iload_n hx hb d_LC_needCore_4 rfl (lv_at hl 1 rfl) ?_
  refine lv_iconst (v := 3) hx hb d_LC_needCore_5 (by decide) ?_
  refine lv_icmp_lt (tgt := 17) hx hb d_LC_needCore_6 (by decide) (fun _ => ?_) (fun h => absurd (nI_lt (b := 3) (by omega) (by omega)) h)
  refine lv_aload_n hx hb d_LC_needCore_17 rfl (lv_at hl 0 rfl) ?_
  refine cg_LC_11 X w d_LC_needCore_18 ?_
  refine lv_iload_n hx hb d_LC_needCore_21 rfl (lv_at hl 1 rfl) ?_
  refine cl_cores X w c (by omega) rfl d_LC_needCore_22 ?_
  exact krqret (r := some (ad (4 + c))) (r' := rC ad (some c)) X hr hk rfl d_LC_needCore_23
set_option maxHeartbeats 4000000 in
set_option maxRecDepth 100000 in
theorem r_LC_needLine (l : Launch) (D : va_G) (ac : Nat → ClassId) (o : Nat) (ad : Nat → Nat) (al : Nat → Nat) (CI : Nat → Nat → Int32) (CL : Nat → Nat → Int64) (CR : Nat → Nat → Option Nat) (M : Nat → Msg) (n : Nat) (sz : Nat) (a : Nat) (ha : a < 12) : Met l y_LC_needLine [Cond.code y_LC_needLine b_LC_needLine 1 none] { frames := 0, cells := 0, slots := 0, locals := 0 } (va_Pc [.int (nI a)] (CPre D ac (cwm ac o ad al CI CL CR M n) sz)) (Qro none) 0 0 (fun _ => False) := by
  refine kofR (by decide) (Nat.le_of_ble_eq_true rfl) ?_
  intro p ev s m args below meth c0 ls X hr hk w hl
  have X : Cx b_LC_needLine 1 R_LC D ac p m args c0 s := X
  have hx := X.1
  have hb := X.2.1
  have hl : lv_has ls 1 [(0, .int (nI a))] := hl
  refine lv_iload_n hx hb d_LC_needLine_0 rfl (lv_at hl 0 rfl) ?_
  refine lv_if_lt (tgt := 10) hx hb d_LC_needLine_1 (by decide) (fun h => absurd h (nI_pos (by omega))) (fun _ => ?_)
  refine lv_iload_n hx hb d_LC_needLine_4 rfl (lv_at hl 0 rfl) ?_
  refine lv_bipush (v := 12) hx hb d_LC_needLine_5 (by decide) ?_
  refine lv_icmp_lt (tgt := 18) hx hb d_LC_needLine_7 (by decide) (fun _ => ?_) (fun h => absurd (nI_lt (b := 12) (by omega) (by omega)) h)
  exact krvret X hr hk d_LC_needLine_18
set_option maxHeartbeats 4000000 in
set_option maxRecDepth 100000 in
theorem r_Core_find (l : Launch) (D : va_G) (ac : Nat → ClassId) (o : Nat) (ad : Nat → Nat) (al : Nat → Nat) (CI : Nat → Nat → Int32) (CL : Nat → Nat → Int64) (CR : Nat → Nat → Option Nat) (M : Nat → Msg) (n : Nat) (sz : Nat) (c : Nat) (a : Int32) (hc : c < 3) : Met l y_Core_find [Cond.code y_Core_find b_Core_find 3 (some (.object "LeaseCores$Place"))] { frames := 0, cells := 0, slots := 0, locals := 0 } (va_Pc [.ref (ad (4 + c)), .int a] (CPre D ac (cwm ac o ad al CI CL CR M n) sz)) (Qro (some (va_rf (rP ad (f_Core_find CI c a))))) 0 0 (fun _ => False) := by
  refine kofR (by decide) (Nat.le_of_ble_eq_true rfl) ?_
  intro p ev s m args below meth c0 ls X hr hk w hl
  have X : Cx b_Core_find 3 R_Core D ac p m args c0 s := X
  have hx := X.1
  have hb := X.2.1
  have hl : lv_has ls 3 [(0, .ref (ad (4 + c))), (1, .int a)] := hl
  refine lv_iconst (v := 0) hx hb d_Core_find_0 (by decide) ?_
  refine lv_istore_n (lv' := [(2, .int 0), (0, .ref (ad (4 + c))), (1, .int a)]) hx hb d_Core_find_1 rfl hl (by decide) rfl (fun ls hl => ?_)
  refine lv_iload_n hx hb d_Core_find_2 rfl (lv_at hl 0 rfl) ?_
  refine lv_iconst (v := 4) hx hb d_Core_find_3 (by decide) ?_
  refine lv_icmp_ge (tgt := 33) hx hb d_Core_find_4 (by decide) (fun h => absurd h (by decide)) (fun _ => ?_)
  refine lv_aload_n hx hb d_Core_find_7 rfl (lv_at hl 1 rfl) ?_
  refine cg_Core_11 X w c (by omega) d_Core_find_8 ?_
  refine lv_iload_n hx hb d_Core_find_11 rfl (lv_at hl 0 rfl) ?_
  refine cl_places X w c (by omega) 0 (by omega) rfl d_Core_find_12 ?_
  refine cg_Core_28 X w (4 * c + 0) (by omega) (v := CI 10 (4 * c + 0)) rfl d_Core_find_13 ?_
  refine lv_iload_n hx hb d_Core_find_16 rfl (lv_at hl 2 rfl) ?_
  refine lv_icmp_ne (tgt := 27) hx hb d_Core_find_17 (by decide) (fun h1 => ?_) (fun h1 => ?_)
  · skip
    refine lv_iinc (v := 1) (lv' := [(2, .int 1), (0, .ref (ad (4 + c))), (1, .int a)]) hx hb d_Core_find_27 hl (k := 0) rfl (by decide) (by decide) rfl (fun ls hl => ?_)
    refine lv_goto (tgt := 2) hx hb d_Core_find_30 (by decide) ?_
    refine lv_iload_n hx hb d_Core_find_2 rfl (lv_at hl 0 rfl) ?_
    refine lv_iconst (v := 4) hx hb d_Core_find_3 (by decide) ?_
    refine lv_icmp_ge (tgt := 33) hx hb d_Core_find_4 (by decide) (fun h => absurd h (by decide)) (fun _ => ?_)
    refine lv_aload_n hx hb d_Core_find_7 rfl (lv_at hl 1 rfl) ?_
    refine cg_Core_11 X w c (by omega) d_Core_find_8 ?_
    refine lv_iload_n hx hb d_Core_find_11 rfl (lv_at hl 0 rfl) ?_
    refine cl_places X w c (by omega) 1 (by omega) rfl d_Core_find_12 ?_
    refine cg_Core_28 X w (4 * c + 1) (by omega) (v := CI 10 (4 * c + 1)) rfl d_Core_find_13 ?_
    refine lv_iload_n hx hb d_Core_find_16 rfl (lv_at hl 2 rfl) ?_
    refine lv_icmp_ne (tgt := 27) hx hb d_Core_find_17 (by decide) (fun h2 => ?_) (fun h2 => ?_)
    · skip
      refine lv_iinc (v := 2) (lv' := [(2, .int 2), (0, .ref (ad (4 + c))), (1, .int a)]) hx hb d_Core_find_27 hl (k := 0) rfl (by decide) (by decide) rfl (fun ls hl => ?_)
      refine lv_goto (tgt := 2) hx hb d_Core_find_30 (by decide) ?_
      refine lv_iload_n hx hb d_Core_find_2 rfl (lv_at hl 0 rfl) ?_
      refine lv_iconst (v := 4) hx hb d_Core_find_3 (by decide) ?_
      refine lv_icmp_ge (tgt := 33) hx hb d_Core_find_4 (by decide) (fun h => absurd h (by decide)) (fun _ => ?_)
      refine lv_aload_n hx hb d_Core_find_7 rfl (lv_at hl 1 rfl) ?_
      refine cg_Core_11 X w c (by omega) d_Core_find_8 ?_
      refine lv_iload_n hx hb d_Core_find_11 rfl (lv_at hl 0 rfl) ?_
      refine cl_places X w c (by omega) 2 (by omega) rfl d_Core_find_12 ?_
      refine cg_Core_28 X w (4 * c + 2) (by omega) (v := CI 10 (4 * c + 2)) rfl d_Core_find_13 ?_
      refine lv_iload_n hx hb d_Core_find_16 rfl (lv_at hl 2 rfl) ?_
      refine lv_icmp_ne (tgt := 27) hx hb d_Core_find_17 (by decide) (fun h3 => ?_) (fun h3 => ?_)
      · skip
        refine lv_iinc (v := 3) (lv' := [(2, .int 3), (0, .ref (ad (4 + c))), (1, .int a)]) hx hb d_Core_find_27 hl (k := 0) rfl (by decide) (by decide) rfl (fun ls hl => ?_)
        refine lv_goto (tgt := 2) hx hb d_Core_find_30 (by decide) ?_
        refine lv_iload_n hx hb d_Core_find_2 rfl (lv_at hl 0 rfl) ?_
        refine lv_iconst (v := 4) hx hb d_Core_find_3 (by decide) ?_
        refine lv_icmp_ge (tgt := 33) hx hb d_Core_find_4 (by decide) (fun h => absurd h (by decide)) (fun _ => ?_)
        refine lv_aload_n hx hb d_Core_find_7 rfl (lv_at hl 1 rfl) ?_
        refine cg_Core_11 X w c (by omega) d_Core_find_8 ?_
        refine lv_iload_n hx hb d_Core_find_11 rfl (lv_at hl 0 rfl) ?_
        refine cl_places X w c (by omega) 3 (by omega) rfl d_Core_find_12 ?_
        refine cg_Core_28 X w (4 * c + 3) (by omega) (v := CI 10 (4 * c + 3)) rfl d_Core_find_13 ?_
        refine lv_iload_n hx hb d_Core_find_16 rfl (lv_at hl 2 rfl) ?_
        refine lv_icmp_ne (tgt := 27) hx hb d_Core_find_17 (by decide) (fun h4 => ?_) (fun h4 => ?_)
        · skip
          refine lv_iinc (v := 4) (lv' := [(2, .int 4), (0, .ref (ad (4 + c))), (1, .int a)]) hx hb d_Core_find_27 hl (k := 0) rfl (by decide) (by decide) rfl (fun ls hl => ?_)
          refine lv_goto (tgt := 2) hx hb d_Core_find_30 (by decide) ?_
          refine lv_iload_n hx hb d_Core_find_2 rfl (lv_at hl 0 rfl) ?_
          refine lv_iconst (v := 4) hx hb d_Core_find_3 (by decide) ?_
          refine lv_icmp_ge (tgt := 33) hx hb d_Core_find_4 (by decide) (fun _ => ?_) (fun h => absurd h (by decide))
          refine lv_null hx hb d_Core_find_33 ?_
          have hF : f_Core_find CI c a = none := by unfold f_Core_find; rw [if_neg h1, if_neg h2, if_neg h3, if_neg h4]
          exact krqret (r := rP ad (none)) X hr hk (by rw [hF]) d_Core_find_34
        · skip
          refine lv_aload_n hx hb d_Core_find_20 rfl (lv_at hl 1 rfl) ?_
          refine cg_Core_11 X w c (by omega) d_Core_find_21 ?_
          refine lv_iload_n hx hb d_Core_find_24 rfl (lv_at hl 0 rfl) ?_
          refine cl_places X w c (by omega) 3 (by omega) rfl d_Core_find_25 ?_
          have hF : f_Core_find CI c a = some (4 * c + 3) := by unfold f_Core_find; rw [if_neg h1, if_neg h2, if_neg h3, if_pos h4]
          exact krqret (r := rP ad (some (4 * c + 3))) X hr hk (by rw [hF]) d_Core_find_26
      · skip
        refine lv_aload_n hx hb d_Core_find_20 rfl (lv_at hl 1 rfl) ?_
        refine cg_Core_11 X w c (by omega) d_Core_find_21 ?_
        refine lv_iload_n hx hb d_Core_find_24 rfl (lv_at hl 0 rfl) ?_
        refine cl_places X w c (by omega) 2 (by omega) rfl d_Core_find_25 ?_
        have hF : f_Core_find CI c a = some (4 * c + 2) := by unfold f_Core_find; rw [if_neg h1, if_neg h2, if_pos h3]
        exact krqret (r := rP ad (some (4 * c + 2))) X hr hk (by rw [hF]) d_Core_find_26
    · skip
      refine lv_aload_n hx hb d_Core_find_20 rfl (lv_at hl 1 rfl) ?_
      refine cg_Core_11 X w c (by omega) d_Core_find_21 ?_
      refine lv_iload_n hx hb d_Core_find_24 rfl (lv_at hl 0 rfl) ?_
      refine cl_places X w c (by omega) 1 (by omega) rfl d_Core_find_25 ?_
      have hF : f_Core_find CI c a = some (4 * c + 1) := by unfold f_Core_find; rw [if_neg h1, if_pos h2]
      exact krqret (r := rP ad (some (4 * c + 1))) X hr hk (by rw [hF]) d_Core_find_26
  · skip
    refine lv_aload_n hx hb d_Core_find_20 rfl (lv_at hl 1 rfl) ?_
    refine cg_Core_11 X w c (by omega) d_Core_find_21 ?_
    refine lv_iload_n hx hb d_Core_find_24 rfl (lv_at hl 0 rfl) ?_
    refine cl_places X w c (by omega) 0 (by omega) rfl d_Core_find_25 ?_
    have hF : f_Core_find CI c a = some (4 * c + 0) := by unfold f_Core_find; rw [if_pos h1]
    exact krqret (r := rP ad (some (4 * c + 0))) X hr hk (by rw [hF]) d_Core_find_26
set_option maxHeartbeats 4000000 in
set_option maxRecDepth 100000 in
theorem r_LC_entryOf (l : Launch) (D : va_G) (ac : Nat → ClassId) (o : Nat) (ad : Nat → Nat) (al : Nat → Nat) (CI : Nat → Nat → Int32) (CL : Nat → Nat → Int64) (CR : Nat → Nat → Option Nat) (M : Nat → Msg) (n : Nat) (sz : Nat) (li : Int32)  : Met l y_LC_entryOf [Cond.code y_LC_entryOf b_LC_entryOf 3 (some (.object "LeaseCores$Entry"))] { frames := 0, cells := 0, slots := 0, locals := 0 } (va_Pc [.ref o, .int li] (CPre D ac (cwm ac o ad al CI CL CR M n) sz)) (Qro (some (va_rf (rE ad (f_LC_entryOf CI li))))) 0 0 (fun _ => False) := by
  refine kofR (by decide) (Nat.le_of_ble_eq_true rfl) ?_
  intro p ev s m args below meth c0 ls X hr hk w hl
  have X : Cx b_LC_entryOf 3 R_LC D ac p m args c0 s := X
  have hx := X.1
  have hb := X.2.1
  have hl : lv_has ls 3 [(0, .ref o), (1, .int li)] := hl
  refine lv_iconst (v := 0) hx hb d_LC_entryOf_0 (by decide) ?_
  refine lv_istore_n (lv' := [(2, .int 0), (0, .ref o), (1, .int li)]) hx hb d_LC_entryOf_1 rfl hl (by decide) rfl (fun ls hl => ?_)
  refine lv_iload_n hx hb d_LC_entryOf_2 rfl (lv_at hl 0 rfl) ?_
  refine lv_bipush (v := 6) hx hb d_LC_entryOf_3 (by decide) ?_
  refine lv_icmp_ge (tgt := 34) hx hb d_LC_entryOf_5 (by decide) (fun h => absurd h (by decide)) (fun _ => ?_)
  refine lv_aload_n hx hb d_LC_entryOf_8 rfl (lv_at hl 1 rfl) ?_
  refine cg_LC_17 X w d_LC_entryOf_9 ?_
  refine lv_iload_n hx hb d_LC_entryOf_12 rfl (lv_at hl 0 rfl) ?_
  refine cl_entries X w 0 (by omega) rfl d_LC_entryOf_13 ?_
  refine cg_LC_157 X w 0 (by omega) (v := CI 16 0) rfl d_LC_entryOf_14 ?_
  refine lv_iload_n hx hb d_LC_entryOf_17 rfl (lv_at hl 2 rfl) ?_
  refine lv_icmp_ne (tgt := 28) hx hb d_LC_entryOf_18 (by decide) (fun h1 => ?_) (fun h1 => ?_)
  · skip
    refine lv_iinc (v := 1) (lv' := [(2, .int 1), (0, .ref o), (1, .int li)]) hx hb d_LC_entryOf_28 hl (k := 0) rfl (by decide) (by decide) rfl (fun ls hl => ?_)
    refine lv_goto (tgt := 2) hx hb d_LC_entryOf_31 (by decide) ?_
    refine lv_iload_n hx hb d_LC_entryOf_2 rfl (lv_at hl 0 rfl) ?_
    refine lv_bipush (v := 6) hx hb d_LC_entryOf_3 (by decide) ?_
    refine lv_icmp_ge (tgt := 34) hx hb d_LC_entryOf_5 (by decide) (fun h => absurd h (by decide)) (fun _ => ?_)
    refine lv_aload_n hx hb d_LC_entryOf_8 rfl (lv_at hl 1 rfl) ?_
    refine cg_LC_17 X w d_LC_entryOf_9 ?_
    refine lv_iload_n hx hb d_LC_entryOf_12 rfl (lv_at hl 0 rfl) ?_
    refine cl_entries X w 1 (by omega) rfl d_LC_entryOf_13 ?_
    refine cg_LC_157 X w 1 (by omega) (v := CI 16 1) rfl d_LC_entryOf_14 ?_
    refine lv_iload_n hx hb d_LC_entryOf_17 rfl (lv_at hl 2 rfl) ?_
    refine lv_icmp_ne (tgt := 28) hx hb d_LC_entryOf_18 (by decide) (fun h2 => ?_) (fun h2 => ?_)
    · skip
      refine lv_iinc (v := 2) (lv' := [(2, .int 2), (0, .ref o), (1, .int li)]) hx hb d_LC_entryOf_28 hl (k := 0) rfl (by decide) (by decide) rfl (fun ls hl => ?_)
      refine lv_goto (tgt := 2) hx hb d_LC_entryOf_31 (by decide) ?_
      refine lv_iload_n hx hb d_LC_entryOf_2 rfl (lv_at hl 0 rfl) ?_
      refine lv_bipush (v := 6) hx hb d_LC_entryOf_3 (by decide) ?_
      refine lv_icmp_ge (tgt := 34) hx hb d_LC_entryOf_5 (by decide) (fun h => absurd h (by decide)) (fun _ => ?_)
      refine lv_aload_n hx hb d_LC_entryOf_8 rfl (lv_at hl 1 rfl) ?_
      refine cg_LC_17 X w d_LC_entryOf_9 ?_
      refine lv_iload_n hx hb d_LC_entryOf_12 rfl (lv_at hl 0 rfl) ?_
      refine cl_entries X w 2 (by omega) rfl d_LC_entryOf_13 ?_
      refine cg_LC_157 X w 2 (by omega) (v := CI 16 2) rfl d_LC_entryOf_14 ?_
      refine lv_iload_n hx hb d_LC_entryOf_17 rfl (lv_at hl 2 rfl) ?_
      refine lv_icmp_ne (tgt := 28) hx hb d_LC_entryOf_18 (by decide) (fun h3 => ?_) (fun h3 => ?_)
      · skip
        refine lv_iinc (v := 3) (lv' := [(2, .int 3), (0, .ref o), (1, .int li)]) hx hb d_LC_entryOf_28 hl (k := 0) rfl (by decide) (by decide) rfl (fun ls hl => ?_)
        refine lv_goto (tgt := 2) hx hb d_LC_entryOf_31 (by decide) ?_
        refine lv_iload_n hx hb d_LC_entryOf_2 rfl (lv_at hl 0 rfl) ?_
        refine lv_bipush (v := 6) hx hb d_LC_entryOf_3 (by decide) ?_
        refine lv_icmp_ge (tgt := 34) hx hb d_LC_entryOf_5 (by decide) (fun h => absurd h (by decide)) (fun _ => ?_)
        refine lv_aload_n hx hb d_LC_entryOf_8 rfl (lv_at hl 1 rfl) ?_
        refine cg_LC_17 X w d_LC_entryOf_9 ?_
        refine lv_iload_n hx hb d_LC_entryOf_12 rfl (lv_at hl 0 rfl) ?_
        refine cl_entries X w 3 (by omega) rfl d_LC_entryOf_13 ?_
        refine cg_LC_157 X w 3 (by omega) (v := CI 16 3) rfl d_LC_entryOf_14 ?_
        refine lv_iload_n hx hb d_LC_entryOf_17 rfl (lv_at hl 2 rfl) ?_
        refine lv_icmp_ne (tgt := 28) hx hb d_LC_entryOf_18 (by decide) (fun h4 => ?_) (fun h4 => ?_)
        · skip
          refine lv_iinc (v := 4) (lv' := [(2, .int 4), (0, .ref o), (1, .int li)]) hx hb d_LC_entryOf_28 hl (k := 0) rfl (by decide) (by decide) rfl (fun ls hl => ?_)
          refine lv_goto (tgt := 2) hx hb d_LC_entryOf_31 (by decide) ?_
          refine lv_iload_n hx hb d_LC_entryOf_2 rfl (lv_at hl 0 rfl) ?_
          refine lv_bipush (v := 6) hx hb d_LC_entryOf_3 (by decide) ?_
          refine lv_icmp_ge (tgt := 34) hx hb d_LC_entryOf_5 (by decide) (fun h => absurd h (by decide)) (fun _ => ?_)
          refine lv_aload_n hx hb d_LC_entryOf_8 rfl (lv_at hl 1 rfl) ?_
          refine cg_LC_17 X w d_LC_entryOf_9 ?_
          refine lv_iload_n hx hb d_LC_entryOf_12 rfl (lv_at hl 0 rfl) ?_
          refine cl_entries X w 4 (by omega) rfl d_LC_entryOf_13 ?_
          refine cg_LC_157 X w 4 (by omega) (v := CI 16 4) rfl d_LC_entryOf_14 ?_
          refine lv_iload_n hx hb d_LC_entryOf_17 rfl (lv_at hl 2 rfl) ?_
          refine lv_icmp_ne (tgt := 28) hx hb d_LC_entryOf_18 (by decide) (fun h5 => ?_) (fun h5 => ?_)
          · skip
            refine lv_iinc (v := 5) (lv' := [(2, .int 5), (0, .ref o), (1, .int li)]) hx hb d_LC_entryOf_28 hl (k := 0) rfl (by decide) (by decide) rfl (fun ls hl => ?_)
            refine lv_goto (tgt := 2) hx hb d_LC_entryOf_31 (by decide) ?_
            refine lv_iload_n hx hb d_LC_entryOf_2 rfl (lv_at hl 0 rfl) ?_
            refine lv_bipush (v := 6) hx hb d_LC_entryOf_3 (by decide) ?_
            refine lv_icmp_ge (tgt := 34) hx hb d_LC_entryOf_5 (by decide) (fun h => absurd h (by decide)) (fun _ => ?_)
            refine lv_aload_n hx hb d_LC_entryOf_8 rfl (lv_at hl 1 rfl) ?_
            refine cg_LC_17 X w d_LC_entryOf_9 ?_
            refine lv_iload_n hx hb d_LC_entryOf_12 rfl (lv_at hl 0 rfl) ?_
            refine cl_entries X w 5 (by omega) rfl d_LC_entryOf_13 ?_
            refine cg_LC_157 X w 5 (by omega) (v := CI 16 5) rfl d_LC_entryOf_14 ?_
            refine lv_iload_n hx hb d_LC_entryOf_17 rfl (lv_at hl 2 rfl) ?_
            refine lv_icmp_ne (tgt := 28) hx hb d_LC_entryOf_18 (by decide) (fun h6 => ?_) (fun h6 => ?_)
            · skip
              refine lv_iinc (v := 6) (lv' := [(2, .int 6), (0, .ref o), (1, .int li)]) hx hb d_LC_entryOf_28 hl (k := 0) rfl (by decide) (by decide) rfl (fun ls hl => ?_)
              refine lv_goto (tgt := 2) hx hb d_LC_entryOf_31 (by decide) ?_
              refine lv_iload_n hx hb d_LC_entryOf_2 rfl (lv_at hl 0 rfl) ?_
              refine lv_bipush (v := 6) hx hb d_LC_entryOf_3 (by decide) ?_
              refine lv_icmp_ge (tgt := 34) hx hb d_LC_entryOf_5 (by decide) (fun _ => ?_) (fun h => absurd h (by decide))
              refine lv_null hx hb d_LC_entryOf_34 ?_
              have hF : f_LC_entryOf CI li = none := by unfold f_LC_entryOf; rw [if_neg h1, if_neg h2, if_neg h3, if_neg h4, if_neg h5, if_neg h6]
              exact krqret (r := rE ad (none)) X hr hk (by rw [hF]) d_LC_entryOf_35
            · skip
              refine lv_aload_n hx hb d_LC_entryOf_21 rfl (lv_at hl 1 rfl) ?_
              refine cg_LC_17 X w d_LC_entryOf_22 ?_
              refine lv_iload_n hx hb d_LC_entryOf_25 rfl (lv_at hl 0 rfl) ?_
              refine cl_entries X w 5 (by omega) rfl d_LC_entryOf_26 ?_
              have hF : f_LC_entryOf CI li = some 5 := by unfold f_LC_entryOf; rw [if_neg h1, if_neg h2, if_neg h3, if_neg h4, if_neg h5, if_pos h6]
              exact krqret (r := rE ad (some 5)) X hr hk (by rw [hF]) d_LC_entryOf_27
          · skip
            refine lv_aload_n hx hb d_LC_entryOf_21 rfl (lv_at hl 1 rfl) ?_
            refine cg_LC_17 X w d_LC_entryOf_22 ?_
            refine lv_iload_n hx hb d_LC_entryOf_25 rfl (lv_at hl 0 rfl) ?_
            refine cl_entries X w 4 (by omega) rfl d_LC_entryOf_26 ?_
            have hF : f_LC_entryOf CI li = some 4 := by unfold f_LC_entryOf; rw [if_neg h1, if_neg h2, if_neg h3, if_neg h4, if_pos h5]
            exact krqret (r := rE ad (some 4)) X hr hk (by rw [hF]) d_LC_entryOf_27
        · skip
          refine lv_aload_n hx hb d_LC_entryOf_21 rfl (lv_at hl 1 rfl) ?_
          refine cg_LC_17 X w d_LC_entryOf_22 ?_
          refine lv_iload_n hx hb d_LC_entryOf_25 rfl (lv_at hl 0 rfl) ?_
          refine cl_entries X w 3 (by omega) rfl d_LC_entryOf_26 ?_
          have hF : f_LC_entryOf CI li = some 3 := by unfold f_LC_entryOf; rw [if_neg h1, if_neg h2, if_neg h3, if_pos h4]
          exact krqret (r := rE ad (some 3)) X hr hk (by rw [hF]) d_LC_entryOf_27
      · skip
        refine lv_aload_n hx hb d_LC_entryOf_21 rfl (lv_at hl 1 rfl) ?_
        refine cg_LC_17 X w d_LC_entryOf_22 ?_
        refine lv_iload_n hx hb d_LC_entryOf_25 rfl (lv_at hl 0 rfl) ?_
        refine cl_entries X w 2 (by omega) rfl d_LC_entryOf_26 ?_
        have hF : f_LC_entryOf CI li = some 2 := by unfold f_LC_entryOf; rw [if_neg h1, if_neg h2, if_pos h3]
        exact krqret (r := rE ad (some 2)) X hr hk (by rw [hF]) d_LC_entryOf_27
    · skip
      refine lv_aload_n hx hb d_LC_entryOf_21 rfl (lv_at hl 1 rfl) ?_
      refine cg_LC_17 X w d_LC_entryOf_22 ?_
      refine lv_iload_n hx hb d_LC_entryOf_25 rfl (lv_at hl 0 rfl) ?_
      refine cl_entries X w 1 (by omega) rfl d_LC_entryOf_26 ?_
      have hF : f_LC_entryOf CI li = some 1 := by unfold f_LC_entryOf; rw [if_neg h1, if_pos h2]
      exact krqret (r := rE ad (some 1)) X hr hk (by rw [hF]) d_LC_entryOf_27
  · skip
    refine lv_aload_n hx hb d_LC_entryOf_21 rfl (lv_at hl 1 rfl) ?_
    refine cg_LC_17 X w d_LC_entryOf_22 ?_
    refine lv_iload_n hx hb d_LC_entryOf_25 rfl (lv_at hl 0 rfl) ?_
    refine cl_entries X w 0 (by omega) rfl d_LC_entryOf_26 ?_
    have hF : f_LC_entryOf CI li = some 0 := by unfold f_LC_entryOf; rw [if_pos h1]
    exact krqret (r := rE ad (some 0)) X hr hk (by rw [hF]) d_LC_entryOf_27
set_option maxHeartbeats 4000000 in
set_option maxRecDepth 100000 in
theorem t_LC_needCore (l : Launch) (hfl : l.flags = pinnedFlags ++ [noTraceFlag]) (D : va_G) (ac : Nat → ClassId) (o : Nat) (ad : Nat → Nat) (al : Nat → Nat) (CI : Nat → Nat → Int32) (CL : Nat → Nat → Int64) (CR : Nat → Nat → Option Nat) (M : Nat → Msg) (n : Nat) (sz : Nat) (x : Int32) (hbad : ¬ (0 ≤ x ∧ x < 3)) : MetT l y_LC_needCore [Cond.code y_LC_needCore b_LC_needCore 2 (some (.object "LeaseCores$Core"))] { frames := 6, cells := 1, slots := 6, locals := 100 } (va_Pc [.ref o, .int x] (CPreT D ac (cwm ac o ad al CI CL CR M n) sz)) "java/lang/IllegalArgumentException" := by
  refine kofT (by decide) (Nat.le_of_ble_eq_true rfl) ?_
  intro p ev s m args below meth c0 ls X hr hk hex hS w hl
  have X : Cx b_LC_needCore 2 R_LC D ac p m args c0 s := X
  have hx := X.1
  have hb := X.2.1
  have hl : lv_has ls 2 [(0, .ref o), (1, .int x)] := hl
  refine lv_iload_n hx hb d_LC_needCore_0 rfl (lv_at hl 1 rfl) ?_
  refine lv_if_lt (tgt := 9) hx hb d_LC_needCore_1 (by decide) (fun h1 => ?_) (fun h1 => ?_)
  · skip
    exact kthrow0 X hfl hS hex hk (inew := 99) (ic := 101) (XN := "java/lang/IllegalArgumentException") (by decide) wc_LC_99 wn_IAE wi_IAE hl.1 (Nat.le_of_ble_eq_true rfl) (Nat.le_of_ble_eq_true rfl) (Nat.le_of_ble_eq_true rfl) (Nat.le_of_ble_eq_true rfl) d_LC_needCore_9 d_LC_needCore_12 d_LC_needCore_13 d_LC_needCore_16
  · skip
    refine lv_iload_n hx hb d_LC_needCore_4 rfl (lv_at hl 1 rfl) ?_
    refine lv_iconst (v := 3) hx hb d_LC_needCore_5 (by decide) ?_
    refine lv_icmp_lt (tgt := 17) hx hb d_LC_needCore_6 (by decide) (fun h2 => ?_) (fun h2 => ?_)
    · skip
      exact absurd ⟨Int32.not_lt.mp h1, h2⟩ hbad
    · skip
      exact kthrow0 X hfl hS hex hk (inew := 99) (ic := 101) (XN := "java/lang/IllegalArgumentException") (by decide) wc_LC_99 wn_IAE wi_IAE hl.1 (Nat.le_of_ble_eq_true rfl) (Nat.le_of_ble_eq_true rfl) (Nat.le_of_ble_eq_true rfl) (Nat.le_of_ble_eq_true rfl) d_LC_needCore_9 d_LC_needCore_12 d_LC_needCore_13 d_LC_needCore_16
set_option maxHeartbeats 4000000 in
set_option maxRecDepth 100000 in
theorem t_LC_needLine (l : Launch) (hfl : l.flags = pinnedFlags ++ [noTraceFlag]) (D : va_G) (ac : Nat → ClassId) (o : Nat) (ad : Nat → Nat) (al : Nat → Nat) (CI : Nat → Nat → Int32) (CL : Nat → Nat → Int64) (CR : Nat → Nat → Option Nat) (M : Nat → Msg) (n : Nat) (sz : Nat) (x : Int32) (hbad : ¬ (0 ≤ x ∧ x < 12)) : MetT l y_LC_needLine [Cond.code y_LC_needLine b_LC_needLine 1 none] { frames := 6, cells := 1, slots := 6, locals := 100 } (va_Pc [.int x] (CPreT D ac (cwm ac o ad al CI CL CR M n) sz)) "java/lang/IllegalArgumentException" := by
  refine kofT (by decide) (Nat.le_of_ble_eq_true rfl) ?_
  intro p ev s m args below meth c0 ls X hr hk hex hS w hl
  have X : Cx b_LC_needLine 1 R_LC D ac p m args c0 s := X
  have hx := X.1
  have hb := X.2.1
  have hl : lv_has ls 1 [(0, .int x)] := hl
  refine lv_iload_n hx hb d_LC_needLine_0 rfl (lv_at hl 0 rfl) ?_
  refine lv_if_lt (tgt := 10) hx hb d_LC_needLine_1 (by decide) (fun h1 => ?_) (fun h1 => ?_)
  · skip
    exact kthrow0 X hfl hS hex hk (inew := 99) (ic := 101) (XN := "java/lang/IllegalArgumentException") (by decide) wc_LC_99 wn_IAE wi_IAE hl.1 (Nat.le_of_ble_eq_true rfl) (Nat.le_of_ble_eq_true rfl) (Nat.le_of_ble_eq_true rfl) (Nat.le_of_ble_eq_true rfl) d_LC_needLine_10 d_LC_needLine_13 d_LC_needLine_14 d_LC_needLine_17
  · skip
    refine lv_iload_n hx hb d_LC_needLine_4 rfl (lv_at hl 0 rfl) ?_
    refine lv_bipush (v := 12) hx hb d_LC_needLine_5 (by decide) ?_
    refine lv_icmp_lt (tgt := 18) hx hb d_LC_needLine_7 (by decide) (fun h2 => ?_) (fun h2 => ?_)
    · skip
      exact absurd ⟨Int32.not_lt.mp h1, h2⟩ hbad
    · skip
      exact kthrow0 X hfl hS hex hk (inew := 99) (ic := 101) (XN := "java/lang/IllegalArgumentException") (by decide) wc_LC_99 wn_IAE wi_IAE hl.1 (Nat.le_of_ble_eq_true rfl) (Nat.le_of_ble_eq_true rfl) (Nat.le_of_ble_eq_true rfl) (Nat.le_of_ble_eq_true rfl) d_LC_needLine_10 d_LC_needLine_13 d_LC_needLine_14 d_LC_needLine_17
set_option maxHeartbeats 4000000 in
set_option maxRecDepth 100000 in
theorem t_LC_at (l : Launch) (hfl : l.flags = pinnedFlags ++ [noTraceFlag]) (D : va_G) (ac : Nat → ClassId) (o : Nat) (ad : Nat → Nat) (al : Nat → Nat) (CI : Nat → Nat → Int32) (CL : Nat → Nat → Int64) (CR : Nat → Nat → Option Nat) (M : Nat → Msg) (n : Nat) (sz : Nat) (x : Int32) (hbad : ¬ (0 ≤ x ∧ x < CI 38 0)) : MetT l y_LC_at [Cond.code y_LC_at b_LC_at 2 (some (.object "LeaseCores$Message"))] { frames := 6, cells := 1, slots := 6, locals := 100 } (va_Pc [.ref o, .int x] (CPreT D ac (cwm ac o ad al CI CL CR M n) sz)) "java/util/NoSuchElementException" := by
  refine kofT (by decide) (Nat.le_of_ble_eq_true rfl) ?_
  intro p ev s m args below meth c0 ls X hr hk hex hS w hl
  have X : Cx b_LC_at 2 R_LC D ac p m args c0 s := X
  have hx := X.1
  have hb := X.2.1
  have hl : lv_has ls 2 [(0, .ref o), (1, .int x)] := hl
  refine lv_iload_n hx hb d_LC_at_0 rfl (lv_at hl 1 rfl) ?_
  refine lv_if_lt (tgt := 12) hx hb d_LC_at_1 (by decide) (fun h1 => ?_) (fun h1 => ?_)
  · skip
    exact kthrow0 X hfl hS hex hk (inew := 74) (ic := 76) (XN := "java/util/NoSuchElementException") (by decide) wc_LC_74 wn_NSE wi_NSE hl.1 (Nat.le_of_ble_eq_true rfl) (Nat.le_of_ble_eq_true rfl) (Nat.le_of_ble_eq_true rfl) (Nat.le_of_ble_eq_true rfl) d_LC_at_12 d_LC_at_15 d_LC_at_16 d_LC_at_19
  · skip
    refine lv_iload_n hx hb d_LC_at_4 rfl (lv_at hl 1 rfl) ?_
    refine lv_aload_n hx hb d_LC_at_5 rfl (lv_at hl 0 rfl) ?_
    refine cg_LC_51 X w (v := CI 38 0) rfl d_LC_at_6 ?_
    refine lv_icmp_lt (tgt := 20) hx hb d_LC_at_9 (by decide) (fun h2 => ?_) (fun h2 => ?_)
    · skip
      exact absurd ⟨Int32.not_lt.mp h1, h2⟩ hbad
    · skip
      exact kthrow0 X hfl hS hex hk (inew := 74) (ic := 76) (XN := "java/util/NoSuchElementException") (by decide) wc_LC_74 wn_NSE wi_NSE hl.1 (Nat.le_of_ble_eq_true rfl) (Nat.le_of_ble_eq_true rfl) (Nat.le_of_ble_eq_true rfl) (Nat.le_of_ble_eq_true rfl) d_LC_at_12 d_LC_at_15 d_LC_at_16 d_LC_at_19
set_option maxHeartbeats 4000000 in
set_option maxRecDepth 100000 in
theorem t_LC_operate_c (l : Launch) (hfl : l.flags = pinnedFlags ++ [noTraceFlag]) (D : va_G) (ac : Nat → ClassId) (o : Nat) (ad : Nat → Nat) (al : Nat → Nat) (CI : Nat → Nat → Int32) (CL : Nat → Nat → Int64) (CR : Nat → Nat → Option Nat) (M : Nat → Msg) (n : Nat) (sz : Nat) (x : Int32) (kd : Int32) (a : Int32) (v : Int32) (z : Int32) (hbad : ¬ (0 ≤ x ∧ x < 3)) : MetT l y_LC_operate [Cond.code y_LC_operate b_LC_operate 8 (some .boolean)] { frames := 7, cells := 1, slots := 6, locals := 121 } (va_Pc [.ref o, .int x, .int kd, .int a, .int v, .int z] (CPreT D ac (cwm ac o ad al CI CL CR M n) sz)) "java/lang/IllegalArgumentException" := by
  refine kofT (by decide) (Nat.le_of_ble_eq_true rfl) ?_
  intro p ev s m args below meth c0 ls X hr hk hex hS w hl
  have X : Cx b_LC_operate 8 R_LC D ac p m args c0 s := X
  have hx := X.1
  have hb := X.2.1
  have hl : lv_has ls 8 [(0, .ref o), (1, .int x), (2, .int kd), (3, .int a), (4, .int v), (5, .int z)] := hl
  refine lv_aload_n hx hb d_LC_operate_0 rfl (lv_at hl 0 rfl) ?_
  refine lv_iload_n hx hb d_LC_operate_1 rfl (lv_at hl 1 rfl) ?_
  exact kprop (krunVT (ws0 := []) (wc := cwm ac o ad al CI CL CR M n) (n := 1) (As := [.int x]) (rest := []) (C := R_LC) X w (fun U hU hW => by rw [hU]; exact hS.moved hW.alike) (t_LC_needCore l hfl D ac o ad al CI CL CR M n _ x hbad) wk_LC_needCore wi_LC wm_LC_102 wx_LC_needCore ws_LC_LC_needCore (by decide +kernel) rfl rfl ⟨(Nat.le_of_ble_eq_true rfl), (Nat.le_of_ble_eq_true rfl)⟩ ⟨(Nat.le_of_ble_eq_true rfl), (Nat.le_of_ble_eq_true rfl)⟩ (crecv X w) rfl hl.1 rfl (Nat.le_of_ble_eq_true rfl) d_LC_operate_2) hex hk
set_option maxHeartbeats 4000000 in
set_option maxRecDepth 100000 in
theorem t_LC_operate_l (l : Launch) (hfl : l.flags = pinnedFlags ++ [noTraceFlag]) (D : va_G) (ac : Nat → ClassId) (o : Nat) (ad : Nat → Nat) (al : Nat → Nat) (CI : Nat → Nat → Int32) (CL : Nat → Nat → Int64) (CR : Nat → Nat → Option Nat) (M : Nat → Msg) (n : Nat) (sz : Nat) (c : Nat) (kd : Int32) (x : Int32) (v : Int32) (z : Int32) (hc : c < 3) (hbad : ¬ (0 ≤ x ∧ x < 12)) : MetT l y_LC_operate [Cond.code y_LC_operate b_LC_operate 8 (some .boolean)] { frames := 7, cells := 1, slots := 6, locals := 120 } (va_Pc [.ref o, .int (nI c), .int kd, .int x, .int v, .int z] (CPreT D ac (cwm ac o ad al CI CL CR M n) sz)) "java/lang/IllegalArgumentException" := by
  refine kofT (by decide) (Nat.le_of_ble_eq_true rfl) ?_
  intro p ev s m args below meth c0 ls X hr hk hex hS w hl
  have X : Cx b_LC_operate 8 R_LC D ac p m args c0 s := X
  have hx := X.1
  have hb := X.2.1
  have hl : lv_has ls 8 [(0, .ref o), (1, .int (nI c)), (2, .int kd), (3, .int x), (4, .int v), (5, .int z)] := hl
  refine lv_aload_n hx hb d_LC_operate_0 rfl (lv_at hl 0 rfl) ?_
  refine lv_iload_n hx hb d_LC_operate_1 rfl (lv_at hl 1 rfl) ?_
  refine kcallro (krunVr (ws0 := []) (wc := cwm ac o ad al CI CL CR M n) (n := 1) (As := [.int (nI c)]) (rest := []) (C := R_LC) X w (r_LC_needCore l D ac o ad al CI CL CR M n _ c (by omega)) wk_LC_needCore wi_LC wm_LC_102 wx_LC_needCore ws_LC_LC_needCore (by decide +kernel) rfl rfl ⟨(Nat.le_of_ble_eq_true rfl), (Nat.le_of_ble_eq_true rfl)⟩ ⟨(Nat.le_of_ble_eq_true rfl), (Nat.le_of_ble_eq_true rfl)⟩ (crecv X w) rfl hl.1 rfl (Nat.le_of_ble_eq_true rfl) d_LC_operate_2) ?_
  refine W.eq (g2 := F0 m 5 ls [.ref (ad (4 + c))]) rfl ?_
  refine lv_astore (lv' := [(6, .ref (ad (4 + c))), (0, .ref o), (1, .int (nI c)), (2, .int kd), (3, .int x), (4, .int v), (5, .int z)]) hx hb d_LC_operate_5 hl (by decide) rfl (fun ls hl => ?_)
  refine lv_iload_n hx hb d_LC_operate_7 rfl (lv_at hl 4 rfl) ?_
  exact kprop (krunST (ws0 := []) (wc := cwm ac o ad al CI CL CR M n) (n := 1) (As := [.int x]) (rest := []) X w (fun U hU hW => by rw [hU]; exact hS.moved hW.alike) (t_LC_needLine l hfl D ac o ad al CI CL CR M n _ x hbad) wk_LC_needLine wi_LC wm_LC_106 wt_LC_needLine (by decide +kernel) rfl rfl ⟨(Nat.le_of_ble_eq_true rfl), (Nat.le_of_ble_eq_true rfl)⟩ ⟨(Nat.le_of_ble_eq_true rfl), (Nat.le_of_ble_eq_true rfl)⟩ rfl hl.1 rfl (Nat.le_of_ble_eq_true rfl) d_LC_operate_8) hex hk
set_option maxHeartbeats 4000000 in
set_option maxRecDepth 100000 in
theorem t_LC_operate_k (l : Launch) (hfl : l.flags = pinnedFlags ++ [noTraceFlag]) (D : va_G) (ac : Nat → ClassId) (o : Nat) (ad : Nat → Nat) (al : Nat → Nat) (CI : Nat → Nat → Int32) (CL : Nat → Nat → Int64) (CR : Nat → Nat → Option Nat) (M : Nat → Msg) (n : Nat) (sz : Nat) (c : Nat) (x : Int32) (a : Nat) (v : Int32) (z : Int32) (hc : c < 3) (ha : a < 12) (hbad : ¬ (0 ≤ x ∧ x < 3)) : MetT l y_LC_operate [Cond.code y_LC_operate b_LC_operate 8 (some .boolean)] { frames := 6, cells := 1, slots := 6, locals := 100 } (va_Pc [.ref o, .int (nI c), .int x, .int (nI a), .int v, .int z] (CPreT D ac (cwm ac o ad al CI CL CR M n) sz)) "java/lang/IllegalArgumentException" := by
  refine kofT (by decide) (Nat.le_of_ble_eq_true rfl) ?_
  intro p ev s m args below meth c0 ls X hr hk hex hS w hl
  have X : Cx b_LC_operate 8 R_LC D ac p m args c0 s := X
  have hx := X.1
  have hb := X.2.1
  have hl : lv_has ls 8 [(0, .ref o), (1, .int (nI c)), (2, .int x), (3, .int (nI a)), (4, .int v), (5, .int z)] := hl
  refine lv_aload_n hx hb d_LC_operate_0 rfl (lv_at hl 0 rfl) ?_
  refine lv_iload_n hx hb d_LC_operate_1 rfl (lv_at hl 1 rfl) ?_
  refine kcallro (krunVr (ws0 := []) (wc := cwm ac o ad al CI CL CR M n) (n := 1) (As := [.int (nI c)]) (rest := []) (C := R_LC) X w (r_LC_needCore l D ac o ad al CI CL CR M n _ c (by omega)) wk_LC_needCore wi_LC wm_LC_102 wx_LC_needCore ws_LC_LC_needCore (by decide +kernel) rfl rfl ⟨(Nat.le_of_ble_eq_true rfl), (Nat.le_of_ble_eq_true rfl)⟩ ⟨(Nat.le_of_ble_eq_true rfl), (Nat.le_of_ble_eq_true rfl)⟩ (crecv X w) rfl hl.1 rfl (Nat.le_of_ble_eq_true rfl) d_LC_operate_2) ?_
  refine W.eq (g2 := F0 m 5 ls [.ref (ad (4 + c))]) rfl ?_
  refine lv_astore (lv' := [(6, .ref (ad (4 + c))), (0, .ref o), (1, .int (nI c)), (2, .int x), (3, .int (nI a)), (4, .int v), (5, .int z)]) hx hb d_LC_operate_5 hl (by decide) rfl (fun ls hl => ?_)
  refine lv_iload_n hx hb d_LC_operate_7 rfl (lv_at hl 4 rfl) ?_
  refine kcallro (krunSr (ws0 := []) (wc := cwm ac o ad al CI CL CR M n) (n := 1) (As := [.int (nI a)]) (rest := []) X w (r_LC_needLine l D ac o ad al CI CL CR M n _ a (by omega)) wk_LC_needLine wi_LC wm_LC_106 wt_LC_needLine (by decide +kernel) rfl rfl ⟨(Nat.le_of_ble_eq_true rfl), (Nat.le_of_ble_eq_true rfl)⟩ ⟨(Nat.le_of_ble_eq_true rfl), (Nat.le_of_ble_eq_true rfl)⟩ rfl hl.1 rfl (Nat.le_of_ble_eq_true rfl) d_LC_operate_8) ?_
  refine W.eq (g2 := F0 m 11 ls []) rfl ?_
  refine lv_iload_n hx hb d_LC_operate_11 rfl (lv_at hl 3 rfl) ?_
  refine lv_if_lt (tgt := 20) hx hb d_LC_operate_12 (by decide) (fun h1 => ?_) (fun h1 => ?_)
  · skip
    exact kthrow0 X hfl hS hex hk (inew := 99) (ic := 101) (XN := "java/lang/IllegalArgumentException") (by decide) wc_LC_99 wn_IAE wi_IAE hl.1 (Nat.le_of_ble_eq_true rfl) (Nat.le_of_ble_eq_true rfl) (Nat.le_of_ble_eq_true rfl) (Nat.le_of_ble_eq_true rfl) d_LC_operate_20 d_LC_operate_23 d_LC_operate_24 d_LC_operate_27
  · skip
    refine lv_iload_n hx hb d_LC_operate_15 rfl (lv_at hl 3 rfl) ?_
    refine lv_iconst (v := 3) hx hb d_LC_operate_16 (by decide) ?_
    refine lv_icmp_lt (tgt := 28) hx hb d_LC_operate_17 (by decide) (fun h2 => ?_) (fun h2 => ?_)
    · skip
      exact absurd ⟨Int32.not_lt.mp h1, h2⟩ hbad
    · skip
      exact kthrow0 X hfl hS hex hk (inew := 99) (ic := 101) (XN := "java/lang/IllegalArgumentException") (by decide) wc_LC_99 wn_IAE wi_IAE hl.1 (Nat.le_of_ble_eq_true rfl) (Nat.le_of_ble_eq_true rfl) (Nat.le_of_ble_eq_true rfl) (Nat.le_of_ble_eq_true rfl) d_LC_operate_20 d_LC_operate_23 d_LC_operate_24 d_LC_operate_27
set_option maxHeartbeats 4000000 in
set_option maxRecDepth 100000 in
theorem t_LC_operate_w (l : Launch) (hfl : l.flags = pinnedFlags ++ [noTraceFlag]) (D : va_G) (ac : Nat → ClassId) (o : Nat) (ad : Nat → Nat) (al : Nat → Nat) (CI : Nat → Nat → Int32) (CL : Nat → Nat → Int64) (CR : Nat → Nat → Option Nat) (M : Nat → Msg) (n : Nat) (sz : Nat) (c : Nat) (kd : Nat) (a : Nat) (v : Int32) (z : Int32) (hc : c < 3) (ha : a < 12) (hkd : kd < 3) (hwt : ¬ CI 1 c = 0) : MetT l y_LC_operate [Cond.code y_LC_operate b_LC_operate 8 (some .boolean)] { frames := 6, cells := 1, slots := 6, locals := 100 } (va_Pc [.ref o, .int (nI c), .int (nI kd), .int (nI a), .int v, .int z] (CPreT D ac (cwm ac o ad al CI CL CR M n) sz)) "java/lang/IllegalStateException" := by
  refine kofT (by decide) (Nat.le_of_ble_eq_true rfl) ?_
  intro p ev s m args below meth c0 ls X hr hk hex hS w hl
  have X : Cx b_LC_operate 8 R_LC D ac p m args c0 s := X
  have hx := X.1
  have hb := X.2.1
  have hl : lv_has ls 8 [(0, .ref o), (1, .int (nI c)), (2, .int (nI kd)), (3, .int (nI a)), (4, .int v), (5, .int z)] := hl
  refine lv_aload_n hx hb d_LC_operate_0 rfl (lv_at hl 0 rfl) ?_
  refine lv_iload_n hx hb d_LC_operate_1 rfl (lv_at hl 1 rfl) ?_
  refine kcallro (krunVr (ws0 := []) (wc := cwm ac o ad al CI CL CR M n) (n := 1) (As := [.int (nI c)]) (rest := []) (C := R_LC) X w (r_LC_needCore l D ac o ad al CI CL CR M n _ c (by omega)) wk_LC_needCore wi_LC wm_LC_102 wx_LC_needCore ws_LC_LC_needCore (by decide +kernel) rfl rfl ⟨(Nat.le_of_ble_eq_true rfl), (Nat.le_of_ble_eq_true rfl)⟩ ⟨(Nat.le_of_ble_eq_true rfl), (Nat.le_of_ble_eq_true rfl)⟩ (crecv X w) rfl hl.1 rfl (Nat.le_of_ble_eq_true rfl) d_LC_operate_2) ?_
  refine W.eq (g2 := F0 m 5 ls [.ref (ad (4 + c))]) rfl ?_
  refine lv_astore (lv' := [(6, .ref (ad (4 + c))), (0, .ref o), (1, .int (nI c)), (2, .int (nI kd)), (3, .int (nI a)), (4, .int v), (5, .int z)]) hx hb d_LC_operate_5 hl (by decide) rfl (fun ls hl => ?_)
  refine lv_iload_n hx hb d_LC_operate_7 rfl (lv_at hl 4 rfl) ?_
  refine kcallro (krunSr (ws0 := []) (wc := cwm ac o ad al CI CL CR M n) (n := 1) (As := [.int (nI a)]) (rest := []) X w (r_LC_needLine l D ac o ad al CI CL CR M n _ a (by omega)) wk_LC_needLine wi_LC wm_LC_106 wt_LC_needLine (by decide +kernel) rfl rfl ⟨(Nat.le_of_ble_eq_true rfl), (Nat.le_of_ble_eq_true rfl)⟩ ⟨(Nat.le_of_ble_eq_true rfl), (Nat.le_of_ble_eq_true rfl)⟩ rfl hl.1 rfl (Nat.le_of_ble_eq_true rfl) d_LC_operate_8) ?_
  refine W.eq (g2 := F0 m 11 ls []) rfl ?_
  refine lv_iload_n hx hb d_LC_operate_11 rfl (lv_at hl 3 rfl) ?_
  refine lv_if_lt (tgt := 20) hx hb d_LC_operate_12 (by decide) (fun h => absurd h (nI_pos (by omega))) (fun _ => ?_)
  refine lv_iload_n hx hb d_LC_operate_15 rfl (lv_at hl 3 rfl) ?_
  refine lv_iconst (v := 3) hx hb d_LC_operate_16 (by decide) ?_
  refine lv_icmp_lt (tgt := 28) hx hb d_LC_operate_17 (by decide) (fun _ => ?_) (fun h => absurd (nI_lt (b := 3) (by omega) (by omega)) h)
  refine lv_aload hx hb d_LC_operate_28 (lv_at hl 0 rfl) ?_
  refine cg_LC_109 X w c (by omega) (v := CI 1 c) rfl d_LC_operate_30 ?_
  refine lv_if_eq (tgt := 44) hx hb d_LC_operate_33 (by decide) (fun h => absurd h hwt) (fun _ => ?_)
  exact kthrow0 X hfl hS hex hk (inew := 112) (ic := 114) (XN := "java/lang/IllegalStateException") (by decide) wc_LC_112 wn_ISE wi_ISE hl.1 (Nat.le_of_ble_eq_true rfl) (Nat.le_of_ble_eq_true rfl) (Nat.le_of_ble_eq_true rfl) (Nat.le_of_ble_eq_true rfl) d_LC_operate_36 d_LC_operate_39 d_LC_operate_40 d_LC_operate_43
set_option maxHeartbeats 4000000 in
set_option maxRecDepth 100000 in
theorem t_LC_deliver (l : Launch) (hfl : l.flags = pinnedFlags ++ [noTraceFlag]) (D : va_G) (ac : Nat → ClassId) (o : Nat) (ad : Nat → Nat) (al : Nat → Nat) (CI : Nat → Nat → Int32) (CL : Nat → Nat → Int64) (CR : Nat → Nat → Option Nat) (M : Nat → Msg) (n : Nat) (sz : Nat) (x : Int32) (hbad : ¬ (0 ≤ x ∧ x < CI 38 0)) : MetT l y_LC_deliver [Cond.code y_LC_deliver b_LC_deliver 4 (some .boolean)] { frames := 7, cells := 1, slots := 6, locals := 121 } (va_Pc [.ref o, .int x] (CPreT D ac (cwm ac o ad al CI CL CR M n) sz)) "java/util/NoSuchElementException" := by
  refine kofT (by decide) (Nat.le_of_ble_eq_true rfl) ?_
  intro p ev s m args below meth c0 ls X hr hk hex hS w hl
  have X : Cx b_LC_deliver 4 R_LC D ac p m args c0 s := X
  have hx := X.1
  have hb := X.2.1
  have hl : lv_has ls 4 [(0, .ref o), (1, .int x)] := hl
  refine lv_aload_n hx hb d_LC_deliver_0 rfl (lv_at hl 0 rfl) ?_
  refine lv_iload_n hx hb d_LC_deliver_1 rfl (lv_at hl 1 rfl) ?_
  exact kprop (krunVT (ws0 := []) (wc := cwm ac o ad al CI CL CR M n) (n := 1) (As := [.int x]) (rest := []) (C := R_LC) X w (fun U hU hW => by rw [hU]; exact hS.moved hW.alike) (t_LC_at l hfl D ac o ad al CI CL CR M n _ x hbad) wk_LC_at wi_LC wm_LC_62 wx_LC_at ws_LC_LC_at (by decide +kernel) rfl rfl ⟨(Nat.le_of_ble_eq_true rfl), (Nat.le_of_ble_eq_true rfl)⟩ ⟨(Nat.le_of_ble_eq_true rfl), (Nat.le_of_ble_eq_true rfl)⟩ (crecv X w) rfl hl.1 rfl (Nat.le_of_ble_eq_true rfl) d_LC_deliver_2) hex hk
set_option maxHeartbeats 4000000 in
set_option maxRecDepth 100000 in
theorem t_LC_message_k (l : Launch) (hfl : l.flags = pinnedFlags ++ [noTraceFlag]) (D : va_G) (ac : Nat → ClassId) (o : Nat) (ad : Nat → Nat) (al : Nat → Nat) (CI : Nat → Nat → Int32) (CL : Nat → Nat → Int64) (CR : Nat → Nat → Option Nat) (M : Nat → Msg) (n : Nat) (sz : Nat) (x : Int32) (wh : Int32) (hbad : ¬ (0 ≤ x ∧ x < CI 38 0)) : MetT l y_LC_message [Cond.code y_LC_message b_LC_message 4 (some .int)] { frames := 7, cells := 1, slots := 6, locals := 121 } (va_Pc [.ref o, .int x, .int wh] (CPreT D ac (cwm ac o ad al CI CL CR M n) sz)) "java/util/NoSuchElementException" := by
  refine kofT (by decide) (Nat.le_of_ble_eq_true rfl) ?_
  intro p ev s m args below meth c0 ls X hr hk hex hS w hl
  have X : Cx b_LC_message 4 R_LC D ac p m args c0 s := X
  have hx := X.1
  have hb := X.2.1
  have hl : lv_has ls 4 [(0, .ref o), (1, .int x), (2, .int wh)] := hl
  refine lv_aload_n hx hb d_LC_message_0 rfl (lv_at hl 0 rfl) ?_
  refine lv_iload_n hx hb d_LC_message_1 rfl (lv_at hl 1 rfl) ?_
  exact kprop (krunVT (ws0 := []) (wc := cwm ac o ad al CI CL CR M n) (n := 1) (As := [.int x]) (rest := []) (C := R_LC) X w (fun U hU hW => by rw [hU]; exact hS.moved hW.alike) (t_LC_at l hfl D ac o ad al CI CL CR M n _ x hbad) wk_LC_at wi_LC wm_LC_62 wx_LC_at ws_LC_LC_at (by decide +kernel) rfl rfl ⟨(Nat.le_of_ble_eq_true rfl), (Nat.le_of_ble_eq_true rfl)⟩ ⟨(Nat.le_of_ble_eq_true rfl), (Nat.le_of_ble_eq_true rfl)⟩ (crecv X w) rfl hl.1 rfl (Nat.le_of_ble_eq_true rfl) d_LC_message_2) hex hk
set_option maxHeartbeats 4000000 in
set_option maxRecDepth 100000 in
theorem t_LC_message_w (l : Launch) (hfl : l.flags = pinnedFlags ++ [noTraceFlag]) (D : va_G) (ac : Nat → ClassId) (o : Nat) (ad : Nat → Nat) (al : Nat → Nat) (CI : Nat → Nat → Int32) (CL : Nat → Nat → Int64) (CR : Nat → Nat → Option Nat) (M : Nat → Msg) (n : Nat) (sz : Nat) (a : Nat) (wh : Int32) (i : Nat) (mm : Nat) (hm : CI 38 0 = nI mm) (ha : a < mm) (hmm : mm < 25) (hi : CR 3 a = some i) (hbad : wh.toInt < 0 ∨ 3 < wh.toInt) : MetT l y_LC_message [Cond.code y_LC_message b_LC_message 4 (some .int)] { frames := 6, cells := 1, slots := 6, locals := 100 } (va_Pc [.ref o, .int (nI a), .int wh] (CPreT D ac (cwm ac o ad al CI CL CR M n) sz)) "java/lang/IllegalArgumentException" := by
  refine kofT (by decide) (Nat.le_of_ble_eq_true rfl) ?_
  intro p ev s m args below meth c0 ls X hr hk hex hS w hl
  have X : Cx b_LC_message 4 R_LC D ac p m args c0 s := X
  have hx := X.1
  have hb := X.2.1
  have hl : lv_has ls 4 [(0, .ref o), (1, .int (nI a)), (2, .int wh)] := hl
  refine lv_aload_n hx hb d_LC_message_0 rfl (lv_at hl 0 rfl) ?_
  refine lv_iload_n hx hb d_LC_message_1 rfl (lv_at hl 1 rfl) ?_
  refine kcallro (krunVr (ws0 := []) (wc := cwm ac o ad al CI CL CR M n) (n := 1) (As := [.int (nI a)]) (rest := []) (C := R_LC) X w (r_LC_at l D ac o ad al CI CL CR M n _ a i mm hm (by omega) (by omega) hi) wk_LC_at wi_LC wm_LC_62 wx_LC_at ws_LC_LC_at (by decide +kernel) rfl rfl ⟨(Nat.le_of_ble_eq_true rfl), (Nat.le_of_ble_eq_true rfl)⟩ ⟨(Nat.le_of_ble_eq_true rfl), (Nat.le_of_ble_eq_true rfl)⟩ (crecv X w) rfl hl.1 rfl (Nat.le_of_ble_eq_true rfl) d_LC_message_2) ?_
  refine W.eq (g2 := F0 m 5 ls [.ref (al i)]) rfl ?_
  refine lv_astore_n (lv' := [(3, .ref (al i)), (0, .ref o), (1, .int (nI a)), (2, .int wh)]) hx hb d_LC_message_5 rfl hl (by decide) rfl (fun ls hl => ?_)
  refine lv_iload_n hx hb d_LC_message_6 rfl (lv_at hl 3 rfl) ?_
  refine lv_tableOut (tgt := 67) hx hb d_LC_message_7 hbad (by decide) ?_
  exact kthrow0 X hfl hS hex hk (inew := 99) (ic := 101) (XN := "java/lang/IllegalArgumentException") (by decide) wc_LC_99 wn_IAE wi_IAE hl.1 (Nat.le_of_ble_eq_true rfl) (Nat.le_of_ble_eq_true rfl) (Nat.le_of_ble_eq_true rfl) (Nat.le_of_ble_eq_true rfl) d_LC_message_67 d_LC_message_70 d_LC_message_71 d_LC_message_74
set_option maxHeartbeats 4000000 in
set_option maxRecDepth 100000 in
theorem t_LC_core_c (l : Launch) (hfl : l.flags = pinnedFlags ++ [noTraceFlag]) (D : va_G) (ac : Nat → ClassId) (o : Nat) (ad : Nat → Nat) (al : Nat → Nat) (CI : Nat → Nat → Int32) (CL : Nat → Nat → Int64) (CR : Nat → Nat → Option Nat) (M : Nat → Msg) (n : Nat) (sz : Nat) (x : Int32) (wh : Int32) (hbad : ¬ (0 ≤ x ∧ x < 3)) : MetT l y_LC_core [Cond.code y_LC_core b_LC_core 4 (some .int)] { frames := 7, cells := 1, slots := 6, locals := 121 } (va_Pc [.ref o, .int x, .int wh] (CPreT D ac (cwm ac o ad al CI CL CR M n) sz)) "java/lang/IllegalArgumentException" := by
  refine kofT (by decide) (Nat.le_of_ble_eq_true rfl) ?_
  intro p ev s m args below meth c0 ls X hr hk hex hS w hl
  have X : Cx b_LC_core 4 R_LC D ac p m args c0 s := X
  have hx := X.1
  have hb := X.2.1
  have hl : lv_has ls 4 [(0, .ref o), (1, .int x), (2, .int wh)] := hl
  refine lv_aload_n hx hb d_LC_core_0 rfl (lv_at hl 0 rfl) ?_
  refine lv_iload_n hx hb d_LC_core_1 rfl (lv_at hl 1 rfl) ?_
  exact kprop (krunVT (ws0 := []) (wc := cwm ac o ad al CI CL CR M n) (n := 1) (As := [.int x]) (rest := []) (C := R_LC) X w (fun U hU hW => by rw [hU]; exact hS.moved hW.alike) (t_LC_needCore l hfl D ac o ad al CI CL CR M n _ x hbad) wk_LC_needCore wi_LC wm_LC_102 wx_LC_needCore ws_LC_LC_needCore (by decide +kernel) rfl rfl ⟨(Nat.le_of_ble_eq_true rfl), (Nat.le_of_ble_eq_true rfl)⟩ ⟨(Nat.le_of_ble_eq_true rfl), (Nat.le_of_ble_eq_true rfl)⟩ (crecv X w) rfl hl.1 rfl (Nat.le_of_ble_eq_true rfl) d_LC_core_2) hex hk
set_option maxHeartbeats 4000000 in
set_option maxRecDepth 100000 in
theorem t_LC_core_w (l : Launch) (hfl : l.flags = pinnedFlags ++ [noTraceFlag]) (D : va_G) (ac : Nat → ClassId) (o : Nat) (ad : Nat → Nat) (al : Nat → Nat) (CI : Nat → Nat → Int32) (CL : Nat → Nat → Int64) (CR : Nat → Nat → Option Nat) (M : Nat → Msg) (n : Nat) (sz : Nat) (c : Nat) (wh : Int32) (hc : c < 3) (hbad : wh.toInt < 0 ∨ 4 < wh.toInt) : MetT l y_LC_core [Cond.code y_LC_core b_LC_core 4 (some .int)] { frames := 6, cells := 1, slots := 6, locals := 100 } (va_Pc [.ref o, .int (nI c), .int wh] (CPreT D ac (cwm ac o ad al CI CL CR M n) sz)) "java/lang/IllegalArgumentException" := by
  refine kofT (by decide) (Nat.le_of_ble_eq_true rfl) ?_
  intro p ev s m args below meth c0 ls X hr hk hex hS w hl
  have X : Cx b_LC_core 4 R_LC D ac p m args c0 s := X
  have hx := X.1
  have hb := X.2.1
  have hl : lv_has ls 4 [(0, .ref o), (1, .int (nI c)), (2, .int wh)] := hl
  refine lv_aload_n hx hb d_LC_core_0 rfl (lv_at hl 0 rfl) ?_
  refine lv_iload_n hx hb d_LC_core_1 rfl (lv_at hl 1 rfl) ?_
  refine kcallro (krunVr (ws0 := []) (wc := cwm ac o ad al CI CL CR M n) (n := 1) (As := [.int (nI c)]) (rest := []) (C := R_LC) X w (r_LC_needCore l D ac o ad al CI CL CR M n _ c (by omega)) wk_LC_needCore wi_LC wm_LC_102 wx_LC_needCore ws_LC_LC_needCore (by decide +kernel) rfl rfl ⟨(Nat.le_of_ble_eq_true rfl), (Nat.le_of_ble_eq_true rfl)⟩ ⟨(Nat.le_of_ble_eq_true rfl), (Nat.le_of_ble_eq_true rfl)⟩ (crecv X w) rfl hl.1 rfl (Nat.le_of_ble_eq_true rfl) d_LC_core_2) ?_
  refine W.eq (g2 := F0 m 5 ls [.ref (ad (4 + c))]) rfl ?_
  refine lv_astore_n (lv' := [(3, .ref (ad (4 + c))), (0, .ref o), (1, .int (nI c)), (2, .int wh)]) hx hb d_LC_core_5 rfl hl (by decide) rfl (fun ls hl => ?_)
  refine lv_iload_n hx hb d_LC_core_6 rfl (lv_at hl 3 rfl) ?_
  refine lv_tableOut (tgt := 73) hx hb d_LC_core_7 hbad (by decide) ?_
  exact kthrow0 X hfl hS hex hk (inew := 99) (ic := 101) (XN := "java/lang/IllegalArgumentException") (by decide) wc_LC_99 wn_IAE wi_IAE hl.1 (Nat.le_of_ble_eq_true rfl) (Nat.le_of_ble_eq_true rfl) (Nat.le_of_ble_eq_true rfl) (Nat.le_of_ble_eq_true rfl) d_LC_core_73 d_LC_core_76 d_LC_core_77 d_LC_core_80
set_option maxHeartbeats 4000000 in
set_option maxRecDepth 100000 in
theorem t_LC_time (l : Launch) (hfl : l.flags = pinnedFlags ++ [noTraceFlag]) (D : va_G) (ac : Nat → ClassId) (o : Nat) (ad : Nat → Nat) (al : Nat → Nat) (CI : Nat → Nat → Int32) (CL : Nat → Nat → Int64) (CR : Nat → Nat → Option Nat) (M : Nat → Msg) (n : Nat) (sz : Nat) (x : Int32) (hbad : ¬ (0 ≤ x ∧ x < 3)) : MetT l y_LC_time [Cond.code y_LC_time b_LC_time 2 (some .long)] { frames := 7, cells := 1, slots := 6, locals := 121 } (va_Pc [.ref o, .int x] (CPreT D ac (cwm ac o ad al CI CL CR M n) sz)) "java/lang/IllegalArgumentException" := by
  refine kofT (by decide) (Nat.le_of_ble_eq_true rfl) ?_
  intro p ev s m args below meth c0 ls X hr hk hex hS w hl
  have X : Cx b_LC_time 2 R_LC D ac p m args c0 s := X
  have hx := X.1
  have hb := X.2.1
  have hl : lv_has ls 2 [(0, .ref o), (1, .int x)] := hl
  refine lv_aload_n hx hb d_LC_time_0 rfl (lv_at hl 0 rfl) ?_
  refine lv_iload_n hx hb d_LC_time_1 rfl (lv_at hl 1 rfl) ?_
  exact kprop (krunVT (ws0 := []) (wc := cwm ac o ad al CI CL CR M n) (n := 1) (As := [.int x]) (rest := []) (C := R_LC) X w (fun U hU hW => by rw [hU]; exact hS.moved hW.alike) (t_LC_needCore l hfl D ac o ad al CI CL CR M n _ x hbad) wk_LC_needCore wi_LC wm_LC_102 wx_LC_needCore ws_LC_LC_needCore (by decide +kernel) rfl rfl ⟨(Nat.le_of_ble_eq_true rfl), (Nat.le_of_ble_eq_true rfl)⟩ ⟨(Nat.le_of_ble_eq_true rfl), (Nat.le_of_ble_eq_true rfl)⟩ (crecv X w) rfl hl.1 rfl (Nat.le_of_ble_eq_true rfl) d_LC_time_2) hex hk
set_option maxHeartbeats 4000000 in
set_option maxRecDepth 100000 in
theorem t_LC_cached_c (l : Launch) (hfl : l.flags = pinnedFlags ++ [noTraceFlag]) (D : va_G) (ac : Nat → ClassId) (o : Nat) (ad : Nat → Nat) (al : Nat → Nat) (CI : Nat → Nat → Int32) (CL : Nat → Nat → Int64) (CR : Nat → Nat → Option Nat) (M : Nat → Msg) (n : Nat) (sz : Nat) (x : Int32) (a : Int32) (wh : Int32) (hbad : ¬ (0 ≤ x ∧ x < 3)) : MetT l y_LC_cached [Cond.code y_LC_cached b_LC_cached 6 (some .long)] { frames := 7, cells := 1, slots := 6, locals := 121 } (va_Pc [.ref o, .int x, .int a, .int wh] (CPreT D ac (cwm ac o ad al CI CL CR M n) sz)) "java/lang/IllegalArgumentException" := by
  refine kofT (by decide) (Nat.le_of_ble_eq_true rfl) ?_
  intro p ev s m args below meth c0 ls X hr hk hex hS w hl
  have X : Cx b_LC_cached 6 R_LC D ac p m args c0 s := X
  have hx := X.1
  have hb := X.2.1
  have hl : lv_has ls 6 [(0, .ref o), (1, .int x), (2, .int a), (3, .int wh)] := hl
  refine lv_aload_n hx hb d_LC_cached_0 rfl (lv_at hl 0 rfl) ?_
  refine lv_iload_n hx hb d_LC_cached_1 rfl (lv_at hl 1 rfl) ?_
  exact kprop (krunVT (ws0 := []) (wc := cwm ac o ad al CI CL CR M n) (n := 1) (As := [.int x]) (rest := []) (C := R_LC) X w (fun U hU hW => by rw [hU]; exact hS.moved hW.alike) (t_LC_needCore l hfl D ac o ad al CI CL CR M n _ x hbad) wk_LC_needCore wi_LC wm_LC_102 wx_LC_needCore ws_LC_LC_needCore (by decide +kernel) rfl rfl ⟨(Nat.le_of_ble_eq_true rfl), (Nat.le_of_ble_eq_true rfl)⟩ ⟨(Nat.le_of_ble_eq_true rfl), (Nat.le_of_ble_eq_true rfl)⟩ (crecv X w) rfl hl.1 rfl (Nat.le_of_ble_eq_true rfl) d_LC_cached_2) hex hk
set_option maxHeartbeats 4000000 in
set_option maxRecDepth 100000 in
theorem t_LC_cached_l (l : Launch) (hfl : l.flags = pinnedFlags ++ [noTraceFlag]) (D : va_G) (ac : Nat → ClassId) (o : Nat) (ad : Nat → Nat) (al : Nat → Nat) (CI : Nat → Nat → Int32) (CL : Nat → Nat → Int64) (CR : Nat → Nat → Option Nat) (M : Nat → Msg) (n : Nat) (sz : Nat) (c : Nat) (x : Int32) (wh : Int32) (hc : c < 3) (hbad : ¬ (0 ≤ x ∧ x < 12)) : MetT l y_LC_cached [Cond.code y_LC_cached b_LC_cached 6 (some .long)] { frames := 7, cells := 1, slots := 6, locals := 120 } (va_Pc [.ref o, .int (nI c), .int x, .int wh] (CPreT D ac (cwm ac o ad al CI CL CR M n) sz)) "java/lang/IllegalArgumentException" := by
  refine kofT (by decide) (Nat.le_of_ble_eq_true rfl) ?_
  intro p ev s m args below meth c0 ls X hr hk hex hS w hl
  have X : Cx b_LC_cached 6 R_LC D ac p m args c0 s := X
  have hx := X.1
  have hb := X.2.1
  have hl : lv_has ls 6 [(0, .ref o), (1, .int (nI c)), (2, .int x), (3, .int wh)] := hl
  refine lv_aload_n hx hb d_LC_cached_0 rfl (lv_at hl 0 rfl) ?_
  refine lv_iload_n hx hb d_LC_cached_1 rfl (lv_at hl 1 rfl) ?_
  refine kcallro (krunVr (ws0 := []) (wc := cwm ac o ad al CI CL CR M n) (n := 1) (As := [.int (nI c)]) (rest := []) (C := R_LC) X w (r_LC_needCore l D ac o ad al CI CL CR M n _ c (by omega)) wk_LC_needCore wi_LC wm_LC_102 wx_LC_needCore ws_LC_LC_needCore (by decide +kernel) rfl rfl ⟨(Nat.le_of_ble_eq_true rfl), (Nat.le_of_ble_eq_true rfl)⟩ ⟨(Nat.le_of_ble_eq_true rfl), (Nat.le_of_ble_eq_true rfl)⟩ (crecv X w) rfl hl.1 rfl (Nat.le_of_ble_eq_true rfl) d_LC_cached_2) ?_
  refine W.eq (g2 := F0 m 5 ls [.ref (ad (4 + c))]) rfl ?_
  refine lv_astore (lv' := [(4, .ref (ad (4 + c))), (0, .ref o), (1, .int (nI c)), (2, .int x), (3, .int wh)]) hx hb d_LC_cached_5 hl (by decide) rfl (fun ls hl => ?_)
  refine lv_iload_n hx hb d_LC_cached_7 rfl (lv_at hl 3 rfl) ?_
  exact kprop (krunST (ws0 := []) (wc := cwm ac o ad al CI CL CR M n) (n := 1) (As := [.int x]) (rest := []) X w (fun U hU hW => by rw [hU]; exact hS.moved hW.alike) (t_LC_needLine l hfl D ac o ad al CI CL CR M n _ x hbad) wk_LC_needLine wi_LC wm_LC_106 wt_LC_needLine (by decide +kernel) rfl rfl ⟨(Nat.le_of_ble_eq_true rfl), (Nat.le_of_ble_eq_true rfl)⟩ ⟨(Nat.le_of_ble_eq_true rfl), (Nat.le_of_ble_eq_true rfl)⟩ rfl hl.1 rfl (Nat.le_of_ble_eq_true rfl) d_LC_cached_8) hex hk
set_option maxHeartbeats 4000000 in
set_option maxRecDepth 100000 in
theorem t_LC_cached_w (l : Launch) (hfl : l.flags = pinnedFlags ++ [noTraceFlag]) (D : va_G) (ac : Nat → ClassId) (o : Nat) (ad : Nat → Nat) (al : Nat → Nat) (CI : Nat → Nat → Int32) (CL : Nat → Nat → Int64) (CR : Nat → Nat → Option Nat) (M : Nat → Msg) (n : Nat) (sz : Nat) (c : Nat) (a : Nat) (x : Int32) (hc : c < 3) (ha : a < 12) (hbad : ¬ (0 ≤ x ∧ x ≤ 3)) : MetT l y_LC_cached [Cond.code y_LC_cached b_LC_cached 6 (some .long)] { frames := 6, cells := 1, slots := 6, locals := 100 } (va_Pc [.ref o, .int (nI c), .int (nI a), .int x] (CPreT D ac (cwm ac o ad al CI CL CR M n) sz)) "java/lang/IllegalArgumentException" := by
  refine kofT (by decide) (Nat.le_of_ble_eq_true rfl) ?_
  intro p ev s m args below meth c0 ls X hr hk hex hS w hl
  have X : Cx b_LC_cached 6 R_LC D ac p m args c0 s := X
  have hx := X.1
  have hb := X.2.1
  have hl : lv_has ls 6 [(0, .ref o), (1, .int (nI c)), (2, .int (nI a)), (3, .int x)] := hl
  refine lv_aload_n hx hb d_LC_cached_0 rfl (lv_at hl 0 rfl) ?_
  refine lv_iload_n hx hb d_LC_cached_1 rfl (lv_at hl 1 rfl) ?_
  refine kcallro (krunVr (ws0 := []) (wc := cwm ac o ad al CI CL CR M n) (n := 1) (As := [.int (nI c)]) (rest := []) (C := R_LC) X w (r_LC_needCore l D ac o ad al CI CL CR M n _ c (by omega)) wk_LC_needCore wi_LC wm_LC_102 wx_LC_needCore ws_LC_LC_needCore (by decide +kernel) rfl rfl ⟨(Nat.le_of_ble_eq_true rfl), (Nat.le_of_ble_eq_true rfl)⟩ ⟨(Nat.le_of_ble_eq_true rfl), (Nat.le_of_ble_eq_true rfl)⟩ (crecv X w) rfl hl.1 rfl (Nat.le_of_ble_eq_true rfl) d_LC_cached_2) ?_
  refine W.eq (g2 := F0 m 5 ls [.ref (ad (4 + c))]) rfl ?_
  refine lv_astore (lv' := [(4, .ref (ad (4 + c))), (0, .ref o), (1, .int (nI c)), (2, .int (nI a)), (3, .int x)]) hx hb d_LC_cached_5 hl (by decide) rfl (fun ls hl => ?_)
  refine lv_iload_n hx hb d_LC_cached_7 rfl (lv_at hl 3 rfl) ?_
  refine kcallro (krunSr (ws0 := []) (wc := cwm ac o ad al CI CL CR M n) (n := 1) (As := [.int (nI a)]) (rest := []) X w (r_LC_needLine l D ac o ad al CI CL CR M n _ a (by omega)) wk_LC_needLine wi_LC wm_LC_106 wt_LC_needLine (by decide +kernel) rfl rfl ⟨(Nat.le_of_ble_eq_true rfl), (Nat.le_of_ble_eq_true rfl)⟩ ⟨(Nat.le_of_ble_eq_true rfl), (Nat.le_of_ble_eq_true rfl)⟩ rfl hl.1 rfl (Nat.le_of_ble_eq_true rfl) d_LC_cached_8) ?_
  refine W.eq (g2 := F0 m 11 ls []) rfl ?_
  refine lv_iload_n hx hb d_LC_cached_11 rfl (lv_at hl 4 rfl) ?_
  refine lv_if_lt (tgt := 20) hx hb d_LC_cached_12 (by decide) (fun h1 => ?_) (fun h1 => ?_)
  · skip
    exact kthrow0 X hfl hS hex hk (inew := 99) (ic := 101) (XN := "java/lang/IllegalArgumentException") (by decide) wc_LC_99 wn_IAE wi_IAE hl.1 (Nat.le_of_ble_eq_true rfl) (Nat.le_of_ble_eq_true rfl) (Nat.le_of_ble_eq_true rfl) (Nat.le_of_ble_eq_true rfl) d_LC_cached_20 d_LC_cached_23 d_LC_cached_24 d_LC_cached_27
  · skip
    refine lv_iload_n hx hb d_LC_cached_15 rfl (lv_at hl 4 rfl) ?_
    refine lv_iconst (v := 3) hx hb d_LC_cached_16 (by decide) ?_
    refine lv_icmp_le (tgt := 28) hx hb d_LC_cached_17 (by decide) (fun h2 => ?_) (fun h2 => ?_)
    · skip
      exact absurd ⟨Int32.not_lt.mp h1, h2⟩ hbad
    · skip
      exact kthrow0 X hfl hS hex hk (inew := 99) (ic := 101) (XN := "java/lang/IllegalArgumentException") (by decide) wc_LC_99 wn_IAE wi_IAE hl.1 (Nat.le_of_ble_eq_true rfl) (Nat.le_of_ble_eq_true rfl) (Nat.le_of_ble_eq_true rfl) (Nat.le_of_ble_eq_true rfl) d_LC_cached_20 d_LC_cached_23 d_LC_cached_24 d_LC_cached_27
set_option maxHeartbeats 4000000 in
set_option maxRecDepth 100000 in
theorem t_LC_cached_n (l : Launch) (hfl : l.flags = pinnedFlags ++ [noTraceFlag]) (D : va_G) (ac : Nat → ClassId) (o : Nat) (ad : Nat → Nat) (al : Nat → Nat) (CI : Nat → Nat → Int32) (CL : Nat → Nat → Int64) (CR : Nat → Nat → Option Nat) (M : Nat → Msg) (n : Nat) (sz : Nat) (c : Nat) (a : Nat) (wh : Nat) (hc : c < 3) (ha : a < 12) (hwh : wh < 4) (hno : f_Core_find CI c (nI a) = none) : MetT l y_LC_cached [Cond.code y_LC_cached b_LC_cached 6 (some .long)] { frames := 6, cells := 1, slots := 6, locals := 100 } (va_Pc [.ref o, .int (nI c), .int (nI a), .int (nI wh)] (CPreT D ac (cwm ac o ad al CI CL CR M n) sz)) "java/util/NoSuchElementException" := by
  refine kofT (by decide) (Nat.le_of_ble_eq_true rfl) ?_
  intro p ev s m args below meth c0 ls X hr hk hex hS w hl
  have X : Cx b_LC_cached 6 R_LC D ac p m args c0 s := X
  have hx := X.1
  have hb := X.2.1
  have hl : lv_has ls 6 [(0, .ref o), (1, .int (nI c)), (2, .int (nI a)), (3, .int (nI wh))] := hl
  refine lv_aload_n hx hb d_LC_cached_0 rfl (lv_at hl 0 rfl) ?_
  refine lv_iload_n hx hb d_LC_cached_1 rfl (lv_at hl 1 rfl) ?_
  refine kcallro (krunVr (ws0 := []) (wc := cwm ac o ad al CI CL CR M n) (n := 1) (As := [.int (nI c)]) (rest := []) (C := R_LC) X w (r_LC_needCore l D ac o ad al CI CL CR M n _ c (by omega)) wk_LC_needCore wi_LC wm_LC_102 wx_LC_needCore ws_LC_LC_needCore (by decide +kernel) rfl rfl ⟨(Nat.le_of_ble_eq_true rfl), (Nat.le_of_ble_eq_true rfl)⟩ ⟨(Nat.le_of_ble_eq_true rfl), (Nat.le_of_ble_eq_true rfl)⟩ (crecv X w) rfl hl.1 rfl (Nat.le_of_ble_eq_true rfl) d_LC_cached_2) ?_
  refine W.eq (g2 := F0 m 5 ls [.ref (ad (4 + c))]) rfl ?_
  refine lv_astore (lv' := [(4, .ref (ad (4 + c))), (0, .ref o), (1, .int (nI c)), (2, .int (nI a)), (3, .int (nI wh))]) hx hb d_LC_cached_5 hl (by decide) rfl (fun ls hl => ?_)
  refine lv_iload_n hx hb d_LC_cached_7 rfl (lv_at hl 3 rfl) ?_
  refine kcallro (krunSr (ws0 := []) (wc := cwm ac o ad al CI CL CR M n) (n := 1) (As := [.int (nI a)]) (rest := []) X w (r_LC_needLine l D ac o ad al CI CL CR M n _ a (by omega)) wk_LC_needLine wi_LC wm_LC_106 wt_LC_needLine (by decide +kernel) rfl rfl ⟨(Nat.le_of_ble_eq_true rfl), (Nat.le_of_ble_eq_true rfl)⟩ ⟨(Nat.le_of_ble_eq_true rfl), (Nat.le_of_ble_eq_true rfl)⟩ rfl hl.1 rfl (Nat.le_of_ble_eq_true rfl) d_LC_cached_8) ?_
  refine W.eq (g2 := F0 m 11 ls []) rfl ?_
  refine lv_iload_n hx hb d_LC_cached_11 rfl (lv_at hl 4 rfl) ?_
  refine lv_if_lt (tgt := 20) hx hb d_LC_cached_12 (by decide) (fun h => absurd h (nI_pos (by omega))) (fun _ => ?_)
  refine lv_iload_n hx hb d_LC_cached_15 rfl (lv_at hl 4 rfl) ?_
  refine lv_iconst (v := 3) hx hb d_LC_cached_16 (by decide) ?_
  refine lv_icmp_le (tgt := 28) hx hb d_LC_cached_17 (by decide) (fun _ => ?_) (fun h => absurd (nI_le (b := 3) (by omega) (by omega)) h)
  refine lv_aload hx hb d_LC_cached_28 (lv_at hl 0 rfl) ?_
  refine lv_iload_n hx hb d_LC_cached_30 rfl (lv_at hl 3 rfl) ?_
  refine kcallro (krunVr (ws0 := []) (wc := cwm ac o ad al CI CL CR M n) (n := 1) (As := [.int (nI a)]) (rest := []) (C := R_Core) X w (r_Core_find l D ac o ad al CI CL CR M n _ c (nI a) (by omega)) wk_Core_find wi_Core wm_LC_132 wx_Core_find ws_Core_Core_find (by decide +kernel) rfl rfl ⟨(Nat.le_of_ble_eq_true rfl), (Nat.le_of_ble_eq_true rfl)⟩ ⟨(Nat.le_of_ble_eq_true rfl), (Nat.le_of_ble_eq_true rfl)⟩ (crecv_Core X w c (by omega)) rfl hl.1 rfl (Nat.le_of_ble_eq_true rfl) d_LC_cached_31) ?_
  refine W.eq (g2 := F0 m 34 ls [.null]) (congrArg (fun z => F0 m 34 ls [va_rf (rP ad z)]) hno) ?_
  refine lv_astoreN (lv' := [(5, .null), (4, .ref (ad (4 + c))), (0, .ref o), (1, .int (nI c)), (2, .int (nI a)), (3, .int (nI wh))]) hx hb d_LC_cached_34 hl (by decide) rfl (fun ls hl => ?_)
  refine lv_aloadN hx hb d_LC_cached_36 (lv_at hl 0 rfl) ?_
  refine lv_ifnonnullN hx hb d_LC_cached_38 ?_
  exact kthrow0 X hfl hS hex hk (inew := 74) (ic := 76) (XN := "java/util/NoSuchElementException") (by decide) wc_LC_74 wn_NSE wi_NSE hl.1 (Nat.le_of_ble_eq_true rfl) (Nat.le_of_ble_eq_true rfl) (Nat.le_of_ble_eq_true rfl) (Nat.le_of_ble_eq_true rfl) d_LC_cached_41 d_LC_cached_44 d_LC_cached_45 d_LC_cached_48
set_option maxHeartbeats 4000000 in
set_option maxRecDepth 100000 in
theorem t_LC_entry_l (l : Launch) (hfl : l.flags = pinnedFlags ++ [noTraceFlag]) (D : va_G) (ac : Nat → ClassId) (o : Nat) (ad : Nat → Nat) (al : Nat → Nat) (CI : Nat → Nat → Int32) (CL : Nat → Nat → Int64) (CR : Nat → Nat → Option Nat) (M : Nat → Msg) (n : Nat) (sz : Nat) (x : Int32) (wh : Int32) (hbad : ¬ (0 ≤ x ∧ x < 12)) : MetT l y_LC_entry [Cond.code y_LC_entry b_LC_entry 4 (some .long)] { frames := 7, cells := 1, slots := 6, locals := 120 } (va_Pc [.ref o, .int x, .int wh] (CPreT D ac (cwm ac o ad al CI CL CR M n) sz)) "java/lang/IllegalArgumentException" := by
  refine kofT (by decide) (Nat.le_of_ble_eq_true rfl) ?_
  intro p ev s m args below meth c0 ls X hr hk hex hS w hl
  have X : Cx b_LC_entry 4 R_LC D ac p m args c0 s := X
  have hx := X.1
  have hb := X.2.1
  have hl : lv_has ls 4 [(0, .ref o), (1, .int x), (2, .int wh)] := hl
  refine lv_iload_n hx hb d_LC_entry_0 rfl (lv_at hl 1 rfl) ?_
  exact kprop (krunST (ws0 := []) (wc := cwm ac o ad al CI CL CR M n) (n := 1) (As := [.int x]) (rest := []) X w (fun U hU hW => by rw [hU]; exact hS.moved hW.alike) (t_LC_needLine l hfl D ac o ad al CI CL CR M n _ x hbad) wk_LC_needLine wi_LC wm_LC_106 wt_LC_needLine (by decide +kernel) rfl rfl ⟨(Nat.le_of_ble_eq_true rfl), (Nat.le_of_ble_eq_true rfl)⟩ ⟨(Nat.le_of_ble_eq_true rfl), (Nat.le_of_ble_eq_true rfl)⟩ rfl hl.1 rfl (Nat.le_of_ble_eq_true rfl) d_LC_entry_1) hex hk
set_option maxHeartbeats 4000000 in
set_option maxRecDepth 100000 in
theorem t_LC_entry_w (l : Launch) (hfl : l.flags = pinnedFlags ++ [noTraceFlag]) (D : va_G) (ac : Nat → ClassId) (o : Nat) (ad : Nat → Nat) (al : Nat → Nat) (CI : Nat → Nat → Int32) (CL : Nat → Nat → Int64) (CR : Nat → Nat → Option Nat) (M : Nat → Msg) (n : Nat) (sz : Nat) (a : Nat) (x : Int32) (ha : a < 12) (hbad : ¬ (0 ≤ x ∧ x ≤ 5)) : MetT l y_LC_entry [Cond.code y_LC_entry b_LC_entry 4 (some .long)] { frames := 6, cells := 1, slots := 6, locals := 100 } (va_Pc [.ref o, .int (nI a), .int x] (CPreT D ac (cwm ac o ad al CI CL CR M n) sz)) "java/lang/IllegalArgumentException" := by
  refine kofT (by decide) (Nat.le_of_ble_eq_true rfl) ?_
  intro p ev s m args below meth c0 ls X hr hk hex hS w hl
  have X : Cx b_LC_entry 4 R_LC D ac p m args c0 s := X
  have hx := X.1
  have hb := X.2.1
  have hl : lv_has ls 4 [(0, .ref o), (1, .int (nI a)), (2, .int x)] := hl
  refine lv_iload_n hx hb d_LC_entry_0 rfl (lv_at hl 1 rfl) ?_
  refine kcallro (krunSr (ws0 := []) (wc := cwm ac o ad al CI CL CR M n) (n := 1) (As := [.int (nI a)]) (rest := []) X w (r_LC_needLine l D ac o ad al CI CL CR M n _ a (by omega)) wk_LC_needLine wi_LC wm_LC_106 wt_LC_needLine (by decide +kernel) rfl rfl ⟨(Nat.le_of_ble_eq_true rfl), (Nat.le_of_ble_eq_true rfl)⟩ ⟨(Nat.le_of_ble_eq_true rfl), (Nat.le_of_ble_eq_true rfl)⟩ rfl hl.1 rfl (Nat.le_of_ble_eq_true rfl) d_LC_entry_1) ?_
  refine W.eq (g2 := F0 m 4 ls []) rfl ?_
  refine lv_iload_n hx hb d_LC_entry_4 rfl (lv_at hl 2 rfl) ?_
  refine lv_if_lt (tgt := 13) hx hb d_LC_entry_5 (by decide) (fun h1 => ?_) (fun h1 => ?_)
  · skip
    exact kthrow0 X hfl hS hex hk (inew := 99) (ic := 101) (XN := "java/lang/IllegalArgumentException") (by decide) wc_LC_99 wn_IAE wi_IAE hl.1 (Nat.le_of_ble_eq_true rfl) (Nat.le_of_ble_eq_true rfl) (Nat.le_of_ble_eq_true rfl) (Nat.le_of_ble_eq_true rfl) d_LC_entry_13 d_LC_entry_16 d_LC_entry_17 d_LC_entry_20
  · skip
    refine lv_iload_n hx hb d_LC_entry_8 rfl (lv_at hl 2 rfl) ?_
    refine lv_iconst (v := 5) hx hb d_LC_entry_9 (by decide) ?_
    refine lv_icmp_le (tgt := 21) hx hb d_LC_entry_10 (by decide) (fun h2 => ?_) (fun h2 => ?_)
    · skip
      exact absurd ⟨Int32.not_lt.mp h1, h2⟩ hbad
    · skip
      exact kthrow0 X hfl hS hex hk (inew := 99) (ic := 101) (XN := "java/lang/IllegalArgumentException") (by decide) wc_LC_99 wn_IAE wi_IAE hl.1 (Nat.le_of_ble_eq_true rfl) (Nat.le_of_ble_eq_true rfl) (Nat.le_of_ble_eq_true rfl) (Nat.le_of_ble_eq_true rfl) d_LC_entry_13 d_LC_entry_16 d_LC_entry_17 d_LC_entry_20
set_option maxHeartbeats 4000000 in
set_option maxRecDepth 100000 in
theorem t_LC_entry_n (l : Launch) (hfl : l.flags = pinnedFlags ++ [noTraceFlag]) (D : va_G) (ac : Nat → ClassId) (o : Nat) (ad : Nat → Nat) (al : Nat → Nat) (CI : Nat → Nat → Int32) (CL : Nat → Nat → Int64) (CR : Nat → Nat → Option Nat) (M : Nat → Msg) (n : Nat) (sz : Nat) (a : Nat) (wh : Nat) (ha : a < 12) (hwh : wh < 6) (hno : f_LC_entryOf CI (nI a) = none) : MetT l y_LC_entry [Cond.code y_LC_entry b_LC_entry 4 (some .long)] { frames := 6, cells := 1, slots := 6, locals := 100 } (va_Pc [.ref o, .int (nI a), .int (nI wh)] (CPreT D ac (cwm ac o ad al CI CL CR M n) sz)) "java/util/NoSuchElementException" := by
  refine kofT (by decide) (Nat.le_of_ble_eq_true rfl) ?_
  intro p ev s m args below meth c0 ls X hr hk hex hS w hl
  have X : Cx b_LC_entry 4 R_LC D ac p m args c0 s := X
  have hx := X.1
  have hb := X.2.1
  have hl : lv_has ls 4 [(0, .ref o), (1, .int (nI a)), (2, .int (nI wh))] := hl
  refine lv_iload_n hx hb d_LC_entry_0 rfl (lv_at hl 1 rfl) ?_
  refine kcallro (krunSr (ws0 := []) (wc := cwm ac o ad al CI CL CR M n) (n := 1) (As := [.int (nI a)]) (rest := []) X w (r_LC_needLine l D ac o ad al CI CL CR M n _ a (by omega)) wk_LC_needLine wi_LC wm_LC_106 wt_LC_needLine (by decide +kernel) rfl rfl ⟨(Nat.le_of_ble_eq_true rfl), (Nat.le_of_ble_eq_true rfl)⟩ ⟨(Nat.le_of_ble_eq_true rfl), (Nat.le_of_ble_eq_true rfl)⟩ rfl hl.1 rfl (Nat.le_of_ble_eq_true rfl) d_LC_entry_1) ?_
  refine W.eq (g2 := F0 m 4 ls []) rfl ?_
  refine lv_iload_n hx hb d_LC_entry_4 rfl (lv_at hl 2 rfl) ?_
  refine lv_if_lt (tgt := 13) hx hb d_LC_entry_5 (by decide) (fun h => absurd h (nI_pos (by omega))) (fun _ => ?_)
  refine lv_iload_n hx hb d_LC_entry_8 rfl (lv_at hl 2 rfl) ?_
  refine lv_iconst (v := 5) hx hb d_LC_entry_9 (by decide) ?_
  refine lv_icmp_le (tgt := 21) hx hb d_LC_entry_10 (by decide) (fun _ => ?_) (fun h => absurd (nI_le (b := 5) (by omega) (by omega)) h)
  refine lv_aload_n hx hb d_LC_entry_21 rfl (lv_at hl 0 rfl) ?_
  refine lv_iload_n hx hb d_LC_entry_22 rfl (lv_at hl 1 rfl) ?_
  refine kcallro (krunVr (ws0 := []) (wc := cwm ac o ad al CI CL CR M n) (n := 1) (As := [.int (nI a)]) (rest := []) (C := R_LC) X w (r_LC_entryOf l D ac o ad al CI CL CR M n _ (nI a)) wk_LC_entryOf wi_LC wm_LC_169 wx_LC_entryOf ws_LC_LC_entryOf (by decide +kernel) rfl rfl ⟨(Nat.le_of_ble_eq_true rfl), (Nat.le_of_ble_eq_true rfl)⟩ ⟨(Nat.le_of_ble_eq_true rfl), (Nat.le_of_ble_eq_true rfl)⟩ (crecv X w) rfl hl.1 rfl (Nat.le_of_ble_eq_true rfl) d_LC_entry_23) ?_
  refine W.eq (g2 := F0 m 26 ls [.null]) (congrArg (fun z => F0 m 26 ls [va_rf (rE ad z)]) hno) ?_
  refine lv_astore_nN (lv' := [(3, .null), (0, .ref o), (1, .int (nI a)), (2, .int (nI wh))]) hx hb d_LC_entry_26 rfl hl (by decide) rfl (fun ls hl => ?_)
  refine lv_aload_nN hx hb d_LC_entry_27 rfl (lv_at hl 0 rfl) ?_
  refine lv_ifnonnullN hx hb d_LC_entry_28 ?_
  exact kthrow0 X hfl hS hex hk (inew := 74) (ic := 76) (XN := "java/util/NoSuchElementException") (by decide) wc_LC_74 wn_NSE wi_NSE hl.1 (Nat.le_of_ble_eq_true rfl) (Nat.le_of_ble_eq_true rfl) (Nat.le_of_ble_eq_true rfl) (Nat.le_of_ble_eq_true rfl) d_LC_entry_31 d_LC_entry_34 d_LC_entry_35 d_LC_entry_38
set_option maxHeartbeats 4000000 in
set_option maxRecDepth 100000 in
theorem t_LC_memory (l : Launch) (hfl : l.flags = pinnedFlags ++ [noTraceFlag]) (D : va_G) (ac : Nat → ClassId) (o : Nat) (ad : Nat → Nat) (al : Nat → Nat) (CI : Nat → Nat → Int32) (CL : Nat → Nat → Int64) (CR : Nat → Nat → Option Nat) (M : Nat → Msg) (n : Nat) (sz : Nat) (x : Int32) (hbad : ¬ (0 ≤ x ∧ x < 12)) : MetT l y_LC_memory [Cond.code y_LC_memory b_LC_memory 2 (some .int)] { frames := 7, cells := 1, slots := 6, locals := 120 } (va_Pc [.ref o, .int x] (CPreT D ac (cwm ac o ad al CI CL CR M n) sz)) "java/lang/IllegalArgumentException" := by
  refine kofT (by decide) (Nat.le_of_ble_eq_true rfl) ?_
  intro p ev s m args below meth c0 ls X hr hk hex hS w hl
  have X : Cx b_LC_memory 2 R_LC D ac p m args c0 s := X
  have hx := X.1
  have hb := X.2.1
  have hl : lv_has ls 2 [(0, .ref o), (1, .int x)] := hl
  refine lv_iload_n hx hb d_LC_memory_0 rfl (lv_at hl 1 rfl) ?_
  exact kprop (krunST (ws0 := []) (wc := cwm ac o ad al CI CL CR M n) (n := 1) (As := [.int x]) (rest := []) X w (fun U hU hW => by rw [hU]; exact hS.moved hW.alike) (t_LC_needLine l hfl D ac o ad al CI CL CR M n _ x hbad) wk_LC_needLine wi_LC wm_LC_106 wt_LC_needLine (by decide +kernel) rfl rfl ⟨(Nat.le_of_ble_eq_true rfl), (Nat.le_of_ble_eq_true rfl)⟩ ⟨(Nat.le_of_ble_eq_true rfl), (Nat.le_of_ble_eq_true rfl)⟩ rfl hl.1 rfl (Nat.le_of_ble_eq_true rfl) d_LC_memory_1) hex hk
