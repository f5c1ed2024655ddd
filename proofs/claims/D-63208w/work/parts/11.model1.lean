def f_Model_thrown (MI : Nat → Nat → Int32) (ML : Nat → Nat → Int64)  : Int32 :=
  MI 35 0
set_option maxHeartbeats 4000000 in
set_option maxRecDepth 100000 in
theorem c_Model_thrown (l : Launch) (D : va_G) (ac : Nat → ClassId) (o : Nat) (ad : Nat → Nat) (MI : Nat → Nat → Int32) (ML : Nat → Nat → Int64) (sz : Nat)   : Met l y_Model_thrown [Cond.code y_Model_thrown b_Model_thrown 1 (some .int)] { frames := 0, cells := 0, slots := 0, locals := 0 } (va_Pc [.ref o] (CPre D ac (mws ac o ad MI ML) sz)) (va_Qi (fun r u => r = f_Model_thrown MI ML ∧ u = mws ac o ad MI ML) (CPost D (mws ac o ad MI ML) sz) (va_A (mws ac o ad MI ML) sz)) 0 0 (va_A (mws ac o ad MI ML) sz) := by
  refine kofW (by decide) (Nat.le_of_ble_eq_true rfl) ?_
  intro p ev s m args below meth c0 ls X hr hk hnm hex hsz w hl
  have X : Cx b_Model_thrown 1 R_Model D ac p m args c0 s := X
  have hx := X.1
  have hb := X.2.1
  have hl : lv_has ls 1 [(0, .ref o)] := hl
  refine lv_aload_n hx hb d_Model_thrown_0 rfl (lv_at hl 0 rfl) ?_
  refine mg_124 X w (v := MI 35 0) rfl d_Model_thrown_1 ?_
  have hF : f_Model_thrown MI ML = MI 35 0 := by rfl
  exact kiret X w hr hk ⟨by rw [hF], rfl⟩ d_Model_thrown_4
def f_Model_fail (MI : Nat → Nat → Int32) (ML : Nat → Nat → Int64) (x : Int32) : Int32 × (Nat → Nat → Int32) × (Nat → Nat → Int64) :=
  (0, up2 MI 35 0 x, ML)
set_option maxHeartbeats 4000000 in
set_option maxRecDepth 100000 in
theorem c_Model_fail (l : Launch) (D : va_G) (ac : Nat → ClassId) (o : Nat) (ad : Nat → Nat) (MI : Nat → Nat → Int32) (ML : Nat → Nat → Int64) (sz : Nat) (x : Int32)  : Met l y_Model_fail [Cond.code y_Model_fail b_Model_fail 2 (some .int)] { frames := 0, cells := 0, slots := 0, locals := 0 } (va_Pc [.ref o, .int x] (CPre D ac (mws ac o ad MI ML) sz)) (va_Qi (fun r u => r = (f_Model_fail MI ML x).1 ∧ u = mws ac o ad (f_Model_fail MI ML x).2.1 (f_Model_fail MI ML x).2.2) (CPost D (mws ac o ad MI ML) sz) (va_A (mws ac o ad MI ML) sz)) 0 0 (va_A (mws ac o ad MI ML) sz) := by
  refine kofW (by decide) (Nat.le_of_ble_eq_true rfl) ?_
  intro p ev s m args below meth c0 ls X hr hk hnm hex hsz w hl
  have X : Cx b_Model_fail 2 R_Model D ac p m args c0 s := X
  have hx := X.1
  have hb := X.2.1
  have hl : lv_has ls 2 [(0, .ref o), (1, .int x)] := hl
  refine lv_aload_n hx hb d_Model_fail_0 rfl (lv_at hl 0 rfl) ?_
  refine lv_iload_n hx hb d_Model_fail_1 rfl (lv_at hl 1 rfl) ?_
  refine mp_124 X w d_Model_fail_2 (fun H locs w => ?_)
  refine lv_iconst (v := 0) hx hb d_Model_fail_5 (by decide) ?_
  have hF : f_Model_fail MI ML x = (0, up2 MI 35 0 x, ML) := by rfl
  exact kiret X w hr hk ⟨by rw [hF], by rw [hF]⟩ d_Model_fail_6
def f_Model_within (v : Int32) (lo : Int32) (hi : Int32) : Int32 :=
  if v < lo then
    0
  else
    if hi < v then
      0
    else
      1
set_option maxHeartbeats 4000000 in
set_option maxRecDepth 100000 in
theorem c_Model_within (l : Launch) (D : va_G) (ac : Nat → ClassId) (o : Nat) (ad : Nat → Nat) (MI : Nat → Nat → Int32) (ML : Nat → Nat → Int64) (sz : Nat) (v : Int32) (lo : Int32) (hi : Int32)  : Met l y_Model_within [Cond.code y_Model_within b_Model_within 3 (some .boolean)] { frames := 0, cells := 0, slots := 0, locals := 0 } (va_Pc [.int v, .int lo, .int hi] (CPre D ac (mws ac o ad MI ML) sz)) (va_Qi (fun r u => r = f_Model_within v lo hi ∧ u = mws ac o ad MI ML) (CPost D (mws ac o ad MI ML) sz) (va_A (mws ac o ad MI ML) sz)) 0 0 (va_A (mws ac o ad MI ML) sz) := by
  refine kofW (by decide) (Nat.le_of_ble_eq_true rfl) ?_
  intro p ev s m args below meth c0 ls X hr hk hnm hex hsz w hl
  have X : Cx b_Model_within 3 R_Model D ac p m args c0 s := X
  have hx := X.1
  have hb := X.2.1
  have hl : lv_has ls 3 [(0, .int v), (1, .int lo), (2, .int hi)] := hl
  refine lv_iload_n hx hb d_Model_within_0 rfl (lv_at hl 0 rfl) ?_
  refine lv_iload_n hx hb d_Model_within_1 rfl (lv_at hl 1 rfl) ?_
  refine lv_icmp_lt (tgt := 14) hx hb d_Model_within_2 (by decide) (fun h1 => ?_) (fun h1 => ?_)
  · skip
    refine lv_iconst (v := 0) hx hb d_Model_within_14 (by decide) ?_
    have hF : f_Model_within v lo hi = 0 := by unfold f_Model_within; rw [if_pos h1]
    exact kzret X w hr hk (by decide) ⟨by rw [hF], rfl⟩ d_Model_within_15
  · skip
    refine lv_iload_n hx hb d_Model_within_5 rfl (lv_at hl 0 rfl) ?_
    refine lv_iload_n hx hb d_Model_within_6 rfl (lv_at hl 2 rfl) ?_
    refine lv_icmp_gt (tgt := 14) hx hb d_Model_within_7 (by decide) (fun h2 => ?_) (fun h2 => ?_)
    · skip
      refine lv_iconst (v := 0) hx hb d_Model_within_14 (by decide) ?_
      have hF : f_Model_within v lo hi = 0 := by unfold f_Model_within; rw [if_neg h1, if_pos h2]
      exact kzret X w hr hk (by decide) ⟨by rw [hF], rfl⟩ d_Model_within_15
    · skip
      refine lv_iconst (v := 1) hx hb d_Model_within_10 (by decide) ?_
      refine lv_goto (tgt := 15) hx hb d_Model_within_11 (by decide) ?_
      have hF : f_Model_within v lo hi = 1 := by unfold f_Model_within; rw [if_neg h1, if_neg h2]
      exact kzret X w hr hk (by decide) ⟨by rw [hF], rfl⟩ d_Model_within_15
def f_Model_most (x : Int64) (y : Int64) : Int64 :=
  if x ≤ y then
    y
  else
    x
set_option maxHeartbeats 4000000 in
set_option maxRecDepth 100000 in
theorem c_Model_most (l : Launch) (D : va_G) (ac : Nat → ClassId) (o : Nat) (ad : Nat → Nat) (MI : Nat → Nat → Int32) (ML : Nat → Nat → Int64) (sz : Nat) (x : Int64) (y : Int64)  : Met l y_Model_most [Cond.code y_Model_most b_Model_most 4 (some .long)] { frames := 0, cells := 0, slots := 0, locals := 0 } (va_Pc [.long x, .long y] (CPre D ac (mws ac o ad MI ML) sz)) (va_Ql (fun r u => r = f_Model_most x y ∧ u = mws ac o ad MI ML) (CPost D (mws ac o ad MI ML) sz) (va_A (mws ac o ad MI ML) sz)) 0 0 (va_A (mws ac o ad MI ML) sz) := by
  refine kofW (by decide) (Nat.le_of_ble_eq_true rfl) ?_
  intro p ev s m args below meth c0 ls X hr hk hnm hex hsz w hl
  have X : Cx b_Model_most 4 R_Model D ac p m args c0 s := X
  have hx := X.1
  have hb := X.2.1
  have hl : lv_has ls 4 [(0, .long x), (2, .long y)] := hl
  refine lv_lload_n hx hb d_Model_most_0 rfl (lv_at hl 0 rfl) ?_
  refine lv_lload_n hx hb d_Model_most_1 rfl (lv_at hl 1 rfl) ?_
  refine klc_le (tgt := 10) hx hb d_Model_most_2 d_Model_most_3 (by decide) (fun h1 => ?_) (fun h1 => ?_)
  · skip
    refine lv_lload_n hx hb d_Model_most_10 rfl (lv_at hl 1 rfl) ?_
    have hF : f_Model_most x y = y := by unfold f_Model_most; rw [if_pos h1]
    exact klret X w hr hk ⟨by rw [hF], rfl⟩ d_Model_most_11
  · skip
    refine lv_lload_n hx hb d_Model_most_6 rfl (lv_at hl 0 rfl) ?_
    refine lv_goto (tgt := 11) hx hb d_Model_most_7 (by decide) ?_
    have hF : f_Model_most x y = x := by unfold f_Model_most; rw [if_neg h1]
    exact klret X w hr hk ⟨by rw [hF], rfl⟩ d_Model_most_11
def tn (x : Int32) : Nat := x.toNatClampNeg
theorem tn_nI {n : Nat} (h : n < 2 ^ 31) : tn (nI n) = n := nI_clamp h
def f_Model_send (MI : Nat → Nat → Int32) (ML : Nat → Nat → Int64) (k : Int32) (li : Int32) (co : Int32) (tm : Int32) (v : Int32) (t : Int64) (x : Int64) : (Nat → Nat → Int32) × (Nat → Nat → Int64) :=
  (up2 (up2 (up2 (up2 (up2 (up2 MI 28 (tn (MI 38 0)) k) 29 (tn (MI 38 0)) li) 30 (tn (MI 38 0)) co) 31 (tn (MI 38 0)) tm) 32 (tn (MI 38 0)) v) 38 0 (nI ((tn (MI 38 0)) + 1)), up2 (up2 ML 33 (tn (MI 38 0)) t) 34 (tn (MI 38 0)) x)
set_option maxHeartbeats 4000000 in
set_option maxRecDepth 100000 in
theorem c_Model_send (l : Launch) (D : va_G) (ac : Nat → ClassId) (o : Nat) (ad : Nat → Nat) (MI : Nat → Nat → Int32) (ML : Nat → Nat → Int64) (sz : Nat) (k : Int32) (li : Int32) (co : Int32) (tm : Int32) (v : Int32) (t : Int64) (x : Int64) (hm : MI 38 0 = nI (tn (MI 38 0))) (hm25 : tn (MI 38 0) < 25) (htm : tm = 0 ∨ tm = 1) : Met l y_Model_send [Cond.code y_Model_send b_Model_send 10 none] { frames := 0, cells := 0, slots := 0, locals := 0 } (va_Pc [.ref o, .int k, .int li, .int co, .int tm, .int v, .long t, .long x] (CPre D ac (mws ac o ad MI ML) sz)) (va_Qv (fun u => u = mws ac o ad (f_Model_send MI ML k li co tm v t x).1 (f_Model_send MI ML k li co tm v t x).2) (CPost D (mws ac o ad MI ML) sz) (va_A (mws ac o ad MI ML) sz)) 0 0 (va_A (mws ac o ad MI ML) sz) := by
  refine kofW (by decide) (Nat.le_of_ble_eq_true rfl) ?_
  intro p ev s m args below meth c0 ls X hr hk hnm hex hsz w hl
  have X : Cx b_Model_send 10 R_Model D ac p m args c0 s := X
  have hx := X.1
  have hb := X.2.1
  have hl : lv_has ls 10 [(0, .ref o), (1, .int k), (2, .int li), (3, .int co), (4, .int tm), (5, .int v), (6, .long t), (8, .long x)] := hl
  refine lv_aload_n hx hb d_Model_send_0 rfl (lv_at hl 0 rfl) ?_
  refine mg_96 X w d_Model_send_1 ?_
  refine lv_aload_n hx hb d_Model_send_4 rfl (lv_at hl 0 rfl) ?_
  refine mg_127 X w (v := MI 38 0) rfl d_Model_send_5 ?_
  refine lv_iload_n hx hb d_Model_send_8 rfl (lv_at hl 1 rfl) ?_
  refine ast_28 X w (tn (MI 38 0)) (by omega) hm d_Model_send_9 (fun H locs w => ?_)
  refine lv_aload_n hx hb d_Model_send_10 rfl (lv_at hl 0 rfl) ?_
  refine mg_99 X w d_Model_send_11 ?_
  refine lv_aload_n hx hb d_Model_send_14 rfl (lv_at hl 0 rfl) ?_
  refine mg_127 X w (v := MI 38 0) rfl d_Model_send_15 ?_
  refine lv_iload_n hx hb d_Model_send_18 rfl (lv_at hl 2 rfl) ?_
  refine ast_29 X w (tn (MI 38 0)) (by omega) hm d_Model_send_19 (fun H locs w => ?_)
  refine lv_aload_n hx hb d_Model_send_20 rfl (lv_at hl 0 rfl) ?_
  refine mg_102 X w d_Model_send_21 ?_
  refine lv_aload_n hx hb d_Model_send_24 rfl (lv_at hl 0 rfl) ?_
  refine mg_127 X w (v := MI 38 0) rfl d_Model_send_25 ?_
  refine lv_iload_n hx hb d_Model_send_28 rfl (lv_at hl 3 rfl) ?_
  refine ast_30 X w (tn (MI 38 0)) (by omega) hm d_Model_send_29 (fun H locs w => ?_)
  refine lv_aload_n hx hb d_Model_send_30 rfl (lv_at hl 0 rfl) ?_
  refine mg_105 X w d_Model_send_31 ?_
  refine lv_aload_n hx hb d_Model_send_34 rfl (lv_at hl 0 rfl) ?_
  refine mg_127 X w (v := MI 38 0) rfl d_Model_send_35 ?_
  refine lv_iload hx hb d_Model_send_38 (lv_at hl 4 rfl) ?_
  refine ast_31 X w (tn (MI 38 0)) htm (by omega) hm d_Model_send_40 (fun H locs w => ?_)
  refine lv_aload_n hx hb d_Model_send_41 rfl (lv_at hl 0 rfl) ?_
  refine mg_108 X w d_Model_send_42 ?_
  refine lv_aload_n hx hb d_Model_send_45 rfl (lv_at hl 0 rfl) ?_
  refine mg_127 X w (v := MI 38 0) rfl d_Model_send_46 ?_
  refine lv_iload hx hb d_Model_send_49 (lv_at hl 5 rfl) ?_
  refine ast_32 X w (tn (MI 38 0)) (by omega) hm d_Model_send_51 (fun H locs w => ?_)
  refine lv_aload_n hx hb d_Model_send_52 rfl (lv_at hl 0 rfl) ?_
  refine mg_111 X w d_Model_send_53 ?_
  refine lv_aload_n hx hb d_Model_send_56 rfl (lv_at hl 0 rfl) ?_
  refine mg_127 X w (v := MI 38 0) rfl d_Model_send_57 ?_
  refine lv_lload hx hb d_Model_send_60 (lv_at hl 6 rfl) ?_
  refine ast_33 X w (tn (MI 38 0)) (by omega) hm d_Model_send_62 (fun H locs w => ?_)
  refine lv_aload_n hx hb d_Model_send_63 rfl (lv_at hl 0 rfl) ?_
  refine mg_114 X w d_Model_send_64 ?_
  refine lv_aload_n hx hb d_Model_send_67 rfl (lv_at hl 0 rfl) ?_
  refine mg_127 X w (v := MI 38 0) rfl d_Model_send_68 ?_
  refine lv_lload hx hb d_Model_send_71 (lv_at hl 7 rfl) ?_
  refine ast_34 X w (tn (MI 38 0)) (by omega) hm d_Model_send_73 (fun H locs w => ?_)
  refine lv_aload_n hx hb d_Model_send_74 rfl (lv_at hl 0 rfl) ?_
  refine lv_dup hx hb d_Model_send_75 rfl ?_
  refine mg_127 X w (v := MI 38 0) rfl d_Model_send_76 ?_
  refine lv_iconst (v := 1) hx hb d_Model_send_79 (by decide) ?_
  refine kiadd (a := tn (MI 38 0)) (b := 1) (r := (tn (MI 38 0)) + 1) hx hb hm rfl rfl d_Model_send_80 ?_
  refine mp_127 X w d_Model_send_81 (fun H locs w => ?_)
  have hF : f_Model_send MI ML k li co tm v t x = (up2 (up2 (up2 (up2 (up2 (up2 MI 28 (tn (MI 38 0)) k) 29 (tn (MI 38 0)) li) 30 (tn (MI 38 0)) co) 31 (tn (MI 38 0)) tm) 32 (tn (MI 38 0)) v) 38 0 (nI ((tn (MI 38 0)) + 1)), up2 (up2 ML 33 (tn (MI 38 0)) t) 34 (tn (MI 38 0)) x) := by rfl
  exact kvret (Qc := fun _ _ _ _ => True) X w hr hk (by rw [hF]) d_Model_send_84
def f_Model_placeOf (MI : Nat → Nat → Int32) (ML : Nat → Nat → Int64) (c : Nat) (li : Nat) : Option Nat :=
  if (MI 10 ((4 * c) + (2 * (li % 2)))) = (nI li) then
    some ((4 * c) + (2 * (li % 2)))
  else
    if (MI 10 (((4 * c) + (2 * (li % 2))) + 1)) = (nI li) then
      some (((4 * c) + (2 * (li % 2))) + 1)
    else
      none
set_option maxHeartbeats 4000000 in
set_option maxRecDepth 100000 in
theorem c_Model_placeOf (l : Launch) (D : va_G) (ac : Nat → ClassId) (o : Nat) (ad : Nat → Nat) (MI : Nat → Nat → Int32) (ML : Nat → Nat → Int64) (sz : Nat) (c : Nat) (li : Nat) (hc : c < 3) (hli : li < 12) : Met l y_Model_placeOf [Cond.code y_Model_placeOf b_Model_placeOf 4 (some .int)] { frames := 0, cells := 0, slots := 0, locals := 0 } (va_Pc [.ref o, .int (nI c), .int (nI li)] (CPre D ac (mws ac o ad MI ML) sz)) (va_Qi (fun r u => r = oI (f_Model_placeOf MI ML c li) ∧ u = mws ac o ad MI ML) (CPost D (mws ac o ad MI ML) sz) (va_A (mws ac o ad MI ML) sz)) 0 0 (va_A (mws ac o ad MI ML) sz) := by
  refine kofW (by decide) (Nat.le_of_ble_eq_true rfl) ?_
  intro p ev s m args below meth c0 ls X hr hk hnm hex hsz w hl
  have X : Cx b_Model_placeOf 4 R_Model D ac p m args c0 s := X
  have hx := X.1
  have hb := X.2.1
  have hl : lv_has ls 4 [(0, .ref o), (1, .int (nI c)), (2, .int (nI li))] := hl
  refine lv_iconst (v := 4) hx hb d_Model_placeOf_0 (by decide) ?_
  refine lv_iload_n hx hb d_Model_placeOf_1 rfl (lv_at hl 1 rfl) ?_
  refine kimul (a := 4) (b := c) (r := 4 * c) hx hb rfl rfl rfl d_Model_placeOf_2 ?_
  refine lv_iconst (v := 2) hx hb d_Model_placeOf_3 (by decide) ?_
  refine lv_iload_n hx hb d_Model_placeOf_4 rfl (lv_at hl 2 rfl) ?_
  refine lv_iconst (v := 2) hx hb d_Model_placeOf_5 (by decide) ?_
  refine kirem (a := li) (b := 2) (r := li % 2) hx hb rfl rfl (by omega) (by omega) (by omega) rfl d_Model_placeOf_6 ?_
  refine kimul (a := 2) (b := li % 2) (r := 2 * (li % 2)) hx hb rfl rfl rfl d_Model_placeOf_7 ?_
  refine kiadd (a := 4 * c) (b := 2 * (li % 2)) (r := (4 * c) + (2 * (li % 2))) hx hb rfl rfl rfl d_Model_placeOf_8 ?_
  refine lv_istore_n (lv' := [(3, .int (nI ((4 * c) + (2 * (li % 2))))), (0, .ref o), (1, .int (nI c)), (2, .int (nI li))]) hx hb d_Model_placeOf_9 rfl hl (by decide) rfl (fun ls hl => ?_)
  refine lv_aload_n hx hb d_Model_placeOf_10 rfl (lv_at hl 1 rfl) ?_
  refine mg_42 X w d_Model_placeOf_11 ?_
  refine lv_iload_n hx hb d_Model_placeOf_14 rfl (lv_at hl 0 rfl) ?_
  refine ald_10 X w ((4 * c) + (2 * (li % 2))) (v := MI 10 ((4 * c) + (2 * (li % 2)))) (by omega) rfl rfl d_Model_placeOf_15 ?_
  refine lv_iload_n hx hb d_Model_placeOf_16 rfl (lv_at hl 3 rfl) ?_
  refine lv_icmp_ne (tgt := 24) hx hb d_Model_placeOf_17 (by decide) (fun h1 => ?_) (fun h1 => ?_)
  · skip
    refine lv_aload_n hx hb d_Model_placeOf_24 rfl (lv_at hl 1 rfl) ?_
    refine mg_42 X w d_Model_placeOf_25 ?_
    refine lv_iload_n hx hb d_Model_placeOf_28 rfl (lv_at hl 0 rfl) ?_
    refine lv_iconst (v := 1) hx hb d_Model_placeOf_29 (by decide) ?_
    refine kiadd (a := (4 * c) + (2 * (li % 2))) (b := 1) (r := ((4 * c) + (2 * (li % 2))) + 1) hx hb rfl rfl rfl d_Model_placeOf_30 ?_
    refine ald_10 X w (((4 * c) + (2 * (li % 2))) + 1) (v := MI 10 (((4 * c) + (2 * (li % 2))) + 1)) (by omega) rfl rfl d_Model_placeOf_31 ?_
    refine lv_iload_n hx hb d_Model_placeOf_32 rfl (lv_at hl 3 rfl) ?_
    refine lv_icmp_ne (tgt := 42) hx hb d_Model_placeOf_33 (by decide) (fun h2 => ?_) (fun h2 => ?_)
    · skip
      refine lv_iconst (v := (-1)) hx hb d_Model_placeOf_42 (by decide) ?_
      have hF : f_Model_placeOf MI ML c li = none := by unfold f_Model_placeOf; rw [if_neg h1, if_neg h2]
      exact kiret X w hr hk ⟨by rw [hF] <;> rfl, rfl⟩ d_Model_placeOf_43
    · skip
      refine lv_iload_n hx hb d_Model_placeOf_36 rfl (lv_at hl 0 rfl) ?_
      refine lv_iconst (v := 1) hx hb d_Model_placeOf_37 (by decide) ?_
      refine kiadd (a := (4 * c) + (2 * (li % 2))) (b := 1) (r := ((4 * c) + (2 * (li % 2))) + 1) hx hb rfl rfl rfl d_Model_placeOf_38 ?_
      refine lv_goto (tgt := 43) hx hb d_Model_placeOf_39 (by decide) ?_
      have hF : f_Model_placeOf MI ML c li = some (((4 * c) + (2 * (li % 2))) + 1) := by unfold f_Model_placeOf; rw [if_neg h1, if_pos h2]
      exact kiret X w hr hk ⟨by rw [hF] <;> rfl, rfl⟩ d_Model_placeOf_43
  · skip
    refine lv_iload_n hx hb d_Model_placeOf_20 rfl (lv_at hl 0 rfl) ?_
    refine lv_goto (tgt := 43) hx hb d_Model_placeOf_21 (by decide) ?_
    have hF : f_Model_placeOf MI ML c li = some ((4 * c) + (2 * (li % 2))) := by unfold f_Model_placeOf; rw [if_pos h1]
    exact kiret X w hr hk ⟨by rw [hF] <;> rfl, rfl⟩ d_Model_placeOf_43
theorem f_Model_placeOf_lt {MI : Nat → Nat → Int32} {ML : Nat → Nat → Int64} {c li j : Nat} (h : f_Model_placeOf MI ML c li = some j) : 4 * c ≤ j ∧ j < 4 * c + 4 ∧ j / 2 = 2 * c + li % 2 := by
  unfold f_Model_placeOf at h
  split at h
  · cases h; omega
  · split at h
    · cases h; omega
    · cases h
def f_Model_use (MI : Nat → Nat → Int32) (ML : Nat → Nat → Int64) (q : Nat) : (Nat → Nat → Int32) × (Nat → Nat → Int64) :=
  (up2 MI 15 (q / 2) (nI (q % 2)), ML)
set_option maxHeartbeats 4000000 in
set_option maxRecDepth 100000 in
theorem c_Model_use (l : Launch) (D : va_G) (ac : Nat → ClassId) (o : Nat) (ad : Nat → Nat) (MI : Nat → Nat → Int32) (ML : Nat → Nat → Int64) (sz : Nat) (q : Nat) (hq : q < 12) : Met l y_Model_use [Cond.code y_Model_use b_Model_use 2 none] { frames := 0, cells := 0, slots := 0, locals := 0 } (va_Pc [.ref o, .int (nI q)] (CPre D ac (mws ac o ad MI ML) sz)) (va_Qv (fun u => u = mws ac o ad (f_Model_use MI ML q).1 (f_Model_use MI ML q).2) (CPost D (mws ac o ad MI ML) sz) (va_A (mws ac o ad MI ML) sz)) 0 0 (va_A (mws ac o ad MI ML) sz) := by
  refine kofW (by decide) (Nat.le_of_ble_eq_true rfl) ?_
  intro p ev s m args below meth c0 ls X hr hk hnm hex hsz w hl
  have X : Cx b_Model_use 2 R_Model D ac p m args c0 s := X
  have hx := X.1
  have hb := X.2.1
  have hl : lv_has ls 2 [(0, .ref o), (1, .int (nI q))] := hl
  refine lv_aload_n hx hb d_Model_use_0 rfl (lv_at hl 0 rfl) ?_
  refine mg_57 X w d_Model_use_1 ?_
  refine lv_iload_n hx hb d_Model_use_4 rfl (lv_at hl 1 rfl) ?_
  refine lv_iconst (v := 2) hx hb d_Model_use_5 (by decide) ?_
  refine kidiv (a := q) (b := 2) (r := q / 2) hx hb rfl rfl (by omega) (by omega) (by omega) rfl d_Model_use_6 ?_
  refine lv_iload_n hx hb d_Model_use_7 rfl (lv_at hl 1 rfl) ?_
  refine lv_iconst (v := 2) hx hb d_Model_use_8 (by decide) ?_
  refine kirem (a := q) (b := 2) (r := q % 2) hx hb rfl rfl (by omega) (by omega) (by omega) rfl d_Model_use_9 ?_
  refine ast_15 X w (q / 2) (by omega) rfl d_Model_use_10 (fun H locs w => ?_)
  have hF : f_Model_use MI ML q = (up2 MI 15 (q / 2) (nI (q % 2)), ML) := by rfl
  exact kvret (Qc := fun _ _ _ _ => True) X w hr hk (by rw [hF]) d_Model_use_11
def f_Model_can (MI : Nat → Nat → Int32) (ML : Nat → Nat → Int64) (c : Nat) (q : Nat) : Int32 :=
  if (MI 11 q) = 0 then
    if (MI 2 c) = 0 then
      if (ML 14 q) < (ML 0 c) then
        0
      else
        1
    else
      0
  else
    1
set_option maxHeartbeats 4000000 in
set_option maxRecDepth 100000 in
theorem c_Model_can (l : Launch) (D : va_G) (ac : Nat → ClassId) (o : Nat) (ad : Nat → Nat) (MI : Nat → Nat → Int32) (ML : Nat → Nat → Int64) (sz : Nat) (c : Nat) (q : Nat) (hc : c < 3) (hq : q < 12) : Met l y_Model_can [Cond.code y_Model_can b_Model_can 3 (some .boolean)] { frames := 0, cells := 0, slots := 0, locals := 0 } (va_Pc [.ref o, .int (nI c), .int (nI q)] (CPre D ac (mws ac o ad MI ML) sz)) (va_Qi (fun r u => r = f_Model_can MI ML c q ∧ u = mws ac o ad MI ML) (CPost D (mws ac o ad MI ML) sz) (va_A (mws ac o ad MI ML) sz)) 0 0 (va_A (mws ac o ad MI ML) sz) := by
  refine kofW (by decide) (Nat.le_of_ble_eq_true rfl) ?_
  intro p ev s m args below meth c0 ls X hr hk hnm hex hsz w hl
  have X : Cx b_Model_can 3 R_Model D ac p m args c0 s := X
  have hx := X.1
  have hb := X.2.1
  have hl : lv_has ls 3 [(0, .ref o), (1, .int (nI c)), (2, .int (nI q))] := hl
  refine lv_iload_n hx hb d_Model_can_0 rfl (lv_at hl 2 rfl) ?_
  refine lv_if_ge (tgt := 6) hx hb d_Model_can_1 (by decide) (fun _ => ?_) (fun h => absurd (nI_pos' (by omega)) h)
  refine lv_aload_n hx hb d_Model_can_6 rfl (lv_at hl 0 rfl) ?_
  refine mg_45 X w d_Model_can_7 ?_
  refine lv_iload_n hx hb d_Model_can_10 rfl (lv_at hl 2 rfl) ?_
  refine ald_11 X w q (v := MI 11 q) (by omega) rfl rfl d_Model_can_11 ?_
  refine lv_if_ne (tgt := 40) hx hb d_Model_can_12 (by decide) (fun h1 => ?_) (fun h1 => ?_)
  · skip
    refine lv_iconst (v := 1) hx hb d_Model_can_40 (by decide) ?_
    refine lv_goto (tgt := 45) hx hb d_Model_can_41 (by decide) ?_
    have hF : f_Model_can MI ML c q = 1 := by unfold f_Model_can; rw [if_neg h1]
    exact kzret X w hr hk (by decide) ⟨by rw [hF], rfl⟩ d_Model_can_45
  · skip
    refine lv_aload_n hx hb d_Model_can_15 rfl (lv_at hl 0 rfl) ?_
    refine mg_17 X w d_Model_can_16 ?_
    refine lv_iload_n hx hb d_Model_can_19 rfl (lv_at hl 1 rfl) ?_
    refine ald_2 X w c (v := MI 2 c) (by omega) rfl rfl d_Model_can_20 ?_
    refine lv_if_ne (tgt := 44) hx hb d_Model_can_21 (by decide) (fun h2 => ?_) (fun h2 => ?_)
    · skip
      refine lv_iconst (v := 0) hx hb d_Model_can_44 (by decide) ?_
      have hF : f_Model_can MI ML c q = 0 := by unfold f_Model_can; rw [if_pos h1, if_neg h2]
      exact kzret X w hr hk (by decide) ⟨by rw [hF], rfl⟩ d_Model_can_45
    · skip
      refine lv_aload_n hx hb d_Model_can_24 rfl (lv_at hl 0 rfl) ?_
      refine mg_7 X w d_Model_can_25 ?_
      refine lv_iload_n hx hb d_Model_can_28 rfl (lv_at hl 1 rfl) ?_
      refine ald_0 X w c (v := ML 0 c) (by omega) rfl rfl d_Model_can_29 ?_
      refine lv_aload_n hx hb d_Model_can_30 rfl (lv_at hl 0 rfl) ?_
      refine mg_54 X w d_Model_can_31 ?_
      refine lv_iload_n hx hb d_Model_can_34 rfl (lv_at hl 2 rfl) ?_
      refine ald_14 X w q (v := ML 14 q) (by omega) rfl rfl d_Model_can_35 ?_
      refine klc_gt (tgt := 44) hx hb d_Model_can_36 d_Model_can_37 (by decide) (fun h3 => ?_) (fun h3 => ?_)
      · skip
        refine lv_iconst (v := 0) hx hb d_Model_can_44 (by decide) ?_
        have hF : f_Model_can MI ML c q = 0 := by unfold f_Model_can; rw [if_pos h1, if_pos h2, if_pos h3]
        exact kzret X w hr hk (by decide) ⟨by rw [hF], rfl⟩ d_Model_can_45
      · skip
        refine lv_iconst (v := 1) hx hb d_Model_can_40 (by decide) ?_
        refine lv_goto (tgt := 45) hx hb d_Model_can_41 (by decide) ?_
        have hF : f_Model_can MI ML c q = 1 := by unfold f_Model_can; rw [if_pos h1, if_pos h2, if_neg h3]
        exact kzret X w hr hk (by decide) ⟨by rw [hF], rfl⟩ d_Model_can_45
def f_Model_does_184 (MI : Nat → Nat → Int32) (ML : Nat → Nat → Int64) (c : Nat) (q : Nat) : (Nat → Nat → Int32) × (Nat → Nat → Int64) :=
  (up2 (up2 (up2 (up2 MI 15 (q / 2) (nI (q % 2))) 1 c 0) 7 c ((MI 7 c) + 1)) 9 c (MI 2 c), ML)
set_option maxHeartbeats 4000000 in
set_option maxRecDepth 100000 in
theorem g_Model_does_184 {p : Program} {l : Launch} {ev : Env} {s : State} {m : MethodId} {args : Array Value} {below : List Frame} {meth : Method} {c0 : Code} {D : va_G} {ac : Nat → ClassId} {o : Nat} {ad : Nat → Nat} {ws0 : va_W} {sz : Nat} {post : va_W → Prop} (X : Cx b_Model_does 4 R_Model D ac p m args c0 s) (hr : meth.sig.returnType = none) (hk : meth.locks = false) (MI : Nat → Nat → Int32) (ML : Nat → Nat → Int64) (c : Nat) (q : Nat) (hc : c < 3) (hq : q < 12) {H : Heap} {locs : List Loc} {ls : Array Slot} (w : Wo D (va_A ws0 sz) (mws ac o ad MI ML) s.heap H locs) (hl : lv_has ls 4 [(0, .ref o), (1, .int (nI c)), (2, .int (nI q))]) (hp : post (mws ac o ad (f_Model_does_184 MI ML c q).1 (f_Model_does_184 MI ML c q).2)) : W p l ev ({ frames := 1, cells := 0, slots := 0, locals := 23 } : Room) s m args below meth c0 H locs 0 0 (MQ below (va_Qv post (CPost D ws0 sz) (va_A ws0 sz)) args s 0 0 (va_A ws0 sz)) (F0 m 184 ls []) := by
  have hx := X.1
  have hb := X.2.1
  refine lv_aload_n hx hb d_Model_does_184 rfl (lv_at hl 0 rfl) ?_
  refine lv_iload_n hx hb d_Model_does_185 rfl (lv_at hl 2 rfl) ?_
  refine kcallv (ws0 := []) w (krunV (ws0 := []) (wc := mws ac o ad MI ML) (n := 1) (As := [.int (nI q)]) (rest := []) (C := R_Model) X w (c_Model_use l D ac o ad MI ML _ q (by omega)) wk_Model_use wi_Model wm_Model_146 wx_Model_use ws_Model_Model_use (by decide +kernel) rfl rfl ⟨(Nat.le_of_ble_eq_true rfl), (Nat.le_of_ble_eq_true rfl)⟩ ⟨(Nat.le_of_ble_eq_true rfl), (Nat.le_of_ble_eq_true rfl)⟩ (mrecv X w) rfl hl.1 rfl (Nat.le_of_ble_eq_true rfl) d_Model_does_186) (fun u H locs hp w => ?_)
  obtain rfl := hp
  have w : Wo D _ (mws ac o ad (up2 MI 15 (q / 2) (nI (q % 2))) ML) s.heap H locs := w
  refine lv_aload_n hx hb d_Model_does_189 rfl (lv_at hl 0 rfl) ?_
  refine mg_13 X w d_Model_does_190 ?_
  refine lv_iload_n hx hb d_Model_does_193 rfl (lv_at hl 1 rfl) ?_
  refine lv_iconst (v := 0) hx hb d_Model_does_194 (by decide) ?_
  refine ast_1 X w c (by decide) (by omega) rfl d_Model_does_195 (fun H locs w => ?_)
  refine lv_aload_n hx hb d_Model_does_196 rfl (lv_at hl 0 rfl) ?_
  refine mg_33 X w d_Model_does_197 ?_
  refine lv_iload_n hx hb d_Model_does_200 rfl (lv_at hl 1 rfl) ?_
  refine lv_dup2_11 hx hb d_Model_does_201 rfl rfl ?_
  refine ald_7 X w c (v := MI 7 c) (by omega) rfl rfl d_Model_does_202 ?_
  refine lv_iconst (v := 1) hx hb d_Model_does_203 (by decide) ?_
  refine lv_iadd hx hb d_Model_does_204 ?_
  refine ast_7 X w c (by omega) rfl d_Model_does_205 (fun H locs w => ?_)
  refine lv_aload_n hx hb d_Model_does_206 rfl (lv_at hl 0 rfl) ?_
  refine mg_39 X w d_Model_does_207 ?_
  refine lv_iload_n hx hb d_Model_does_210 rfl (lv_at hl 1 rfl) ?_
  refine lv_aload_n hx hb d_Model_does_211 rfl (lv_at hl 0 rfl) ?_
  refine mg_17 X w d_Model_does_212 ?_
  refine lv_iload_n hx hb d_Model_does_215 rfl (lv_at hl 1 rfl) ?_
  refine ald_2 X w c (v := MI 2 c) (by omega) rfl rfl d_Model_does_216 ?_
  refine ast_9 X w c (by omega) rfl d_Model_does_217 (fun H locs w => ?_)
  have hF : f_Model_does_184 MI ML c q = (up2 (up2 (up2 (up2 MI 15 (q / 2) (nI (q % 2))) 1 c 0) 7 c ((MI 7 c) + 1)) 9 c (MI 2 c), ML) := by rfl
  exact kvret (Qc := fun _ _ _ _ => True) X w hr hk (by rw [hF] at hp; exact hp) d_Model_does_218
def f_Model_does_67 (MI : Nat → Nat → Int32) (ML : Nat → Nat → Int64) (c : Nat) (q : Nat) (b : Int32) : (Nat → Nat → Int32) × (Nat → Nat → Int64) :=
  if b = 0 then
    if (MI 11 q) = 0 then
      f_Model_does_184 MI (up2 ML 0 c (f_Model_most (ML 0 c) (ML 13 q))) c q
    else
      f_Model_does_184 MI (up2 (up2 ML 0 c (f_Model_most (ML 0 c) (ML 13 q))) 14 q (f_Model_most (ML 14 q) (f_Model_most (ML 0 c) (ML 13 q)))) c q
  else
    f_Model_does_184 (up2 MI 12 q (MI 4 c)) (up2 (up2 (up2 ML 0 c (f_Model_most (ML 0 c) ((ML 14 q) + 1))) 13 q (f_Model_most (ML 0 c) ((ML 14 q) + 1))) 14 q (f_Model_most (ML 0 c) ((ML 14 q) + 1))) c q
set_option maxHeartbeats 4000000 in
set_option maxRecDepth 100000 in
theorem g_Model_does_67 {p : Program} {l : Launch} {ev : Env} {s : State} {m : MethodId} {args : Array Value} {below : List Frame} {meth : Method} {c0 : Code} {D : va_G} {ac : Nat → ClassId} {o : Nat} {ad : Nat → Nat} {ws0 : va_W} {sz : Nat} {post : va_W → Prop} (X : Cx b_Model_does 4 R_Model D ac p m args c0 s) (hr : meth.sig.returnType = none) (hk : meth.locks = false) (MI : Nat → Nat → Int32) (ML : Nat → Nat → Int64) (c : Nat) (q : Nat) (b : Int32) (hc : c < 3) (hq : q < 12) {H : Heap} {locs : List Loc} {ls : Array Slot} (w : Wo D (va_A ws0 sz) (mws ac o ad MI ML) s.heap H locs) (hl : lv_has ls 4 [(0, .ref o), (1, .int (nI c)), (2, .int (nI q)), (3, .int b)]) (hp : post (mws ac o ad (f_Model_does_67 MI ML c q b).1 (f_Model_does_67 MI ML c q b).2)) : W p l ev ({ frames := 1, cells := 0, slots := 0, locals := 23 } : Room) s m args below meth c0 H locs 0 0 (MQ below (va_Qv post (CPost D ws0 sz) (va_A ws0 sz)) args s 0 0 (va_A ws0 sz)) (F0 m 67 ls []) := by
  have hx := X.1
  have hb := X.2.1
  refine lv_iload_n hx hb d_Model_does_67 rfl (lv_at hl 3 rfl) ?_
  refine lv_if_eq (tgt := 133) hx hb d_Model_does_68 (by decide) (fun h1 => ?_) (fun h1 => ?_)
  · skip
    refine lv_aload_n hx hb d_Model_does_133 rfl (lv_at hl 0 rfl) ?_
    refine mg_7 X w d_Model_does_134 ?_
    refine lv_iload_n hx hb d_Model_does_137 rfl (lv_at hl 1 rfl) ?_
    refine lv_aload_n hx hb d_Model_does_138 rfl (lv_at hl 0 rfl) ?_
    refine mg_7 X w d_Model_does_139 ?_
    refine lv_iload_n hx hb d_Model_does_142 rfl (lv_at hl 1 rfl) ?_
    refine ald_0 X w c (v := ML 0 c) (by omega) rfl rfl d_Model_does_143 ?_
    refine lv_aload_n hx hb d_Model_does_144 rfl (lv_at hl 0 rfl) ?_
    refine mg_51 X w d_Model_does_145 ?_
    refine lv_iload_n hx hb d_Model_does_148 rfl (lv_at hl 2 rfl) ?_
    refine ald_13 X w q (v := ML 13 q) (by omega) rfl rfl d_Model_does_149 ?_
    refine kcalll (ws0 := []) w (krunS (ws0 := []) (wc := mws ac o ad MI ML) (n := 2) (As := [.long (ML 0 c), .long (ML 13 q)]) (rest := [.int (nI c), .ref (ad 0)]) X w (c_Model_most l D ac o ad MI ML _ (ML 0 c) (ML 13 q)) wk_Model_most wi_Model wm_Model_142 wt_Model_most (by decide +kernel) rfl rfl ⟨(Nat.le_of_ble_eq_true rfl), (Nat.le_of_ble_eq_true rfl)⟩ ⟨(Nat.le_of_ble_eq_true rfl), (Nat.le_of_ble_eq_true rfl)⟩ rfl hl.1 rfl (Nat.le_of_ble_eq_true rfl) d_Model_does_150) (fun r2 u H locs hp w => ?_)
    obtain ⟨rfl, rfl⟩ := hp
    have w : Wo D _ (mws ac o ad MI ML) s.heap H locs := w
    refine ast_0 X w c (by omega) rfl d_Model_does_153 (fun H locs w => ?_)
    refine lv_aload_n hx hb d_Model_does_154 rfl (lv_at hl 0 rfl) ?_
    refine mg_45 X w d_Model_does_155 ?_
    refine lv_iload_n hx hb d_Model_does_158 rfl (lv_at hl 2 rfl) ?_
    refine ald_11 X w q (v := MI 11 q) (by omega) rfl rfl d_Model_does_159 ?_
    refine lv_if_eq (tgt := 184) hx hb d_Model_does_160 (by decide) (fun h3 => ?_) (fun h3 => ?_)
    · skip
      have hF : f_Model_does_67 MI ML c q b = f_Model_does_184 MI (up2 ML 0 c (f_Model_most (ML 0 c) (ML 13 q))) c q := by unfold f_Model_does_67; rw [if_pos h1, if_pos h3]
      exact g_Model_does_184 X hr hk  MI (up2 ML 0 c (f_Model_most (ML 0 c) (ML 13 q))) c q (by omega) (by omega) w (lv_sub hl [0, 1, 2] rfl) (by rw [hF] at hp; exact hp)
    · skip
      refine lv_aload_n hx hb d_Model_does_163 rfl (lv_at hl 0 rfl) ?_
      refine mg_54 X w d_Model_does_164 ?_
      refine lv_iload_n hx hb d_Model_does_167 rfl (lv_at hl 2 rfl) ?_
      refine lv_aload_n hx hb d_Model_does_168 rfl (lv_at hl 0 rfl) ?_
      refine mg_54 X w d_Model_does_169 ?_
      refine lv_iload_n hx hb d_Model_does_172 rfl (lv_at hl 2 rfl) ?_
      refine ald_14 X w q (v := ML 14 q) (by omega) rfl rfl d_Model_does_173 ?_
      refine lv_aload_n hx hb d_Model_does_174 rfl (lv_at hl 0 rfl) ?_
      refine mg_7 X w d_Model_does_175 ?_
      refine lv_iload_n hx hb d_Model_does_178 rfl (lv_at hl 1 rfl) ?_
      refine ald_0 X w c (v := f_Model_most (ML 0 c) (ML 13 q)) (by omega) rfl (by simp [up2]) d_Model_does_179 ?_
      refine kcalll (ws0 := []) w (krunS (ws0 := []) (wc := mws ac o ad MI (up2 ML 0 c (f_Model_most (ML 0 c) (ML 13 q)))) (n := 2) (As := [.long (ML 14 q), .long (f_Model_most (ML 0 c) (ML 13 q))]) (rest := [.int (nI q), .ref (ad 14)]) X w (c_Model_most l D ac o ad MI (up2 ML 0 c (f_Model_most (ML 0 c) (ML 13 q))) _ (ML 14 q) (f_Model_most (ML 0 c) (ML 13 q))) wk_Model_most wi_Model wm_Model_142 wt_Model_most (by decide +kernel) rfl rfl ⟨(Nat.le_of_ble_eq_true rfl), (Nat.le_of_ble_eq_true rfl)⟩ ⟨(Nat.le_of_ble_eq_true rfl), (Nat.le_of_ble_eq_true rfl)⟩ rfl hl.1 rfl (Nat.le_of_ble_eq_true rfl) d_Model_does_180) (fun r4 u H locs hp w => ?_)
      obtain ⟨rfl, rfl⟩ := hp
      have w : Wo D _ (mws ac o ad MI (up2 ML 0 c (f_Model_most (ML 0 c) (ML 13 q)))) s.heap H locs := w
      refine ast_14 X w q (by omega) rfl d_Model_does_183 (fun H locs w => ?_)
      have hF : f_Model_does_67 MI ML c q b = f_Model_does_184 MI (up2 (up2 ML 0 c (f_Model_most (ML 0 c) (ML 13 q))) 14 q (f_Model_most (ML 14 q) (f_Model_most (ML 0 c) (ML 13 q)))) c q := by unfold f_Model_does_67; rw [if_pos h1, if_neg h3]
      exact g_Model_does_184 X hr hk  MI (up2 (up2 ML 0 c (f_Model_most (ML 0 c) (ML 13 q))) 14 q (f_Model_most (ML 14 q) (f_Model_most (ML 0 c) (ML 13 q)))) c q (by omega) (by omega) w (lv_sub hl [0, 1, 2] rfl) (by rw [hF] at hp; exact hp)
  · skip
    refine lv_aload_n hx hb d_Model_does_71 rfl (lv_at hl 0 rfl) ?_
    refine mg_7 X w d_Model_does_72 ?_
    refine lv_iload_n hx hb d_Model_does_75 rfl (lv_at hl 1 rfl) ?_
    refine lv_aload_n hx hb d_Model_does_76 rfl (lv_at hl 0 rfl) ?_
    refine mg_7 X w d_Model_does_77 ?_
    refine lv_iload_n hx hb d_Model_does_80 rfl (lv_at hl 1 rfl) ?_
    refine ald_0 X w c (v := ML 0 c) (by omega) rfl rfl d_Model_does_81 ?_
    refine lv_aload_n hx hb d_Model_does_82 rfl (lv_at hl 0 rfl) ?_
    refine mg_54 X w d_Model_does_83 ?_
    refine lv_iload_n hx hb d_Model_does_86 rfl (lv_at hl 2 rfl) ?_
    refine ald_14 X w q (v := ML 14 q) (by omega) rfl rfl d_Model_does_87 ?_
    refine lv_lconst (v := 1) hx hb d_Model_does_88 (by decide) ?_
    refine lv_ladd hx hb d_Model_does_89 ?_
    refine kcalll (ws0 := []) w (krunS (ws0 := []) (wc := mws ac o ad MI ML) (n := 2) (As := [.long (ML 0 c), .long ((ML 14 q) + 1)]) (rest := [.int (nI c), .ref (ad 0)]) X w (c_Model_most l D ac o ad MI ML _ (ML 0 c) ((ML 14 q) + 1)) wk_Model_most wi_Model wm_Model_142 wt_Model_most (by decide +kernel) rfl rfl ⟨(Nat.le_of_ble_eq_true rfl), (Nat.le_of_ble_eq_true rfl)⟩ ⟨(Nat.le_of_ble_eq_true rfl), (Nat.le_of_ble_eq_true rfl)⟩ rfl hl.1 rfl (Nat.le_of_ble_eq_true rfl) d_Model_does_90) (fun r5 u H locs hp w => ?_)
    obtain ⟨rfl, rfl⟩ := hp
    have w : Wo D _ (mws ac o ad MI ML) s.heap H locs := w
    refine ast_0 X w c (by omega) rfl d_Model_does_93 (fun H locs w => ?_)
    refine lv_aload_n hx hb d_Model_does_94 rfl (lv_at hl 0 rfl) ?_
    refine mg_51 X w d_Model_does_95 ?_
    refine lv_iload_n hx hb d_Model_does_98 rfl (lv_at hl 2 rfl) ?_
    refine lv_aload_n hx hb d_Model_does_99 rfl (lv_at hl 0 rfl) ?_
    refine mg_7 X w d_Model_does_100 ?_
    refine lv_iload_n hx hb d_Model_does_103 rfl (lv_at hl 1 rfl) ?_
    refine ald_0 X w c (v := f_Model_most (ML 0 c) ((ML 14 q) + 1)) (by omega) rfl (by simp [up2]) d_Model_does_104 ?_
    refine ast_13 X w q (by omega) rfl d_Model_does_105 (fun H locs w => ?_)
    refine lv_aload_n hx hb d_Model_does_106 rfl (lv_at hl 0 rfl) ?_
    refine mg_54 X w d_Model_does_107 ?_
    refine lv_iload_n hx hb d_Model_does_110 rfl (lv_at hl 2 rfl) ?_
    refine lv_aload_n hx hb d_Model_does_111 rfl (lv_at hl 0 rfl) ?_
    refine mg_7 X w d_Model_does_112 ?_
    refine lv_iload_n hx hb d_Model_does_115 rfl (lv_at hl 1 rfl) ?_
    refine ald_0 X w c (v := f_Model_most (ML 0 c) ((ML 14 q) + 1)) (by omega) rfl (by simp [up2]) d_Model_does_116 ?_
    refine ast_14 X w q (by omega) rfl d_Model_does_117 (fun H locs w => ?_)
    refine lv_aload_n hx hb d_Model_does_118 rfl (lv_at hl 0 rfl) ?_
    refine mg_48 X w d_Model_does_119 ?_
    refine lv_iload_n hx hb d_Model_does_122 rfl (lv_at hl 2 rfl) ?_
    refine lv_aload_n hx hb d_Model_does_123 rfl (lv_at hl 0 rfl) ?_
    refine mg_24 X w d_Model_does_124 ?_
    refine lv_iload_n hx hb d_Model_does_127 rfl (lv_at hl 1 rfl) ?_
    refine ald_4 X w c (v := MI 4 c) (by omega) rfl rfl d_Model_does_128 ?_
    refine ast_12 X w q (by omega) rfl d_Model_does_129 (fun H locs w => ?_)
    refine lv_goto (tgt := 184) hx hb d_Model_does_130 (by decide) ?_
    have hF : f_Model_does_67 MI ML c q b = f_Model_does_184 (up2 MI 12 q (MI 4 c)) (up2 (up2 (up2 ML 0 c (f_Model_most (ML 0 c) ((ML 14 q) + 1))) 13 q (f_Model_most (ML 0 c) ((ML 14 q) + 1))) 14 q (f_Model_most (ML 0 c) ((ML 14 q) + 1))) c q := by unfold f_Model_does_67; rw [if_neg h1]
    exact g_Model_does_184 X hr hk  (up2 MI 12 q (MI 4 c)) (up2 (up2 (up2 ML 0 c (f_Model_most (ML 0 c) ((ML 14 q) + 1))) 13 q (f_Model_most (ML 0 c) ((ML 14 q) + 1))) 14 q (f_Model_most (ML 0 c) ((ML 14 q) + 1))) c q (by omega) (by omega) w (lv_sub hl [0, 1, 2] rfl) (by rw [hF] at hp; exact hp)
def f_Model_does_41 (MI : Nat → Nat → Int32) (ML : Nat → Nat → Int64) (c : Nat) (q : Nat) (b : Int32) : (Nat → Nat → Int32) × (Nat → Nat → Int64) :=
  if (MI 2 c) = 1 then
    f_Model_does_67 (up2 MI 8 c 0) ML c q b
  else
    f_Model_does_67 (up2 MI 8 c (MI 12 q)) ML c q b
set_option maxHeartbeats 4000000 in
set_option maxRecDepth 100000 in
theorem g_Model_does_41 {p : Program} {l : Launch} {ev : Env} {s : State} {m : MethodId} {args : Array Value} {below : List Frame} {meth : Method} {c0 : Code} {D : va_G} {ac : Nat → ClassId} {o : Nat} {ad : Nat → Nat} {ws0 : va_W} {sz : Nat} {post : va_W → Prop} (X : Cx b_Model_does 4 R_Model D ac p m args c0 s) (hr : meth.sig.returnType = none) (hk : meth.locks = false) (MI : Nat → Nat → Int32) (ML : Nat → Nat → Int64) (c : Nat) (q : Nat) (b : Int32) (hc : c < 3) (hq : q < 12) {H : Heap} {locs : List Loc} {ls : Array Slot} (w : Wo D (va_A ws0 sz) (mws ac o ad MI ML) s.heap H locs) (hl : lv_has ls 4 [(0, .ref o), (1, .int (nI c)), (2, .int (nI q)), (3, .int b)]) (hp : post (mws ac o ad (f_Model_does_41 MI ML c q b).1 (f_Model_does_41 MI ML c q b).2)) : W p l ev ({ frames := 1, cells := 0, slots := 0, locals := 23 } : Room) s m args below meth c0 H locs 0 0 (MQ below (va_Qv post (CPost D ws0 sz) (va_A ws0 sz)) args s 0 0 (va_A ws0 sz)) (F0 m 41 ls []) := by
  have hx := X.1
  have hb := X.2.1
  refine lv_aload_n hx hb d_Model_does_41 rfl (lv_at hl 0 rfl) ?_
  refine mg_36 X w d_Model_does_42 ?_
  refine lv_iload_n hx hb d_Model_does_45 rfl (lv_at hl 1 rfl) ?_
  refine lv_aload_n hx hb d_Model_does_46 rfl (lv_at hl 0 rfl) ?_
  refine mg_17 X w d_Model_does_47 ?_
  refine lv_iload_n hx hb d_Model_does_50 rfl (lv_at hl 1 rfl) ?_
  refine ald_2 X w c (v := MI 2 c) (by omega) rfl rfl d_Model_does_51 ?_
  refine lv_iconst (v := 1) hx hb d_Model_does_52 (by decide) ?_
  refine lv_icmp_ne (tgt := 60) hx hb d_Model_does_53 (by decide) (fun h1 => ?_) (fun h1 => ?_)
  · skip
    refine lv_aload_n hx hb d_Model_does_60 rfl (lv_at hl 0 rfl) ?_
    refine mg_48 X w d_Model_does_61 ?_
    refine lv_iload_n hx hb d_Model_does_64 rfl (lv_at hl 2 rfl) ?_
    refine ald_12 X w q (v := MI 12 q) (by omega) rfl rfl d_Model_does_65 ?_
    refine ast_8 X w c (by omega) rfl d_Model_does_66 (fun H locs w => ?_)
    have hF : f_Model_does_41 MI ML c q b = f_Model_does_67 (up2 MI 8 c (MI 12 q)) ML c q b := by unfold f_Model_does_41; rw [if_neg h1]
    exact g_Model_does_67 X hr hk  (up2 MI 8 c (MI 12 q)) ML c q b (by omega) (by omega) w (lv_sub hl [0, 1, 2, 3] rfl) (by rw [hF] at hp; exact hp)
  · skip
    refine lv_iconst (v := 0) hx hb d_Model_does_56 (by decide) ?_
    refine lv_goto (tgt := 66) hx hb d_Model_does_57 (by decide) ?_
    refine ast_8 X w c (by omega) rfl d_Model_does_66 (fun H locs w => ?_)
    have hF : f_Model_does_41 MI ML c q b = f_Model_does_67 (up2 MI 8 c 0) ML c q b := by unfold f_Model_does_41; rw [if_pos h1]
    exact g_Model_does_67 X hr hk  (up2 MI 8 c 0) ML c q b (by omega) (by omega) w (lv_sub hl [0, 1, 2, 3] rfl) (by rw [hF] at hp; exact hp)
def f_Model_does (MI : Nat → Nat → Int32) (ML : Nat → Nat → Int64) (c : Nat) (q : Nat) : (Nat → Nat → Int32) × (Nat → Nat → Int64) :=
  if (MI 2 c) = 1 then
    f_Model_does_41 MI ML c q 1
  else
    if (MI 2 c) ≤ 1 then
      f_Model_does_41 MI ML c q 0
    else
      if (MI 12 q) = (MI 5 c) then
        f_Model_does_41 MI ML c q 1
      else
        f_Model_does_41 MI ML c q 0
set_option maxHeartbeats 4000000 in
set_option maxRecDepth 100000 in
theorem c_Model_does (l : Launch) (D : va_G) (ac : Nat → ClassId) (o : Nat) (ad : Nat → Nat) (MI : Nat → Nat → Int32) (ML : Nat → Nat → Int64) (sz : Nat) (c : Nat) (q : Nat) (hc : c < 3) (hq : q < 12) : Met l y_Model_does [Cond.code y_Model_does b_Model_does 4 none] { frames := 1, cells := 0, slots := 0, locals := 23 } (va_Pc [.ref o, .int (nI c), .int (nI q)] (CPre D ac (mws ac o ad MI ML) sz)) (va_Qv (fun u => u = mws ac o ad (f_Model_does MI ML c q).1 (f_Model_does MI ML c q).2) (CPost D (mws ac o ad MI ML) sz) (va_A (mws ac o ad MI ML) sz)) 0 0 (va_A (mws ac o ad MI ML) sz) := by
  refine kofW (by decide) (Nat.le_of_ble_eq_true rfl) ?_
  intro p ev s m args below meth c0 ls X hr hk hnm hex hsz w hl
  have X : Cx b_Model_does 4 R_Model D ac p m args c0 s := X
  have hx := X.1
  have hb := X.2.1
  have hl : lv_has ls 4 [(0, .ref o), (1, .int (nI c)), (2, .int (nI q))] := hl
  refine lv_aload_n hx hb d_Model_does_0 rfl (lv_at hl 0 rfl) ?_
  refine mg_17 X w d_Model_does_1 ?_
  refine lv_iload_n hx hb d_Model_does_4 rfl (lv_at hl 1 rfl) ?_
  refine ald_2 X w c (v := MI 2 c) (by omega) rfl rfl d_Model_does_5 ?_
  refine lv_iconst (v := 1) hx hb d_Model_does_6 (by decide) ?_
  refine lv_icmp_eq (tgt := 35) hx hb d_Model_does_7 (by decide) (fun h1 => ?_) (fun h1 => ?_)
  · skip
    refine lv_iconst (v := 1) hx hb d_Model_does_35 (by decide) ?_
    refine lv_goto (tgt := 40) hx hb d_Model_does_36 (by decide) ?_
    refine lv_istore_n (lv' := [(3, .int 1), (0, .ref o), (1, .int (nI c)), (2, .int (nI q))]) hx hb d_Model_does_40 rfl hl (by decide) rfl (fun ls hl => ?_)
    have hF : f_Model_does MI ML c q = f_Model_does_41 MI ML c q 1 := by unfold f_Model_does; rw [if_pos h1]
    exact g_Model_does_41 X hr hk  MI ML c q 1 (by omega) (by omega) w (lv_sub hl [1, 2, 3, 0] rfl) (by rw [hF])
  · skip
    refine lv_aload_n hx hb d_Model_does_10 rfl (lv_at hl 0 rfl) ?_
    refine mg_17 X w d_Model_does_11 ?_
    refine lv_iload_n hx hb d_Model_does_14 rfl (lv_at hl 1 rfl) ?_
    refine ald_2 X w c (v := MI 2 c) (by omega) rfl rfl d_Model_does_15 ?_
    refine lv_iconst (v := 1) hx hb d_Model_does_16 (by decide) ?_
    refine lv_icmp_le (tgt := 39) hx hb d_Model_does_17 (by decide) (fun h2 => ?_) (fun h2 => ?_)
    · skip
      refine lv_iconst (v := 0) hx hb d_Model_does_39 (by decide) ?_
      refine lv_istore_n (lv' := [(3, .int 0), (0, .ref o), (1, .int (nI c)), (2, .int (nI q))]) hx hb d_Model_does_40 rfl hl (by decide) rfl (fun ls hl => ?_)
      have hF : f_Model_does MI ML c q = f_Model_does_41 MI ML c q 0 := by unfold f_Model_does; rw [if_neg h1, if_pos h2]
      exact g_Model_does_41 X hr hk  MI ML c q 0 (by omega) (by omega) w (lv_sub hl [1, 2, 3, 0] rfl) (by rw [hF])
    · skip
      refine lv_aload_n hx hb d_Model_does_20 rfl (lv_at hl 0 rfl) ?_
      refine mg_48 X w d_Model_does_21 ?_
      refine lv_iload_n hx hb d_Model_does_24 rfl (lv_at hl 2 rfl) ?_
      refine ald_12 X w q (v := MI 12 q) (by omega) rfl rfl d_Model_does_25 ?_
      refine lv_aload_n hx hb d_Model_does_26 rfl (lv_at hl 0 rfl) ?_
      refine mg_27 X w d_Model_does_27 ?_
      refine lv_iload_n hx hb d_Model_does_30 rfl (lv_at hl 1 rfl) ?_
      refine ald_5 X w c (v := MI 5 c) (by omega) rfl rfl d_Model_does_31 ?_
      refine lv_icmp_ne (tgt := 39) hx hb d_Model_does_32 (by decide) (fun h3 => ?_) (fun h3 => ?_)
      · skip
        refine lv_iconst (v := 0) hx hb d_Model_does_39 (by decide) ?_
        refine lv_istore_n (lv' := [(3, .int 0), (0, .ref o), (1, .int (nI c)), (2, .int (nI q))]) hx hb d_Model_does_40 rfl hl (by decide) rfl (fun ls hl => ?_)
        have hF : f_Model_does MI ML c q = f_Model_does_41 MI ML c q 0 := by unfold f_Model_does; rw [if_neg h1, if_neg h2, if_neg h3]
        exact g_Model_does_41 X hr hk  MI ML c q 0 (by omega) (by omega) w (lv_sub hl [1, 2, 3, 0] rfl) (by rw [hF])
      · skip
        refine lv_iconst (v := 1) hx hb d_Model_does_35 (by decide) ?_
        refine lv_goto (tgt := 40) hx hb d_Model_does_36 (by decide) ?_
        refine lv_istore_n (lv' := [(3, .int 1), (0, .ref o), (1, .int (nI c)), (2, .int (nI q))]) hx hb d_Model_does_40 rfl hl (by decide) rfl (fun ls hl => ?_)
        have hF : f_Model_does MI ML c q = f_Model_does_41 MI ML c q 1 := by unfold f_Model_does; rw [if_neg h1, if_neg h2, if_pos h3]
        exact g_Model_does_41 X hr hk  MI ML c q 1 (by omega) (by omega) w (lv_sub hl [1, 2, 3, 0] rfl) (by rw [hF])
