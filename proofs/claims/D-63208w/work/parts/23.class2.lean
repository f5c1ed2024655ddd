def f_LC_send (CI : Nat → Nat → Int32) (CR : Nat → Nat → Option Nat) (i : Nat) (mm : Nat) : (Nat → Nat → Int32) × (Nat → Nat → Option Nat) :=
  (up2 CI 38 0 (nI (mm + 1)), up2 CR 3 mm (some i))
set_option maxHeartbeats 4000000 in
set_option maxRecDepth 100000 in
theorem c_LC_send (l : Launch) (D : va_G) (ac : Nat → ClassId) (o : Nat) (ad : Nat → Nat) (al : Nat → Nat) (CI : Nat → Nat → Int32) (CL : Nat → Nat → Int64) (CR : Nat → Nat → Option Nat) (M : Nat → Msg) (n : Nat) (sz : Nat) (i : Nat) (mm : Nat) (hm : CI 38 0 = nI mm) (hmm : mm < 24) (hi : i < n) (hok : CRok CR n) : Met l y_LC_send [Cond.code y_LC_send b_LC_send 2 none] { frames := 0, cells := 0, slots := 0, locals := 0 } (va_Pc [.ref o, .ref (al i)] (CPre D ac (cwm ac o ad al CI CL CR M n) sz)) (va_Qv (fun u => CRok ((f_LC_send CI CR i mm).2) n ∧ u = cwm ac o ad al ((f_LC_send CI CR i mm).1) CL ((f_LC_send CI CR i mm).2) M n) (CPost D (cwm ac o ad al CI CL CR M n) sz) (va_A (cwm ac o ad al CI CL CR M n) sz)) 0 0 (va_A (cwm ac o ad al CI CL CR M n) sz) := by
  refine kofW (by decide) (Nat.le_of_ble_eq_true rfl) ?_
  intro p ev s m args below meth c0 ls X hr hk hnm hex hsz w hl
  have X : Cx b_LC_send 2 R_LC D ac p m args c0 s := X
  have hx := X.1
  have hb := X.2.1
  have hl : lv_has ls 2 [(0, .ref o), (1, .ref (al i))] := hl
  refine lv_aload_n hx hb d_LC_send_0 rfl (lv_at hl 0 rfl) ?_
  refine cg_LC_27 X w d_LC_send_1 ?_
  refine lv_aload_n hx hb d_LC_send_4 rfl (lv_at hl 0 rfl) ?_
  refine cg_LC_51 X w (v := CI 38 0) rfl d_LC_send_5 ?_
  refine lv_aload_n hx hb d_LC_send_8 rfl (lv_at hl 1 rfl) ?_
  refine ct_messages X w mm (x := some i) (fun q h => by cases h; omega) (by omega) hm d_LC_send_9 (fun H locs w => ?_)
  have hok := crok_up (k := 3) (j := mm) (x := some i) hok (Or.inr (fun i h => by cases h; omega))
  refine lv_aload_n hx hb d_LC_send_10 rfl (lv_at hl 0 rfl) ?_
  refine lv_dup hx hb d_LC_send_11 rfl ?_
  refine cg_LC_51 X w (v := CI 38 0) rfl d_LC_send_12 ?_
  refine lv_iconst (v := 1) hx hb d_LC_send_15 (by decide) ?_
  refine kiadd (a := mm) (b := 1) (r := mm + 1) hx hb hm rfl rfl d_LC_send_16 ?_
  refine cp_LC_51 X w d_LC_send_17 (fun H locs w => ?_)
  have hF : f_LC_send CI CR i mm = (up2 CI 38 0 (nI (mm + 1)), up2 CR 3 mm (some i)) := by rfl
  exact kvret (Qc := fun _ _ _ _ => True) X w hr hk ⟨by rw [hF]; exact hok, by rw [hF]⟩ d_LC_send_20
def f_LC_use (CI : Nat → Nat → Int32) (y : Nat) : (Nat → Nat → Int32) :=
  up2 (up2 CI 39 0 ((CI 39 0) + 1)) 15 y ((CI 39 0) + 1)
set_option maxHeartbeats 4000000 in
set_option maxRecDepth 100000 in
theorem c_LC_use (l : Launch) (D : va_G) (ac : Nat → ClassId) (o : Nat) (ad : Nat → Nat) (al : Nat → Nat) (CI : Nat → Nat → Int32) (CL : Nat → Nat → Int64) (CR : Nat → Nat → Option Nat) (M : Nat → Msg) (n : Nat) (sz : Nat) (y : Nat) (hy : y < 12) : Met l y_LC_use [Cond.code y_LC_use b_LC_use 2 none] { frames := 0, cells := 0, slots := 0, locals := 0 } (va_Pc [.ref o, .ref (ad (10 + y))] (CPre D ac (cwm ac o ad al CI CL CR M n) sz)) (va_Qv (fun u => u = cwm ac o ad al (f_LC_use CI y) CL CR M n) (CPost D (cwm ac o ad al CI CL CR M n) sz) (va_A (cwm ac o ad al CI CL CR M n) sz)) 0 0 (va_A (cwm ac o ad al CI CL CR M n) sz) := by
  refine kofW (by decide) (Nat.le_of_ble_eq_true rfl) ?_
  intro p ev s m args below meth c0 ls X hr hk hnm hex hsz w hl
  have X : Cx b_LC_use 2 R_LC D ac p m args c0 s := X
  have hx := X.1
  have hb := X.2.1
  have hl : lv_has ls 2 [(0, .ref o), (1, .ref (ad (10 + y)))] := hl
  refine lv_aload_n hx hb d_LC_use_0 rfl (lv_at hl 0 rfl) ?_
  refine lv_dup hx hb d_LC_use_1 rfl ?_
  refine cg_LC_77 X w (v := CI 39 0) rfl d_LC_use_2 ?_
  refine lv_iconst (v := 1) hx hb d_LC_use_5 (by decide) ?_
  refine lv_iadd hx hb d_LC_use_6 ?_
  refine cp_LC_77 X w d_LC_use_7 (fun H locs w => ?_)
  refine lv_aload_n hx hb d_LC_use_10 rfl (lv_at hl 1 rfl) ?_
  refine lv_aload_n hx hb d_LC_use_11 rfl (lv_at hl 0 rfl) ?_
  refine cg_LC_77 X w (v := (CI 39 0) + 1) (by simp [up2]) d_LC_use_12 ?_
  refine cp_LC_80 X w y (by omega) d_LC_use_15 (fun H locs w => ?_)
  have hF : f_LC_use CI y = up2 (up2 CI 39 0 ((CI 39 0) + 1)) 15 y ((CI 39 0) + 1) := by rfl
  exact kvret (Qc := fun _ _ _ _ => True) X w hr hk (by rw [hF]) d_LC_use_18
def f_Version_take_Place (CI : Nat → Nat → Int32) (CL : Nat → Nat → Int64) (y : Nat) (v : Int32) (a : Int64) (b : Int64) : (Nat → Nat → Int32) × (Nat → Nat → Int64) :=
  (up2 CI 12 y v, up2 (up2 CL 13 y a) 14 y b)
set_option maxHeartbeats 4000000 in
set_option maxRecDepth 100000 in
theorem c_Version_take_Place (l : Launch) (D : va_G) (ac : Nat → ClassId) (o : Nat) (ad : Nat → Nat) (al : Nat → Nat) (CI : Nat → Nat → Int32) (CL : Nat → Nat → Int64) (CR : Nat → Nat → Option Nat) (M : Nat → Msg) (n : Nat) (sz : Nat) (y : Nat) (v : Int32) (a : Int64) (b : Int64) (hy : y < 12) : Met l y_Version_take [Cond.code y_Version_take b_Version_take 6 none] { frames := 0, cells := 0, slots := 0, locals := 0 } (va_Pc [.ref (ad (10 + y)), .int v, .long a, .long b] (CPre D ac (cwm ac o ad al CI CL CR M n) sz)) (va_Qv (fun u => u = cwm ac o ad al ((f_Version_take_Place CI CL y v a b).1) ((f_Version_take_Place CI CL y v a b).2) CR M n) (CPost D (cwm ac o ad al CI CL CR M n) sz) (va_A (cwm ac o ad al CI CL CR M n) sz)) 0 0 (va_A (cwm ac o ad al CI CL CR M n) sz) := by
  refine kofW (by decide) (Nat.le_of_ble_eq_true rfl) ?_
  intro p ev s m args below meth c0 ls X hr hk hnm hex hsz w hl
  have X : Cx b_Version_take 6 R_Version D ac p m args c0 s := X
  have hx := X.1
  have hb := X.2.1
  have hl : lv_has ls 6 [(0, .ref (ad (10 + y))), (1, .int v), (2, .long a), (4, .long b)] := hl
  refine lv_aload_n hx hb d_Version_take_0 rfl (lv_at hl 0 rfl) ?_
  refine lv_iload_n hx hb d_Version_take_1 rfl (lv_at hl 1 rfl) ?_
  refine cp_Version_15_Place X w y (by omega) d_Version_take_2 (fun H locs w => ?_)
  refine lv_aload_n hx hb d_Version_take_5 rfl (lv_at hl 0 rfl) ?_
  refine lv_lload_n hx hb d_Version_take_6 rfl (lv_at hl 2 rfl) ?_
  refine cp_Version_18_Place X w y (by omega) d_Version_take_7 (fun H locs w => ?_)
  refine lv_aload_n hx hb d_Version_take_10 rfl (lv_at hl 0 rfl) ?_
  refine lv_lload hx hb d_Version_take_11 (lv_at hl 3 rfl) ?_
  refine cp_Version_22_Place X w y (by omega) d_Version_take_13 (fun H locs w => ?_)
  have hF : f_Version_take_Place CI CL y v a b = (up2 CI 12 y v, up2 (up2 CL 13 y a) 14 y b) := by rfl
  exact kvret (Qc := fun _ _ _ _ => True) X w hr hk (by rw [hF]) d_Version_take_16
def f_Version_take_Entry (CI : Nat → Nat → Int32) (CL : Nat → Nat → Int64) (y : Nat) (v : Int32) (a : Int64) (b : Int64) : (Nat → Nat → Int32) × (Nat → Nat → Int64) :=
  (up2 CI 17 y v, up2 (up2 CL 18 y a) 19 y b)
set_option maxHeartbeats 4000000 in
set_option maxRecDepth 100000 in
theorem c_Version_take_Entry (l : Launch) (D : va_G) (ac : Nat → ClassId) (o : Nat) (ad : Nat → Nat) (al : Nat → Nat) (CI : Nat → Nat → Int32) (CL : Nat → Nat → Int64) (CR : Nat → Nat → Option Nat) (M : Nat → Msg) (n : Nat) (sz : Nat) (y : Nat) (v : Int32) (a : Int64) (b : Int64) (hy : y < 6) : Met l y_Version_take [Cond.code y_Version_take b_Version_take 6 none] { frames := 0, cells := 0, slots := 0, locals := 0 } (va_Pc [.ref (ad (22 + y)), .int v, .long a, .long b] (CPre D ac (cwm ac o ad al CI CL CR M n) sz)) (va_Qv (fun u => u = cwm ac o ad al ((f_Version_take_Entry CI CL y v a b).1) ((f_Version_take_Entry CI CL y v a b).2) CR M n) (CPost D (cwm ac o ad al CI CL CR M n) sz) (va_A (cwm ac o ad al CI CL CR M n) sz)) 0 0 (va_A (cwm ac o ad al CI CL CR M n) sz) := by
  refine kofW (by decide) (Nat.le_of_ble_eq_true rfl) ?_
  intro p ev s m args below meth c0 ls X hr hk hnm hex hsz w hl
  have X : Cx b_Version_take 6 R_Version D ac p m args c0 s := X
  have hx := X.1
  have hb := X.2.1
  have hl : lv_has ls 6 [(0, .ref (ad (22 + y))), (1, .int v), (2, .long a), (4, .long b)] := hl
  refine lv_aload_n hx hb d_Version_take_0 rfl (lv_at hl 0 rfl) ?_
  refine lv_iload_n hx hb d_Version_take_1 rfl (lv_at hl 1 rfl) ?_
  refine cp_Version_15_Entry X w y (by omega) d_Version_take_2 (fun H locs w => ?_)
  refine lv_aload_n hx hb d_Version_take_5 rfl (lv_at hl 0 rfl) ?_
  refine lv_lload_n hx hb d_Version_take_6 rfl (lv_at hl 2 rfl) ?_
  refine cp_Version_18_Entry X w y (by omega) d_Version_take_7 (fun H locs w => ?_)
  refine lv_aload_n hx hb d_Version_take_10 rfl (lv_at hl 0 rfl) ?_
  refine lv_lload hx hb d_Version_take_11 (lv_at hl 3 rfl) ?_
  refine cp_Version_22_Entry X w y (by omega) d_Version_take_13 (fun H locs w => ?_)
  have hF : f_Version_take_Entry CI CL y v a b = (up2 CI 17 y v, up2 (up2 CL 18 y a) 19 y b) := by rfl
  exact kvret (Qc := fun _ _ _ _ => True) X w hr hk (by rw [hF]) d_Version_take_16
def f_Entry_begin (CI : Nat → Nat → Int32) (CL : Nat → Nat → Int64) (e : Nat) (li : Int32) (v : Int32) (t : Int64) : (Nat → Nat → Int32) × (Nat → Nat → Int64) :=
  (up2 (up2 (up2 CI 16 e li) 17 e v) 21 e 0, up2 (up2 CL 18 e t) 19 e t)
set_option maxHeartbeats 4000000 in
set_option maxRecDepth 100000 in
theorem c_Entry_begin (l : Launch) (D : va_G) (ac : Nat → ClassId) (o : Nat) (ad : Nat → Nat) (al : Nat → Nat) (CI : Nat → Nat → Int32) (CL : Nat → Nat → Int64) (CR : Nat → Nat → Option Nat) (M : Nat → Msg) (n : Nat) (sz : Nat) (e : Nat) (li : Int32) (v : Int32) (t : Int64) (he : e < 6) : Met l y_Entry_begin [Cond.code y_Entry_begin b_Entry_begin 5 none] { frames := 1, cells := 0, slots := 0, locals := 25 } (va_Pc [.ref (ad (22 + e)), .int li, .int v, .long t] (CPre D ac (cwm ac o ad al CI CL CR M n) sz)) (va_Qv (fun u => u = cwm ac o ad al ((f_Entry_begin CI CL e li v t).1) ((f_Entry_begin CI CL e li v t).2) CR M n) (CPost D (cwm ac o ad al CI CL CR M n) sz) (va_A (cwm ac o ad al CI CL CR M n) sz)) 0 0 (va_A (cwm ac o ad al CI CL CR M n) sz) := by
  refine kofW (by decide) (Nat.le_of_ble_eq_true rfl) ?_
  intro p ev s m args below meth c0 ls X hr hk hnm hex hsz w hl
  have X : Cx b_Entry_begin 5 R_Entry D ac p m args c0 s := X
  have hx := X.1
  have hb := X.2.1
  have hl : lv_has ls 5 [(0, .ref (ad (22 + e))), (1, .int li), (2, .int v), (3, .long t)] := hl
  refine lv_aload_n hx hb d_Entry_begin_0 rfl (lv_at hl 0 rfl) ?_
  refine lv_iload_n hx hb d_Entry_begin_1 rfl (lv_at hl 1 rfl) ?_
  refine cp_Entry_17 X w e (by omega) d_Entry_begin_2 (fun H locs w => ?_)
  refine lv_aload_n hx hb d_Entry_begin_5 rfl (lv_at hl 0 rfl) ?_
  refine lv_iload_n hx hb d_Entry_begin_6 rfl (lv_at hl 2 rfl) ?_
  refine lv_lload_n hx hb d_Entry_begin_7 rfl (lv_at hl 3 rfl) ?_
  refine lv_lload_n hx hb d_Entry_begin_8 rfl (lv_at hl 3 rfl) ?_
  refine kcallv (ws0 := []) w (krunU (owner := R_Version) (ws0 := []) (wc := cwm ac o ad al (up2 CI 16 e li) CL CR M n) (n := 3) (As := [.int v, .long t, .long t]) (rest := []) (C := R_Entry) X w (c_Version_take_Entry l D ac o ad al (up2 CI 16 e li) CL CR M n _ e v t t (by omega)) wk_Version_take wi_Version wm_Entry_21 wq_Entry_take (va_Decl.of (X.2.2.2.2.1.at (a := #[]) wx_Version_take) (X.2.2.2.2.1.at wk_Version_take)) wx_Version_take ws_Entry_Entry_take (by decide +kernel) rfl rfl ⟨(Nat.le_of_ble_eq_true rfl), (Nat.le_of_ble_eq_true rfl)⟩ ⟨(Nat.le_of_ble_eq_true rfl), (Nat.le_of_ble_eq_true rfl)⟩ (crecv_Entry X w e (by omega)) rfl hl.1 rfl (Nat.le_of_ble_eq_true rfl) d_Entry_begin_9) (fun u H locs hp w => ?_)
  obtain rfl := hp
  have w : Wo D _ (cwm ac o ad al (up2 (up2 CI 16 e li) 17 e v) (up2 (up2 CL 18 e t) 19 e t) CR M n) s.heap H locs := w
  refine lv_aload_n hx hb d_Entry_begin_12 rfl (lv_at hl 0 rfl) ?_
  refine lv_iconst (v := 0) hx hb d_Entry_begin_13 (by decide) ?_
  refine cp_Entry_25 X w e (by omega) (by decide) d_Entry_begin_14 (fun H locs w => ?_)
  have hF : f_Entry_begin CI CL e li v t = (up2 (up2 (up2 CI 16 e li) 17 e v) 21 e 0, up2 (up2 CL 18 e t) 19 e t) := by rfl
  exact kvret (Qc := fun _ _ _ _ => True) X w hr hk (by rw [hF]) d_Entry_begin_17
def f_Core_find (CI : Nat → Nat → Int32) (c : Nat) (a : Int32) : Option Nat :=
  if (CI 10 (4 * c + 0)) = a then
    some (4 * c + 0)
  else
    if (CI 10 (4 * c + 1)) = a then
      some (4 * c + 1)
    else
      if (CI 10 (4 * c + 2)) = a then
        some (4 * c + 2)
      else
        if (CI 10 (4 * c + 3)) = a then
          some (4 * c + 3)
        else
          none
set_option maxHeartbeats 4000000 in
set_option maxRecDepth 100000 in
theorem c_Core_find (l : Launch) (D : va_G) (ac : Nat → ClassId) (o : Nat) (ad : Nat → Nat) (al : Nat → Nat) (CI : Nat → Nat → Int32) (CL : Nat → Nat → Int64) (CR : Nat → Nat → Option Nat) (M : Nat → Msg) (n : Nat) (sz : Nat) (c : Nat) (a : Int32) (hc : c < 3) : Met l y_Core_find [Cond.code y_Core_find b_Core_find 3 (some (.object "LeaseCores$Place"))] { frames := 0, cells := 0, slots := 0, locals := 0 } (va_Pc [.ref (ad (4 + c)), .int a] (CPre D ac (cwm ac o ad al CI CL CR M n) sz)) (va_Qq (fun r u => r = rP ad (f_Core_find CI c a) ∧ u = cwm ac o ad al CI CL CR M n) (CPost D (cwm ac o ad al CI CL CR M n) sz) (va_A (cwm ac o ad al CI CL CR M n) sz)) 0 0 (va_A (cwm ac o ad al CI CL CR M n) sz) := by
  refine kofW (by decide) (Nat.le_of_ble_eq_true rfl) ?_
  intro p ev s m args below meth c0 ls X hr hk hnm hex hsz w hl
  have X : Cx b_Core_find 3 R_Core D ac p m args c0 s := X
  have hx := X.1
  have hb := X.2.1
  have hl : lv_has ls 3 [(0, .ref (ad (4 + c))), (1, .int a)] := hl
  refine lv_iconst (v := 0) hx hb d_Core_find_0 (by decide) ?_
  refine lv_istore_n (lv' := [(2, .int 0), (0, .ref (ad (4 + c))), (1, .int a)]) hx hb d_Core_find_1 rfl hl (by decide) rfl (fun ls hl => ?_)
  refine lv_iload_n hx hb d_Core_find_2 rfl (lv_at hl 0 rfl) ?_
  refine lv_iconst (v := 4) hx hb d_Core_find_3 (by decide) ?_
  refine lv_icmp_ge (tgt := 33) hx hb d_Core_find_4 (by decide) (fun h => absurd h (by decide)) (fun _ => ?_)
  refine lv_aload_n hx hb d_Core_find_7 rfl (lv_at hl 1 rfl) ?_
  refine cg_Core_11 X w c (by omega) d_Core_find_8 ?_
  refine lv_iload_n hx hb d_Core_find_11 rfl (lv_at hl 0 rfl) ?_
  refine cl_places X w c (by omega) 0 (by omega) rfl d_Core_find_12 ?_
  refine cg_Core_28 X w (4 * c + 0) (by omega) (v := CI 10 (4 * c + 0)) rfl d_Core_find_13 ?_
  refine lv_iload_n hx hb d_Core_find_16 rfl (lv_at hl 2 rfl) ?_
  refine lv_icmp_ne (tgt := 27) hx hb d_Core_find_17 (by decide) (fun h1 => ?_) (fun h1 => ?_)
  · skip
    refine lv_iinc (v := 1) (lv' := [(2, .int 1), (0, .ref (ad (4 + c))), (1, .int a)]) hx hb d_Core_find_27 hl (k := 0) rfl (by decide) (by decide) rfl (fun ls hl => ?_)
    refine lv_goto (tgt := 2) hx hb d_Core_find_30 (by decide) ?_
    refine lv_iload_n hx hb d_Core_find_2 rfl (lv_at hl 0 rfl) ?_
    refine lv_iconst (v := 4) hx hb d_Core_find_3 (by decide) ?_
    refine lv_icmp_ge (tgt := 33) hx hb d_Core_find_4 (by decide) (fun h => absurd h (by decide)) (fun _ => ?_)
    refine lv_aload_n hx hb d_Core_find_7 rfl (lv_at hl 1 rfl) ?_
    refine cg_Core_11 X w c (by omega) d_Core_find_8 ?_
    refine lv_iload_n hx hb d_Core_find_11 rfl (lv_at hl 0 rfl) ?_
    refine cl_places X w c (by omega) 1 (by omega) rfl d_Core_find_12 ?_
    refine cg_Core_28 X w (4 * c + 1) (by omega) (v := CI 10 (4 * c + 1)) rfl d_Core_find_13 ?_
    refine lv_iload_n hx hb d_Core_find_16 rfl (lv_at hl 2 rfl) ?_
    refine lv_icmp_ne (tgt := 27) hx hb d_Core_find_17 (by decide) (fun h2 => ?_) (fun h2 => ?_)
    · skip
      refine lv_iinc (v := 2) (lv' := [(2, .int 2), (0, .ref (ad (4 + c))), (1, .int a)]) hx hb d_Core_find_27 hl (k := 0) rfl (by decide) (by decide) rfl (fun ls hl => ?_)
      refine lv_goto (tgt := 2) hx hb d_Core_find_30 (by decide) ?_
      refine lv_iload_n hx hb d_Core_find_2 rfl (lv_at hl 0 rfl) ?_
      refine lv_iconst (v := 4) hx hb d_Core_find_3 (by decide) ?_
      refine lv_icmp_ge (tgt := 33) hx hb d_Core_find_4 (by decide) (fun h => absurd h (by decide)) (fun _ => ?_)
      refine lv_aload_n hx hb d_Core_find_7 rfl (lv_at hl 1 rfl) ?_
      refine cg_Core_11 X w c (by omega) d_Core_find_8 ?_
      refine lv_iload_n hx hb d_Core_find_11 rfl (lv_at hl 0 rfl) ?_
      refine cl_places X w c (by omega) 2 (by omega) rfl d_Core_find_12 ?_
      refine cg_Core_28 X w (4 * c + 2) (by omega) (v := CI 10 (4 * c + 2)) rfl d_Core_find_13 ?_
      refine lv_iload_n hx hb d_Core_find_16 rfl (lv_at hl 2 rfl) ?_
      refine lv_icmp_ne (tgt := 27) hx hb d_Core_find_17 (by decide) (fun h3 => ?_) (fun h3 => ?_)
      · skip
        refine lv_iinc (v := 3) (lv' := [(2, .int 3), (0, .ref (ad (4 + c))), (1, .int a)]) hx hb d_Core_find_27 hl (k := 0) rfl (by decide) (by decide) rfl (fun ls hl => ?_)
        refine lv_goto (tgt := 2) hx hb d_Core_find_30 (by decide) ?_
        refine lv_iload_n hx hb d_Core_find_2 rfl (lv_at hl 0 rfl) ?_
        refine lv_iconst (v := 4) hx hb d_Core_find_3 (by decide) ?_
        refine lv_icmp_ge (tgt := 33) hx hb d_Core_find_4 (by decide) (fun h => absurd h (by decide)) (fun _ => ?_)
        refine lv_aload_n hx hb d_Core_find_7 rfl (lv_at hl 1 rfl) ?_
        refine cg_Core_11 X w c (by omega) d_Core_find_8 ?_
        refine lv_iload_n hx hb d_Core_find_11 rfl (lv_at hl 0 rfl) ?_
        refine cl_places X w c (by omega) 3 (by omega) rfl d_Core_find_12 ?_
        refine cg_Core_28 X w (4 * c + 3) (by omega) (v := CI 10 (4 * c + 3)) rfl d_Core_find_13 ?_
        refine lv_iload_n hx hb d_Core_find_16 rfl (lv_at hl 2 rfl) ?_
        refine lv_icmp_ne (tgt := 27) hx hb d_Core_find_17 (by decide) (fun h4 => ?_) (fun h4 => ?_)
        · skip
          refine lv_iinc (v := 4) (lv' := [(2, .int 4), (0, .ref (ad (4 + c))), (1, .int a)]) hx hb d_Core_find_27 hl (k := 0) rfl (by decide) (by decide) rfl (fun ls hl => ?_)
          refine lv_goto (tgt := 2) hx hb d_Core_find_30 (by decide) ?_
          refine lv_iload_n hx hb d_Core_find_2 rfl (lv_at hl 0 rfl) ?_
          refine lv_iconst (v := 4) hx hb d_Core_find_3 (by decide) ?_
          refine lv_icmp_ge (tgt := 33) hx hb d_Core_find_4 (by decide) (fun _ => ?_) (fun h => absurd h (by decide))
          refine lv_null hx hb d_Core_find_33 ?_
          have hF : f_Core_find CI c a = none := by unfold f_Core_find; rw [if_neg h1, if_neg h2, if_neg h3, if_neg h4]
          exact kqret (r := rP ad none) X w hr hk ⟨by rw [hF] <;> rfl, rfl⟩ d_Core_find_34
        · skip
          refine lv_aload_n hx hb d_Core_find_20 rfl (lv_at hl 1 rfl) ?_
          refine cg_Core_11 X w c (by omega) d_Core_find_21 ?_
          refine lv_iload_n hx hb d_Core_find_24 rfl (lv_at hl 0 rfl) ?_
          refine cl_places X w c (by omega) 3 (by omega) rfl d_Core_find_25 ?_
          have hF : f_Core_find CI c a = some (4 * c + 3) := by unfold f_Core_find; rw [if_neg h1, if_neg h2, if_neg h3, if_pos h4]
          exact kqret (r := rP ad (some (4 * c + 3))) X w hr hk ⟨by rw [hF] <;> rfl, rfl⟩ d_Core_find_26
      · skip
        refine lv_aload_n hx hb d_Core_find_20 rfl (lv_at hl 1 rfl) ?_
        refine cg_Core_11 X w c (by omega) d_Core_find_21 ?_
        refine lv_iload_n hx hb d_Core_find_24 rfl (lv_at hl 0 rfl) ?_
        refine cl_places X w c (by omega) 2 (by omega) rfl d_Core_find_25 ?_
        have hF : f_Core_find CI c a = some (4 * c + 2) := by unfold f_Core_find; rw [if_neg h1, if_neg h2, if_pos h3]
        exact kqret (r := rP ad (some (4 * c + 2))) X w hr hk ⟨by rw [hF] <;> rfl, rfl⟩ d_Core_find_26
    · skip
      refine lv_aload_n hx hb d_Core_find_20 rfl (lv_at hl 1 rfl) ?_
      refine cg_Core_11 X w c (by omega) d_Core_find_21 ?_
      refine lv_iload_n hx hb d_Core_find_24 rfl (lv_at hl 0 rfl) ?_
      refine cl_places X w c (by omega) 1 (by omega) rfl d_Core_find_25 ?_
      have hF : f_Core_find CI c a = some (4 * c + 1) := by unfold f_Core_find; rw [if_neg h1, if_pos h2]
      exact kqret (r := rP ad (some (4 * c + 1))) X w hr hk ⟨by rw [hF] <;> rfl, rfl⟩ d_Core_find_26
  · skip
    refine lv_aload_n hx hb d_Core_find_20 rfl (lv_at hl 1 rfl) ?_
    refine cg_Core_11 X w c (by omega) d_Core_find_21 ?_
    refine lv_iload_n hx hb d_Core_find_24 rfl (lv_at hl 0 rfl) ?_
    refine cl_places X w c (by omega) 0 (by omega) rfl d_Core_find_25 ?_
    have hF : f_Core_find CI c a = some (4 * c + 0) := by unfold f_Core_find; rw [if_pos h1]
    exact kqret (r := rP ad (some (4 * c + 0))) X w hr hk ⟨by rw [hF] <;> rfl, rfl⟩ d_Core_find_26
theorem f_Core_find_lt {CI : Nat → Nat → Int32} {c y : Nat} {a : Int32} (h : f_Core_find CI c a = some y) : 4 * c ≤ y ∧ y < 4 * c + 4 := by
  unfold f_Core_find at h
  repeat' split at h
  all_goals first | (cases h; omega) | cases h
theorem f_Core_find_line {CI : Nat → Nat → Int32} {c y : Nat} {a : Int32} (h : f_Core_find CI c a = some y) : CI 10 y = a := by
  unfold f_Core_find at h
  repeat' split at h
  all_goals first | (cases h; assumption) | cases h
def f_Core_room (CI : Nat → Nat → Int32) (c : Nat) (a : Nat) : Nat :=
  oc ((f_Core_find CI c (nI a))) (
    if (CI 10 (4 * c + ((a % 2) * 2))) = (-1) then
      4 * c + ((a % 2) * 2)
    else
      if (CI 10 (4 * c + (((a % 2) * 2) + 1))) = (-1) then
        4 * c + (((a % 2) * 2) + 1)
      else
        if (CI 15 (4 * c + (((a % 2) * 2) + 1))) ≤ (CI 15 (4 * c + ((a % 2) * 2))) then
          4 * c + (((a % 2) * 2) + 1)
        else
          4 * c + ((a % 2) * 2))
    (fun y3 =>
    y3)
set_option maxHeartbeats 4000000 in
set_option maxRecDepth 100000 in
theorem c_Core_room (l : Launch) (D : va_G) (ac : Nat → ClassId) (o : Nat) (ad : Nat → Nat) (al : Nat → Nat) (CI : Nat → Nat → Int32) (CL : Nat → Nat → Int64) (CR : Nat → Nat → Option Nat) (M : Nat → Msg) (n : Nat) (sz : Nat) (c : Nat) (a : Nat) (hc : c < 3) (ha : a < 12) : Met l y_Core_room [Cond.code y_Core_room b_Core_room 5 (some (.object "LeaseCores$Place"))] { frames := 1, cells := 0, slots := 0, locals := 22 } (va_Pc [.ref (ad (4 + c)), .int (nI a)] (CPre D ac (cwm ac o ad al CI CL CR M n) sz)) (va_Qq (fun r u => r = rP ad (some (f_Core_room CI c a)) ∧ u = cwm ac o ad al CI CL CR M n) (CPost D (cwm ac o ad al CI CL CR M n) sz) (va_A (cwm ac o ad al CI CL CR M n) sz)) 0 0 (va_A (cwm ac o ad al CI CL CR M n) sz) := by
  refine kofW (by decide) (Nat.le_of_ble_eq_true rfl) ?_
  intro p ev s m args below meth c0 ls X hr hk hnm hex hsz w hl
  have X : Cx b_Core_room 5 R_Core D ac p m args c0 s := X
  have hx := X.1
  have hb := X.2.1
  have hl : lv_has ls 5 [(0, .ref (ad (4 + c))), (1, .int (nI a))] := hl
  refine lv_aload_n hx hb d_Core_room_0 rfl (lv_at hl 0 rfl) ?_
  refine lv_iload_n hx hb d_Core_room_1 rfl (lv_at hl 1 rfl) ?_
  refine kcallq (ws0 := []) w (krunV (ws0 := []) (wc := cwm ac o ad al CI CL CR M n) (n := 1) (As := [.int (nI a)]) (rest := []) (C := R_Core) X w (c_Core_find l D ac o ad al CI CL CR M n _ c (nI a) (by omega)) wk_Core_find wi_Core wm_Core_31 wx_Core_find ws_Core_Core_find (by decide +kernel) rfl rfl ⟨(Nat.le_of_ble_eq_true rfl), (Nat.le_of_ble_eq_true rfl)⟩ ⟨(Nat.le_of_ble_eq_true rfl), (Nat.le_of_ble_eq_true rfl)⟩ (crecv_Core X w c (by omega)) rfl hl.1 rfl (Nat.le_of_ble_eq_true rfl) d_Core_room_2) (fun r1 u H locs hp w => ?_)
  obtain ⟨rfl, rfl⟩ := hp
  have w : Wo D _ (cwm ac o ad al CI CL CR M n) s.heap H locs := w
  cases ho2 : (f_Core_find CI c (nI a)) with
  | none =>
    refine W.eq (g2 := F0 m 5 ls [.null]) rfl ?_
    refine lv_astore_nN (lv' := [(2, .null), (0, .ref (ad (4 + c))), (1, .int (nI a))]) hx hb d_Core_room_5 rfl hl (by decide) rfl (fun ls hl => ?_)
    refine lv_aload_n hx hb d_Core_room_6 rfl (lv_at hl 1 rfl) ?_
    refine cg_Core_11 X w c (by omega) d_Core_room_7 ?_
    refine lv_iload_n hx hb d_Core_room_10 rfl (lv_at hl 2 rfl) ?_
    refine lv_iconst (v := 2) hx hb d_Core_room_11 (by decide) ?_
    refine kirem (a := a) (b := 2) (r := a % 2) hx hb rfl rfl (by omega) (by omega) (by omega) rfl d_Core_room_12 ?_
    refine lv_iconst (v := 2) hx hb d_Core_room_13 (by decide) ?_
    refine kimul (a := a % 2) (b := 2) (r := (a % 2) * 2) hx hb rfl rfl rfl d_Core_room_14 ?_
    refine cl_places X w c (by omega) ((a % 2) * 2) (by omega) rfl d_Core_room_15 ?_
    refine lv_astore_n (lv' := [(3, .ref (ad (10 + (4 * c + ((a % 2) * 2))))), (2, .null), (0, .ref (ad (4 + c))), (1, .int (nI a))]) hx hb d_Core_room_16 rfl hl (by decide) rfl (fun ls hl => ?_)
    refine lv_aload_n hx hb d_Core_room_17 rfl (lv_at hl 2 rfl) ?_
    refine cg_Core_11 X w c (by omega) d_Core_room_18 ?_
    refine lv_iload_n hx hb d_Core_room_21 rfl (lv_at hl 3 rfl) ?_
    refine lv_iconst (v := 2) hx hb d_Core_room_22 (by decide) ?_
    refine kirem (a := a) (b := 2) (r := a % 2) hx hb rfl rfl (by omega) (by omega) (by omega) rfl d_Core_room_23 ?_
    refine lv_iconst (v := 2) hx hb d_Core_room_24 (by decide) ?_
    refine kimul (a := a % 2) (b := 2) (r := (a % 2) * 2) hx hb rfl rfl rfl d_Core_room_25 ?_
    refine lv_iconst (v := 1) hx hb d_Core_room_26 (by decide) ?_
    refine kiadd (a := (a % 2) * 2) (b := 1) (r := ((a % 2) * 2) + 1) hx hb rfl rfl rfl d_Core_room_27 ?_
    refine cl_places X w c (by omega) (((a % 2) * 2) + 1) (by omega) rfl d_Core_room_28 ?_
    refine lv_astore (lv' := [(4, .ref (ad (10 + (4 * c + (((a % 2) * 2) + 1))))), (3, .ref (ad (10 + (4 * c + ((a % 2) * 2))))), (2, .null), (0, .ref (ad (4 + c))), (1, .int (nI a))]) hx hb d_Core_room_29 hl (by decide) rfl (fun ls hl => ?_)
    refine lv_aload_nN hx hb d_Core_room_31 rfl (lv_at hl 2 rfl) ?_
    refine lv_ifnullN (tgt := 37) hx hb d_Core_room_32 (by decide) ?_
    refine lv_aload_n hx hb d_Core_room_37 rfl (lv_at hl 1 rfl) ?_
    refine cg_Core_28 X w (4 * c + ((a % 2) * 2)) (by omega) (v := CI 10 (4 * c + ((a % 2) * 2))) rfl d_Core_room_38 ?_
    refine lv_iconst (v := (-1)) hx hb d_Core_room_41 (by decide) ?_
    refine lv_icmp_eq (tgt := 66) hx hb d_Core_room_42 (by decide) (fun h4 => ?_) (fun h4 => ?_)
    · skip
      refine lv_aload_n hx hb d_Core_room_66 rfl (lv_at hl 1 rfl) ?_
      have hF : f_Core_room CI c a = 4 * c + ((a % 2) * 2) := by unfold f_Core_room; rw [ho2, oc_none, if_pos h4]
      exact kqret (r := rP ad (some (4 * c + ((a % 2) * 2)))) X w hr hk ⟨by rw [hF] <;> rfl, rfl⟩ d_Core_room_67
    · skip
      refine lv_aload hx hb d_Core_room_45 (lv_at hl 0 rfl) ?_
      refine cg_Core_28 X w (4 * c + (((a % 2) * 2) + 1)) (by omega) (v := CI 10 (4 * c + (((a % 2) * 2) + 1))) rfl d_Core_room_47 ?_
      refine lv_iconst (v := (-1)) hx hb d_Core_room_50 (by decide) ?_
      refine lv_icmp_eq (tgt := 68) hx hb d_Core_room_51 (by decide) (fun h5 => ?_) (fun h5 => ?_)
      · skip
        refine lv_aload hx hb d_Core_room_68 (lv_at hl 0 rfl) ?_
        have hF : f_Core_room CI c a = 4 * c + (((a % 2) * 2) + 1) := by unfold f_Core_room; rw [ho2, oc_none, if_neg h4, if_pos h5]
        exact kqret (r := rP ad (some (4 * c + (((a % 2) * 2) + 1)))) X w hr hk ⟨by rw [hF] <;> rfl, rfl⟩ d_Core_room_70
      · skip
        refine lv_aload_n hx hb d_Core_room_54 rfl (lv_at hl 1 rfl) ?_
        refine cg_Core_35 X w (4 * c + ((a % 2) * 2)) (by omega) (v := CI 15 (4 * c + ((a % 2) * 2))) rfl d_Core_room_55 ?_
        refine lv_aload hx hb d_Core_room_58 (lv_at hl 0 rfl) ?_
        refine cg_Core_35 X w (4 * c + (((a % 2) * 2) + 1)) (by omega) (v := CI 15 (4 * c + (((a % 2) * 2) + 1))) rfl d_Core_room_60 ?_
        refine lv_icmp_ge (tgt := 68) hx hb d_Core_room_63 (by decide) (fun h6 => ?_) (fun h6 => ?_)
        · skip
          refine lv_aload hx hb d_Core_room_68 (lv_at hl 0 rfl) ?_
          have hF : f_Core_room CI c a = 4 * c + (((a % 2) * 2) + 1) := by unfold f_Core_room; rw [ho2, oc_none, if_neg h4, if_neg h5, if_pos h6]
          exact kqret (r := rP ad (some (4 * c + (((a % 2) * 2) + 1)))) X w hr hk ⟨by rw [hF] <;> rfl, rfl⟩ d_Core_room_70
        · skip
          refine lv_aload_n hx hb d_Core_room_66 rfl (lv_at hl 1 rfl) ?_
          have hF : f_Core_room CI c a = 4 * c + ((a % 2) * 2) := by unfold f_Core_room; rw [ho2, oc_none, if_neg h4, if_neg h5, if_neg h6]
          exact kqret (r := rP ad (some (4 * c + ((a % 2) * 2)))) X w hr hk ⟨by rw [hF] <;> rfl, rfl⟩ d_Core_room_67
  | some y3 =>
    refine W.eq (g2 := F0 m 5 ls [.ref (ad (10 + y3))]) rfl ?_
    have hy3 := f_Core_find_lt ho2
    have hy3c := f_Core_find_line ho2
    refine lv_astore_n (lv' := [(2, .ref (ad (10 + y3))), (0, .ref (ad (4 + c))), (1, .int (nI a))]) hx hb d_Core_room_5 rfl hl (by decide) rfl (fun ls hl => ?_)
    refine lv_aload_n hx hb d_Core_room_6 rfl (lv_at hl 1 rfl) ?_
    refine cg_Core_11 X w c (by omega) d_Core_room_7 ?_
    refine lv_iload_n hx hb d_Core_room_10 rfl (lv_at hl 2 rfl) ?_
    refine lv_iconst (v := 2) hx hb d_Core_room_11 (by decide) ?_
    refine kirem (a := a) (b := 2) (r := a % 2) hx hb rfl rfl (by omega) (by omega) (by omega) rfl d_Core_room_12 ?_
    refine lv_iconst (v := 2) hx hb d_Core_room_13 (by decide) ?_
    refine kimul (a := a % 2) (b := 2) (r := (a % 2) * 2) hx hb rfl rfl rfl d_Core_room_14 ?_
    refine cl_places X w c (by omega) ((a % 2) * 2) (by omega) rfl d_Core_room_15 ?_
    refine lv_astore_n (lv' := [(3, .ref (ad (10 + (4 * c + ((a % 2) * 2))))), (2, .ref (ad (10 + y3))), (0, .ref (ad (4 + c))), (1, .int (nI a))]) hx hb d_Core_room_16 rfl hl (by decide) rfl (fun ls hl => ?_)
    refine lv_aload_n hx hb d_Core_room_17 rfl (lv_at hl 2 rfl) ?_
    refine cg_Core_11 X w c (by omega) d_Core_room_18 ?_
    refine lv_iload_n hx hb d_Core_room_21 rfl (lv_at hl 3 rfl) ?_
    refine lv_iconst (v := 2) hx hb d_Core_room_22 (by decide) ?_
    refine kirem (a := a) (b := 2) (r := a % 2) hx hb rfl rfl (by omega) (by omega) (by omega) rfl d_Core_room_23 ?_
    refine lv_iconst (v := 2) hx hb d_Core_room_24 (by decide) ?_
    refine kimul (a := a % 2) (b := 2) (r := (a % 2) * 2) hx hb rfl rfl rfl d_Core_room_25 ?_
    refine lv_iconst (v := 1) hx hb d_Core_room_26 (by decide) ?_
    refine kiadd (a := (a % 2) * 2) (b := 1) (r := ((a % 2) * 2) + 1) hx hb rfl rfl rfl d_Core_room_27 ?_
    refine cl_places X w c (by omega) (((a % 2) * 2) + 1) (by omega) rfl d_Core_room_28 ?_
    refine lv_astore (lv' := [(4, .ref (ad (10 + (4 * c + (((a % 2) * 2) + 1))))), (3, .ref (ad (10 + (4 * c + ((a % 2) * 2))))), (2, .ref (ad (10 + y3))), (0, .ref (ad (4 + c))), (1, .int (nI a))]) hx hb d_Core_room_29 hl (by decide) rfl (fun ls hl => ?_)
    refine lv_aload_n hx hb d_Core_room_31 rfl (lv_at hl 2 rfl) ?_
    refine lv_ifnull hx hb d_Core_room_32 ?_
    refine lv_aload_n hx hb d_Core_room_35 rfl (lv_at hl 2 rfl) ?_
    have hF : f_Core_room CI c a = y3 := by unfold f_Core_room; rw [ho2, oc_some]
    exact kqret (r := rP ad (some y3)) X w hr hk ⟨by rw [hF] <;> rfl, rfl⟩ d_Core_room_36
theorem f_Core_room_lt {CI : Nat → Nat → Int32} {c a : Nat} (h : c < 3) : f_Core_room CI c a < 12 := by
  unfold f_Core_room
  cases hf : f_Core_find CI c (nI a) with
  | none =>
    simp only [oc_none]
    repeat' split
    all_goals omega
  | some y =>
    have := f_Core_find_lt hf
    simp only [oc_some]
    omega
def f_Core_may_s (CI : Nat → Nat → Int32) (CL : Nat → Nat → Int64) (c : Nat) (y : Nat) : Int32 :=
  if (CI 11 y) = 0 then
    if (CI 2 c) = 0 then
      if (CL 14 y) < (CL 0 c) then
        0
      else
        1
    else
      0
  else
    1
set_option maxHeartbeats 4000000 in
set_option maxRecDepth 100000 in
theorem c_Core_may_s (l : Launch) (D : va_G) (ac : Nat → ClassId) (o : Nat) (ad : Nat → Nat) (al : Nat → Nat) (CI : Nat → Nat → Int32) (CL : Nat → Nat → Int64) (CR : Nat → Nat → Option Nat) (M : Nat → Msg) (n : Nat) (sz : Nat) (c : Nat) (y : Nat) (hc : c < 3) (hy : y < 12) : Met l y_Core_may [Cond.code y_Core_may b_Core_may 2 (some .boolean)] { frames := 0, cells := 0, slots := 0, locals := 0 } (va_Pc [.ref (ad (4 + c)), .ref (ad (10 + y))] (CPre D ac (cwm ac o ad al CI CL CR M n) sz)) (va_Qi (fun r u => r = f_Core_may_s CI CL c y ∧ u = cwm ac o ad al CI CL CR M n) (CPost D (cwm ac o ad al CI CL CR M n) sz) (va_A (cwm ac o ad al CI CL CR M n) sz)) 0 0 (va_A (cwm ac o ad al CI CL CR M n) sz) := by
  refine kofW (by decide) (Nat.le_of_ble_eq_true rfl) ?_
  intro p ev s m args below meth c0 ls X hr hk hnm hex hsz w hl
  have X : Cx b_Core_may 2 R_Core D ac p m args c0 s := X
  have hx := X.1
  have hb := X.2.1
  have hl : lv_has ls 2 [(0, .ref (ad (4 + c))), (1, .ref (ad (10 + y)))] := hl
  refine lv_aload_n hx hb d_Core_may_0 rfl (lv_at hl 1 rfl) ?_
  refine lv_ifnull hx hb d_Core_may_1 ?_
  refine lv_aload_n hx hb d_Core_may_4 rfl (lv_at hl 1 rfl) ?_
  refine cg_Core_38 X w y (by omega) (v := CI 11 y) rfl d_Core_may_5 ?_
  refine lv_if_ne (tgt := 30) hx hb d_Core_may_8 (by decide) (fun h1 => ?_) (fun h1 => ?_)
  · skip
    refine lv_iconst (v := 1) hx hb d_Core_may_30 (by decide) ?_
    refine lv_goto (tgt := 35) hx hb d_Core_may_31 (by decide) ?_
    have hF : f_Core_may_s CI CL c y = 1 := by unfold f_Core_may_s; rw [if_neg h1]
    exact kzret X w hr hk (by decide) ⟨by rw [hF], rfl⟩ d_Core_may_35
  · skip
    refine lv_aload_n hx hb d_Core_may_11 rfl (lv_at hl 0 rfl) ?_
    refine cg_Core_17 X w c (by omega) (v := CI 2 c) rfl d_Core_may_12 ?_
    refine lv_if_ne (tgt := 34) hx hb d_Core_may_15 (by decide) (fun h2 => ?_) (fun h2 => ?_)
    · skip
      refine lv_iconst (v := 0) hx hb d_Core_may_34 (by decide) ?_
      have hF : f_Core_may_s CI CL c y = 0 := by unfold f_Core_may_s; rw [if_pos h1, if_neg h2]
      exact kzret X w hr hk (by decide) ⟨by rw [hF], rfl⟩ d_Core_may_35
    · skip
      refine lv_aload_n hx hb d_Core_may_18 rfl (lv_at hl 0 rfl) ?_
      refine cg_Core_42 X w c (by omega) (v := CL 0 c) rfl d_Core_may_19 ?_
      refine lv_aload_n hx hb d_Core_may_22 rfl (lv_at hl 1 rfl) ?_
      refine cg_Core_46 X w y (by omega) (v := CL 14 y) rfl d_Core_may_23 ?_
      refine klc_gt (tgt := 34) hx hb d_Core_may_26 d_Core_may_27 (by decide) (fun h3 => ?_) (fun h3 => ?_)
      · skip
        refine lv_iconst (v := 0) hx hb d_Core_may_34 (by decide) ?_
        have hF : f_Core_may_s CI CL c y = 0 := by unfold f_Core_may_s; rw [if_pos h1, if_pos h2, if_pos h3]
        exact kzret X w hr hk (by decide) ⟨by rw [hF], rfl⟩ d_Core_may_35
      · skip
        refine lv_iconst (v := 1) hx hb d_Core_may_30 (by decide) ?_
        refine lv_goto (tgt := 35) hx hb d_Core_may_31 (by decide) ?_
        have hF : f_Core_may_s CI CL c y = 1 := by unfold f_Core_may_s; rw [if_pos h1, if_pos h2, if_neg h3]
        exact kzret X w hr hk (by decide) ⟨by rw [hF], rfl⟩ d_Core_may_35
def f_Core_may_n  (c : Nat) : Int32 :=
  0
set_option maxHeartbeats 4000000 in
set_option maxRecDepth 100000 in
theorem c_Core_may_n (l : Launch) (D : va_G) (ac : Nat → ClassId) (o : Nat) (ad : Nat → Nat) (al : Nat → Nat) (CI : Nat → Nat → Int32) (CL : Nat → Nat → Int64) (CR : Nat → Nat → Option Nat) (M : Nat → Msg) (n : Nat) (sz : Nat) (c : Nat) (hc : c < 3) : Met l y_Core_may [Cond.code y_Core_may b_Core_may 2 (some .boolean)] { frames := 0, cells := 0, slots := 0, locals := 0 } (va_Pc [.ref (ad (4 + c)), .null] (CPre D ac (cwm ac o ad al CI CL CR M n) sz)) (va_Qi (fun r u => r = f_Core_may_n c ∧ u = cwm ac o ad al CI CL CR M n) (CPost D (cwm ac o ad al CI CL CR M n) sz) (va_A (cwm ac o ad al CI CL CR M n) sz)) 0 0 (va_A (cwm ac o ad al CI CL CR M n) sz) := by
  refine kofW (by decide) (Nat.le_of_ble_eq_true rfl) ?_
  intro p ev s m args below meth c0 ls X hr hk hnm hex hsz w hl
  have X : Cx b_Core_may 2 R_Core D ac p m args c0 s := X
  have hx := X.1
  have hb := X.2.1
  have hl : lv_has ls 2 [(0, .ref (ad (4 + c))), (1, .null)] := hl
  refine lv_aload_nN hx hb d_Core_may_0 rfl (lv_at hl 1 rfl) ?_
  refine lv_ifnullN (tgt := 34) hx hb d_Core_may_1 (by decide) ?_
  refine lv_iconst (v := 0) hx hb d_Core_may_34 (by decide) ?_
  have hF : f_Core_may_n c = 0 := by rfl
  exact kzret X w hr hk (by decide) ⟨by rw [hF], rfl⟩ d_Core_may_35
def f_Core_perform (CI : Nat → Nat → Int32) (CL : Nat → Nat → Int64) (c : Nat) (y : Nat) : (Nat → Nat → Int32) × (Nat → Nat → Int64) :=
  if (CI 2 c) = 1 then
    (up2 (up2 (up2 (up2 (up2 CI 8 c 0) 12 y (CI 4 c)) 9 c (CI 2 c)) 1 c 0) 7 c ((CI 7 c) + 1), up2 (up2 (up2 CL 0 c (if ((CL 14 y) + 1) < (CL 0 c) then (CL 0 c) else ((CL 14 y) + 1))) 13 y (if ((CL 14 y) + 1) < (CL 0 c) then (CL 0 c) else ((CL 14 y) + 1))) 14 y (if ((CL 14 y) + 1) < (CL 0 c) then (CL 0 c) else ((CL 14 y) + 1)))
  else
    if (CI 2 c) = 0 then
      if (CI 11 y) = 0 then
        (up2 (up2 (up2 (up2 CI 8 c (CI 12 y)) 9 c (CI 2 c)) 1 c 0) 7 c ((CI 7 c) + 1), up2 (up2 CL 0 c (if (CL 13 y) < (CL 0 c) then (CL 0 c) else (CL 13 y))) 14 y (CL 14 y))
      else
        (up2 (up2 (up2 (up2 CI 8 c (CI 12 y)) 9 c (CI 2 c)) 1 c 0) 7 c ((CI 7 c) + 1), up2 (up2 CL 0 c (if (CL 13 y) < (CL 0 c) then (CL 0 c) else (CL 13 y))) 14 y (if (if (CL 13 y) < (CL 0 c) then (CL 0 c) else (CL 13 y)) < (CL 14 y) then (CL 14 y) else (if (CL 13 y) < (CL 0 c) then (CL 0 c) else (CL 13 y))))
    else
      if (CI 12 y) = (CI 5 c) then
        (up2 (up2 (up2 (up2 (up2 CI 8 c (CI 12 y)) 12 y (CI 4 c)) 9 c (CI 2 c)) 1 c 0) 7 c ((CI 7 c) + 1), up2 (up2 (up2 CL 0 c (if ((CL 14 y) + 1) < (CL 0 c) then (CL 0 c) else ((CL 14 y) + 1))) 13 y (if ((CL 14 y) + 1) < (CL 0 c) then (CL 0 c) else ((CL 14 y) + 1))) 14 y (if ((CL 14 y) + 1) < (CL 0 c) then (CL 0 c) else ((CL 14 y) + 1)))
      else
        if (CI 11 y) = 0 then
          (up2 (up2 (up2 (up2 CI 8 c (CI 12 y)) 9 c (CI 2 c)) 1 c 0) 7 c ((CI 7 c) + 1), up2 (up2 CL 0 c (if (CL 13 y) < (CL 0 c) then (CL 0 c) else (CL 13 y))) 14 y (CL 14 y))
        else
          (up2 (up2 (up2 (up2 CI 8 c (CI 12 y)) 9 c (CI 2 c)) 1 c 0) 7 c ((CI 7 c) + 1), up2 (up2 CL 0 c (if (CL 13 y) < (CL 0 c) then (CL 0 c) else (CL 13 y))) 14 y (if (if (CL 13 y) < (CL 0 c) then (CL 0 c) else (CL 13 y)) < (CL 14 y) then (CL 14 y) else (if (CL 13 y) < (CL 0 c) then (CL 0 c) else (CL 13 y))))
set_option maxHeartbeats 4000000 in
set_option maxRecDepth 100000 in
theorem c_Core_perform (l : Launch) (D : va_G) (ac : Nat → ClassId) (o : Nat) (ad : Nat → Nat) (al : Nat → Nat) (CI : Nat → Nat → Int32) (CL : Nat → Nat → Int64) (CR : Nat → Nat → Option Nat) (M : Nat → Msg) (n : Nat) (sz : Nat) (c : Nat) (y : Nat) (hc : c < 3) (hy : y < 12) : Met l y_Core_perform [Cond.code y_Core_perform b_Core_perform 3 none] { frames := 1, cells := 0, slots := 0, locals := 30 } (va_Pc [.ref (ad (4 + c)), .ref (ad (10 + y))] (CPre D ac (cwm ac o ad al CI CL CR M n) sz)) (va_Qv (fun u => u = cwm ac o ad al ((f_Core_perform CI CL c y).1) ((f_Core_perform CI CL c y).2) CR M n) (CPost D (cwm ac o ad al CI CL CR M n) sz) (va_A (cwm ac o ad al CI CL CR M n) sz)) 0 0 (va_A (cwm ac o ad al CI CL CR M n) sz) := by
  refine kofW (by decide) (Nat.le_of_ble_eq_true rfl) ?_
  intro p ev s m args below meth c0 ls X hr hk hnm hex hsz w hl
  have X : Cx b_Core_perform 3 R_Core D ac p m args c0 s := X
  have hx := X.1
  have hb := X.2.1
  have hl : lv_has ls 3 [(0, .ref (ad (4 + c))), (1, .ref (ad (10 + y)))] := hl
  refine lv_aload_n hx hb d_Core_perform_0 rfl (lv_at hl 0 rfl) ?_
  refine cg_Core_17 X w c (by omega) (v := CI 2 c) rfl d_Core_perform_1 ?_
  refine lv_iconst (v := 1) hx hb d_Core_perform_4 (by decide) ?_
  refine lv_icmp_eq (tgt := 26) hx hb d_Core_perform_5 (by decide) (fun h1 => ?_) (fun h1 => ?_)
  · skip
    refine lv_iconst (v := 1) hx hb d_Core_perform_26 (by decide) ?_
    refine lv_goto (tgt := 31) hx hb d_Core_perform_27 (by decide) ?_
    refine lv_istore_n (lv' := [(2, .int 1), (0, .ref (ad (4 + c))), (1, .ref (ad (10 + y)))]) hx hb d_Core_perform_31 rfl hl (by decide) rfl (fun ls hl => ?_)
    refine lv_aload_n hx hb d_Core_perform_32 rfl (lv_at hl 1 rfl) ?_
    refine lv_aload_n hx hb d_Core_perform_33 rfl (lv_at hl 1 rfl) ?_
    refine cg_Core_17 X w c (by omega) (v := CI 2 c) rfl d_Core_perform_34 ?_
    refine lv_iconst (v := 1) hx hb d_Core_perform_37 (by decide) ?_
    refine lv_icmp_ne (tgt := 45) hx hb d_Core_perform_38 (by decide) (fun h => absurd h1 h) (fun _ => ?_)
    refine lv_iconst (v := 0) hx hb d_Core_perform_41 (by decide) ?_
    refine lv_goto (tgt := 49) hx hb d_Core_perform_42 (by decide) ?_
    refine cp_Core_55 X w c (by omega) d_Core_perform_49 (fun H locs w => ?_)
    refine lv_iload_n hx hb d_Core_perform_52 rfl (lv_at hl 0 rfl) ?_
    refine lv_if_eq (tgt := 92) hx hb d_Core_perform_53 (by decide) (fun h => absurd h (by decide)) (fun _ => ?_)
    refine lv_aload_n hx hb d_Core_perform_56 rfl (lv_at hl 1 rfl) ?_
    refine lv_aload_n hx hb d_Core_perform_57 rfl (lv_at hl 1 rfl) ?_
    refine cg_Core_42 X w c (by omega) (v := CL 0 c) rfl d_Core_perform_58 ?_
    refine lv_aload_n hx hb d_Core_perform_61 rfl (lv_at hl 2 rfl) ?_
    refine cg_Core_46 X w y (by omega) (v := CL 14 y) rfl d_Core_perform_62 ?_
    refine lv_lconst (v := 1) hx hb d_Core_perform_65 (by decide) ?_
    refine lv_ladd hx hb d_Core_perform_66 ?_
    refine kmaxJ X wm_Core_58 hl.1 (Nat.le_of_ble_eq_true rfl) (Nat.le_of_ble_eq_true rfl) (Nat.le_of_ble_eq_true rfl) (Nat.le_of_ble_eq_true rfl) (v := if ((CL 14 y) + 1) < (CL 0 c) then (CL 0 c) else ((CL 14 y) + 1)) rfl d_Core_perform_67 ?_
    refine cp_Core_42 X w c (by omega) d_Core_perform_70 (fun H locs w => ?_)
    refine lv_aload_n hx hb d_Core_perform_73 rfl (lv_at hl 2 rfl) ?_
    refine lv_aload_n hx hb d_Core_perform_74 rfl (lv_at hl 1 rfl) ?_
    refine cg_Core_64 X w c (by omega) (v := CI 4 c) rfl d_Core_perform_75 ?_
    refine lv_aload_n hx hb d_Core_perform_78 rfl (lv_at hl 1 rfl) ?_
    refine cg_Core_42 X w c (by omega) (v := if ((CL 14 y) + 1) < (CL 0 c) then (CL 0 c) else ((CL 14 y) + 1)) (by simp [up2]) d_Core_perform_79 ?_
    refine lv_aload_n hx hb d_Core_perform_82 rfl (lv_at hl 1 rfl) ?_
    refine cg_Core_42 X w c (by omega) (v := if ((CL 14 y) + 1) < (CL 0 c) then (CL 0 c) else ((CL 14 y) + 1)) (by simp [up2]) d_Core_perform_83 ?_
    refine kcallv (ws0 := []) w (krunU (owner := R_Version) (ws0 := []) (wc := cwm ac o ad al (up2 CI 8 c 0) (up2 CL 0 c (if ((CL 14 y) + 1) < (CL 0 c) then (CL 0 c) else ((CL 14 y) + 1))) CR M n) (n := 3) (As := [.int (CI 4 c), .long (if ((CL 14 y) + 1) < (CL 0 c) then (CL 0 c) else ((CL 14 y) + 1)), .long (if ((CL 14 y) + 1) < (CL 0 c) then (CL 0 c) else ((CL 14 y) + 1))]) (rest := []) (C := R_Place) X w (c_Version_take_Place l D ac o ad al (up2 CI 8 c 0) (up2 CL 0 c (if ((CL 14 y) + 1) < (CL 0 c) then (CL 0 c) else ((CL 14 y) + 1))) CR M n _ y (CI 4 c) (if ((CL 14 y) + 1) < (CL 0 c) then (CL 0 c) else ((CL 14 y) + 1)) (if ((CL 14 y) + 1) < (CL 0 c) then (CL 0 c) else ((CL 14 y) + 1)) (by omega)) wk_Version_take wi_Version wm_Core_67 wq_Place_take (va_Decl.of (X.2.2.2.2.1.at (a := #[]) wx_Version_take) (X.2.2.2.2.1.at wk_Version_take)) wx_Version_take ws_Place_Place_take (by decide +kernel) rfl rfl ⟨(Nat.le_of_ble_eq_true rfl), (Nat.le_of_ble_eq_true rfl)⟩ ⟨(Nat.le_of_ble_eq_true rfl), (Nat.le_of_ble_eq_true rfl)⟩ (crecv_Place X w y (by omega)) rfl hl.1 rfl (Nat.le_of_ble_eq_true rfl) d_Core_perform_86) (fun u H locs hp w => ?_)
    obtain rfl := hp
    have w : Wo D _ (cwm ac o ad al (up2 (up2 CI 8 c 0) 12 y (CI 4 c)) (up2 (up2 (up2 CL 0 c (if ((CL 14 y) + 1) < (CL 0 c) then (CL 0 c) else ((CL 14 y) + 1))) 13 y (if ((CL 14 y) + 1) < (CL 0 c) then (CL 0 c) else ((CL 14 y) + 1))) 14 y (if ((CL 14 y) + 1) < (CL 0 c) then (CL 0 c) else ((CL 14 y) + 1))) CR M n) s.heap H locs := w
    refine lv_goto (tgt := 136) hx hb d_Core_perform_89 (by decide) ?_
    refine lv_aload_n hx hb d_Core_perform_136 rfl (lv_at hl 1 rfl) ?_
    refine lv_aload_n hx hb d_Core_perform_137 rfl (lv_at hl 1 rfl) ?_
    refine cg_Core_17 X w c (by omega) (v := CI 2 c) rfl d_Core_perform_138 ?_
    refine cp_Core_21 X w c (by omega) d_Core_perform_141 (fun H locs w => ?_)
    refine lv_aload_n hx hb d_Core_perform_144 rfl (lv_at hl 1 rfl) ?_
    refine lv_iconst (v := 0) hx hb d_Core_perform_145 (by decide) ?_
    refine cp_Core_74 X w c (by omega) (by decide) d_Core_perform_146 (fun H locs w => ?_)
    refine lv_aload_n hx hb d_Core_perform_149 rfl (lv_at hl 1 rfl) ?_
    refine lv_dup hx hb d_Core_perform_150 rfl ?_
    refine cg_Core_77 X w c (by omega) (v := CI 7 c) rfl d_Core_perform_151 ?_
    refine lv_iconst (v := 1) hx hb d_Core_perform_154 (by decide) ?_
    refine lv_iadd hx hb d_Core_perform_155 ?_
    refine cp_Core_77 X w c (by omega) d_Core_perform_156 (fun H locs w => ?_)
    have hF : f_Core_perform CI CL c y = (up2 (up2 (up2 (up2 (up2 CI 8 c 0) 12 y (CI 4 c)) 9 c (CI 2 c)) 1 c 0) 7 c ((CI 7 c) + 1), up2 (up2 (up2 CL 0 c (if ((CL 14 y) + 1) < (CL 0 c) then (CL 0 c) else ((CL 14 y) + 1))) 13 y (if ((CL 14 y) + 1) < (CL 0 c) then (CL 0 c) else ((CL 14 y) + 1))) 14 y (if ((CL 14 y) + 1) < (CL 0 c) then (CL 0 c) else ((CL 14 y) + 1))) := by unfold f_Core_perform; rw [if_pos h1]
    exact kvret (Qc := fun _ _ _ _ => True) X w hr hk (by rw [hF]) d_Core_perform_159
  · skip
    refine lv_aload_n hx hb d_Core_perform_8 rfl (lv_at hl 0 rfl) ?_
    refine cg_Core_17 X w c (by omega) (v := CI 2 c) rfl d_Core_perform_9 ?_
    refine lv_if_eq (tgt := 30) hx hb d_Core_perform_12 (by decide) (fun h2 => ?_) (fun h2 => ?_)
    · skip
      refine lv_iconst (v := 0) hx hb d_Core_perform_30 (by decide) ?_
      refine lv_istore_n (lv' := [(2, .int 0), (0, .ref (ad (4 + c))), (1, .ref (ad (10 + y)))]) hx hb d_Core_perform_31 rfl hl (by decide) rfl (fun ls hl => ?_)
      refine lv_aload_n hx hb d_Core_perform_32 rfl (lv_at hl 1 rfl) ?_
      refine lv_aload_n hx hb d_Core_perform_33 rfl (lv_at hl 1 rfl) ?_
      refine cg_Core_17 X w c (by omega) (v := CI 2 c) rfl d_Core_perform_34 ?_
      refine lv_iconst (v := 1) hx hb d_Core_perform_37 (by decide) ?_
      refine lv_icmp_ne (tgt := 45) hx hb d_Core_perform_38 (by decide) (fun _ => ?_) (fun h => absurd h h1)
      refine lv_aload_n hx hb d_Core_perform_45 rfl (lv_at hl 2 rfl) ?_
      refine cg_Core_49 X w y (by omega) (v := CI 12 y) rfl d_Core_perform_46 ?_
      refine cp_Core_55 X w c (by omega) d_Core_perform_49 (fun H locs w => ?_)
      refine lv_iload_n hx hb d_Core_perform_52 rfl (lv_at hl 0 rfl) ?_
      refine lv_if_eq (tgt := 92) hx hb d_Core_perform_53 (by decide) (fun _ => ?_) (fun h => absurd h (by decide))
      refine lv_aload_n hx hb d_Core_perform_92 rfl (lv_at hl 1 rfl) ?_
      refine lv_aload_n hx hb d_Core_perform_93 rfl (lv_at hl 1 rfl) ?_
      refine cg_Core_42 X w c (by omega) (v := CL 0 c) rfl d_Core_perform_94 ?_
      refine lv_aload_n hx hb d_Core_perform_97 rfl (lv_at hl 2 rfl) ?_
      refine cg_Core_71 X w y (by omega) (v := CL 13 y) rfl d_Core_perform_98 ?_
      refine kmaxJ X wm_Core_58 hl.1 (Nat.le_of_ble_eq_true rfl) (Nat.le_of_ble_eq_true rfl) (Nat.le_of_ble_eq_true rfl) (Nat.le_of_ble_eq_true rfl) (v := if (CL 13 y) < (CL 0 c) then (CL 0 c) else (CL 13 y)) rfl d_Core_perform_101 ?_
      refine cp_Core_42 X w c (by omega) d_Core_perform_104 (fun H locs w => ?_)
      refine lv_aload_n hx hb d_Core_perform_107 rfl (lv_at hl 2 rfl) ?_
      refine lv_aload_n hx hb d_Core_perform_108 rfl (lv_at hl 2 rfl) ?_
      refine cg_Core_38 X w y (by omega) (v := CI 11 y) rfl d_Core_perform_109 ?_
      refine lv_if_eq (tgt := 129) hx hb d_Core_perform_112 (by decide) (fun h3 => ?_) (fun h3 => ?_)
      · skip
        refine lv_aload_n hx hb d_Core_perform_129 rfl (lv_at hl 2 rfl) ?_
        refine cg_Core_46 X w y (by omega) (v := CL 14 y) rfl d_Core_perform_130 ?_
        refine cp_Core_46 X w y (by omega) d_Core_perform_133 (fun H locs w => ?_)
        refine lv_aload_n hx hb d_Core_perform_136 rfl (lv_at hl 1 rfl) ?_
        refine lv_aload_n hx hb d_Core_perform_137 rfl (lv_at hl 1 rfl) ?_
        refine cg_Core_17 X w c (by omega) (v := CI 2 c) rfl d_Core_perform_138 ?_
        refine cp_Core_21 X w c (by omega) d_Core_perform_141 (fun H locs w => ?_)
        refine lv_aload_n hx hb d_Core_perform_144 rfl (lv_at hl 1 rfl) ?_
        refine lv_iconst (v := 0) hx hb d_Core_perform_145 (by decide) ?_
        refine cp_Core_74 X w c (by omega) (by decide) d_Core_perform_146 (fun H locs w => ?_)
        refine lv_aload_n hx hb d_Core_perform_149 rfl (lv_at hl 1 rfl) ?_
        refine lv_dup hx hb d_Core_perform_150 rfl ?_
        refine cg_Core_77 X w c (by omega) (v := CI 7 c) rfl d_Core_perform_151 ?_
        refine lv_iconst (v := 1) hx hb d_Core_perform_154 (by decide) ?_
        refine lv_iadd hx hb d_Core_perform_155 ?_
        refine cp_Core_77 X w c (by omega) d_Core_perform_156 (fun H locs w => ?_)
        have hF : f_Core_perform CI CL c y = (up2 (up2 (up2 (up2 CI 8 c (CI 12 y)) 9 c (CI 2 c)) 1 c 0) 7 c ((CI 7 c) + 1), up2 (up2 CL 0 c (if (CL 13 y) < (CL 0 c) then (CL 0 c) else (CL 13 y))) 14 y (CL 14 y)) := by unfold f_Core_perform; rw [if_neg h1, if_pos h2, if_pos h3]
        exact kvret (Qc := fun _ _ _ _ => True) X w hr hk (by rw [hF]) d_Core_perform_159
      · skip
        refine lv_aload_n hx hb d_Core_perform_115 rfl (lv_at hl 2 rfl) ?_
        refine cg_Core_46 X w y (by omega) (v := CL 14 y) rfl d_Core_perform_116 ?_
        refine lv_aload_n hx hb d_Core_perform_119 rfl (lv_at hl 1 rfl) ?_
        refine cg_Core_42 X w c (by omega) (v := if (CL 13 y) < (CL 0 c) then (CL 0 c) else (CL 13 y)) (by simp [up2]) d_Core_perform_120 ?_
        refine kmaxJ X wm_Core_58 hl.1 (Nat.le_of_ble_eq_true rfl) (Nat.le_of_ble_eq_true rfl) (Nat.le_of_ble_eq_true rfl) (Nat.le_of_ble_eq_true rfl) (v := if (if (CL 13 y) < (CL 0 c) then (CL 0 c) else (CL 13 y)) < (CL 14 y) then (CL 14 y) else (if (CL 13 y) < (CL 0 c) then (CL 0 c) else (CL 13 y))) rfl d_Core_perform_123 ?_
        refine lv_goto (tgt := 133) hx hb d_Core_perform_126 (by decide) ?_
        refine cp_Core_46 X w y (by omega) d_Core_perform_133 (fun H locs w => ?_)
        refine lv_aload_n hx hb d_Core_perform_136 rfl (lv_at hl 1 rfl) ?_
        refine lv_aload_n hx hb d_Core_perform_137 rfl (lv_at hl 1 rfl) ?_
        refine cg_Core_17 X w c (by omega) (v := CI 2 c) rfl d_Core_perform_138 ?_
        refine cp_Core_21 X w c (by omega) d_Core_perform_141 (fun H locs w => ?_)
        refine lv_aload_n hx hb d_Core_perform_144 rfl (lv_at hl 1 rfl) ?_
        refine lv_iconst (v := 0) hx hb d_Core_perform_145 (by decide) ?_
        refine cp_Core_74 X w c (by omega) (by decide) d_Core_perform_146 (fun H locs w => ?_)
        refine lv_aload_n hx hb d_Core_perform_149 rfl (lv_at hl 1 rfl) ?_
        refine lv_dup hx hb d_Core_perform_150 rfl ?_
        refine cg_Core_77 X w c (by omega) (v := CI 7 c) rfl d_Core_perform_151 ?_
        refine lv_iconst (v := 1) hx hb d_Core_perform_154 (by decide) ?_
        refine lv_iadd hx hb d_Core_perform_155 ?_
        refine cp_Core_77 X w c (by omega) d_Core_perform_156 (fun H locs w => ?_)
        have hF : f_Core_perform CI CL c y = (up2 (up2 (up2 (up2 CI 8 c (CI 12 y)) 9 c (CI 2 c)) 1 c 0) 7 c ((CI 7 c) + 1), up2 (up2 CL 0 c (if (CL 13 y) < (CL 0 c) then (CL 0 c) else (CL 13 y))) 14 y (if (if (CL 13 y) < (CL 0 c) then (CL 0 c) else (CL 13 y)) < (CL 14 y) then (CL 14 y) else (if (CL 13 y) < (CL 0 c) then (CL 0 c) else (CL 13 y)))) := by unfold f_Core_perform; rw [if_neg h1, if_pos h2, if_neg h3]
        exact kvret (Qc := fun _ _ _ _ => True) X w hr hk (by rw [hF]) d_Core_perform_159
    · skip
      refine lv_aload_n hx hb d_Core_perform_15 rfl (lv_at hl 1 rfl) ?_
      refine cg_Core_49 X w y (by omega) (v := CI 12 y) rfl d_Core_perform_16 ?_
      refine lv_aload_n hx hb d_Core_perform_19 rfl (lv_at hl 0 rfl) ?_
      refine cg_Core_52 X w c (by omega) (v := CI 5 c) rfl d_Core_perform_20 ?_
      refine lv_icmp_ne (tgt := 30) hx hb d_Core_perform_23 (by decide) (fun h4 => ?_) (fun h4 => ?_)
      · skip
        refine lv_iconst (v := 0) hx hb d_Core_perform_30 (by decide) ?_
        refine lv_istore_n (lv' := [(2, .int 0), (0, .ref (ad (4 + c))), (1, .ref (ad (10 + y)))]) hx hb d_Core_perform_31 rfl hl (by decide) rfl (fun ls hl => ?_)
        refine lv_aload_n hx hb d_Core_perform_32 rfl (lv_at hl 1 rfl) ?_
        refine lv_aload_n hx hb d_Core_perform_33 rfl (lv_at hl 1 rfl) ?_
        refine cg_Core_17 X w c (by omega) (v := CI 2 c) rfl d_Core_perform_34 ?_
        refine lv_iconst (v := 1) hx hb d_Core_perform_37 (by decide) ?_
        refine lv_icmp_ne (tgt := 45) hx hb d_Core_perform_38 (by decide) (fun _ => ?_) (fun h => absurd h h1)
        refine lv_aload_n hx hb d_Core_perform_45 rfl (lv_at hl 2 rfl) ?_
        refine cg_Core_49 X w y (by omega) (v := CI 12 y) rfl d_Core_perform_46 ?_
        refine cp_Core_55 X w c (by omega) d_Core_perform_49 (fun H locs w => ?_)
        refine lv_iload_n hx hb d_Core_perform_52 rfl (lv_at hl 0 rfl) ?_
        refine lv_if_eq (tgt := 92) hx hb d_Core_perform_53 (by decide) (fun _ => ?_) (fun h => absurd h (by decide))
        refine lv_aload_n hx hb d_Core_perform_92 rfl (lv_at hl 1 rfl) ?_
        refine lv_aload_n hx hb d_Core_perform_93 rfl (lv_at hl 1 rfl) ?_
        refine cg_Core_42 X w c (by omega) (v := CL 0 c) rfl d_Core_perform_94 ?_
        refine lv_aload_n hx hb d_Core_perform_97 rfl (lv_at hl 2 rfl) ?_
        refine cg_Core_71 X w y (by omega) (v := CL 13 y) rfl d_Core_perform_98 ?_
        refine kmaxJ X wm_Core_58 hl.1 (Nat.le_of_ble_eq_true rfl) (Nat.le_of_ble_eq_true rfl) (Nat.le_of_ble_eq_true rfl) (Nat.le_of_ble_eq_true rfl) (v := if (CL 13 y) < (CL 0 c) then (CL 0 c) else (CL 13 y)) rfl d_Core_perform_101 ?_
        refine cp_Core_42 X w c (by omega) d_Core_perform_104 (fun H locs w => ?_)
        refine lv_aload_n hx hb d_Core_perform_107 rfl (lv_at hl 2 rfl) ?_
        refine lv_aload_n hx hb d_Core_perform_108 rfl (lv_at hl 2 rfl) ?_
        refine cg_Core_38 X w y (by omega) (v := CI 11 y) rfl d_Core_perform_109 ?_
        refine lv_if_eq (tgt := 129) hx hb d_Core_perform_112 (by decide) (fun h5 => ?_) (fun h5 => ?_)
        · skip
          refine lv_aload_n hx hb d_Core_perform_129 rfl (lv_at hl 2 rfl) ?_
          refine cg_Core_46 X w y (by omega) (v := CL 14 y) rfl d_Core_perform_130 ?_
          refine cp_Core_46 X w y (by omega) d_Core_perform_133 (fun H locs w => ?_)
          refine lv_aload_n hx hb d_Core_perform_136 rfl (lv_at hl 1 rfl) ?_
          refine lv_aload_n hx hb d_Core_perform_137 rfl (lv_at hl 1 rfl) ?_
          refine cg_Core_17 X w c (by omega) (v := CI 2 c) rfl d_Core_perform_138 ?_
          refine cp_Core_21 X w c (by omega) d_Core_perform_141 (fun H locs w => ?_)
          refine lv_aload_n hx hb d_Core_perform_144 rfl (lv_at hl 1 rfl) ?_
          refine lv_iconst (v := 0) hx hb d_Core_perform_145 (by decide) ?_
          refine cp_Core_74 X w c (by omega) (by decide) d_Core_perform_146 (fun H locs w => ?_)
          refine lv_aload_n hx hb d_Core_perform_149 rfl (lv_at hl 1 rfl) ?_
          refine lv_dup hx hb d_Core_perform_150 rfl ?_
          refine cg_Core_77 X w c (by omega) (v := CI 7 c) rfl d_Core_perform_151 ?_
          refine lv_iconst (v := 1) hx hb d_Core_perform_154 (by decide) ?_
          refine lv_iadd hx hb d_Core_perform_155 ?_
          refine cp_Core_77 X w c (by omega) d_Core_perform_156 (fun H locs w => ?_)
          have hF : f_Core_perform CI CL c y = (up2 (up2 (up2 (up2 CI 8 c (CI 12 y)) 9 c (CI 2 c)) 1 c 0) 7 c ((CI 7 c) + 1), up2 (up2 CL 0 c (if (CL 13 y) < (CL 0 c) then (CL 0 c) else (CL 13 y))) 14 y (CL 14 y)) := by unfold f_Core_perform; rw [if_neg h1, if_neg h2, if_neg h4, if_pos h5]
          exact kvret (Qc := fun _ _ _ _ => True) X w hr hk (by rw [hF]) d_Core_perform_159
        · skip
          refine lv_aload_n hx hb d_Core_perform_115 rfl (lv_at hl 2 rfl) ?_
          refine cg_Core_46 X w y (by omega) (v := CL 14 y) rfl d_Core_perform_116 ?_
          refine lv_aload_n hx hb d_Core_perform_119 rfl (lv_at hl 1 rfl) ?_
          refine cg_Core_42 X w c (by omega) (v := if (CL 13 y) < (CL 0 c) then (CL 0 c) else (CL 13 y)) (by simp [up2]) d_Core_perform_120 ?_
          refine kmaxJ X wm_Core_58 hl.1 (Nat.le_of_ble_eq_true rfl) (Nat.le_of_ble_eq_true rfl) (Nat.le_of_ble_eq_true rfl) (Nat.le_of_ble_eq_true rfl) (v := if (if (CL 13 y) < (CL 0 c) then (CL 0 c) else (CL 13 y)) < (CL 14 y) then (CL 14 y) else (if (CL 13 y) < (CL 0 c) then (CL 0 c) else (CL 13 y))) rfl d_Core_perform_123 ?_
          refine lv_goto (tgt := 133) hx hb d_Core_perform_126 (by decide) ?_
          refine cp_Core_46 X w y (by omega) d_Core_perform_133 (fun H locs w => ?_)
          refine lv_aload_n hx hb d_Core_perform_136 rfl (lv_at hl 1 rfl) ?_
          refine lv_aload_n hx hb d_Core_perform_137 rfl (lv_at hl 1 rfl) ?_
          refine cg_Core_17 X w c (by omega) (v := CI 2 c) rfl d_Core_perform_138 ?_
          refine cp_Core_21 X w c (by omega) d_Core_perform_141 (fun H locs w => ?_)
          refine lv_aload_n hx hb d_Core_perform_144 rfl (lv_at hl 1 rfl) ?_
          refine lv_iconst (v := 0) hx hb d_Core_perform_145 (by decide) ?_
          refine cp_Core_74 X w c (by omega) (by decide) d_Core_perform_146 (fun H locs w => ?_)
          refine lv_aload_n hx hb d_Core_perform_149 rfl (lv_at hl 1 rfl) ?_
          refine lv_dup hx hb d_Core_perform_150 rfl ?_
          refine cg_Core_77 X w c (by omega) (v := CI 7 c) rfl d_Core_perform_151 ?_
          refine lv_iconst (v := 1) hx hb d_Core_perform_154 (by decide) ?_
          refine lv_iadd hx hb d_Core_perform_155 ?_
          refine cp_Core_77 X w c (by omega) d_Core_perform_156 (fun H locs w => ?_)
          have hF : f_Core_perform CI CL c y = (up2 (up2 (up2 (up2 CI 8 c (CI 12 y)) 9 c (CI 2 c)) 1 c 0) 7 c ((CI 7 c) + 1), up2 (up2 CL 0 c (if (CL 13 y) < (CL 0 c) then (CL 0 c) else (CL 13 y))) 14 y (if (if (CL 13 y) < (CL 0 c) then (CL 0 c) else (CL 13 y)) < (CL 14 y) then (CL 14 y) else (if (CL 13 y) < (CL 0 c) then (CL 0 c) else (CL 13 y)))) := by unfold f_Core_perform; rw [if_neg h1, if_neg h2, if_neg h4, if_neg h5]
          exact kvret (Qc := fun _ _ _ _ => True) X w hr hk (by rw [hF]) d_Core_perform_159
      · skip
        refine lv_iconst (v := 1) hx hb d_Core_perform_26 (by decide) ?_
        refine lv_goto (tgt := 31) hx hb d_Core_perform_27 (by decide) ?_
        refine lv_istore_n (lv' := [(2, .int 1), (0, .ref (ad (4 + c))), (1, .ref (ad (10 + y)))]) hx hb d_Core_perform_31 rfl hl (by decide) rfl (fun ls hl => ?_)
        refine lv_aload_n hx hb d_Core_perform_32 rfl (lv_at hl 1 rfl) ?_
        refine lv_aload_n hx hb d_Core_perform_33 rfl (lv_at hl 1 rfl) ?_
        refine cg_Core_17 X w c (by omega) (v := CI 2 c) rfl d_Core_perform_34 ?_
        refine lv_iconst (v := 1) hx hb d_Core_perform_37 (by decide) ?_
        refine lv_icmp_ne (tgt := 45) hx hb d_Core_perform_38 (by decide) (fun _ => ?_) (fun h => absurd h h1)
        refine lv_aload_n hx hb d_Core_perform_45 rfl (lv_at hl 2 rfl) ?_
        refine cg_Core_49 X w y (by omega) (v := CI 12 y) rfl d_Core_perform_46 ?_
        refine cp_Core_55 X w c (by omega) d_Core_perform_49 (fun H locs w => ?_)
        refine lv_iload_n hx hb d_Core_perform_52 rfl (lv_at hl 0 rfl) ?_
        refine lv_if_eq (tgt := 92) hx hb d_Core_perform_53 (by decide) (fun h => absurd h (by decide)) (fun _ => ?_)
        refine lv_aload_n hx hb d_Core_perform_56 rfl (lv_at hl 1 rfl) ?_
        refine lv_aload_n hx hb d_Core_perform_57 rfl (lv_at hl 1 rfl) ?_
        refine cg_Core_42 X w c (by omega) (v := CL 0 c) rfl d_Core_perform_58 ?_
        refine lv_aload_n hx hb d_Core_perform_61 rfl (lv_at hl 2 rfl) ?_
        refine cg_Core_46 X w y (by omega) (v := CL 14 y) rfl d_Core_perform_62 ?_
        refine lv_lconst (v := 1) hx hb d_Core_perform_65 (by decide) ?_
        refine lv_ladd hx hb d_Core_perform_66 ?_
        refine kmaxJ X wm_Core_58 hl.1 (Nat.le_of_ble_eq_true rfl) (Nat.le_of_ble_eq_true rfl) (Nat.le_of_ble_eq_true rfl) (Nat.le_of_ble_eq_true rfl) (v := if ((CL 14 y) + 1) < (CL 0 c) then (CL 0 c) else ((CL 14 y) + 1)) rfl d_Core_perform_67 ?_
        refine cp_Core_42 X w c (by omega) d_Core_perform_70 (fun H locs w => ?_)
        refine lv_aload_n hx hb d_Core_perform_73 rfl (lv_at hl 2 rfl) ?_
        refine lv_aload_n hx hb d_Core_perform_74 rfl (lv_at hl 1 rfl) ?_
        refine cg_Core_64 X w c (by omega) (v := CI 4 c) rfl d_Core_perform_75 ?_
        refine lv_aload_n hx hb d_Core_perform_78 rfl (lv_at hl 1 rfl) ?_
        refine cg_Core_42 X w c (by omega) (v := if ((CL 14 y) + 1) < (CL 0 c) then (CL 0 c) else ((CL 14 y) + 1)) (by simp [up2]) d_Core_perform_79 ?_
        refine lv_aload_n hx hb d_Core_perform_82 rfl (lv_at hl 1 rfl) ?_
        refine cg_Core_42 X w c (by omega) (v := if ((CL 14 y) + 1) < (CL 0 c) then (CL 0 c) else ((CL 14 y) + 1)) (by simp [up2]) d_Core_perform_83 ?_
        refine kcallv (ws0 := []) w (krunU (owner := R_Version) (ws0 := []) (wc := cwm ac o ad al (up2 CI 8 c (CI 12 y)) (up2 CL 0 c (if ((CL 14 y) + 1) < (CL 0 c) then (CL 0 c) else ((CL 14 y) + 1))) CR M n) (n := 3) (As := [.int (CI 4 c), .long (if ((CL 14 y) + 1) < (CL 0 c) then (CL 0 c) else ((CL 14 y) + 1)), .long (if ((CL 14 y) + 1) < (CL 0 c) then (CL 0 c) else ((CL 14 y) + 1))]) (rest := []) (C := R_Place) X w (c_Version_take_Place l D ac o ad al (up2 CI 8 c (CI 12 y)) (up2 CL 0 c (if ((CL 14 y) + 1) < (CL 0 c) then (CL 0 c) else ((CL 14 y) + 1))) CR M n _ y (CI 4 c) (if ((CL 14 y) + 1) < (CL 0 c) then (CL 0 c) else ((CL 14 y) + 1)) (if ((CL 14 y) + 1) < (CL 0 c) then (CL 0 c) else ((CL 14 y) + 1)) (by omega)) wk_Version_take wi_Version wm_Core_67 wq_Place_take (va_Decl.of (X.2.2.2.2.1.at (a := #[]) wx_Version_take) (X.2.2.2.2.1.at wk_Version_take)) wx_Version_take ws_Place_Place_take (by decide +kernel) rfl rfl ⟨(Nat.le_of_ble_eq_true rfl), (Nat.le_of_ble_eq_true rfl)⟩ ⟨(Nat.le_of_ble_eq_true rfl), (Nat.le_of_ble_eq_true rfl)⟩ (crecv_Place X w y (by omega)) rfl hl.1 rfl (Nat.le_of_ble_eq_true rfl) d_Core_perform_86) (fun u H locs hp w => ?_)
        obtain rfl := hp
        have w : Wo D _ (cwm ac o ad al (up2 (up2 CI 8 c (CI 12 y)) 12 y (CI 4 c)) (up2 (up2 (up2 CL 0 c (if ((CL 14 y) + 1) < (CL 0 c) then (CL 0 c) else ((CL 14 y) + 1))) 13 y (if ((CL 14 y) + 1) < (CL 0 c) then (CL 0 c) else ((CL 14 y) + 1))) 14 y (if ((CL 14 y) + 1) < (CL 0 c) then (CL 0 c) else ((CL 14 y) + 1))) CR M n) s.heap H locs := w
        refine lv_goto (tgt := 136) hx hb d_Core_perform_89 (by decide) ?_
        refine lv_aload_n hx hb d_Core_perform_136 rfl (lv_at hl 1 rfl) ?_
        refine lv_aload_n hx hb d_Core_perform_137 rfl (lv_at hl 1 rfl) ?_
        refine cg_Core_17 X w c (by omega) (v := CI 2 c) rfl d_Core_perform_138 ?_
        refine cp_Core_21 X w c (by omega) d_Core_perform_141 (fun H locs w => ?_)
        refine lv_aload_n hx hb d_Core_perform_144 rfl (lv_at hl 1 rfl) ?_
        refine lv_iconst (v := 0) hx hb d_Core_perform_145 (by decide) ?_
        refine cp_Core_74 X w c (by omega) (by decide) d_Core_perform_146 (fun H locs w => ?_)
        refine lv_aload_n hx hb d_Core_perform_149 rfl (lv_at hl 1 rfl) ?_
        refine lv_dup hx hb d_Core_perform_150 rfl ?_
        refine cg_Core_77 X w c (by omega) (v := CI 7 c) rfl d_Core_perform_151 ?_
        refine lv_iconst (v := 1) hx hb d_Core_perform_154 (by decide) ?_
        refine lv_iadd hx hb d_Core_perform_155 ?_
        refine cp_Core_77 X w c (by omega) d_Core_perform_156 (fun H locs w => ?_)
        have hF : f_Core_perform CI CL c y = (up2 (up2 (up2 (up2 (up2 CI 8 c (CI 12 y)) 12 y (CI 4 c)) 9 c (CI 2 c)) 1 c 0) 7 c ((CI 7 c) + 1), up2 (up2 (up2 CL 0 c (if ((CL 14 y) + 1) < (CL 0 c) then (CL 0 c) else ((CL 14 y) + 1))) 13 y (if ((CL 14 y) + 1) < (CL 0 c) then (CL 0 c) else ((CL 14 y) + 1))) 14 y (if ((CL 14 y) + 1) < (CL 0 c) then (CL 0 c) else ((CL 14 y) + 1))) := by unfold f_Core_perform; rw [if_neg h1, if_neg h2, if_pos h4]
        exact kvret (Qc := fun _ _ _ _ => True) X w hr hk (by rw [hF]) d_Core_perform_159
def f_LC_entryOf (CI : Nat → Nat → Int32) (li : Int32) : Option Nat :=
  if (CI 16 0) = li then
    some 0
  else
    if (CI 16 1) = li then
      some 1
    else
      if (CI 16 2) = li then
        some 2
      else
        if (CI 16 3) = li then
          some 3
        else
          if (CI 16 4) = li then
            some 4
          else
            if (CI 16 5) = li then
              some 5
            else
              none
set_option maxHeartbeats 4000000 in
set_option maxRecDepth 100000 in
theorem c_LC_entryOf (l : Launch) (D : va_G) (ac : Nat → ClassId) (o : Nat) (ad : Nat → Nat) (al : Nat → Nat) (CI : Nat → Nat → Int32) (CL : Nat → Nat → Int64) (CR : Nat → Nat → Option Nat) (M : Nat → Msg) (n : Nat) (sz : Nat) (li : Int32)  : Met l y_LC_entryOf [Cond.code y_LC_entryOf b_LC_entryOf 3 (some (.object "LeaseCores$Entry"))] { frames := 0, cells := 0, slots := 0, locals := 0 } (va_Pc [.ref o, .int li] (CPre D ac (cwm ac o ad al CI CL CR M n) sz)) (va_Qq (fun r u => r = rE ad (f_LC_entryOf CI li) ∧ u = cwm ac o ad al CI CL CR M n) (CPost D (cwm ac o ad al CI CL CR M n) sz) (va_A (cwm ac o ad al CI CL CR M n) sz)) 0 0 (va_A (cwm ac o ad al CI CL CR M n) sz) := by
  refine kofW (by decide) (Nat.le_of_ble_eq_true rfl) ?_
  intro p ev s m args below meth c0 ls X hr hk hnm hex hsz w hl
  have X : Cx b_LC_entryOf 3 R_LC D ac p m args c0 s := X
  have hx := X.1
  have hb := X.2.1
  have hl : lv_has ls 3 [(0, .ref o), (1, .int li)] := hl
  refine lv_iconst (v := 0) hx hb d_LC_entryOf_0 (by decide) ?_
  refine lv_istore_n (lv' := [(2, .int 0), (0, .ref o), (1, .int li)]) hx hb d_LC_entryOf_1 rfl hl (by decide) rfl (fun ls hl => ?_)
  refine lv_iload_n hx hb d_LC_entryOf_2 rfl (lv_at hl 0 rfl) ?_
  refine lv_bipush (v := 6) hx hb d_LC_entryOf_3 (by decide) ?_
  refine lv_icmp_ge (tgt := 34) hx hb d_LC_entryOf_5 (by decide) (fun h => absurd h (by decide)) (fun _ => ?_)
  refine lv_aload_n hx hb d_LC_entryOf_8 rfl (lv_at hl 1 rfl) ?_
  refine cg_LC_17 X w d_LC_entryOf_9 ?_
  refine lv_iload_n hx hb d_LC_entryOf_12 rfl (lv_at hl 0 rfl) ?_
  refine cl_entries X w 0 (by omega) rfl d_LC_entryOf_13 ?_
  refine cg_LC_157 X w 0 (by omega) (v := CI 16 0) rfl d_LC_entryOf_14 ?_
  refine lv_iload_n hx hb d_LC_entryOf_17 rfl (lv_at hl 2 rfl) ?_
  refine lv_icmp_ne (tgt := 28) hx hb d_LC_entryOf_18 (by decide) (fun h1 => ?_) (fun h1 => ?_)
  · skip
    refine lv_iinc (v := 1) (lv' := [(2, .int 1), (0, .ref o), (1, .int li)]) hx hb d_LC_entryOf_28 hl (k := 0) rfl (by decide) (by decide) rfl (fun ls hl => ?_)
    refine lv_goto (tgt := 2) hx hb d_LC_entryOf_31 (by decide) ?_
    refine lv_iload_n hx hb d_LC_entryOf_2 rfl (lv_at hl 0 rfl) ?_
    refine lv_bipush (v := 6) hx hb d_LC_entryOf_3 (by decide) ?_
    refine lv_icmp_ge (tgt := 34) hx hb d_LC_entryOf_5 (by decide) (fun h => absurd h (by decide)) (fun _ => ?_)
    refine lv_aload_n hx hb d_LC_entryOf_8 rfl (lv_at hl 1 rfl) ?_
    refine cg_LC_17 X w d_LC_entryOf_9 ?_
    refine lv_iload_n hx hb d_LC_entryOf_12 rfl (lv_at hl 0 rfl) ?_
    refine cl_entries X w 1 (by omega) rfl d_LC_entryOf_13 ?_
    refine cg_LC_157 X w 1 (by omega) (v := CI 16 1) rfl d_LC_entryOf_14 ?_
    refine lv_iload_n hx hb d_LC_entryOf_17 rfl (lv_at hl 2 rfl) ?_
    refine lv_icmp_ne (tgt := 28) hx hb d_LC_entryOf_18 (by decide) (fun h2 => ?_) (fun h2 => ?_)
    · skip
      refine lv_iinc (v := 2) (lv' := [(2, .int 2), (0, .ref o), (1, .int li)]) hx hb d_LC_entryOf_28 hl (k := 0) rfl (by decide) (by decide) rfl (fun ls hl => ?_)
      refine lv_goto (tgt := 2) hx hb d_LC_entryOf_31 (by decide) ?_
      refine lv_iload_n hx hb d_LC_entryOf_2 rfl (lv_at hl 0 rfl) ?_
      refine lv_bipush (v := 6) hx hb d_LC_entryOf_3 (by decide) ?_
      refine lv_icmp_ge (tgt := 34) hx hb d_LC_entryOf_5 (by decide) (fun h => absurd h (by decide)) (fun _ => ?_)
      refine lv_aload_n hx hb d_LC_entryOf_8 rfl (lv_at hl 1 rfl) ?_
      refine cg_LC_17 X w d_LC_entryOf_9 ?_
      refine lv_iload_n hx hb d_LC_entryOf_12 rfl (lv_at hl 0 rfl) ?_
      refine cl_entries X w 2 (by omega) rfl d_LC_entryOf_13 ?_
      refine cg_LC_157 X w 2 (by omega) (v := CI 16 2) rfl d_LC_entryOf_14 ?_
      refine lv_iload_n hx hb d_LC_entryOf_17 rfl (lv_at hl 2 rfl) ?_
      refine lv_icmp_ne (tgt := 28) hx hb d_LC_entryOf_18 (by decide) (fun h3 => ?_) (fun h3 => ?_)
      · skip
        refine lv_iinc (v := 3) (lv' := [(2, .int 3), (0, .ref o), (1, .int li)]) hx hb d_LC_entryOf_28 hl (k := 0) rfl (by decide) (by decide) rfl (fun ls hl => ?_)
        refine lv_goto (tgt := 2) hx hb d_LC_entryOf_31 (by decide) ?_
        refine lv_iload_n hx hb d_LC_entryOf_2 rfl (lv_at hl 0 rfl) ?_
        refine lv_bipush (v := 6) hx hb d_LC_entryOf_3 (by decide) ?_
        refine lv_icmp_ge (tgt := 34) hx hb d_LC_entryOf_5 (by decide) (fun h => absurd h (by decide)) (fun _ => ?_)
        refine lv_aload_n hx hb d_LC_entryOf_8 rfl (lv_at hl 1 rfl) ?_
        refine cg_LC_17 X w d_LC_entryOf_9 ?_
        refine lv_iload_n hx hb d_LC_entryOf_12 rfl (lv_at hl 0 rfl) ?_
        refine cl_entries X w 3 (by omega) rfl d_LC_entryOf_13 ?_
        refine cg_LC_157 X w 3 (by omega) (v := CI 16 3) rfl d_LC_entryOf_14 ?_
        refine lv_iload_n hx hb d_LC_entryOf_17 rfl (lv_at hl 2 rfl) ?_
        refine lv_icmp_ne (tgt := 28) hx hb d_LC_entryOf_18 (by decide) (fun h4 => ?_) (fun h4 => ?_)
        · skip
          refine lv_iinc (v := 4) (lv' := [(2, .int 4), (0, .ref o), (1, .int li)]) hx hb d_LC_entryOf_28 hl (k := 0) rfl (by decide) (by decide) rfl (fun ls hl => ?_)
          refine lv_goto (tgt := 2) hx hb d_LC_entryOf_31 (by decide) ?_
          refine lv_iload_n hx hb d_LC_entryOf_2 rfl (lv_at hl 0 rfl) ?_
          refine lv_bipush (v := 6) hx hb d_LC_entryOf_3 (by decide) ?_
          refine lv_icmp_ge (tgt := 34) hx hb d_LC_entryOf_5 (by decide) (fun h => absurd h (by decide)) (fun _ => ?_)
          refine lv_aload_n hx hb d_LC_entryOf_8 rfl (lv_at hl 1 rfl) ?_
          refine cg_LC_17 X w d_LC_entryOf_9 ?_
          refine lv_iload_n hx hb d_LC_entryOf_12 rfl (lv_at hl 0 rfl) ?_
          refine cl_entries X w 4 (by omega) rfl d_LC_entryOf_13 ?_
          refine cg_LC_157 X w 4 (by omega) (v := CI 16 4) rfl d_LC_entryOf_14 ?_
          refine lv_iload_n hx hb d_LC_entryOf_17 rfl (lv_at hl 2 rfl) ?_
          refine lv_icmp_ne (tgt := 28) hx hb d_LC_entryOf_18 (by decide) (fun h5 => ?_) (fun h5 => ?_)
          · skip
            refine lv_iinc (v := 5) (lv' := [(2, .int 5), (0, .ref o), (1, .int li)]) hx hb d_LC_entryOf_28 hl (k := 0) rfl (by decide) (by decide) rfl (fun ls hl => ?_)
            refine lv_goto (tgt := 2) hx hb d_LC_entryOf_31 (by decide) ?_
            refine lv_iload_n hx hb d_LC_entryOf_2 rfl (lv_at hl 0 rfl) ?_
            refine lv_bipush (v := 6) hx hb d_LC_entryOf_3 (by decide) ?_
            refine lv_icmp_ge (tgt := 34) hx hb d_LC_entryOf_5 (by decide) (fun h => absurd h (by decide)) (fun _ => ?_)
            refine lv_aload_n hx hb d_LC_entryOf_8 rfl (lv_at hl 1 rfl) ?_
            refine cg_LC_17 X w d_LC_entryOf_9 ?_
            refine lv_iload_n hx hb d_LC_entryOf_12 rfl (lv_at hl 0 rfl) ?_
            refine cl_entries X w 5 (by omega) rfl d_LC_entryOf_13 ?_
            refine cg_LC_157 X w 5 (by omega) (v := CI 16 5) rfl d_LC_entryOf_14 ?_
            refine lv_iload_n hx hb d_LC_entryOf_17 rfl (lv_at hl 2 rfl) ?_
            refine lv_icmp_ne (tgt := 28) hx hb d_LC_entryOf_18 (by decide) (fun h6 => ?_) (fun h6 => ?_)
            · skip
              refine lv_iinc (v := 6) (lv' := [(2, .int 6), (0, .ref o), (1, .int li)]) hx hb d_LC_entryOf_28 hl (k := 0) rfl (by decide) (by decide) rfl (fun ls hl => ?_)
              refine lv_goto (tgt := 2) hx hb d_LC_entryOf_31 (by decide) ?_
              refine lv_iload_n hx hb d_LC_entryOf_2 rfl (lv_at hl 0 rfl) ?_
              refine lv_bipush (v := 6) hx hb d_LC_entryOf_3 (by decide) ?_
              refine lv_icmp_ge (tgt := 34) hx hb d_LC_entryOf_5 (by decide) (fun _ => ?_) (fun h => absurd h (by decide))
              refine lv_null hx hb d_LC_entryOf_34 ?_
              have hF : f_LC_entryOf CI li = none := by unfold f_LC_entryOf; rw [if_neg h1, if_neg h2, if_neg h3, if_neg h4, if_neg h5, if_neg h6]
              exact kqret (r := rE ad none) X w hr hk ⟨by rw [hF] <;> rfl, rfl⟩ d_LC_entryOf_35
            · skip
              refine lv_aload_n hx hb d_LC_entryOf_21 rfl (lv_at hl 1 rfl) ?_
              refine cg_LC_17 X w d_LC_entryOf_22 ?_
              refine lv_iload_n hx hb d_LC_entryOf_25 rfl (lv_at hl 0 rfl) ?_
              refine cl_entries X w 5 (by omega) rfl d_LC_entryOf_26 ?_
              have hF : f_LC_entryOf CI li = some 5 := by unfold f_LC_entryOf; rw [if_neg h1, if_neg h2, if_neg h3, if_neg h4, if_neg h5, if_pos h6]
              exact kqret (r := rE ad (some 5)) X w hr hk ⟨by rw [hF] <;> rfl, rfl⟩ d_LC_entryOf_27
          · skip
            refine lv_aload_n hx hb d_LC_entryOf_21 rfl (lv_at hl 1 rfl) ?_
            refine cg_LC_17 X w d_LC_entryOf_22 ?_
            refine lv_iload_n hx hb d_LC_entryOf_25 rfl (lv_at hl 0 rfl) ?_
            refine cl_entries X w 4 (by omega) rfl d_LC_entryOf_26 ?_
            have hF : f_LC_entryOf CI li = some 4 := by unfold f_LC_entryOf; rw [if_neg h1, if_neg h2, if_neg h3, if_neg h4, if_pos h5]
            exact kqret (r := rE ad (some 4)) X w hr hk ⟨by rw [hF] <;> rfl, rfl⟩ d_LC_entryOf_27
        · skip
          refine lv_aload_n hx hb d_LC_entryOf_21 rfl (lv_at hl 1 rfl) ?_
          refine cg_LC_17 X w d_LC_entryOf_22 ?_
          refine lv_iload_n hx hb d_LC_entryOf_25 rfl (lv_at hl 0 rfl) ?_
          refine cl_entries X w 3 (by omega) rfl d_LC_entryOf_26 ?_
          have hF : f_LC_entryOf CI li = some 3 := by unfold f_LC_entryOf; rw [if_neg h1, if_neg h2, if_neg h3, if_pos h4]
          exact kqret (r := rE ad (some 3)) X w hr hk ⟨by rw [hF] <;> rfl, rfl⟩ d_LC_entryOf_27
      · skip
        refine lv_aload_n hx hb d_LC_entryOf_21 rfl (lv_at hl 1 rfl) ?_
        refine cg_LC_17 X w d_LC_entryOf_22 ?_
        refine lv_iload_n hx hb d_LC_entryOf_25 rfl (lv_at hl 0 rfl) ?_
        refine cl_entries X w 2 (by omega) rfl d_LC_entryOf_26 ?_
        have hF : f_LC_entryOf CI li = some 2 := by unfold f_LC_entryOf; rw [if_neg h1, if_neg h2, if_pos h3]
        exact kqret (r := rE ad (some 2)) X w hr hk ⟨by rw [hF] <;> rfl, rfl⟩ d_LC_entryOf_27
    · skip
      refine lv_aload_n hx hb d_LC_entryOf_21 rfl (lv_at hl 1 rfl) ?_
      refine cg_LC_17 X w d_LC_entryOf_22 ?_
      refine lv_iload_n hx hb d_LC_entryOf_25 rfl (lv_at hl 0 rfl) ?_
      refine cl_entries X w 1 (by omega) rfl d_LC_entryOf_26 ?_
      have hF : f_LC_entryOf CI li = some 1 := by unfold f_LC_entryOf; rw [if_neg h1, if_pos h2]
      exact kqret (r := rE ad (some 1)) X w hr hk ⟨by rw [hF] <;> rfl, rfl⟩ d_LC_entryOf_27
  · skip
    refine lv_aload_n hx hb d_LC_entryOf_21 rfl (lv_at hl 1 rfl) ?_
    refine cg_LC_17 X w d_LC_entryOf_22 ?_
    refine lv_iload_n hx hb d_LC_entryOf_25 rfl (lv_at hl 0 rfl) ?_
    refine cl_entries X w 0 (by omega) rfl d_LC_entryOf_26 ?_
    have hF : f_LC_entryOf CI li = some 0 := by unfold f_LC_entryOf; rw [if_pos h1]
    exact kqret (r := rE ad (some 0)) X w hr hk ⟨by rw [hF] <;> rfl, rfl⟩ d_LC_entryOf_27
theorem f_LC_entryOf_lt {CI : Nat → Nat → Int32} {y : Nat} {a : Int32} (h : f_LC_entryOf CI a = some y) : y < 6 := by
  unfold f_LC_entryOf at h
  repeat' split at h
  all_goals first | (cases h; omega) | cases h
theorem f_LC_entryOf_line {CI : Nat → Nat → Int32} {y : Nat} {a : Int32} (h : f_LC_entryOf CI a = some y) : CI 16 y = a := by
  unfold f_LC_entryOf at h
  repeat' split at h
  all_goals first | (cases h; assumption) | cases h
