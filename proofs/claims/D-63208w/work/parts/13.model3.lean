def f_Model_call_35 (MI : Nat → Nat → Int32) (ML : Nat → Nat → Int64) (any : Int32) : (Nat → Nat → Int32) × (Nat → Nat → Int64) :=
  if any = 0 then
    oc (f_Model_least MI ML 0) (
      (MI, ML))
      (fun y4 =>
      (up2 (up2 (up2 (up2 (up2 (up2 (up2 MI 21 y4 1) 28 (tn ((up2 MI 21 y4 1) 38 0)) 6) 29 (tn ((up2 MI 21 y4 1) 38 0)) (MI 16 y4)) 30 (tn ((up2 MI 21 y4 1) 38 0)) (MI 20 y4)) 31 (tn ((up2 MI 21 y4 1) 38 0)) 0) 32 (tn ((up2 MI 21 y4 1) 38 0)) 0) 38 0 (nI ((tn ((up2 MI 21 y4 1) 38 0)) + 1)), up2 (up2 ML 33 (tn ((up2 MI 21 y4 1) 38 0)) 0) 34 (tn ((up2 MI 21 y4 1) 38 0)) 0))
  else
    (MI, ML)
set_option maxHeartbeats 4000000 in
set_option maxRecDepth 100000 in
theorem g_Model_call_35 {p : Program} {l : Launch} {ev : Env} {s : State} {m : MethodId} {args : Array Value} {below : List Frame} {meth : Method} {c0 : Code} {D : va_G} {ac : Nat → ClassId} {o : Nat} {ad : Nat → Nat} {ws0 : va_W} {sz : Nat} {post : va_W → Prop} (X : Cx b_Model_call 3 R_Model D ac p m args c0 s) (hr : meth.sig.returnType = none) (hk : meth.locks = false) (MI : Nat → Nat → Int32) (ML : Nat → Nat → Int64) (any : Int32) (hm : MI 38 0 = nI (tn (MI 38 0))) (hm25 : tn (MI 38 0) < 25) {H : Heap} {locs : List Loc} {ls : Array Slot} (w : Wo D (va_A ws0 sz) (mws ac o ad MI ML) s.heap H locs) (hl : lv_has ls 3 [(0, .ref o), (1, .int any)]) (hp : post (mws ac o ad (f_Model_call_35 MI ML any).1 (f_Model_call_35 MI ML any).2)) : W p l ev ({ frames := 1, cells := 0, slots := 0, locals := 29 } : Room) s m args below meth c0 H locs 0 0 (MQ below (va_Qv post (CPost D ws0 sz) (va_A ws0 sz)) args s 0 0 (va_A ws0 sz)) (F0 m 35 ls []) := by
  have hx := X.1
  have hb := X.2.1
  refine lv_iload_n hx hb d_Model_call_35 rfl (lv_at hl 1 rfl) ?_
  refine lv_if_eq (tgt := 43) hx hb d_Model_call_36 (by decide) (fun h1 => ?_) (fun h1 => ?_)
  · skip
    refine lv_aload_n hx hb d_Model_call_43 rfl (lv_at hl 0 rfl) ?_
    refine lv_iconst (v := 0) hx hb d_Model_call_44 (by decide) ?_
    refine kcalli (ws0 := []) w (krunV (ws0 := []) (wc := mws ac o ad MI ML) (n := 1) (As := [.int 0]) (rest := []) (C := R_Model) X w (c_Model_least l D ac o ad MI ML _ 0) wk_Model_least wi_Model wm_Model_170 wx_Model_least ws_Model_Model_least (by decide +kernel) rfl rfl ⟨(Nat.le_of_ble_eq_true rfl), (Nat.le_of_ble_eq_true rfl)⟩ ⟨(Nat.le_of_ble_eq_true rfl), (Nat.le_of_ble_eq_true rfl)⟩ (mrecv X w) rfl hl.1 rfl (Nat.le_of_ble_eq_true rfl) d_Model_call_45) (fun r2 u H locs hp w => ?_)
    obtain ⟨rfl, rfl⟩ := hp
    have w : Wo D _ (mws ac o ad MI ML) s.heap H locs := w
    refine lv_istore_n (lv' := [(2, .int (oI (f_Model_least MI ML 0))), (0, .ref o), (1, .int any)]) hx hb d_Model_call_48 rfl hl (by decide) rfl (fun ls hl => ?_)
    cases ho3 : f_Model_least MI ML 0 with
    | none =>
      rw [ho3] at hl
      have hl : lv_has ls 3 [(2, .int (-1)), (0, .ref o), (1, .int any)] := hl
      refine lv_iload_n hx hb d_Model_call_49 rfl (lv_at hl 0 rfl) ?_
      refine lv_if_ge (tgt := 54) hx hb d_Model_call_50 (by decide) (fun h => absurd h (by decide)) (fun _ => ?_)
      have hF : f_Model_call_35 MI ML any = (MI, ML) := by unfold f_Model_call_35; rw [if_pos h1, ho3, oc_none]
      exact kvret (Qc := fun _ _ _ _ => True) X w hr hk (by rw [hF] at hp; exact hp) d_Model_call_53
    | some y4 =>
      rw [ho3] at hl
      have hl : lv_has ls 3 [(2, .int (nI y4)), (0, .ref o), (1, .int any)] := hl
      have hy4 : y4 < 6 := f_Model_least_lt ho3
      refine lv_iload_n hx hb d_Model_call_49 rfl (lv_at hl 0 rfl) ?_
      refine lv_if_ge (tgt := 54) hx hb d_Model_call_50 (by decide) (fun _ => ?_) (fun h => absurd (nI_pos' (by omega)) h)
      refine lv_aload_n hx hb d_Model_call_54 rfl (lv_at hl 1 rfl) ?_
      refine mg_75 X w d_Model_call_55 ?_
      refine lv_iload_n hx hb d_Model_call_58 rfl (lv_at hl 0 rfl) ?_
      refine lv_iconst (v := 1) hx hb d_Model_call_59 (by decide) ?_
      refine ast_21 X w y4 (by decide) (by omega) rfl d_Model_call_60 (fun H locs w => ?_)
      refine lv_aload_n hx hb d_Model_call_61 rfl (lv_at hl 1 rfl) ?_
      refine lv_bipush (v := 6) hx hb d_Model_call_62 (by decide) ?_
      refine lv_aload_n hx hb d_Model_call_64 rfl (lv_at hl 1 rfl) ?_
      refine mg_60 X w d_Model_call_65 ?_
      refine lv_iload_n hx hb d_Model_call_68 rfl (lv_at hl 0 rfl) ?_
      refine ald_16 X w y4 (v := MI 16 y4) (by omega) rfl rfl d_Model_call_69 ?_
      refine lv_aload_n hx hb d_Model_call_70 rfl (lv_at hl 1 rfl) ?_
      refine mg_72 X w d_Model_call_71 ?_
      refine lv_iload_n hx hb d_Model_call_74 rfl (lv_at hl 0 rfl) ?_
      refine ald_20 X w y4 (v := MI 20 y4) (by omega) rfl rfl d_Model_call_75 ?_
      refine lv_iconst (v := 0) hx hb d_Model_call_76 (by decide) ?_
      refine lv_iconst (v := 0) hx hb d_Model_call_77 (by decide) ?_
      refine lv_lconst (v := 0) hx hb d_Model_call_78 (by decide) ?_
      refine lv_lconst (v := 0) hx hb d_Model_call_79 (by decide) ?_
      refine kcallv (ws0 := []) w (krunV (ws0 := []) (wc := mws ac o ad (up2 MI 21 y4 1) ML) (n := 7) (As := [.int 6, .int (MI 16 y4), .int (MI 20 y4), .int 0, .int 0, .long 0, .long 0]) (rest := []) (C := R_Model) X w (c_Model_send l D ac o ad (up2 MI 21 y4 1) ML _ 6 (MI 16 y4) (MI 20 y4) 0 0 0 0 hm hm25 (by decide)) wk_Model_send wi_Model wm_Model_138 wx_Model_send ws_Model_Model_send (by decide +kernel) rfl rfl ⟨(Nat.le_of_ble_eq_true rfl), (Nat.le_of_ble_eq_true rfl)⟩ ⟨(Nat.le_of_ble_eq_true rfl), (Nat.le_of_ble_eq_true rfl)⟩ (mrecv X w) rfl hl.1 rfl (Nat.le_of_ble_eq_true rfl) d_Model_call_80) (fun u H locs hp w => ?_)
      obtain rfl := hp
      have w : Wo D _ (mws ac o ad (up2 (up2 (up2 (up2 (up2 (up2 (up2 MI 21 y4 1) 28 (tn ((up2 MI 21 y4 1) 38 0)) 6) 29 (tn ((up2 MI 21 y4 1) 38 0)) (MI 16 y4)) 30 (tn ((up2 MI 21 y4 1) 38 0)) (MI 20 y4)) 31 (tn ((up2 MI 21 y4 1) 38 0)) 0) 32 (tn ((up2 MI 21 y4 1) 38 0)) 0) 38 0 (nI ((tn ((up2 MI 21 y4 1) 38 0)) + 1))) (up2 (up2 ML 33 (tn ((up2 MI 21 y4 1) 38 0)) 0) 34 (tn ((up2 MI 21 y4 1) 38 0)) 0)) s.heap H locs := w
      have hF : f_Model_call_35 MI ML any = (up2 (up2 (up2 (up2 (up2 (up2 (up2 MI 21 y4 1) 28 (tn ((up2 MI 21 y4 1) 38 0)) 6) 29 (tn ((up2 MI 21 y4 1) 38 0)) (MI 16 y4)) 30 (tn ((up2 MI 21 y4 1) 38 0)) (MI 20 y4)) 31 (tn ((up2 MI 21 y4 1) 38 0)) 0) 32 (tn ((up2 MI 21 y4 1) 38 0)) 0) 38 0 (nI ((tn ((up2 MI 21 y4 1) 38 0)) + 1)), up2 (up2 ML 33 (tn ((up2 MI 21 y4 1) 38 0)) 0) 34 (tn ((up2 MI 21 y4 1) 38 0)) 0) := by unfold f_Model_call_35; rw [if_pos h1, ho3, oc_some]
      exact kvret (Qc := fun _ _ _ _ => True) X w hr hk (by rw [hF] at hp; exact hp) d_Model_call_83
  · skip
    refine lv_iconst (v := (-1)) hx hb d_Model_call_39 (by decide) ?_
    refine lv_goto (tgt := 48) hx hb d_Model_call_40 (by decide) ?_
    refine lv_istore_n (lv' := [(2, .int (-1)), (0, .ref o), (1, .int any)]) hx hb d_Model_call_48 rfl hl (by decide) rfl (fun ls hl => ?_)
    refine lv_iload_n hx hb d_Model_call_49 rfl (lv_at hl 0 rfl) ?_
    refine lv_if_ge (tgt := 54) hx hb d_Model_call_50 (by decide) (fun h => absurd h (by decide)) (fun _ => ?_)
    have hF : f_Model_call_35 MI ML any = (MI, ML) := by unfold f_Model_call_35; rw [if_neg h1]
    exact kvret (Qc := fun _ _ _ _ => True) X w hr hk (by rw [hF] at hp; exact hp) d_Model_call_53
def f_Model_call_4 : Nat → (Nat → Nat → Int32) → (Nat → Nat → Int64) → Int32 → Nat → (Nat → Nat → Int32) × (Nat → Nat → Int64)
  | 0, MI, ML, any, k =>
    f_Model_call_35 MI ML any
  | d + 1, MI, ML, any, k =>
    if any = 0 then
      if (MI 21 k) = 0 then
        f_Model_call_4 d MI ML 0 (k + 1)
      else
        f_Model_call_4 d MI ML 1 (k + 1)
    else
      f_Model_call_4 d MI ML 1 (k + 1)
theorem f_Model_call_4_z (MI : Nat → Nat → Int32) (ML : Nat → Nat → Int64) (any : Int32) (k : Nat) : f_Model_call_4 0 MI ML any k =
    f_Model_call_35 MI ML any := rfl
theorem f_Model_call_4_s (d : Nat) (MI : Nat → Nat → Int32) (ML : Nat → Nat → Int64) (any : Int32) (k : Nat) : f_Model_call_4 (d + 1) MI ML any k =
    if any = 0 then
      if (MI 21 k) = 0 then
        f_Model_call_4 d MI ML 0 (k + 1)
      else
        f_Model_call_4 d MI ML 1 (k + 1)
    else
      f_Model_call_4 d MI ML 1 (k + 1) := rfl
set_option maxHeartbeats 4000000 in
set_option maxRecDepth 100000 in
theorem g_Model_call_4 {p : Program} {l : Launch} {ev : Env} {s : State} {m : MethodId} {args : Array Value} {below : List Frame} {meth : Method} {c0 : Code} {D : va_G} {ac : Nat → ClassId} {o : Nat} {ad : Nat → Nat} {ws0 : va_W} {sz : Nat} {post : va_W → Prop} (X : Cx b_Model_call 3 R_Model D ac p m args c0 s) (hr : meth.sig.returnType = none) (hk : meth.locks = false) (d : Nat) : ∀ (MI : Nat → Nat → Int32) (ML : Nat → Nat → Int64) (any : Int32) (k : Nat) (hkd : k + d = 6) (hm : MI 38 0 = nI (tn (MI 38 0))) (hm25 : tn (MI 38 0) < 25) {H : Heap} {locs : List Loc} {ls : Array Slot} (_ : Wo D (va_A ws0 sz) (mws ac o ad MI ML) s.heap H locs) (_ : lv_has ls 3 [(0, .ref o), (1, .int any), (2, .int (nI k))]) (_ : post (mws ac o ad (f_Model_call_4 d MI ML any k).1 (f_Model_call_4 d MI ML any k).2)), W p l ev ({ frames := 1, cells := 0, slots := 0, locals := 29 } : Room) s m args below meth c0 H locs 0 0 (MQ below (va_Qv post (CPost D ws0 sz) (va_A ws0 sz)) args s 0 0 (va_A ws0 sz)) (F0 m 4 ls []) := by
  have hx := X.1
  have hb := X.2.1
  induction d with
  | zero =>
    intro MI ML any k hkd hm hm25 H locs ls w hl hp
    have hl : lv_has ls 3 [(0, .ref o), (1, .int any), (2, .int (nI k))] := hl
    refine lv_iload_n hx hb d_Model_call_4 rfl (lv_at hl 2 rfl) ?_
    refine lv_bipush (v := 6) hx hb d_Model_call_5 (by decide) ?_
    refine lv_icmp_ge (tgt := 35) hx hb d_Model_call_7 (by decide) (fun _ => ?_) (fun h => absurd (nI_le (a := 6) (b := k) (by omega) (by omega)) h)
    have hF : f_Model_call_4 0 MI ML any k = f_Model_call_35 MI ML any := by rw [f_Model_call_4_z]
    exact g_Model_call_35 X hr hk  MI ML any hm hm25 w (lv_sub hl [0, 1] rfl) (by rw [hF] at hp; exact hp)
  | succ d ih =>
    intro MI ML any k hkd hm hm25 H locs ls w hl hp
    have hl : lv_has ls 3 [(0, .ref o), (1, .int any), (2, .int (nI k))] := hl
    refine lv_iload_n hx hb d_Model_call_4 rfl (lv_at hl 2 rfl) ?_
    refine lv_bipush (v := 6) hx hb d_Model_call_5 (by decide) ?_
    refine lv_icmp_ge (tgt := 35) hx hb d_Model_call_7 (by decide) (fun h => absurd h (nI_ge (a := k) (b := 6) (by omega) (by omega))) (fun _ => ?_)
    refine lv_iload_n hx hb d_Model_call_10 rfl (lv_at hl 1 rfl) ?_
    refine lv_if_ne (tgt := 23) hx hb d_Model_call_11 (by decide) (fun h1 => ?_) (fun h1 => ?_)
    · skip
      refine lv_iconst (v := 1) hx hb d_Model_call_23 (by decide) ?_
      refine lv_goto (tgt := 28) hx hb d_Model_call_24 (by decide) ?_
      refine lv_istore_n (lv' := [(1, .int 1), (0, .ref o), (2, .int (nI k))]) hx hb d_Model_call_28 rfl hl (by decide) rfl (fun ls hl => ?_)
      refine lv_iinc (v := nI (k + 1)) (lv' := [(2, .int (nI (k + 1))), (1, .int 1), (0, .ref o)]) hx hb d_Model_call_29 hl (k := 2) rfl (by rw [show (nI k) = nI k from rfl]; exact nI_1 _) (by decide) rfl (fun ls hl => ?_)
      refine lv_goto (tgt := 4) hx hb d_Model_call_32 (by decide) ?_
      have hF : f_Model_call_4 (d + 1) MI ML any k = f_Model_call_4 d MI ML 1 (k + 1) := by rw [f_Model_call_4_s, if_neg h1]
      exact ih MI ML 1 (k + 1) (by omega) hm hm25 w (lv_sub hl [2, 1, 0] rfl) (by rw [hF] at hp; exact hp)
    · skip
      refine lv_aload_n hx hb d_Model_call_14 rfl (lv_at hl 0 rfl) ?_
      refine mg_75 X w d_Model_call_15 ?_
      refine lv_iload_n hx hb d_Model_call_18 rfl (lv_at hl 2 rfl) ?_
      refine ald_21 X w k (v := MI 21 k) (by omega) rfl rfl d_Model_call_19 ?_
      refine lv_if_eq (tgt := 27) hx hb d_Model_call_20 (by decide) (fun h2 => ?_) (fun h2 => ?_)
      · skip
        refine lv_iconst (v := 0) hx hb d_Model_call_27 (by decide) ?_
        refine lv_istore_n (lv' := [(1, .int 0), (0, .ref o), (2, .int (nI k))]) hx hb d_Model_call_28 rfl hl (by decide) rfl (fun ls hl => ?_)
        refine lv_iinc (v := nI (k + 1)) (lv' := [(2, .int (nI (k + 1))), (1, .int 0), (0, .ref o)]) hx hb d_Model_call_29 hl (k := 2) rfl (by rw [show (nI k) = nI k from rfl]; exact nI_1 _) (by decide) rfl (fun ls hl => ?_)
        refine lv_goto (tgt := 4) hx hb d_Model_call_32 (by decide) ?_
        have hF : f_Model_call_4 (d + 1) MI ML any k = f_Model_call_4 d MI ML 0 (k + 1) := by rw [f_Model_call_4_s, if_pos h1, if_pos h2]
        exact ih MI ML 0 (k + 1) (by omega) hm hm25 w (lv_sub hl [2, 1, 0] rfl) (by rw [hF] at hp; exact hp)
      · skip
        refine lv_iconst (v := 1) hx hb d_Model_call_23 (by decide) ?_
        refine lv_goto (tgt := 28) hx hb d_Model_call_24 (by decide) ?_
        refine lv_istore_n (lv' := [(1, .int 1), (0, .ref o), (2, .int (nI k))]) hx hb d_Model_call_28 rfl hl (by decide) rfl (fun ls hl => ?_)
        refine lv_iinc (v := nI (k + 1)) (lv' := [(2, .int (nI (k + 1))), (1, .int 1), (0, .ref o)]) hx hb d_Model_call_29 hl (k := 2) rfl (by rw [show (nI k) = nI k from rfl]; exact nI_1 _) (by decide) rfl (fun ls hl => ?_)
        refine lv_goto (tgt := 4) hx hb d_Model_call_32 (by decide) ?_
        have hF : f_Model_call_4 (d + 1) MI ML any k = f_Model_call_4 d MI ML 1 (k + 1) := by rw [f_Model_call_4_s, if_pos h1, if_neg h2]
        exact ih MI ML 1 (k + 1) (by omega) hm hm25 w (lv_sub hl [2, 1, 0] rfl) (by rw [hF] at hp; exact hp)
def f_Model_call (MI : Nat → Nat → Int32) (ML : Nat → Nat → Int64)  : (Nat → Nat → Int32) × (Nat → Nat → Int64) :=
  f_Model_call_4 6 MI ML 0 0
set_option maxHeartbeats 4000000 in
set_option maxRecDepth 100000 in
theorem c_Model_call (l : Launch) (D : va_G) (ac : Nat → ClassId) (o : Nat) (ad : Nat → Nat) (MI : Nat → Nat → Int32) (ML : Nat → Nat → Int64) (sz : Nat)  (hm : MI 38 0 = nI (tn (MI 38 0))) (hm25 : tn (MI 38 0) < 25) : Met l y_Model_call [Cond.code y_Model_call b_Model_call 3 none] { frames := 1, cells := 0, slots := 0, locals := 29 } (va_Pc [.ref o] (CPre D ac (mws ac o ad MI ML) sz)) (va_Qv (fun u => u = mws ac o ad (f_Model_call MI ML).1 (f_Model_call MI ML).2) (CPost D (mws ac o ad MI ML) sz) (va_A (mws ac o ad MI ML) sz)) 0 0 (va_A (mws ac o ad MI ML) sz) := by
  refine kofW (by decide) (Nat.le_of_ble_eq_true rfl) ?_
  intro p ev s m args below meth c0 ls X hr hk hnm hex hsz w hl
  have X : Cx b_Model_call 3 R_Model D ac p m args c0 s := X
  have hx := X.1
  have hb := X.2.1
  have hl : lv_has ls 3 [(0, .ref o)] := hl
  refine lv_iconst (v := 0) hx hb d_Model_call_0 (by decide) ?_
  refine lv_istore_n (lv' := [(1, .int 0), (0, .ref o)]) hx hb d_Model_call_1 rfl hl (by decide) rfl (fun ls hl => ?_)
  refine lv_iconst (v := 0) hx hb d_Model_call_2 (by decide) ?_
  refine lv_istore_n (lv' := [(2, .int 0), (1, .int 0), (0, .ref o)]) hx hb d_Model_call_3 rfl hl (by decide) rfl (fun ls hl => ?_)
  have hF : f_Model_call MI ML = f_Model_call_4 6 MI ML 0 0 := by rfl
  exact g_Model_call_4 X hr hk 6  MI ML 0 0 rfl hm hm25 w (lv_sub hl [2, 1, 0] rfl) (by rw [hF])
def f_Model_open_84 (MI : Nat → Nat → Int32) (ML : Nat → Nat → Int64) (li : Nat) (e : Nat) : Option Nat × (Nat → Nat → Int32) × (Nat → Nat → Int64) :=
  (some e, up2 (up2 (up2 (up2 (up2 MI 16 e (nI li)) 17 e (MI 27 li)) 20 e (-1)) 21 e 0) 22 e 0, up2 (up2 ML 18 e (ML 35 0)) 19 e (ML 35 0))
set_option maxHeartbeats 4000000 in
set_option maxRecDepth 100000 in
theorem g_Model_open_84 {p : Program} {l : Launch} {ev : Env} {s : State} {m : MethodId} {args : Array Value} {below : List Frame} {meth : Method} {c0 : Code} {D : va_G} {ac : Nat → ClassId} {o : Nat} {ad : Nat → Nat} {ws0 : va_W} {sz : Nat} {post : Int32 → va_W → Prop} (X : Cx b_Model_open 4 R_Model D ac p m args c0 s) (hr : meth.sig.returnType = (some .int)) (hk : meth.locks = false) (MI : Nat → Nat → Int32) (ML : Nat → Nat → Int64) (li : Nat) (e : Nat) (hli : li < 12) (he : e < 6) {H : Heap} {locs : List Loc} {ls : Array Slot} (w : Wo D (va_A ws0 sz) (mws ac o ad MI ML) s.heap H locs) (hl : lv_has ls 4 [(0, .ref o), (1, .int (nI li)), (2, .int (nI e))]) (hp : post (oI ((f_Model_open_84 MI ML li e).1)) (mws ac o ad (f_Model_open_84 MI ML li e).2.1 (f_Model_open_84 MI ML li e).2.2)) : W p l ev ({ frames := 1, cells := 0, slots := 0, locals := 24 } : Room) s m args below meth c0 H locs 0 0 (MQ below (va_Qi post (CPost D ws0 sz) (va_A ws0 sz)) args s 0 0 (va_A ws0 sz)) (F0 m 84 ls []) := by
  have hx := X.1
  have hb := X.2.1
  refine lv_aload_n hx hb d_Model_open_84 rfl (lv_at hl 0 rfl) ?_
  refine mg_60 X w d_Model_open_85 ?_
  refine lv_iload_n hx hb d_Model_open_88 rfl (lv_at hl 2 rfl) ?_
  refine lv_iload_n hx hb d_Model_open_89 rfl (lv_at hl 1 rfl) ?_
  refine ast_16 X w e (by omega) rfl d_Model_open_90 (fun H locs w => ?_)
  refine lv_aload_n hx hb d_Model_open_91 rfl (lv_at hl 0 rfl) ?_
  refine mg_63 X w d_Model_open_92 ?_
  refine lv_iload_n hx hb d_Model_open_95 rfl (lv_at hl 2 rfl) ?_
  refine lv_aload_n hx hb d_Model_open_96 rfl (lv_at hl 0 rfl) ?_
  refine mg_93 X w d_Model_open_97 ?_
  refine lv_iload_n hx hb d_Model_open_100 rfl (lv_at hl 1 rfl) ?_
  refine ald_27 X w li (v := MI 27 li) (by omega) rfl rfl d_Model_open_101 ?_
  refine ast_17 X w e (by omega) rfl d_Model_open_102 (fun H locs w => ?_)
  refine lv_aload_n hx hb d_Model_open_103 rfl (lv_at hl 0 rfl) ?_
  refine mg_66 X w d_Model_open_104 ?_
  refine lv_iload_n hx hb d_Model_open_107 rfl (lv_at hl 2 rfl) ?_
  refine lv_aload_n hx hb d_Model_open_108 rfl (lv_at hl 0 rfl) ?_
  refine mg_174 X w (v := ML 35 0) rfl d_Model_open_109 ?_
  refine ast_18 X w e (by omega) rfl d_Model_open_112 (fun H locs w => ?_)
  refine lv_aload_n hx hb d_Model_open_113 rfl (lv_at hl 0 rfl) ?_
  refine mg_69 X w d_Model_open_114 ?_
  refine lv_iload_n hx hb d_Model_open_117 rfl (lv_at hl 2 rfl) ?_
  refine lv_aload_n hx hb d_Model_open_118 rfl (lv_at hl 0 rfl) ?_
  refine mg_174 X w (v := ML 35 0) rfl d_Model_open_119 ?_
  refine ast_19 X w e (by omega) rfl d_Model_open_122 (fun H locs w => ?_)
  refine lv_aload_n hx hb d_Model_open_123 rfl (lv_at hl 0 rfl) ?_
  refine mg_72 X w d_Model_open_124 ?_
  refine lv_iload_n hx hb d_Model_open_127 rfl (lv_at hl 2 rfl) ?_
  refine lv_iconst (v := (-1)) hx hb d_Model_open_128 (by decide) ?_
  refine ast_20 X w e (by omega) rfl d_Model_open_129 (fun H locs w => ?_)
  refine lv_aload_n hx hb d_Model_open_130 rfl (lv_at hl 0 rfl) ?_
  refine mg_75 X w d_Model_open_131 ?_
  refine lv_iload_n hx hb d_Model_open_134 rfl (lv_at hl 2 rfl) ?_
  refine lv_iconst (v := 0) hx hb d_Model_open_135 (by decide) ?_
  refine ast_21 X w e (by decide) (by omega) rfl d_Model_open_136 (fun H locs w => ?_)
  refine lv_aload_n hx hb d_Model_open_137 rfl (lv_at hl 0 rfl) ?_
  refine mg_78 X w d_Model_open_138 ?_
  refine lv_iload_n hx hb d_Model_open_141 rfl (lv_at hl 2 rfl) ?_
  refine lv_iconst (v := 0) hx hb d_Model_open_142 (by decide) ?_
  refine ast_22 X w e (by omega) rfl d_Model_open_143 (fun H locs w => ?_)
  refine lv_iload_n hx hb d_Model_open_144 rfl (lv_at hl 2 rfl) ?_
  have hF : f_Model_open_84 MI ML li e = (some e, up2 (up2 (up2 (up2 (up2 MI 16 e (nI li)) 17 e (MI 27 li)) 20 e (-1)) 21 e 0) 22 e 0, up2 (up2 ML 18 e (ML 35 0)) 19 e (ML 35 0)) := by rfl
  exact kiret X w hr hk (by rw [hF] at hp; exact hp) d_Model_open_145
def f_Model_open_34 (MI : Nat → Nat → Int32) (ML : Nat → Nat → Int64) (li : Nat) (f : Option Nat) : Option Nat × (Nat → Nat → Int32) × (Nat → Nat → Int64) :=
  oc (f) (
    oc (f_Model_least MI ML 1) (
      (none, MI, ML))
      (fun y5 =>
      f_Model_open_84 (up2 MI 27 (tn (MI 16 y5)) (MI 17 y5)) (up2 ML 35 0 (f_Model_most (ML 35 0) (ML 19 y5))) li y5))
    (fun y2 =>
    f_Model_open_84 MI ML li y2)
set_option maxHeartbeats 4000000 in
set_option maxRecDepth 100000 in
theorem g_Model_open_34 {p : Program} {l : Launch} {ev : Env} {s : State} {m : MethodId} {args : Array Value} {below : List Frame} {meth : Method} {c0 : Code} {D : va_G} {ac : Nat → ClassId} {o : Nat} {ad : Nat → Nat} {ws0 : va_W} {sz : Nat} {post : Int32 → va_W → Prop} (X : Cx b_Model_open 4 R_Model D ac p m args c0 s) (hr : meth.sig.returnType = (some .int)) (hk : meth.locks = false) (MI : Nat → Nat → Int32) (ML : Nat → Nat → Int64) (li : Nat) (f : Option Nat) (hli : li < 12) (hf : ∀ j, f = some j → j < 6) (hv : f = none → ∀ k, k < 6 → MI 16 k = nI (tn (MI 16 k)) ∧ tn (MI 16 k) < 12) {H : Heap} {locs : List Loc} {ls : Array Slot} (w : Wo D (va_A ws0 sz) (mws ac o ad MI ML) s.heap H locs) (hl : lv_has ls 4 [(0, .ref o), (1, .int (nI li)), (2, .int (oI f))]) (hp : post (oI ((f_Model_open_34 MI ML li f).1)) (mws ac o ad (f_Model_open_34 MI ML li f).2.1 (f_Model_open_34 MI ML li f).2.2)) : W p l ev ({ frames := 1, cells := 0, slots := 0, locals := 24 } : Room) s m args below meth c0 H locs 0 0 (MQ below (va_Qi post (CPost D ws0 sz) (va_A ws0 sz)) args s 0 0 (va_A ws0 sz)) (F0 m 34 ls []) := by
  have hx := X.1
  have hb := X.2.1
  cases ho1 : f with
  | none =>
    rw [ho1] at hl
    have hl : lv_has ls 4 [(0, .ref o), (1, .int (nI li)), (2, .int (-1))] := hl
    refine lv_iload_n hx hb d_Model_open_34 rfl (lv_at hl 2 rfl) ?_
    refine lv_if_ge (tgt := 84) hx hb d_Model_open_35 (by decide) (fun h => absurd h (by decide)) (fun _ => ?_)
    refine lv_aload_n hx hb d_Model_open_38 rfl (lv_at hl 0 rfl) ?_
    refine lv_iconst (v := 1) hx hb d_Model_open_39 (by decide) ?_
    refine kcalli (ws0 := []) w (krunV (ws0 := []) (wc := mws ac o ad MI ML) (n := 1) (As := [.int 1]) (rest := []) (C := R_Model) X w (c_Model_least l D ac o ad MI ML _ 1) wk_Model_least wi_Model wm_Model_170 wx_Model_least ws_Model_Model_least (by decide +kernel) rfl rfl ⟨(Nat.le_of_ble_eq_true rfl), (Nat.le_of_ble_eq_true rfl)⟩ ⟨(Nat.le_of_ble_eq_true rfl), (Nat.le_of_ble_eq_true rfl)⟩ (mrecv X w) rfl hl.1 rfl (Nat.le_of_ble_eq_true rfl) d_Model_open_40) (fun r3 u H locs hp w => ?_)
    obtain ⟨rfl, rfl⟩ := hp
    have w : Wo D _ (mws ac o ad MI ML) s.heap H locs := w
    refine lv_istore_n (lv' := [(2, .int (oI (f_Model_least MI ML 1))), (0, .ref o), (1, .int (nI li))]) hx hb d_Model_open_43 rfl hl (by decide) rfl (fun ls hl => ?_)
    cases ho4 : f_Model_least MI ML 1 with
    | none =>
      rw [ho4] at hl
      have hl : lv_has ls 4 [(2, .int (-1)), (0, .ref o), (1, .int (nI li))] := hl
      refine lv_iload_n hx hb d_Model_open_44 rfl (lv_at hl 0 rfl) ?_
      refine lv_if_ge (tgt := 50) hx hb d_Model_open_45 (by decide) (fun h => absurd h (by decide)) (fun _ => ?_)
      refine lv_iconst (v := (-1)) hx hb d_Model_open_48 (by decide) ?_
      have hF : f_Model_open_34 MI ML li f = (none, MI, ML) := by unfold f_Model_open_34; rw [ho1, oc_none, ho4, oc_none]
      exact kiret X w hr hk (by rw [hF] at hp; exact hp) d_Model_open_49
    | some y5 =>
      rw [ho4] at hl
      have hl : lv_has ls 4 [(2, .int (nI y5)), (0, .ref o), (1, .int (nI li))] := hl
      have hy5 : y5 < 6 := f_Model_least_lt ho4
      refine lv_iload_n hx hb d_Model_open_44 rfl (lv_at hl 0 rfl) ?_
      refine lv_if_ge (tgt := 50) hx hb d_Model_open_45 (by decide) (fun _ => ?_) (fun h => absurd (nI_pos' (by omega)) h)
      have hle := hv ho1 y5 hy5
      refine lv_aload_n hx hb d_Model_open_50 rfl (lv_at hl 1 rfl) ?_
      refine mg_93 X w d_Model_open_51 ?_
      refine lv_aload_n hx hb d_Model_open_54 rfl (lv_at hl 1 rfl) ?_
      refine mg_60 X w d_Model_open_55 ?_
      refine lv_iload_n hx hb d_Model_open_58 rfl (lv_at hl 0 rfl) ?_
      refine ald_16 X w y5 (v := MI 16 y5) (by omega) rfl rfl d_Model_open_59 ?_
      refine lv_aload_n hx hb d_Model_open_60 rfl (lv_at hl 1 rfl) ?_
      refine mg_63 X w d_Model_open_61 ?_
      refine lv_iload_n hx hb d_Model_open_64 rfl (lv_at hl 0 rfl) ?_
      refine ald_17 X w y5 (v := MI 17 y5) (by omega) rfl rfl d_Model_open_65 ?_
      refine ast_27 X w (tn (MI 16 y5)) (by omega) hle.1 d_Model_open_66 (fun H locs w => ?_)
      refine lv_aload_n hx hb d_Model_open_67 rfl (lv_at hl 1 rfl) ?_
      refine lv_aload_n hx hb d_Model_open_68 rfl (lv_at hl 1 rfl) ?_
      refine mg_174 X w (v := ML 35 0) rfl d_Model_open_69 ?_
      refine lv_aload_n hx hb d_Model_open_72 rfl (lv_at hl 1 rfl) ?_
      refine mg_69 X w d_Model_open_73 ?_
      refine lv_iload_n hx hb d_Model_open_76 rfl (lv_at hl 0 rfl) ?_
      refine ald_19 X w y5 (v := ML 19 y5) (by omega) rfl rfl d_Model_open_77 ?_
      refine kcalll (ws0 := []) w (krunS (ws0 := []) (wc := mws ac o ad (up2 MI 27 (tn (MI 16 y5)) (MI 17 y5)) ML) (n := 2) (As := [.long (ML 35 0), .long (ML 19 y5)]) (rest := [.ref o]) X w (c_Model_most l D ac o ad (up2 MI 27 (tn (MI 16 y5)) (MI 17 y5)) ML _ (ML 35 0) (ML 19 y5)) wk_Model_most wi_Model wm_Model_142 wt_Model_most (by decide +kernel) rfl rfl ⟨(Nat.le_of_ble_eq_true rfl), (Nat.le_of_ble_eq_true rfl)⟩ ⟨(Nat.le_of_ble_eq_true rfl), (Nat.le_of_ble_eq_true rfl)⟩ rfl hl.1 rfl (Nat.le_of_ble_eq_true rfl) d_Model_open_78) (fun r6 u H locs hp w => ?_)
      obtain ⟨rfl, rfl⟩ := hp
      have w : Wo D _ (mws ac o ad (up2 MI 27 (tn (MI 16 y5)) (MI 17 y5)) ML) s.heap H locs := w
      refine mp_174 X w d_Model_open_81 (fun H locs w => ?_)
      have hF : f_Model_open_34 MI ML li f = f_Model_open_84 (up2 MI 27 (tn (MI 16 y5)) (MI 17 y5)) (up2 ML 35 0 (f_Model_most (ML 35 0) (ML 19 y5))) li y5 := by unfold f_Model_open_34; rw [ho1, oc_none, ho4, oc_some]
      exact g_Model_open_84 X hr hk  (up2 MI 27 (tn (MI 16 y5)) (MI 17 y5)) (up2 ML 35 0 (f_Model_most (ML 35 0) (ML 19 y5))) li y5 (by omega) (by omega) w (lv_sub hl [1, 2, 0] rfl) (by rw [hF] at hp; exact hp)
  | some y2 =>
    rw [ho1] at hl
    have hl : lv_has ls 4 [(0, .ref o), (1, .int (nI li)), (2, .int (nI y2))] := hl
    have hy2 : y2 < 6 := hf y2 ho1
    refine lv_iload_n hx hb d_Model_open_34 rfl (lv_at hl 2 rfl) ?_
    refine lv_if_ge (tgt := 84) hx hb d_Model_open_35 (by decide) (fun _ => ?_) (fun h => absurd (nI_pos' (by omega)) h)
    have hF : f_Model_open_34 MI ML li f = f_Model_open_84 MI ML li y2 := by unfold f_Model_open_34; rw [ho1, oc_some]
    exact g_Model_open_84 X hr hk  MI ML li y2 (by omega) (by omega) w (lv_sub hl [0, 1, 2] rfl) (by rw [hF] at hp; exact hp)
def f_Model_open_8 : Nat → (Nat → Nat → Int32) → (Nat → Nat → Int64) → Nat → Option Nat → Option Nat × (Nat → Nat → Int32) × (Nat → Nat → Int64)
  | 0, MI, ML, li, f =>
    f_Model_open_34 MI ML li f
  | d + 1, MI, ML, li, f =>
    if (MI 16 d) = (-1) then
      f_Model_open_8 d MI ML li (some d)
    else
      f_Model_open_8 d MI ML li f
theorem f_Model_open_8_z (MI : Nat → Nat → Int32) (ML : Nat → Nat → Int64) (li : Nat) (f : Option Nat) : f_Model_open_8 0 MI ML li f =
    f_Model_open_34 MI ML li f := rfl
theorem f_Model_open_8_s (d : Nat) (MI : Nat → Nat → Int32) (ML : Nat → Nat → Int64) (li : Nat) (f : Option Nat) : f_Model_open_8 (d + 1) MI ML li f =
    if (MI 16 d) = (-1) then
      f_Model_open_8 d MI ML li (some d)
    else
      f_Model_open_8 d MI ML li f := rfl
set_option maxHeartbeats 4000000 in
set_option maxRecDepth 100000 in
theorem g_Model_open_8 {p : Program} {l : Launch} {ev : Env} {s : State} {m : MethodId} {args : Array Value} {below : List Frame} {meth : Method} {c0 : Code} {D : va_G} {ac : Nat → ClassId} {o : Nat} {ad : Nat → Nat} {ws0 : va_W} {sz : Nat} {post : Int32 → va_W → Prop} (X : Cx b_Model_open 4 R_Model D ac p m args c0 s) (hr : meth.sig.returnType = (some .int)) (hk : meth.locks = false) (d : Nat) : ∀ (MI : Nat → Nat → Int32) (ML : Nat → Nat → Int64) (li : Nat) (f : Option Nat) (hli : li < 12) (hd6 : d ≤ 6) (hel : ∀ k, k < 6 → MI 16 k = -1 ∨ (MI 16 k = nI (tn (MI 16 k)) ∧ tn (MI 16 k) < 12)) (hf : ∀ j, f = some j → j < 6) (hv : f = none → ∀ k, d ≤ k → k < 6 → MI 16 k ≠ -1) {H : Heap} {locs : List Loc} {ls : Array Slot} (_ : Wo D (va_A ws0 sz) (mws ac o ad MI ML) s.heap H locs) (_ : lv_has ls 4 [(0, .ref o), (1, .int (nI li)), (2, .int (oI f)), (3, .int (kdn d))]) (_ : post (oI ((f_Model_open_8 d MI ML li f).1)) (mws ac o ad (f_Model_open_8 d MI ML li f).2.1 (f_Model_open_8 d MI ML li f).2.2)), W p l ev ({ frames := 1, cells := 0, slots := 0, locals := 24 } : Room) s m args below meth c0 H locs 0 0 (MQ below (va_Qi post (CPost D ws0 sz) (va_A ws0 sz)) args s 0 0 (va_A ws0 sz)) (F0 m 8 ls []) := by
  have hx := X.1
  have hb := X.2.1
  induction d with
  | zero =>
    intro MI ML li f hli hd6 hel hf hv H locs ls w hl hp
    have hl : lv_has ls 4 [(0, .ref o), (1, .int (nI li)), (2, .int (oI f)), (3, .int (-1))] := hl
    refine lv_iload_n hx hb d_Model_open_8 rfl (lv_at hl 3 rfl) ?_
    refine lv_if_lt (tgt := 34) hx hb d_Model_open_9 (by decide) (fun _ => ?_) (fun h => absurd h (by decide))
    have hF : f_Model_open_8 0 MI ML li f = f_Model_open_34 MI ML li f := by rw [f_Model_open_8_z]
    exact g_Model_open_34 X hr hk  MI ML li f hli hf (fun h k hk => (hel k hk).resolve_left (hv h k (Nat.zero_le _) hk)) w (lv_sub hl [0, 1, 2] rfl) (by rw [hF] at hp; exact hp)
  | succ d ih =>
    intro MI ML li f hli hd6 hel hf hv H locs ls w hl hp
    have hl : lv_has ls 4 [(0, .ref o), (1, .int (nI li)), (2, .int (oI f)), (3, .int (nI d))] := hl
    refine lv_iload_n hx hb d_Model_open_8 rfl (lv_at hl 3 rfl) ?_
    refine lv_if_lt (tgt := 34) hx hb d_Model_open_9 (by decide) (fun h => absurd h (nI_pos (by omega))) (fun _ => ?_)
    refine lv_aload_n hx hb d_Model_open_12 rfl (lv_at hl 0 rfl) ?_
    refine mg_60 X w d_Model_open_13 ?_
    refine lv_iload_n hx hb d_Model_open_16 rfl (lv_at hl 3 rfl) ?_
    refine ald_16 X w d (v := MI 16 d) (by omega) rfl rfl d_Model_open_17 ?_
    refine lv_iconst (v := (-1)) hx hb d_Model_open_18 (by decide) ?_
    refine lv_icmp_ne (tgt := 26) hx hb d_Model_open_19 (by decide) (fun h1 => ?_) (fun h1 => ?_)
    · skip
      refine lv_iload_n hx hb d_Model_open_26 rfl (lv_at hl 2 rfl) ?_
      refine lv_istore_n (lv' := [(2, .int (oI f)), (0, .ref o), (1, .int (nI li)), (3, .int (nI d))]) hx hb d_Model_open_27 rfl hl (by decide) rfl (fun ls hl => ?_)
      refine lv_iinc (v := kdn d) (lv' := [(3, .int (kdn d)), (2, .int (oI f)), (0, .ref o), (1, .int (nI li))]) hx hb d_Model_open_28 hl (k := 3) rfl (kdn_pred d) (by decide) rfl (fun ls hl => ?_)
      refine lv_goto (tgt := 8) hx hb d_Model_open_31 (by decide) ?_
      have hF : f_Model_open_8 (d + 1) MI ML li f = f_Model_open_8 d MI ML li f := by rw [f_Model_open_8_s, if_neg h1]
      exact ih MI ML li f hli (by omega) hel hf (fun h k h1 h2 => (Nat.lt_or_ge d k).elim (fun q => hv h k q h2) (fun q => by have e : k = d := (by omega); subst e; assumption)) w (lv_sub hl [2, 3, 1, 0] rfl) (by rw [hF] at hp; exact hp)
    · skip
      refine lv_iload_n hx hb d_Model_open_22 rfl (lv_at hl 3 rfl) ?_
      refine lv_goto (tgt := 27) hx hb d_Model_open_23 (by decide) ?_
      refine lv_istore_n (lv' := [(2, .int (nI d)), (0, .ref o), (1, .int (nI li)), (3, .int (nI d))]) hx hb d_Model_open_27 rfl hl (by decide) rfl (fun ls hl => ?_)
      refine lv_iinc (v := kdn d) (lv' := [(3, .int (kdn d)), (2, .int (nI d)), (0, .ref o), (1, .int (nI li))]) hx hb d_Model_open_28 hl (k := 3) rfl (kdn_pred d) (by decide) rfl (fun ls hl => ?_)
      refine lv_goto (tgt := 8) hx hb d_Model_open_31 (by decide) ?_
      have hF : f_Model_open_8 (d + 1) MI ML li f = f_Model_open_8 d MI ML li (some d) := by rw [f_Model_open_8_s, if_pos h1]
      exact ih MI ML li (some d) hli (by omega) hel (fun j h => by cases h; omega) (fun h => by cases h) w (lv_sub hl [2, 3, 1, 0] rfl) (by rw [hF] at hp; exact hp)
def f_Model_open (MI : Nat → Nat → Int32) (ML : Nat → Nat → Int64) (li : Nat) : Option Nat × (Nat → Nat → Int32) × (Nat → Nat → Int64) :=
  f_Model_open_8 6 MI ML li (f_Model_entryOf MI ML (-1))
set_option maxHeartbeats 4000000 in
set_option maxRecDepth 100000 in
theorem c_Model_open (l : Launch) (D : va_G) (ac : Nat → ClassId) (o : Nat) (ad : Nat → Nat) (MI : Nat → Nat → Int32) (ML : Nat → Nat → Int64) (sz : Nat) (li : Nat) (hli : li < 12) (hel : ∀ k, k < 6 → MI 16 k = -1 ∨ (MI 16 k = nI (tn (MI 16 k)) ∧ tn (MI 16 k) < 12)) : Met l y_Model_open [Cond.code y_Model_open b_Model_open 4 (some .int)] { frames := 1, cells := 0, slots := 0, locals := 24 } (va_Pc [.ref o, .int (nI li)] (CPre D ac (mws ac o ad MI ML) sz)) (va_Qi (fun r u => r = oI ((f_Model_open MI ML li).1) ∧ u = mws ac o ad (f_Model_open MI ML li).2.1 (f_Model_open MI ML li).2.2) (CPost D (mws ac o ad MI ML) sz) (va_A (mws ac o ad MI ML) sz)) 0 0 (va_A (mws ac o ad MI ML) sz) := by
  refine kofW (by decide) (Nat.le_of_ble_eq_true rfl) ?_
  intro p ev s m args below meth c0 ls X hr hk hnm hex hsz w hl
  have X : Cx b_Model_open 4 R_Model D ac p m args c0 s := X
  have hx := X.1
  have hb := X.2.1
  have hl : lv_has ls 4 [(0, .ref o), (1, .int (nI li))] := hl
  refine lv_aload_n hx hb d_Model_open_0 rfl (lv_at hl 0 rfl) ?_
  refine lv_iconst (v := (-1)) hx hb d_Model_open_1 (by decide) ?_
  refine kcalli (ws0 := []) w (krunV (ws0 := []) (wc := mws ac o ad MI ML) (n := 1) (As := [.int (-1)]) (rest := []) (C := R_Model) X w (c_Model_entryOf l D ac o ad MI ML _ (-1)) wk_Model_entryOf wi_Model wm_Model_167 wx_Model_entryOf ws_Model_Model_entryOf (by decide +kernel) rfl rfl ⟨(Nat.le_of_ble_eq_true rfl), (Nat.le_of_ble_eq_true rfl)⟩ ⟨(Nat.le_of_ble_eq_true rfl), (Nat.le_of_ble_eq_true rfl)⟩ (mrecv X w) rfl hl.1 rfl (Nat.le_of_ble_eq_true rfl) d_Model_open_2) (fun r1 u H locs hp w => ?_)
  obtain ⟨rfl, rfl⟩ := hp
  have w : Wo D _ (mws ac o ad MI ML) s.heap H locs := w
  refine lv_istore_n (lv' := [(2, .int (oI (f_Model_entryOf MI ML (-1)))), (0, .ref o), (1, .int (nI li))]) hx hb d_Model_open_5 rfl hl (by decide) rfl (fun ls hl => ?_)
  refine lv_iconst (v := 5) hx hb d_Model_open_6 (by decide) ?_
  refine lv_istore_n (lv' := [(3, .int 5), (2, .int (oI (f_Model_entryOf MI ML (-1)))), (0, .ref o), (1, .int (nI li))]) hx hb d_Model_open_7 rfl hl (by decide) rfl (fun ls hl => ?_)
  have hF : f_Model_open MI ML li = f_Model_open_8 6 MI ML li (f_Model_entryOf MI ML (-1)) := by rfl
  exact g_Model_open_8 X hr hk 6  MI ML li (f_Model_entryOf MI ML (-1)) hli (by omega) hel (fun j h => f_Model_entryOf_lt h) (fun _ k h1 h2 => absurd h1 (by omega)) w (lv_sub hl [2, 3, 1, 0] rfl) ⟨by rw [hF] <;> rfl, by rw [hF]⟩
theorem f_Model_open_lt {MI : Nat → Nat → Int32} {ML : Nat → Nat → Int64} {li j : Nat} (h : (f_Model_open MI ML li).1 = some j) : j < 6 := by
  have h84 : ∀ (MI : Nat → Nat → Int32) (ML : Nat → Nat → Int64) (e : Nat), (f_Model_open_84 MI ML li e).1 = some e := fun _ _ _ => rfl
  have h34 : ∀ (MI : Nat → Nat → Int32) (ML : Nat → Nat → Int64) (f : Option Nat), (∀ i, f = some i → i < 6) → (f_Model_open_34 MI ML li f).1 = some j → j < 6 := by
    intro MI ML f hf h
    unfold f_Model_open_34 at h
    cases f with
    | none =>
      simp only [oc_none] at h
      cases h2 : f_Model_least MI ML 1 with
      | none => rw [h2] at h; simp only [oc_none] at h; cases h
      | some y => rw [h2] at h; simp only [oc_some] at h; rw [h84] at h; cases h; exact f_Model_least_lt h2
    | some y => simp only [oc_some] at h; rw [h84] at h; cases h; exact hf _ rfl
  have h8 : ∀ (d : Nat) (f : Option Nat), d ≤ 6 → (∀ i, f = some i → i < 6) → (f_Model_open_8 d MI ML li f).1 = some j → j < 6 := by
    intro d
    induction d with
    | zero => intro f _ hf h; rw [f_Model_open_8_z] at h; exact h34 _ _ f hf h
    | succ d ih =>
      intro f hd hf h
      rw [f_Model_open_8_s] at h
      split at h
      · exact ih _ (by omega) (fun i hi => by cases hi; omega) h
      · exact ih _ (by omega) hf h
  unfold f_Model_open at h
  exact h8 6 _ (by omega) (fun i hi => f_Model_entryOf_lt hi) h
def f_Model_serves_204 (MI : Nat → Nat → Int32) (ML : Nat → Nat → Int64) (e : Nat) (ax : Nat) : Int32 × (Nat → Nat → Int32) × (Nat → Nat → Int64) :=
  (1, up2 (up2 (up2 (up2 (up2 MI 23 ax (MI 23 (ax + 1))) 24 ax (MI 24 (ax + 1))) 23 (ax + 1) (MI 23 (ax + 2))) 24 (ax + 1) (MI 24 (ax + 2))) 22 e ((MI 22 e) - 1), up2 (up2 (up2 (up2 ML 25 ax (ML 25 (ax + 1))) 26 ax (ML 26 (ax + 1))) 25 (ax + 1) (ML 25 (ax + 2))) 26 (ax + 1) (ML 26 (ax + 2)))
set_option maxHeartbeats 4000000 in
set_option maxRecDepth 100000 in
theorem g_Model_serves_204 {p : Program} {l : Launch} {ev : Env} {s : State} {m : MethodId} {args : Array Value} {below : List Frame} {meth : Method} {c0 : Code} {D : va_G} {ac : Nat → ClassId} {o : Nat} {ad : Nat → Nat} {ws0 : va_W} {sz : Nat} {post : Int32 → va_W → Prop} (X : Cx b_Model_serves 9 R_Model D ac p m args c0 s) (hr : meth.sig.returnType = (some .boolean)) (hk : meth.locks = false) (MI : Nat → Nat → Int32) (ML : Nat → Nat → Int64) (e : Nat) (ax : Nat) (he : e < 6) (hat : ax = 3 * e) {H : Heap} {locs : List Loc} {ls : Array Slot} (w : Wo D (va_A ws0 sz) (mws ac o ad MI ML) s.heap H locs) (hl : lv_has ls 9 [(0, .ref o), (1, .int (nI e)), (2, .int (nI ax))]) (hp : post ((f_Model_serves_204 MI ML e ax).1) (mws ac o ad (f_Model_serves_204 MI ML e ax).2.1 (f_Model_serves_204 MI ML e ax).2.2)) : W p l ev ({ frames := 1, cells := 0, slots := 0, locals := 29 } : Room) s m args below meth c0 H locs 0 0 (MQ below (va_Qi post (CPost D ws0 sz) (va_A ws0 sz)) args s 0 0 (va_A ws0 sz)) (F0 m 204 ls []) := by
  have hx := X.1
  have hb := X.2.1
  refine lv_iload_n hx hb d_Model_serves_204 rfl (lv_at hl 2 rfl) ?_
  refine lv_istore (lv' := [(8, .int (nI ax)), (0, .ref o), (1, .int (nI e)), (2, .int (nI ax))]) hx hb d_Model_serves_205 hl (by decide) rfl (fun ls hl => ?_)
  refine lv_iload hx hb d_Model_serves_207 (lv_at hl 0 rfl) ?_
  refine lv_iload_n hx hb d_Model_serves_209 rfl (lv_at hl 3 rfl) ?_
  refine lv_iconst (v := 2) hx hb d_Model_serves_210 (by decide) ?_
  refine kiadd (a := ax) (b := 2) (r := ax + 2) hx hb rfl rfl rfl d_Model_serves_211 ?_
  refine lv_icmp_ge (tgt := 285) hx hb d_Model_serves_212 (by decide) (fun h => absurd h (nI_ge (a := ax) (b := (ax + 2)) (by omega) (by omega))) (fun _ => ?_)
  refine lv_aload_n hx hb d_Model_serves_215 rfl (lv_at hl 1 rfl) ?_
  refine mg_81 X w d_Model_serves_216 ?_
  refine lv_iload hx hb d_Model_serves_219 (lv_at hl 0 rfl) ?_
  refine lv_aload_n hx hb d_Model_serves_221 rfl (lv_at hl 1 rfl) ?_
  refine mg_81 X w d_Model_serves_222 ?_
  refine lv_iload hx hb d_Model_serves_225 (lv_at hl 0 rfl) ?_
  refine lv_iconst (v := 1) hx hb d_Model_serves_227 (by decide) ?_
  refine kiadd (a := ax) (b := 1) (r := ax + 1) hx hb rfl rfl rfl d_Model_serves_228 ?_
  refine ald_23 X w (ax + 1) (v := MI 23 (ax + 1)) (by omega) rfl rfl d_Model_serves_229 ?_
  refine ast_23 X w ax (by omega) rfl d_Model_serves_230 (fun H locs w => ?_)
  refine lv_aload_n hx hb d_Model_serves_231 rfl (lv_at hl 1 rfl) ?_
  refine mg_84 X w d_Model_serves_232 ?_
  refine lv_iload hx hb d_Model_serves_235 (lv_at hl 0 rfl) ?_
  refine lv_aload_n hx hb d_Model_serves_237 rfl (lv_at hl 1 rfl) ?_
  refine mg_84 X w d_Model_serves_238 ?_
  refine lv_iload hx hb d_Model_serves_241 (lv_at hl 0 rfl) ?_
  refine lv_iconst (v := 1) hx hb d_Model_serves_243 (by decide) ?_
  refine kiadd (a := ax) (b := 1) (r := ax + 1) hx hb rfl rfl rfl d_Model_serves_244 ?_
  refine ald_24 X w (ax + 1) (v := MI 24 (ax + 1)) (by omega) rfl rfl d_Model_serves_245 ?_
  refine ast_24 X w ax (by omega) rfl d_Model_serves_246 (fun H locs w => ?_)
  refine lv_aload_n hx hb d_Model_serves_247 rfl (lv_at hl 1 rfl) ?_
  refine mg_87 X w d_Model_serves_248 ?_
  refine lv_iload hx hb d_Model_serves_251 (lv_at hl 0 rfl) ?_
  refine lv_aload_n hx hb d_Model_serves_253 rfl (lv_at hl 1 rfl) ?_
  refine mg_87 X w d_Model_serves_254 ?_
  refine lv_iload hx hb d_Model_serves_257 (lv_at hl 0 rfl) ?_
  refine lv_iconst (v := 1) hx hb d_Model_serves_259 (by decide) ?_
  refine kiadd (a := ax) (b := 1) (r := ax + 1) hx hb rfl rfl rfl d_Model_serves_260 ?_
  refine ald_25 X w (ax + 1) (v := ML 25 (ax + 1)) (by omega) rfl rfl d_Model_serves_261 ?_
  refine ast_25 X w ax (by omega) rfl d_Model_serves_262 (fun H locs w => ?_)
  refine lv_aload_n hx hb d_Model_serves_263 rfl (lv_at hl 1 rfl) ?_
  refine mg_90 X w d_Model_serves_264 ?_
  refine lv_iload hx hb d_Model_serves_267 (lv_at hl 0 rfl) ?_
  refine lv_aload_n hx hb d_Model_serves_269 rfl (lv_at hl 1 rfl) ?_
  refine mg_90 X w d_Model_serves_270 ?_
  refine lv_iload hx hb d_Model_serves_273 (lv_at hl 0 rfl) ?_
  refine lv_iconst (v := 1) hx hb d_Model_serves_275 (by decide) ?_
  refine kiadd (a := ax) (b := 1) (r := ax + 1) hx hb rfl rfl rfl d_Model_serves_276 ?_
  refine ald_26 X w (ax + 1) (v := ML 26 (ax + 1)) (by omega) rfl rfl d_Model_serves_277 ?_
  refine ast_26 X w ax (by omega) rfl d_Model_serves_278 (fun H locs w => ?_)
  refine lv_iinc (v := nI (ax + 1)) (lv' := [(8, .int (nI (ax + 1))), (0, .ref o), (1, .int (nI e)), (2, .int (nI ax))]) hx hb d_Model_serves_279 hl (k := 0) rfl (by rw [show (nI ax) = nI ax from rfl]; exact nI_1 _) (by decide) rfl (fun ls hl => ?_)
  refine lv_goto (tgt := 207) hx hb d_Model_serves_282 (by decide) ?_
  refine lv_iload hx hb d_Model_serves_207 (lv_at hl 0 rfl) ?_
  refine lv_iload_n hx hb d_Model_serves_209 rfl (lv_at hl 3 rfl) ?_
  refine lv_iconst (v := 2) hx hb d_Model_serves_210 (by decide) ?_
  refine kiadd (a := ax) (b := 2) (r := ax + 2) hx hb rfl rfl rfl d_Model_serves_211 ?_
  refine lv_icmp_ge (tgt := 285) hx hb d_Model_serves_212 (by decide) (fun h => absurd h (nI_ge (a := (ax + 1)) (b := (ax + 2)) (by omega) (by omega))) (fun _ => ?_)
  refine lv_aload_n hx hb d_Model_serves_215 rfl (lv_at hl 1 rfl) ?_
  refine mg_81 X w d_Model_serves_216 ?_
  refine lv_iload hx hb d_Model_serves_219 (lv_at hl 0 rfl) ?_
  refine lv_aload_n hx hb d_Model_serves_221 rfl (lv_at hl 1 rfl) ?_
  refine mg_81 X w d_Model_serves_222 ?_
  refine lv_iload hx hb d_Model_serves_225 (lv_at hl 0 rfl) ?_
  refine lv_iconst (v := 1) hx hb d_Model_serves_227 (by decide) ?_
  refine kiadd (a := ax + 1) (b := 1) (r := ax + 2) hx hb rfl rfl rfl d_Model_serves_228 ?_
  refine ald_23 X w (ax + 2) (v := MI 23 (ax + 2)) (by omega) rfl (by simp [up2] <;> omega) d_Model_serves_229 ?_
  refine ast_23 X w (ax + 1) (by omega) rfl d_Model_serves_230 (fun H locs w => ?_)
  refine lv_aload_n hx hb d_Model_serves_231 rfl (lv_at hl 1 rfl) ?_
  refine mg_84 X w d_Model_serves_232 ?_
  refine lv_iload hx hb d_Model_serves_235 (lv_at hl 0 rfl) ?_
  refine lv_aload_n hx hb d_Model_serves_237 rfl (lv_at hl 1 rfl) ?_
  refine mg_84 X w d_Model_serves_238 ?_
  refine lv_iload hx hb d_Model_serves_241 (lv_at hl 0 rfl) ?_
  refine lv_iconst (v := 1) hx hb d_Model_serves_243 (by decide) ?_
  refine kiadd (a := ax + 1) (b := 1) (r := ax + 2) hx hb rfl rfl rfl d_Model_serves_244 ?_
  refine ald_24 X w (ax + 2) (v := MI 24 (ax + 2)) (by omega) rfl (by simp [up2] <;> omega) d_Model_serves_245 ?_
  refine ast_24 X w (ax + 1) (by omega) rfl d_Model_serves_246 (fun H locs w => ?_)
  refine lv_aload_n hx hb d_Model_serves_247 rfl (lv_at hl 1 rfl) ?_
  refine mg_87 X w d_Model_serves_248 ?_
  refine lv_iload hx hb d_Model_serves_251 (lv_at hl 0 rfl) ?_
  refine lv_aload_n hx hb d_Model_serves_253 rfl (lv_at hl 1 rfl) ?_
  refine mg_87 X w d_Model_serves_254 ?_
  refine lv_iload hx hb d_Model_serves_257 (lv_at hl 0 rfl) ?_
  refine lv_iconst (v := 1) hx hb d_Model_serves_259 (by decide) ?_
  refine kiadd (a := ax + 1) (b := 1) (r := ax + 2) hx hb rfl rfl rfl d_Model_serves_260 ?_
  refine ald_25 X w (ax + 2) (v := ML 25 (ax + 2)) (by omega) rfl (by simp [up2] <;> omega) d_Model_serves_261 ?_
  refine ast_25 X w (ax + 1) (by omega) rfl d_Model_serves_262 (fun H locs w => ?_)
  refine lv_aload_n hx hb d_Model_serves_263 rfl (lv_at hl 1 rfl) ?_
  refine mg_90 X w d_Model_serves_264 ?_
  refine lv_iload hx hb d_Model_serves_267 (lv_at hl 0 rfl) ?_
  refine lv_aload_n hx hb d_Model_serves_269 rfl (lv_at hl 1 rfl) ?_
  refine mg_90 X w d_Model_serves_270 ?_
  refine lv_iload hx hb d_Model_serves_273 (lv_at hl 0 rfl) ?_
  refine lv_iconst (v := 1) hx hb d_Model_serves_275 (by decide) ?_
  refine kiadd (a := ax + 1) (b := 1) (r := ax + 2) hx hb rfl rfl rfl d_Model_serves_276 ?_
  refine ald_26 X w (ax + 2) (v := ML 26 (ax + 2)) (by omega) rfl (by simp [up2] <;> omega) d_Model_serves_277 ?_
  refine ast_26 X w (ax + 1) (by omega) rfl d_Model_serves_278 (fun H locs w => ?_)
  refine lv_iinc (v := nI (ax + 2)) (lv' := [(8, .int (nI (ax + 2))), (0, .ref o), (1, .int (nI e)), (2, .int (nI ax))]) hx hb d_Model_serves_279 hl (k := 0) rfl (by rw [show (nI (ax + 1)) = nI (ax + 1) from rfl]; exact nI_1 _) (by decide) rfl (fun ls hl => ?_)
  refine lv_goto (tgt := 207) hx hb d_Model_serves_282 (by decide) ?_
  refine lv_iload hx hb d_Model_serves_207 (lv_at hl 0 rfl) ?_
  refine lv_iload_n hx hb d_Model_serves_209 rfl (lv_at hl 3 rfl) ?_
  refine lv_iconst (v := 2) hx hb d_Model_serves_210 (by decide) ?_
  refine kiadd (a := ax) (b := 2) (r := ax + 2) hx hb rfl rfl rfl d_Model_serves_211 ?_
  refine lv_icmp_ge (tgt := 285) hx hb d_Model_serves_212 (by decide) (fun _ => ?_) (fun h => absurd (nI_le (a := (ax + 2)) (b := (ax + 2)) (by omega) (by omega)) h)
  refine lv_aload_n hx hb d_Model_serves_285 rfl (lv_at hl 1 rfl) ?_
  refine mg_78 X w d_Model_serves_286 ?_
  refine lv_iload_n hx hb d_Model_serves_289 rfl (lv_at hl 2 rfl) ?_
  refine lv_dup2_11 hx hb d_Model_serves_290 rfl rfl ?_
  refine ald_22 X w e (v := MI 22 e) (by omega) rfl rfl d_Model_serves_291 ?_
  refine lv_iconst (v := 1) hx hb d_Model_serves_292 (by decide) ?_
  refine lv_isub hx hb d_Model_serves_293 ?_
  refine ast_22 X w e (by omega) rfl d_Model_serves_294 (fun H locs w => ?_)
  refine lv_iconst (v := 1) hx hb d_Model_serves_295 (by decide) ?_
  have hF : f_Model_serves_204 MI ML e ax = (1, up2 (up2 (up2 (up2 (up2 MI 23 ax (MI 23 (ax + 1))) 24 ax (MI 24 (ax + 1))) 23 (ax + 1) (MI 23 (ax + 2))) 24 (ax + 1) (MI 24 (ax + 2))) 22 e ((MI 22 e) - 1), up2 (up2 (up2 (up2 ML 25 ax (ML 25 (ax + 1))) 26 ax (ML 26 (ax + 1))) 25 (ax + 1) (ML 25 (ax + 2))) 26 (ax + 1) (ML 26 (ax + 2))) := by rfl
  exact kzret X w hr hk (by decide) (by rw [hF] at hp; exact hp) d_Model_serves_296
def f_Model_serves_141 (MI : Nat → Nat → Int32) (ML : Nat → Nat → Int64) (e : Nat) (ax : Nat) (co : Int32) : Int32 × (Nat → Nat → Int32) × (Nat → Nat → Int64) :=
  if (ML 26 ax) = (ML 18 e) then
    f_Model_serves_204 (up2 (up2 (up2 (up2 (up2 (up2 MI 28 (tn (MI 38 0)) 4) 29 (tn (MI 38 0)) (MI 16 e)) 30 (tn (MI 38 0)) co) 31 (tn (MI 38 0)) 0) 32 (tn (MI 38 0)) (MI 17 e)) 38 0 (nI ((tn (MI 38 0)) + 1))) (up2 (up2 ML 33 (tn (MI 38 0)) (ML 19 e)) 34 (tn (MI 38 0)) (ML 18 e)) e ax
  else
    f_Model_serves_204 (up2 (up2 (up2 (up2 (up2 (up2 MI 28 (tn (MI 38 0)) 3) 29 (tn (MI 38 0)) (MI 16 e)) 30 (tn (MI 38 0)) co) 31 (tn (MI 38 0)) 0) 32 (tn (MI 38 0)) (MI 17 e)) 38 0 (nI ((tn (MI 38 0)) + 1))) (up2 (up2 ML 33 (tn (MI 38 0)) (ML 19 e)) 34 (tn (MI 38 0)) (ML 18 e)) e ax
set_option maxHeartbeats 4000000 in
set_option maxRecDepth 100000 in
theorem g_Model_serves_141 {p : Program} {l : Launch} {ev : Env} {s : State} {m : MethodId} {args : Array Value} {below : List Frame} {meth : Method} {c0 : Code} {D : va_G} {ac : Nat → ClassId} {o : Nat} {ad : Nat → Nat} {ws0 : va_W} {sz : Nat} {post : Int32 → va_W → Prop} (X : Cx b_Model_serves 9 R_Model D ac p m args c0 s) (hr : meth.sig.returnType = (some .boolean)) (hk : meth.locks = false) (MI : Nat → Nat → Int32) (ML : Nat → Nat → Int64) (e : Nat) (ax : Nat) (co : Int32) (he : e < 6) (hat : ax = 3 * e) (hm : MI 38 0 = nI (tn (MI 38 0))) (hm25 : tn (MI 38 0) < 25) {H : Heap} {locs : List Loc} {ls : Array Slot} (w : Wo D (va_A ws0 sz) (mws ac o ad MI ML) s.heap H locs) (hl : lv_has ls 9 [(0, .ref o), (1, .int (nI e)), (2, .int (nI ax)), (3, .int co)]) (hp : post ((f_Model_serves_141 MI ML e ax co).1) (mws ac o ad (f_Model_serves_141 MI ML e ax co).2.1 (f_Model_serves_141 MI ML e ax co).2.2)) : W p l ev ({ frames := 1, cells := 0, slots := 0, locals := 29 } : Room) s m args below meth c0 H locs 0 0 (MQ below (va_Qi post (CPost D ws0 sz) (va_A ws0 sz)) args s 0 0 (va_A ws0 sz)) (F0 m 141 ls []) := by
  have hx := X.1
  have hb := X.2.1
  refine lv_aload_n hx hb d_Model_serves_141 rfl (lv_at hl 0 rfl) ?_
  refine mg_90 X w d_Model_serves_142 ?_
  refine lv_iload_n hx hb d_Model_serves_145 rfl (lv_at hl 2 rfl) ?_
  refine ald_26 X w ax (v := ML 26 ax) (by omega) rfl rfl d_Model_serves_146 ?_
  refine lv_aload_n hx hb d_Model_serves_147 rfl (lv_at hl 0 rfl) ?_
  refine mg_66 X w d_Model_serves_148 ?_
  refine lv_iload_n hx hb d_Model_serves_151 rfl (lv_at hl 1 rfl) ?_
  refine ald_18 X w e (v := ML 18 e) (by omega) rfl rfl d_Model_serves_152 ?_
  refine klc_ne (tgt := 161) hx hb d_Model_serves_153 d_Model_serves_154 (by decide) (fun h1 => ?_) (fun h1 => ?_)
  · skip
    refine lv_iconst (v := 0) hx hb d_Model_serves_161 (by decide) ?_
    refine lv_istore (lv' := [(7, .int 0), (0, .ref o), (1, .int (nI e)), (2, .int (nI ax)), (3, .int co)]) hx hb d_Model_serves_162 hl (by decide) rfl (fun ls hl => ?_)
    refine lv_aload_n hx hb d_Model_serves_164 rfl (lv_at hl 1 rfl) ?_
    refine lv_iload hx hb d_Model_serves_165 (lv_at hl 0 rfl) ?_
    refine lv_if_eq (tgt := 174) hx hb d_Model_serves_167 (by decide) (fun _ => ?_) (fun h => absurd h (by decide))
    refine lv_iconst (v := 3) hx hb d_Model_serves_174 (by decide) ?_
    refine lv_aload_n hx hb d_Model_serves_175 rfl (lv_at hl 1 rfl) ?_
    refine mg_60 X w d_Model_serves_176 ?_
    refine lv_iload_n hx hb d_Model_serves_179 rfl (lv_at hl 2 rfl) ?_
    refine ald_16 X w e (v := MI 16 e) (by omega) rfl rfl d_Model_serves_180 ?_
    refine lv_iload_n hx hb d_Model_serves_181 rfl (lv_at hl 4 rfl) ?_
    refine lv_iconst (v := 0) hx hb d_Model_serves_182 (by decide) ?_
    refine lv_aload_n hx hb d_Model_serves_183 rfl (lv_at hl 1 rfl) ?_
    refine mg_63 X w d_Model_serves_184 ?_
    refine lv_iload_n hx hb d_Model_serves_187 rfl (lv_at hl 2 rfl) ?_
    refine ald_17 X w e (v := MI 17 e) (by omega) rfl rfl d_Model_serves_188 ?_
    refine lv_aload_n hx hb d_Model_serves_189 rfl (lv_at hl 1 rfl) ?_
    refine mg_69 X w d_Model_serves_190 ?_
    refine lv_iload_n hx hb d_Model_serves_193 rfl (lv_at hl 2 rfl) ?_
    refine ald_19 X w e (v := ML 19 e) (by omega) rfl rfl d_Model_serves_194 ?_
    refine lv_aload_n hx hb d_Model_serves_195 rfl (lv_at hl 1 rfl) ?_
    refine mg_66 X w d_Model_serves_196 ?_
    refine lv_iload_n hx hb d_Model_serves_199 rfl (lv_at hl 2 rfl) ?_
    refine ald_18 X w e (v := ML 18 e) (by omega) rfl rfl d_Model_serves_200 ?_
    refine kcallv (ws0 := []) w (krunV (ws0 := []) (wc := mws ac o ad MI ML) (n := 7) (As := [.int 3, .int (MI 16 e), .int co, .int 0, .int (MI 17 e), .long (ML 19 e), .long (ML 18 e)]) (rest := []) (C := R_Model) X w (c_Model_send l D ac o ad MI ML _ 3 (MI 16 e) co 0 (MI 17 e) (ML 19 e) (ML 18 e) hm hm25 (by decide)) wk_Model_send wi_Model wm_Model_138 wx_Model_send ws_Model_Model_send (by decide +kernel) rfl rfl ⟨(Nat.le_of_ble_eq_true rfl), (Nat.le_of_ble_eq_true rfl)⟩ ⟨(Nat.le_of_ble_eq_true rfl), (Nat.le_of_ble_eq_true rfl)⟩ (mrecv X w) rfl hl.1 rfl (Nat.le_of_ble_eq_true rfl) d_Model_serves_201) (fun u H locs hp w => ?_)
    obtain rfl := hp
    have w : Wo D _ (mws ac o ad (up2 (up2 (up2 (up2 (up2 (up2 MI 28 (tn (MI 38 0)) 3) 29 (tn (MI 38 0)) (MI 16 e)) 30 (tn (MI 38 0)) co) 31 (tn (MI 38 0)) 0) 32 (tn (MI 38 0)) (MI 17 e)) 38 0 (nI ((tn (MI 38 0)) + 1))) (up2 (up2 ML 33 (tn (MI 38 0)) (ML 19 e)) 34 (tn (MI 38 0)) (ML 18 e))) s.heap H locs := w
    have hF : f_Model_serves_141 MI ML e ax co = f_Model_serves_204 (up2 (up2 (up2 (up2 (up2 (up2 MI 28 (tn (MI 38 0)) 3) 29 (tn (MI 38 0)) (MI 16 e)) 30 (tn (MI 38 0)) co) 31 (tn (MI 38 0)) 0) 32 (tn (MI 38 0)) (MI 17 e)) 38 0 (nI ((tn (MI 38 0)) + 1))) (up2 (up2 ML 33 (tn (MI 38 0)) (ML 19 e)) 34 (tn (MI 38 0)) (ML 18 e)) e ax := by unfold f_Model_serves_141; rw [if_neg h1]
    exact g_Model_serves_204 X hr hk  (up2 (up2 (up2 (up2 (up2 (up2 MI 28 (tn (MI 38 0)) 3) 29 (tn (MI 38 0)) (MI 16 e)) 30 (tn (MI 38 0)) co) 31 (tn (MI 38 0)) 0) 32 (tn (MI 38 0)) (MI 17 e)) 38 0 (nI ((tn (MI 38 0)) + 1))) (up2 (up2 ML 33 (tn (MI 38 0)) (ML 19 e)) 34 (tn (MI 38 0)) (ML 18 e)) e ax he (by omega) w (lv_sub hl [1, 2, 3] rfl) (by rw [hF] at hp; exact hp)
  · skip
    refine lv_iconst (v := 1) hx hb d_Model_serves_157 (by decide) ?_
    refine lv_goto (tgt := 162) hx hb d_Model_serves_158 (by decide) ?_
    refine lv_istore (lv' := [(7, .int 1), (0, .ref o), (1, .int (nI e)), (2, .int (nI ax)), (3, .int co)]) hx hb d_Model_serves_162 hl (by decide) rfl (fun ls hl => ?_)
    refine lv_aload_n hx hb d_Model_serves_164 rfl (lv_at hl 1 rfl) ?_
    refine lv_iload hx hb d_Model_serves_165 (lv_at hl 0 rfl) ?_
    refine lv_if_eq (tgt := 174) hx hb d_Model_serves_167 (by decide) (fun h => absurd h (by decide)) (fun _ => ?_)
    refine lv_iconst (v := 4) hx hb d_Model_serves_170 (by decide) ?_
    refine lv_goto (tgt := 175) hx hb d_Model_serves_171 (by decide) ?_
    refine lv_aload_n hx hb d_Model_serves_175 rfl (lv_at hl 1 rfl) ?_
    refine mg_60 X w d_Model_serves_176 ?_
    refine lv_iload_n hx hb d_Model_serves_179 rfl (lv_at hl 2 rfl) ?_
    refine ald_16 X w e (v := MI 16 e) (by omega) rfl rfl d_Model_serves_180 ?_
    refine lv_iload_n hx hb d_Model_serves_181 rfl (lv_at hl 4 rfl) ?_
    refine lv_iconst (v := 0) hx hb d_Model_serves_182 (by decide) ?_
    refine lv_aload_n hx hb d_Model_serves_183 rfl (lv_at hl 1 rfl) ?_
    refine mg_63 X w d_Model_serves_184 ?_
    refine lv_iload_n hx hb d_Model_serves_187 rfl (lv_at hl 2 rfl) ?_
    refine ald_17 X w e (v := MI 17 e) (by omega) rfl rfl d_Model_serves_188 ?_
    refine lv_aload_n hx hb d_Model_serves_189 rfl (lv_at hl 1 rfl) ?_
    refine mg_69 X w d_Model_serves_190 ?_
    refine lv_iload_n hx hb d_Model_serves_193 rfl (lv_at hl 2 rfl) ?_
    refine ald_19 X w e (v := ML 19 e) (by omega) rfl rfl d_Model_serves_194 ?_
    refine lv_aload_n hx hb d_Model_serves_195 rfl (lv_at hl 1 rfl) ?_
    refine mg_66 X w d_Model_serves_196 ?_
    refine lv_iload_n hx hb d_Model_serves_199 rfl (lv_at hl 2 rfl) ?_
    refine ald_18 X w e (v := ML 18 e) (by omega) rfl rfl d_Model_serves_200 ?_
    refine kcallv (ws0 := []) w (krunV (ws0 := []) (wc := mws ac o ad MI ML) (n := 7) (As := [.int 4, .int (MI 16 e), .int co, .int 0, .int (MI 17 e), .long (ML 19 e), .long (ML 18 e)]) (rest := []) (C := R_Model) X w (c_Model_send l D ac o ad MI ML _ 4 (MI 16 e) co 0 (MI 17 e) (ML 19 e) (ML 18 e) hm hm25 (by decide)) wk_Model_send wi_Model wm_Model_138 wx_Model_send ws_Model_Model_send (by decide +kernel) rfl rfl ⟨(Nat.le_of_ble_eq_true rfl), (Nat.le_of_ble_eq_true rfl)⟩ ⟨(Nat.le_of_ble_eq_true rfl), (Nat.le_of_ble_eq_true rfl)⟩ (mrecv X w) rfl hl.1 rfl (Nat.le_of_ble_eq_true rfl) d_Model_serves_201) (fun u H locs hp w => ?_)
    obtain rfl := hp
    have w : Wo D _ (mws ac o ad (up2 (up2 (up2 (up2 (up2 (up2 MI 28 (tn (MI 38 0)) 4) 29 (tn (MI 38 0)) (MI 16 e)) 30 (tn (MI 38 0)) co) 31 (tn (MI 38 0)) 0) 32 (tn (MI 38 0)) (MI 17 e)) 38 0 (nI ((tn (MI 38 0)) + 1))) (up2 (up2 ML 33 (tn (MI 38 0)) (ML 19 e)) 34 (tn (MI 38 0)) (ML 18 e))) s.heap H locs := w
    have hF : f_Model_serves_141 MI ML e ax co = f_Model_serves_204 (up2 (up2 (up2 (up2 (up2 (up2 MI 28 (tn (MI 38 0)) 4) 29 (tn (MI 38 0)) (MI 16 e)) 30 (tn (MI 38 0)) co) 31 (tn (MI 38 0)) 0) 32 (tn (MI 38 0)) (MI 17 e)) 38 0 (nI ((tn (MI 38 0)) + 1))) (up2 (up2 ML 33 (tn (MI 38 0)) (ML 19 e)) 34 (tn (MI 38 0)) (ML 18 e)) e ax := by unfold f_Model_serves_141; rw [if_pos h1]
    exact g_Model_serves_204 X hr hk  (up2 (up2 (up2 (up2 (up2 (up2 MI 28 (tn (MI 38 0)) 4) 29 (tn (MI 38 0)) (MI 16 e)) 30 (tn (MI 38 0)) co) 31 (tn (MI 38 0)) 0) 32 (tn (MI 38 0)) (MI 17 e)) 38 0 (nI ((tn (MI 38 0)) + 1))) (up2 (up2 ML 33 (tn (MI 38 0)) (ML 19 e)) 34 (tn (MI 38 0)) (ML 18 e)) e ax he (by omega) w (lv_sub hl [1, 2, 3] rfl) (by rw [hF] at hp; exact hp)
def f_Model_serves (MI : Nat → Nat → Int32) (ML : Nat → Nat → Int64) (e : Nat) : Int32 × (Nat → Nat → Int32) × (Nat → Nat → Int64) :=
  if (MI 24 (3 * e)) = 1 then
    if (MI 20 e) < 0 then
      f_Model_serves_141 MI (up2 ML 19 e (f_Model_most (ML 19 e) (f_Model_most ((ML 18 e) + ((MI 36 0).toInt64)) ((ML 25 (3 * e)) + ((MI 36 0).toInt64))))) e (3 * e) (MI 23 (3 * e))
    else
      if (MI 21 e) = 0 then
        (0, up2 (up2 (up2 (up2 (up2 (up2 MI 28 (tn (MI 38 0)) 5) 29 (tn (MI 38 0)) (MI 16 e)) 30 (tn (MI 38 0)) (MI 20 e)) 31 (tn (MI 38 0)) 0) 32 (tn (MI 38 0)) 0) 38 0 (nI ((tn (MI 38 0)) + 1)), up2 (up2 ML 33 (tn (MI 38 0)) ((ML 25 (3 * e)) + ((MI 36 0).toInt64))) 34 (tn (MI 38 0)) 0)
      else
        (0, MI, ML)
  else
    if (MI 20 e) < 0 then
      f_Model_serves_141 (up2 MI 20 e (MI 23 (3 * e))) ML e (3 * e) (MI 23 (3 * e))
    else
      if (MI 21 e) = 0 then
        (0, up2 (up2 (up2 (up2 (up2 (up2 MI 28 (tn (MI 38 0)) 6) 29 (tn (MI 38 0)) (MI 16 e)) 30 (tn (MI 38 0)) (MI 20 e)) 31 (tn (MI 38 0)) 0) 32 (tn (MI 38 0)) 0) 38 0 (nI ((tn (MI 38 0)) + 1)), up2 (up2 ML 33 (tn (MI 38 0)) ((ML 25 (3 * e)) + ((MI 36 0).toInt64))) 34 (tn (MI 38 0)) 0)
      else
        (0, MI, ML)
set_option maxHeartbeats 4000000 in
set_option maxRecDepth 100000 in
theorem c_Model_serves (l : Launch) (D : va_G) (ac : Nat → ClassId) (o : Nat) (ad : Nat → Nat) (MI : Nat → Nat → Int32) (ML : Nat → Nat → Int64) (sz : Nat) (e : Nat) (he : e < 6) (hm : MI 38 0 = nI (tn (MI 38 0))) (hm25 : tn (MI 38 0) < 25) : Met l y_Model_serves [Cond.code y_Model_serves b_Model_serves 9 (some .boolean)] { frames := 1, cells := 0, slots := 0, locals := 29 } (va_Pc [.ref o, .int (nI e)] (CPre D ac (mws ac o ad MI ML) sz)) (va_Qi (fun r u => r = (f_Model_serves MI ML e).1 ∧ u = mws ac o ad (f_Model_serves MI ML e).2.1 (f_Model_serves MI ML e).2.2) (CPost D (mws ac o ad MI ML) sz) (va_A (mws ac o ad MI ML) sz)) 0 0 (va_A (mws ac o ad MI ML) sz) := by
  refine kofW (by decide) (Nat.le_of_ble_eq_true rfl) ?_
  intro p ev s m args below meth c0 ls X hr hk hnm hex hsz w hl
  have X : Cx b_Model_serves 9 R_Model D ac p m args c0 s := X
  have hx := X.1
  have hb := X.2.1
  have hl : lv_has ls 9 [(0, .ref o), (1, .int (nI e))] := hl
  refine lv_iconst (v := 3) hx hb d_Model_serves_0 (by decide) ?_
  refine lv_iload_n hx hb d_Model_serves_1 rfl (lv_at hl 1 rfl) ?_
  refine kimul (a := 3) (b := e) (r := 3 * e) hx hb rfl rfl rfl d_Model_serves_2 ?_
  refine lv_istore_n (lv' := [(2, .int (nI (3 * e))), (0, .ref o), (1, .int (nI e))]) hx hb d_Model_serves_3 rfl hl (by decide) rfl (fun ls hl => ?_)
  refine lv_aload_n hx hb d_Model_serves_4 rfl (lv_at hl 1 rfl) ?_
  refine mg_81 X w d_Model_serves_5 ?_
  refine lv_iload_n hx hb d_Model_serves_8 rfl (lv_at hl 0 rfl) ?_
  refine ald_23 X w (3 * e) (v := MI 23 (3 * e)) (by omega) rfl rfl d_Model_serves_9 ?_
  refine lv_istore_n (lv' := [(3, .int (MI 23 (3 * e))), (2, .int (nI (3 * e))), (0, .ref o), (1, .int (nI e))]) hx hb d_Model_serves_10 rfl hl (by decide) rfl (fun ls hl => ?_)
  refine lv_aload_n hx hb d_Model_serves_11 rfl (lv_at hl 2 rfl) ?_
  refine mg_84 X w d_Model_serves_12 ?_
  refine lv_iload_n hx hb d_Model_serves_15 rfl (lv_at hl 1 rfl) ?_
  refine ald_24 X w (3 * e) (v := MI 24 (3 * e)) (by omega) rfl rfl d_Model_serves_16 ?_
  refine lv_iconst (v := 1) hx hb d_Model_serves_17 (by decide) ?_
  refine lv_icmp_ne (tgt := 25) hx hb d_Model_serves_18 (by decide) (fun h1 => ?_) (fun h1 => ?_)
  · skip
    refine lv_iconst (v := 0) hx hb d_Model_serves_25 (by decide) ?_
    refine lv_istore (lv' := [(4, .int 0), (3, .int (MI 23 (3 * e))), (2, .int (nI (3 * e))), (0, .ref o), (1, .int (nI e))]) hx hb d_Model_serves_26 hl (by decide) rfl (fun ls hl => ?_)
    refine lv_aload_n hx hb d_Model_serves_28 rfl (lv_at hl 3 rfl) ?_
    refine mg_87 X w d_Model_serves_29 ?_
    refine lv_iload_n hx hb d_Model_serves_32 rfl (lv_at hl 2 rfl) ?_
    refine ald_25 X w (3 * e) (v := ML 25 (3 * e)) (by omega) rfl rfl d_Model_serves_33 ?_
    refine lv_aload_n hx hb d_Model_serves_34 rfl (lv_at hl 3 rfl) ?_
    refine mg_117 X w (v := MI 36 0) rfl d_Model_serves_35 ?_
    refine lv_i2l (v := (MI 36 0).toInt64) hx hb d_Model_serves_38 (rfl) ?_
    refine lv_ladd hx hb d_Model_serves_39 ?_
    refine lv_lstore (lv' := [(5, .long ((ML 25 (3 * e)) + ((MI 36 0).toInt64))), (4, .int 0), (3, .int (MI 23 (3 * e))), (2, .int (nI (3 * e))), (0, .ref o), (1, .int (nI e))]) hx hb d_Model_serves_40 hl (by decide) rfl (fun ls hl => ?_)
    refine lv_aload_n hx hb d_Model_serves_42 rfl (lv_at hl 4 rfl) ?_
    refine mg_72 X w d_Model_serves_43 ?_
    refine lv_iload_n hx hb d_Model_serves_46 rfl (lv_at hl 5 rfl) ?_
    refine ald_20 X w e (v := MI 20 e) (by omega) rfl rfl d_Model_serves_47 ?_
    refine lv_if_lt (tgt := 94) hx hb d_Model_serves_48 (by decide) (fun h2 => ?_) (fun h2 => ?_)
    · skip
      refine lv_iload hx hb d_Model_serves_94 (lv_at hl 1 rfl) ?_
      refine lv_if_eq (tgt := 134) hx hb d_Model_serves_96 (by decide) (fun _ => ?_) (fun h => absurd h (by decide))
      refine lv_aload_n hx hb d_Model_serves_134 rfl (lv_at hl 4 rfl) ?_
      refine mg_72 X w d_Model_serves_135 ?_
      refine lv_iload_n hx hb d_Model_serves_138 rfl (lv_at hl 5 rfl) ?_
      refine lv_iload_n hx hb d_Model_serves_139 rfl (lv_at hl 2 rfl) ?_
      refine ast_20 X w e (by omega) rfl d_Model_serves_140 (fun H locs w => ?_)
      have hF : f_Model_serves MI ML e = f_Model_serves_141 (up2 MI 20 e (MI 23 (3 * e))) ML e (3 * e) (MI 23 (3 * e)) := by unfold f_Model_serves; rw [if_neg h1, if_pos h2]
      exact g_Model_serves_141 X hr hk  (up2 MI 20 e (MI 23 (3 * e))) ML e (3 * e) (MI 23 (3 * e)) he (by omega) hm hm25 w (lv_sub hl [4, 5, 3, 2] rfl) ⟨by rw [hF], by rw [hF]⟩
    · skip
      refine lv_aload_n hx hb d_Model_serves_51 rfl (lv_at hl 4 rfl) ?_
      refine mg_75 X w d_Model_serves_52 ?_
      refine lv_iload_n hx hb d_Model_serves_55 rfl (lv_at hl 5 rfl) ?_
      refine ald_21 X w e (v := MI 21 e) (by omega) rfl rfl d_Model_serves_56 ?_
      refine lv_if_ne (tgt := 92) hx hb d_Model_serves_57 (by decide) (fun h3 => ?_) (fun h3 => ?_)
      · skip
        refine lv_iconst (v := 0) hx hb d_Model_serves_92 (by decide) ?_
        have hF : f_Model_serves MI ML e = (0, MI, ML) := by unfold f_Model_serves; rw [if_neg h1, if_neg h2, if_neg h3]
        exact kzret X w hr hk (by decide) ⟨by rw [hF], by rw [hF]⟩ d_Model_serves_93
      · skip
        refine lv_aload_n hx hb d_Model_serves_60 rfl (lv_at hl 4 rfl) ?_
        refine lv_iload hx hb d_Model_serves_61 (lv_at hl 1 rfl) ?_
        refine lv_if_eq (tgt := 70) hx hb d_Model_serves_63 (by decide) (fun _ => ?_) (fun h => absurd h (by decide))
        refine lv_bipush (v := 6) hx hb d_Model_serves_70 (by decide) ?_
        refine lv_aload_n hx hb d_Model_serves_72 rfl (lv_at hl 4 rfl) ?_
        refine mg_60 X w d_Model_serves_73 ?_
        refine lv_iload_n hx hb d_Model_serves_76 rfl (lv_at hl 5 rfl) ?_
        refine ald_16 X w e (v := MI 16 e) (by omega) rfl rfl d_Model_serves_77 ?_
        refine lv_aload_n hx hb d_Model_serves_78 rfl (lv_at hl 4 rfl) ?_
        refine mg_72 X w d_Model_serves_79 ?_
        refine lv_iload_n hx hb d_Model_serves_82 rfl (lv_at hl 5 rfl) ?_
        refine ald_20 X w e (v := MI 20 e) (by omega) rfl rfl d_Model_serves_83 ?_
        refine lv_iconst (v := 0) hx hb d_Model_serves_84 (by decide) ?_
        refine lv_iconst (v := 0) hx hb d_Model_serves_85 (by decide) ?_
        refine lv_lload hx hb d_Model_serves_86 (lv_at hl 0 rfl) ?_
        refine lv_lconst (v := 0) hx hb d_Model_serves_88 (by decide) ?_
        refine kcallv (ws0 := []) w (krunV (ws0 := []) (wc := mws ac o ad MI ML) (n := 7) (As := [.int 6, .int (MI 16 e), .int (MI 20 e), .int 0, .int 0, .long ((ML 25 (3 * e)) + ((MI 36 0).toInt64)), .long 0]) (rest := []) (C := R_Model) X w (c_Model_send l D ac o ad MI ML _ 6 (MI 16 e) (MI 20 e) 0 0 ((ML 25 (3 * e)) + ((MI 36 0).toInt64)) 0 hm hm25 (by decide)) wk_Model_send wi_Model wm_Model_138 wx_Model_send ws_Model_Model_send (by decide +kernel) rfl rfl ⟨(Nat.le_of_ble_eq_true rfl), (Nat.le_of_ble_eq_true rfl)⟩ ⟨(Nat.le_of_ble_eq_true rfl), (Nat.le_of_ble_eq_true rfl)⟩ (mrecv X w) rfl hl.1 rfl (Nat.le_of_ble_eq_true rfl) d_Model_serves_89) (fun u H locs hp w => ?_)
        obtain rfl := hp
        have w : Wo D _ (mws ac o ad (up2 (up2 (up2 (up2 (up2 (up2 MI 28 (tn (MI 38 0)) 6) 29 (tn (MI 38 0)) (MI 16 e)) 30 (tn (MI 38 0)) (MI 20 e)) 31 (tn (MI 38 0)) 0) 32 (tn (MI 38 0)) 0) 38 0 (nI ((tn (MI 38 0)) + 1))) (up2 (up2 ML 33 (tn (MI 38 0)) ((ML 25 (3 * e)) + ((MI 36 0).toInt64))) 34 (tn (MI 38 0)) 0)) s.heap H locs := w
        refine lv_iconst (v := 0) hx hb d_Model_serves_92 (by decide) ?_
        have hF : f_Model_serves MI ML e = (0, up2 (up2 (up2 (up2 (up2 (up2 MI 28 (tn (MI 38 0)) 6) 29 (tn (MI 38 0)) (MI 16 e)) 30 (tn (MI 38 0)) (MI 20 e)) 31 (tn (MI 38 0)) 0) 32 (tn (MI 38 0)) 0) 38 0 (nI ((tn (MI 38 0)) + 1)), up2 (up2 ML 33 (tn (MI 38 0)) ((ML 25 (3 * e)) + ((MI 36 0).toInt64))) 34 (tn (MI 38 0)) 0) := by unfold f_Model_serves; rw [if_neg h1, if_neg h2, if_pos h3]
        exact kzret X w hr hk (by decide) ⟨by rw [hF], by rw [hF]⟩ d_Model_serves_93
  · skip
    refine lv_iconst (v := 1) hx hb d_Model_serves_21 (by decide) ?_
    refine lv_goto (tgt := 26) hx hb d_Model_serves_22 (by decide) ?_
    refine lv_istore (lv' := [(4, .int 1), (3, .int (MI 23 (3 * e))), (2, .int (nI (3 * e))), (0, .ref o), (1, .int (nI e))]) hx hb d_Model_serves_26 hl (by decide) rfl (fun ls hl => ?_)
    refine lv_aload_n hx hb d_Model_serves_28 rfl (lv_at hl 3 rfl) ?_
    refine mg_87 X w d_Model_serves_29 ?_
    refine lv_iload_n hx hb d_Model_serves_32 rfl (lv_at hl 2 rfl) ?_
    refine ald_25 X w (3 * e) (v := ML 25 (3 * e)) (by omega) rfl rfl d_Model_serves_33 ?_
    refine lv_aload_n hx hb d_Model_serves_34 rfl (lv_at hl 3 rfl) ?_
    refine mg_117 X w (v := MI 36 0) rfl d_Model_serves_35 ?_
    refine lv_i2l (v := (MI 36 0).toInt64) hx hb d_Model_serves_38 (rfl) ?_
    refine lv_ladd hx hb d_Model_serves_39 ?_
    refine lv_lstore (lv' := [(5, .long ((ML 25 (3 * e)) + ((MI 36 0).toInt64))), (4, .int 1), (3, .int (MI 23 (3 * e))), (2, .int (nI (3 * e))), (0, .ref o), (1, .int (nI e))]) hx hb d_Model_serves_40 hl (by decide) rfl (fun ls hl => ?_)
    refine lv_aload_n hx hb d_Model_serves_42 rfl (lv_at hl 4 rfl) ?_
    refine mg_72 X w d_Model_serves_43 ?_
    refine lv_iload_n hx hb d_Model_serves_46 rfl (lv_at hl 5 rfl) ?_
    refine ald_20 X w e (v := MI 20 e) (by omega) rfl rfl d_Model_serves_47 ?_
    refine lv_if_lt (tgt := 94) hx hb d_Model_serves_48 (by decide) (fun h4 => ?_) (fun h4 => ?_)
    · skip
      refine lv_iload hx hb d_Model_serves_94 (lv_at hl 1 rfl) ?_
      refine lv_if_eq (tgt := 134) hx hb d_Model_serves_96 (by decide) (fun h => absurd h (by decide)) (fun _ => ?_)
      refine lv_aload_n hx hb d_Model_serves_99 rfl (lv_at hl 4 rfl) ?_
      refine mg_69 X w d_Model_serves_100 ?_
      refine lv_iload_n hx hb d_Model_serves_103 rfl (lv_at hl 5 rfl) ?_
      refine lv_aload_n hx hb d_Model_serves_104 rfl (lv_at hl 4 rfl) ?_
      refine mg_69 X w d_Model_serves_105 ?_
      refine lv_iload_n hx hb d_Model_serves_108 rfl (lv_at hl 5 rfl) ?_
      refine ald_19 X w e (v := ML 19 e) (by omega) rfl rfl d_Model_serves_109 ?_
      refine lv_aload_n hx hb d_Model_serves_110 rfl (lv_at hl 4 rfl) ?_
      refine mg_66 X w d_Model_serves_111 ?_
      refine lv_iload_n hx hb d_Model_serves_114 rfl (lv_at hl 5 rfl) ?_
      refine ald_18 X w e (v := ML 18 e) (by omega) rfl rfl d_Model_serves_115 ?_
      refine lv_aload_n hx hb d_Model_serves_116 rfl (lv_at hl 4 rfl) ?_
      refine mg_117 X w (v := MI 36 0) rfl d_Model_serves_117 ?_
      refine lv_i2l (v := (MI 36 0).toInt64) hx hb d_Model_serves_120 (rfl) ?_
      refine lv_ladd hx hb d_Model_serves_121 ?_
      refine lv_lload hx hb d_Model_serves_122 (lv_at hl 0 rfl) ?_
      refine kcalll (ws0 := []) w (krunS (ws0 := []) (wc := mws ac o ad MI ML) (n := 2) (As := [.long ((ML 18 e) + ((MI 36 0).toInt64)), .long ((ML 25 (3 * e)) + ((MI 36 0).toInt64))]) (rest := [.long (ML 19 e), .int (nI e), .ref (ad 19)]) X w (c_Model_most l D ac o ad MI ML _ ((ML 18 e) + ((MI 36 0).toInt64)) ((ML 25 (3 * e)) + ((MI 36 0).toInt64))) wk_Model_most wi_Model wm_Model_142 wt_Model_most (by decide +kernel) rfl rfl ⟨(Nat.le_of_ble_eq_true rfl), (Nat.le_of_ble_eq_true rfl)⟩ ⟨(Nat.le_of_ble_eq_true rfl), (Nat.le_of_ble_eq_true rfl)⟩ rfl hl.1 rfl (Nat.le_of_ble_eq_true rfl) d_Model_serves_124) (fun r5 u H locs hp w => ?_)
      obtain ⟨rfl, rfl⟩ := hp
      have w : Wo D _ (mws ac o ad MI ML) s.heap H locs := w
      refine kcalll (ws0 := []) w (krunS (ws0 := []) (wc := mws ac o ad MI ML) (n := 2) (As := [.long (ML 19 e), .long (f_Model_most ((ML 18 e) + ((MI 36 0).toInt64)) ((ML 25 (3 * e)) + ((MI 36 0).toInt64)))]) (rest := [.int (nI e), .ref (ad 19)]) X w (c_Model_most l D ac o ad MI ML _ (ML 19 e) (f_Model_most ((ML 18 e) + ((MI 36 0).toInt64)) ((ML 25 (3 * e)) + ((MI 36 0).toInt64)))) wk_Model_most wi_Model wm_Model_142 wt_Model_most (by decide +kernel) rfl rfl ⟨(Nat.le_of_ble_eq_true rfl), (Nat.le_of_ble_eq_true rfl)⟩ ⟨(Nat.le_of_ble_eq_true rfl), (Nat.le_of_ble_eq_true rfl)⟩ rfl hl.1 rfl (Nat.le_of_ble_eq_true rfl) d_Model_serves_127) (fun r6 u H locs hp w => ?_)
      obtain ⟨rfl, rfl⟩ := hp
      have w : Wo D _ (mws ac o ad MI ML) s.heap H locs := w
      refine ast_19 X w e (by omega) rfl d_Model_serves_130 (fun H locs w => ?_)
      refine lv_goto (tgt := 141) hx hb d_Model_serves_131 (by decide) ?_
      have hF : f_Model_serves MI ML e = f_Model_serves_141 MI (up2 ML 19 e (f_Model_most (ML 19 e) (f_Model_most ((ML 18 e) + ((MI 36 0).toInt64)) ((ML 25 (3 * e)) + ((MI 36 0).toInt64))))) e (3 * e) (MI 23 (3 * e)) := by unfold f_Model_serves; rw [if_pos h1, if_pos h4]
      exact g_Model_serves_141 X hr hk  MI (up2 ML 19 e (f_Model_most (ML 19 e) (f_Model_most ((ML 18 e) + ((MI 36 0).toInt64)) ((ML 25 (3 * e)) + ((MI 36 0).toInt64))))) e (3 * e) (MI 23 (3 * e)) he (by omega) hm hm25 w (lv_sub hl [4, 5, 3, 2] rfl) ⟨by rw [hF], by rw [hF]⟩
    · skip
      refine lv_aload_n hx hb d_Model_serves_51 rfl (lv_at hl 4 rfl) ?_
      refine mg_75 X w d_Model_serves_52 ?_
      refine lv_iload_n hx hb d_Model_serves_55 rfl (lv_at hl 5 rfl) ?_
      refine ald_21 X w e (v := MI 21 e) (by omega) rfl rfl d_Model_serves_56 ?_
      refine lv_if_ne (tgt := 92) hx hb d_Model_serves_57 (by decide) (fun h7 => ?_) (fun h7 => ?_)
      · skip
        refine lv_iconst (v := 0) hx hb d_Model_serves_92 (by decide) ?_
        have hF : f_Model_serves MI ML e = (0, MI, ML) := by unfold f_Model_serves; rw [if_pos h1, if_neg h4, if_neg h7]
        exact kzret X w hr hk (by decide) ⟨by rw [hF], by rw [hF]⟩ d_Model_serves_93
      · skip
        refine lv_aload_n hx hb d_Model_serves_60 rfl (lv_at hl 4 rfl) ?_
        refine lv_iload hx hb d_Model_serves_61 (lv_at hl 1 rfl) ?_
        refine lv_if_eq (tgt := 70) hx hb d_Model_serves_63 (by decide) (fun h => absurd h (by decide)) (fun _ => ?_)
        refine lv_iconst (v := 5) hx hb d_Model_serves_66 (by decide) ?_
        refine lv_goto (tgt := 72) hx hb d_Model_serves_67 (by decide) ?_
        refine lv_aload_n hx hb d_Model_serves_72 rfl (lv_at hl 4 rfl) ?_
        refine mg_60 X w d_Model_serves_73 ?_
        refine lv_iload_n hx hb d_Model_serves_76 rfl (lv_at hl 5 rfl) ?_
        refine ald_16 X w e (v := MI 16 e) (by omega) rfl rfl d_Model_serves_77 ?_
        refine lv_aload_n hx hb d_Model_serves_78 rfl (lv_at hl 4 rfl) ?_
        refine mg_72 X w d_Model_serves_79 ?_
        refine lv_iload_n hx hb d_Model_serves_82 rfl (lv_at hl 5 rfl) ?_
        refine ald_20 X w e (v := MI 20 e) (by omega) rfl rfl d_Model_serves_83 ?_
        refine lv_iconst (v := 0) hx hb d_Model_serves_84 (by decide) ?_
        refine lv_iconst (v := 0) hx hb d_Model_serves_85 (by decide) ?_
        refine lv_lload hx hb d_Model_serves_86 (lv_at hl 0 rfl) ?_
        refine lv_lconst (v := 0) hx hb d_Model_serves_88 (by decide) ?_
        refine kcallv (ws0 := []) w (krunV (ws0 := []) (wc := mws ac o ad MI ML) (n := 7) (As := [.int 5, .int (MI 16 e), .int (MI 20 e), .int 0, .int 0, .long ((ML 25 (3 * e)) + ((MI 36 0).toInt64)), .long 0]) (rest := []) (C := R_Model) X w (c_Model_send l D ac o ad MI ML _ 5 (MI 16 e) (MI 20 e) 0 0 ((ML 25 (3 * e)) + ((MI 36 0).toInt64)) 0 hm hm25 (by decide)) wk_Model_send wi_Model wm_Model_138 wx_Model_send ws_Model_Model_send (by decide +kernel) rfl rfl ⟨(Nat.le_of_ble_eq_true rfl), (Nat.le_of_ble_eq_true rfl)⟩ ⟨(Nat.le_of_ble_eq_true rfl), (Nat.le_of_ble_eq_true rfl)⟩ (mrecv X w) rfl hl.1 rfl (Nat.le_of_ble_eq_true rfl) d_Model_serves_89) (fun u H locs hp w => ?_)
        obtain rfl := hp
        have w : Wo D _ (mws ac o ad (up2 (up2 (up2 (up2 (up2 (up2 MI 28 (tn (MI 38 0)) 5) 29 (tn (MI 38 0)) (MI 16 e)) 30 (tn (MI 38 0)) (MI 20 e)) 31 (tn (MI 38 0)) 0) 32 (tn (MI 38 0)) 0) 38 0 (nI ((tn (MI 38 0)) + 1))) (up2 (up2 ML 33 (tn (MI 38 0)) ((ML 25 (3 * e)) + ((MI 36 0).toInt64))) 34 (tn (MI 38 0)) 0)) s.heap H locs := w
        refine lv_iconst (v := 0) hx hb d_Model_serves_92 (by decide) ?_
        have hF : f_Model_serves MI ML e = (0, up2 (up2 (up2 (up2 (up2 (up2 MI 28 (tn (MI 38 0)) 5) 29 (tn (MI 38 0)) (MI 16 e)) 30 (tn (MI 38 0)) (MI 20 e)) 31 (tn (MI 38 0)) 0) 32 (tn (MI 38 0)) 0) 38 0 (nI ((tn (MI 38 0)) + 1)), up2 (up2 ML 33 (tn (MI 38 0)) ((ML 25 (3 * e)) + ((MI 36 0).toInt64))) 34 (tn (MI 38 0)) 0) := by unfold f_Model_serves; rw [if_pos h1, if_neg h4, if_pos h7]
        exact kzret X w hr hk (by decide) ⟨by rw [hF], by rw [hF]⟩ d_Model_serves_93
def f_Model_room_75 (MI : Nat → Nat → Int32) (ML : Nat → Nat → Int64) (c : Nat) (li : Nat) (q : Nat) : Option Nat × (Nat → Nat → Int32) × (Nat → Nat → Int64) :=
  if (MI 10 q) < 0 then
    (some q, up2 MI 10 q (nI li), ML)
  else
    if (MI 11 q) = 0 then
      (some q, up2 MI 10 q (nI li), ML)
    else
      (some q, up2 (up2 (up2 (up2 (up2 (up2 (up2 MI 28 (tn (MI 38 0)) 7) 29 (tn (MI 38 0)) (MI 10 q)) 30 (tn (MI 38 0)) (nI c)) 31 (tn (MI 38 0)) 1) 32 (tn (MI 38 0)) (MI 12 q)) 38 0 (nI ((tn (MI 38 0)) + 1))) 10 q (nI li), up2 (up2 ML 33 (tn (MI 38 0)) (ML 14 q)) 34 (tn (MI 38 0)) (ML 13 q))
set_option maxHeartbeats 4000000 in
set_option maxRecDepth 100000 in
theorem g_Model_room_75 {p : Program} {l : Launch} {ev : Env} {s : State} {m : MethodId} {args : Array Value} {below : List Frame} {meth : Method} {c0 : Code} {D : va_G} {ac : Nat → ClassId} {o : Nat} {ad : Nat → Nat} {ws0 : va_W} {sz : Nat} {post : Int32 → va_W → Prop} (X : Cx b_Model_room 5 R_Model D ac p m args c0 s) (hr : meth.sig.returnType = (some .int)) (hk : meth.locks = false) (MI : Nat → Nat → Int32) (ML : Nat → Nat → Int64) (c : Nat) (li : Nat) (q : Nat) (hc : c < 3) (hli : li < 12) (hq : q < 12) (hm : MI 38 0 = nI (tn (MI 38 0))) (hm25 : tn (MI 38 0) < 25) {H : Heap} {locs : List Loc} {ls : Array Slot} (w : Wo D (va_A ws0 sz) (mws ac o ad MI ML) s.heap H locs) (hl : lv_has ls 5 [(0, .ref o), (1, .int (nI c)), (2, .int (nI li)), (3, .int (nI q))]) (hp : post (oI ((f_Model_room_75 MI ML c li q).1)) (mws ac o ad (f_Model_room_75 MI ML c li q).2.1 (f_Model_room_75 MI ML c li q).2.2)) : W p l ev ({ frames := 1, cells := 0, slots := 0, locals := 29 } : Room) s m args below meth c0 H locs 0 0 (MQ below (va_Qi post (CPost D ws0 sz) (va_A ws0 sz)) args s 0 0 (va_A ws0 sz)) (F0 m 75 ls []) := by
  have hx := X.1
  have hb := X.2.1
  refine lv_aload_n hx hb d_Model_room_75 rfl (lv_at hl 0 rfl) ?_
  refine mg_42 X w d_Model_room_76 ?_
  refine lv_iload_n hx hb d_Model_room_79 rfl (lv_at hl 3 rfl) ?_
  refine ald_10 X w q (v := MI 10 q) (by omega) rfl rfl d_Model_room_80 ?_
  refine lv_if_lt (tgt := 125) hx hb d_Model_room_81 (by decide) (fun h1 => ?_) (fun h1 => ?_)
  · skip
    refine lv_aload_n hx hb d_Model_room_125 rfl (lv_at hl 0 rfl) ?_
    refine mg_42 X w d_Model_room_126 ?_
    refine lv_iload_n hx hb d_Model_room_129 rfl (lv_at hl 3 rfl) ?_
    refine lv_iload_n hx hb d_Model_room_130 rfl (lv_at hl 2 rfl) ?_
    refine ast_10 X w q (by omega) rfl d_Model_room_131 (fun H locs w => ?_)
    refine lv_iload_n hx hb d_Model_room_132 rfl (lv_at hl 3 rfl) ?_
    have hF : f_Model_room_75 MI ML c li q = (some q, up2 MI 10 q (nI li), ML) := by unfold f_Model_room_75; rw [if_pos h1]
    exact kiret X w hr hk (by rw [hF] at hp; exact hp) d_Model_room_133
  · skip
    refine lv_aload_n hx hb d_Model_room_84 rfl (lv_at hl 0 rfl) ?_
    refine mg_45 X w d_Model_room_85 ?_
    refine lv_iload_n hx hb d_Model_room_88 rfl (lv_at hl 3 rfl) ?_
    refine ald_11 X w q (v := MI 11 q) (by omega) rfl rfl d_Model_room_89 ?_
    refine lv_if_eq (tgt := 125) hx hb d_Model_room_90 (by decide) (fun h2 => ?_) (fun h2 => ?_)
    · skip
      refine lv_aload_n hx hb d_Model_room_125 rfl (lv_at hl 0 rfl) ?_
      refine mg_42 X w d_Model_room_126 ?_
      refine lv_iload_n hx hb d_Model_room_129 rfl (lv_at hl 3 rfl) ?_
      refine lv_iload_n hx hb d_Model_room_130 rfl (lv_at hl 2 rfl) ?_
      refine ast_10 X w q (by omega) rfl d_Model_room_131 (fun H locs w => ?_)
      refine lv_iload_n hx hb d_Model_room_132 rfl (lv_at hl 3 rfl) ?_
      have hF : f_Model_room_75 MI ML c li q = (some q, up2 MI 10 q (nI li), ML) := by unfold f_Model_room_75; rw [if_neg h1, if_pos h2]
      exact kiret X w hr hk (by rw [hF] at hp; exact hp) d_Model_room_133
    · skip
      refine lv_aload_n hx hb d_Model_room_93 rfl (lv_at hl 0 rfl) ?_
      refine lv_bipush (v := 7) hx hb d_Model_room_94 (by decide) ?_
      refine lv_aload_n hx hb d_Model_room_96 rfl (lv_at hl 0 rfl) ?_
      refine mg_42 X w d_Model_room_97 ?_
      refine lv_iload_n hx hb d_Model_room_100 rfl (lv_at hl 3 rfl) ?_
      refine ald_10 X w q (v := MI 10 q) (by omega) rfl rfl d_Model_room_101 ?_
      refine lv_iload_n hx hb d_Model_room_102 rfl (lv_at hl 1 rfl) ?_
      refine lv_iconst (v := 1) hx hb d_Model_room_103 (by decide) ?_
      refine lv_aload_n hx hb d_Model_room_104 rfl (lv_at hl 0 rfl) ?_
      refine mg_48 X w d_Model_room_105 ?_
      refine lv_iload_n hx hb d_Model_room_108 rfl (lv_at hl 3 rfl) ?_
      refine ald_12 X w q (v := MI 12 q) (by omega) rfl rfl d_Model_room_109 ?_
      refine lv_aload_n hx hb d_Model_room_110 rfl (lv_at hl 0 rfl) ?_
      refine mg_54 X w d_Model_room_111 ?_
      refine lv_iload_n hx hb d_Model_room_114 rfl (lv_at hl 3 rfl) ?_
      refine ald_14 X w q (v := ML 14 q) (by omega) rfl rfl d_Model_room_115 ?_
      refine lv_aload_n hx hb d_Model_room_116 rfl (lv_at hl 0 rfl) ?_
      refine mg_51 X w d_Model_room_117 ?_
      refine lv_iload_n hx hb d_Model_room_120 rfl (lv_at hl 3 rfl) ?_
      refine ald_13 X w q (v := ML 13 q) (by omega) rfl rfl d_Model_room_121 ?_
      refine kcallv (ws0 := []) w (krunV (ws0 := []) (wc := mws ac o ad MI ML) (n := 7) (As := [.int 7, .int (MI 10 q), .int (nI c), .int 1, .int (MI 12 q), .long (ML 14 q), .long (ML 13 q)]) (rest := []) (C := R_Model) X w (c_Model_send l D ac o ad MI ML _ 7 (MI 10 q) (nI c) 1 (MI 12 q) (ML 14 q) (ML 13 q) hm hm25 (by decide)) wk_Model_send wi_Model wm_Model_138 wx_Model_send ws_Model_Model_send (by decide +kernel) rfl rfl ⟨(Nat.le_of_ble_eq_true rfl), (Nat.le_of_ble_eq_true rfl)⟩ ⟨(Nat.le_of_ble_eq_true rfl), (Nat.le_of_ble_eq_true rfl)⟩ (mrecv X w) rfl hl.1 rfl (Nat.le_of_ble_eq_true rfl) d_Model_room_122) (fun u H locs hp w => ?_)
      obtain rfl := hp
      have w : Wo D _ (mws ac o ad (up2 (up2 (up2 (up2 (up2 (up2 MI 28 (tn (MI 38 0)) 7) 29 (tn (MI 38 0)) (MI 10 q)) 30 (tn (MI 38 0)) (nI c)) 31 (tn (MI 38 0)) 1) 32 (tn (MI 38 0)) (MI 12 q)) 38 0 (nI ((tn (MI 38 0)) + 1))) (up2 (up2 ML 33 (tn (MI 38 0)) (ML 14 q)) 34 (tn (MI 38 0)) (ML 13 q))) s.heap H locs := w
      refine lv_aload_n hx hb d_Model_room_125 rfl (lv_at hl 0 rfl) ?_
      refine mg_42 X w d_Model_room_126 ?_
      refine lv_iload_n hx hb d_Model_room_129 rfl (lv_at hl 3 rfl) ?_
      refine lv_iload_n hx hb d_Model_room_130 rfl (lv_at hl 2 rfl) ?_
      refine ast_10 X w q (by omega) rfl d_Model_room_131 (fun H locs w => ?_)
      refine lv_iload_n hx hb d_Model_room_132 rfl (lv_at hl 3 rfl) ?_
      have hF : f_Model_room_75 MI ML c li q = (some q, up2 (up2 (up2 (up2 (up2 (up2 (up2 MI 28 (tn (MI 38 0)) 7) 29 (tn (MI 38 0)) (MI 10 q)) 30 (tn (MI 38 0)) (nI c)) 31 (tn (MI 38 0)) 1) 32 (tn (MI 38 0)) (MI 12 q)) 38 0 (nI ((tn (MI 38 0)) + 1))) 10 q (nI li), up2 (up2 ML 33 (tn (MI 38 0)) (ML 14 q)) 34 (tn (MI 38 0)) (ML 13 q)) := by unfold f_Model_room_75; rw [if_neg h1, if_neg h2]
      exact kiret X w hr hk (by rw [hF] at hp; exact hp) d_Model_room_133
def f_Model_room (MI : Nat → Nat → Int32) (ML : Nat → Nat → Int64) (c : Nat) (li : Nat) : Option Nat × (Nat → Nat → Int32) × (Nat → Nat → Int64) :=
  oc (f_Model_placeOf MI ML c li) (
    if (MI 10 ((4 * c) + (2 * (li % 2)))) = (-1) then
      f_Model_room_75 MI ML c li ((4 * c) + (2 * (li % 2)))
    else
      if (MI 10 (((4 * c) + (2 * (li % 2))) + 1)) = (-1) then
        f_Model_room_75 MI ML c li (((4 * c) + (2 * (li % 2))) + 1)
      else
        f_Model_room_75 MI ML c li ((((4 * c) + (2 * (li % 2))) + 1) - (tn (MI 15 (((4 * c) + (2 * (li % 2))) / 2)))))
    (fun y3 =>
    (some y3, MI, ML))
set_option maxHeartbeats 4000000 in
set_option maxRecDepth 100000 in
theorem c_Model_room (l : Launch) (D : va_G) (ac : Nat → ClassId) (o : Nat) (ad : Nat → Nat) (MI : Nat → Nat → Int32) (ML : Nat → Nat → Int64) (sz : Nat) (c : Nat) (li : Nat) (hc : c < 3) (hli : li < 12) (hlat : ∀ j, j < 6 → MI 15 j = nI (tn (MI 15 j)) ∧ tn (MI 15 j) < 2) (hm : MI 38 0 = nI (tn (MI 38 0))) (hm25 : tn (MI 38 0) < 25) : Met l y_Model_room [Cond.code y_Model_room b_Model_room 5 (some .int)] { frames := 1, cells := 0, slots := 0, locals := 29 } (va_Pc [.ref o, .int (nI c), .int (nI li)] (CPre D ac (mws ac o ad MI ML) sz)) (va_Qi (fun r u => r = oI ((f_Model_room MI ML c li).1) ∧ u = mws ac o ad (f_Model_room MI ML c li).2.1 (f_Model_room MI ML c li).2.2) (CPost D (mws ac o ad MI ML) sz) (va_A (mws ac o ad MI ML) sz)) 0 0 (va_A (mws ac o ad MI ML) sz) := by
  refine kofW (by decide) (Nat.le_of_ble_eq_true rfl) ?_
  intro p ev s m args below meth c0 ls X hr hk hnm hex hsz w hl
  have X : Cx b_Model_room 5 R_Model D ac p m args c0 s := X
  have hx := X.1
  have hb := X.2.1
  have hl : lv_has ls 5 [(0, .ref o), (1, .int (nI c)), (2, .int (nI li))] := hl
  refine lv_aload_n hx hb d_Model_room_0 rfl (lv_at hl 0 rfl) ?_
  refine lv_iload_n hx hb d_Model_room_1 rfl (lv_at hl 1 rfl) ?_
  refine lv_iload_n hx hb d_Model_room_2 rfl (lv_at hl 2 rfl) ?_
  refine kcalli (ws0 := []) w (krunV (ws0 := []) (wc := mws ac o ad MI ML) (n := 2) (As := [.int (nI c), .int (nI li)]) (rest := []) (C := R_Model) X w (c_Model_placeOf l D ac o ad MI ML _ c li (by omega) (by omega)) wk_Model_placeOf wi_Model wm_Model_134 wx_Model_placeOf ws_Model_Model_placeOf (by decide +kernel) rfl rfl ⟨(Nat.le_of_ble_eq_true rfl), (Nat.le_of_ble_eq_true rfl)⟩ ⟨(Nat.le_of_ble_eq_true rfl), (Nat.le_of_ble_eq_true rfl)⟩ (mrecv X w) rfl hl.1 rfl (Nat.le_of_ble_eq_true rfl) d_Model_room_3) (fun r1 u H locs hp w => ?_)
  obtain ⟨rfl, rfl⟩ := hp
  have w : Wo D _ (mws ac o ad MI ML) s.heap H locs := w
  refine lv_istore_n (lv' := [(3, .int (oI (f_Model_placeOf MI ML c li))), (0, .ref o), (1, .int (nI c)), (2, .int (nI li))]) hx hb d_Model_room_6 rfl hl (by decide) rfl (fun ls hl => ?_)
  cases ho2 : f_Model_placeOf MI ML c li with
  | none =>
    rw [ho2] at hl
    have hl : lv_has ls 5 [(3, .int (-1)), (0, .ref o), (1, .int (nI c)), (2, .int (nI li))] := hl
    refine lv_iload_n hx hb d_Model_room_7 rfl (lv_at hl 0 rfl) ?_
    refine lv_if_lt (tgt := 13) hx hb d_Model_room_8 (by decide) (fun _ => ?_) (fun h => absurd h (by decide))
    refine lv_iconst (v := 4) hx hb d_Model_room_13 (by decide) ?_
    refine lv_iload_n hx hb d_Model_room_14 rfl (lv_at hl 2 rfl) ?_
    refine kimul (a := 4) (b := c) (r := 4 * c) hx hb rfl rfl rfl d_Model_room_15 ?_
    refine lv_iconst (v := 2) hx hb d_Model_room_16 (by decide) ?_
    refine lv_iload_n hx hb d_Model_room_17 rfl (lv_at hl 3 rfl) ?_
    refine lv_iconst (v := 2) hx hb d_Model_room_18 (by decide) ?_
    refine kirem (a := li) (b := 2) (r := li % 2) hx hb rfl rfl (by omega) (by omega) (by omega) rfl d_Model_room_19 ?_
    refine kimul (a := 2) (b := li % 2) (r := 2 * (li % 2)) hx hb rfl rfl rfl d_Model_room_20 ?_
    refine kiadd (a := 4 * c) (b := 2 * (li % 2)) (r := (4 * c) + (2 * (li % 2))) hx hb rfl rfl rfl d_Model_room_21 ?_
    refine lv_istore (lv' := [(4, .int (nI ((4 * c) + (2 * (li % 2))))), (3, .int (-1)), (0, .ref o), (1, .int (nI c)), (2, .int (nI li))]) hx hb d_Model_room_22 hl (by decide) rfl (fun ls hl => ?_)
    refine lv_aload_n hx hb d_Model_room_24 rfl (lv_at hl 2 rfl) ?_
    refine mg_42 X w d_Model_room_25 ?_
    refine lv_iload hx hb d_Model_room_28 (lv_at hl 0 rfl) ?_
    refine ald_10 X w ((4 * c) + (2 * (li % 2))) (v := MI 10 ((4 * c) + (2 * (li % 2)))) (by omega) rfl rfl d_Model_room_30 ?_
    refine lv_iconst (v := (-1)) hx hb d_Model_room_31 (by decide) ?_
    refine lv_icmp_ne (tgt := 40) hx hb d_Model_room_32 (by decide) (fun h4 => ?_) (fun h4 => ?_)
    · skip
      refine lv_aload_n hx hb d_Model_room_40 rfl (lv_at hl 2 rfl) ?_
      refine mg_42 X w d_Model_room_41 ?_
      refine lv_iload hx hb d_Model_room_44 (lv_at hl 0 rfl) ?_
      refine lv_iconst (v := 1) hx hb d_Model_room_46 (by decide) ?_
      refine kiadd (a := (4 * c) + (2 * (li % 2))) (b := 1) (r := ((4 * c) + (2 * (li % 2))) + 1) hx hb rfl rfl rfl d_Model_room_47 ?_
      refine ald_10 X w (((4 * c) + (2 * (li % 2))) + 1) (v := MI 10 (((4 * c) + (2 * (li % 2))) + 1)) (by omega) rfl rfl d_Model_room_48 ?_
      refine lv_iconst (v := (-1)) hx hb d_Model_room_49 (by decide) ?_
      refine lv_icmp_ne (tgt := 60) hx hb d_Model_room_50 (by decide) (fun h5 => ?_) (fun h5 => ?_)
      · skip
        have hlt := hlat (((4 * c) + (2 * (li % 2))) / 2) (by omega)
        refine lv_iload hx hb d_Model_room_60 (lv_at hl 0 rfl) ?_
        refine lv_iconst (v := 1) hx hb d_Model_room_62 (by decide) ?_
        refine kiadd (a := (4 * c) + (2 * (li % 2))) (b := 1) (r := ((4 * c) + (2 * (li % 2))) + 1) hx hb rfl rfl rfl d_Model_room_63 ?_
        refine lv_aload_n hx hb d_Model_room_64 rfl (lv_at hl 2 rfl) ?_
        refine mg_57 X w d_Model_room_65 ?_
        refine lv_iload hx hb d_Model_room_68 (lv_at hl 0 rfl) ?_
        refine lv_iconst (v := 2) hx hb d_Model_room_70 (by decide) ?_
        refine kidiv (a := (4 * c) + (2 * (li % 2))) (b := 2) (r := ((4 * c) + (2 * (li % 2))) / 2) hx hb rfl rfl (by omega) (by omega) (by omega) rfl d_Model_room_71 ?_
        refine ald_15 X w (((4 * c) + (2 * (li % 2))) / 2) (v := MI 15 (((4 * c) + (2 * (li % 2))) / 2)) (by omega) rfl rfl d_Model_room_72 ?_
        refine kisub (a := ((4 * c) + (2 * (li % 2))) + 1) (b := tn (MI 15 (((4 * c) + (2 * (li % 2))) / 2))) (r := (((4 * c) + (2 * (li % 2))) + 1) - (tn (MI 15 (((4 * c) + (2 * (li % 2))) / 2)))) hx hb rfl hlt.1 (by omega) rfl d_Model_room_73 ?_
        refine lv_istore_n (lv' := [(3, .int (nI ((((4 * c) + (2 * (li % 2))) + 1) - (tn (MI 15 (((4 * c) + (2 * (li % 2))) / 2)))))), (4, .int (nI ((4 * c) + (2 * (li % 2))))), (0, .ref o), (1, .int (nI c)), (2, .int (nI li))]) hx hb d_Model_room_74 rfl hl (by decide) rfl (fun ls hl => ?_)
        have hF : f_Model_room MI ML c li = f_Model_room_75 MI ML c li ((((4 * c) + (2 * (li % 2))) + 1) - (tn (MI 15 (((4 * c) + (2 * (li % 2))) / 2)))) := by unfold f_Model_room; rw [ho2, oc_none, if_neg h4, if_neg h5]
        exact g_Model_room_75 X hr hk  MI ML c li ((((4 * c) + (2 * (li % 2))) + 1) - (tn (MI 15 (((4 * c) + (2 * (li % 2))) / 2)))) hc hli (by omega) hm hm25 w (lv_sub hl [2, 3, 4, 0] rfl) ⟨by rw [hF] <;> rfl, by rw [hF]⟩
      · skip
        refine lv_iload hx hb d_Model_room_53 (lv_at hl 0 rfl) ?_
        refine lv_iconst (v := 1) hx hb d_Model_room_55 (by decide) ?_
        refine kiadd (a := (4 * c) + (2 * (li % 2))) (b := 1) (r := ((4 * c) + (2 * (li % 2))) + 1) hx hb rfl rfl rfl d_Model_room_56 ?_
        refine lv_goto (tgt := 74) hx hb d_Model_room_57 (by decide) ?_
        refine lv_istore_n (lv' := [(3, .int (nI (((4 * c) + (2 * (li % 2))) + 1))), (4, .int (nI ((4 * c) + (2 * (li % 2))))), (0, .ref o), (1, .int (nI c)), (2, .int (nI li))]) hx hb d_Model_room_74 rfl hl (by decide) rfl (fun ls hl => ?_)
        have hF : f_Model_room MI ML c li = f_Model_room_75 MI ML c li (((4 * c) + (2 * (li % 2))) + 1) := by unfold f_Model_room; rw [ho2, oc_none, if_neg h4, if_pos h5]
        exact g_Model_room_75 X hr hk  MI ML c li (((4 * c) + (2 * (li % 2))) + 1) hc hli (by omega) hm hm25 w (lv_sub hl [2, 3, 4, 0] rfl) ⟨by rw [hF] <;> rfl, by rw [hF]⟩
    · skip
      refine lv_iload hx hb d_Model_room_35 (lv_at hl 0 rfl) ?_
      refine lv_goto (tgt := 74) hx hb d_Model_room_37 (by decide) ?_
      refine lv_istore_n (lv' := [(3, .int (nI ((4 * c) + (2 * (li % 2))))), (4, .int (nI ((4 * c) + (2 * (li % 2))))), (0, .ref o), (1, .int (nI c)), (2, .int (nI li))]) hx hb d_Model_room_74 rfl hl (by decide) rfl (fun ls hl => ?_)
      have hF : f_Model_room MI ML c li = f_Model_room_75 MI ML c li ((4 * c) + (2 * (li % 2))) := by unfold f_Model_room; rw [ho2, oc_none, if_pos h4]
      exact g_Model_room_75 X hr hk  MI ML c li ((4 * c) + (2 * (li % 2))) hc hli (by omega) hm hm25 w (lv_sub hl [2, 3, 4, 0] rfl) ⟨by rw [hF] <;> rfl, by rw [hF]⟩
  | some y3 =>
    rw [ho2] at hl
    have hl : lv_has ls 5 [(3, .int (nI y3)), (0, .ref o), (1, .int (nI c)), (2, .int (nI li))] := hl
    have hy3 := f_Model_placeOf_lt ho2
    have hy3b : y3 < 12 := by omega
    refine lv_iload_n hx hb d_Model_room_7 rfl (lv_at hl 0 rfl) ?_
    refine lv_if_lt (tgt := 13) hx hb d_Model_room_8 (by decide) (fun h => absurd h (nI_pos (by omega))) (fun _ => ?_)
    refine lv_iload_n hx hb d_Model_room_11 rfl (lv_at hl 0 rfl) ?_
    have hF : f_Model_room MI ML c li = (some y3, MI, ML) := by unfold f_Model_room; rw [ho2, oc_some]
    exact kiret X w hr hk ⟨by rw [hF] <;> rfl, by rw [hF]⟩ d_Model_room_12
