/-- the list of messages without its row a, of z + 1 rows -/
def rmR (CR : Nat → Nat → Option Nat) (a z : Nat) : Nat → Nat → Option Nat := fun k => if k = 3 then (fun j => if a ≤ j ∧ j < z then CR 3 (j + 1) else if j = z then none else CR 3 j) else CR k
theorem f_LC_remove_12_eq (CI : Nat → Nat → Int32) (mz : Nat) : ∀ (d : Nat) (CR : Nat → Nat → Option Nat) (i : Nat), i + d = mz → f_LC_remove_12 d CI CR i mz = (CI, rmR CR i mz) := by
  intro d
  induction d with
  | zero =>
    intro CR i h
    rw [f_LC_remove_12_z]
    refine Prod.ext rfl ?_
    funext k j
    show up2 CR 3 mz none k j = rmR CR i mz k j
    by_cases hk : k = 3
    · subst hk
      by_cases hj : j = mz
      · subst hj; simp [up2, rmR]
      · simp only [up2, rmR, hj, if_true, if_false]
        rw [if_neg (by omega)]
    · simp [up2, rmR, hk]
  | succ d ih =>
    intro CR i h
    rw [f_LC_remove_12_s, ih _ _ (by omega)]
    refine Prod.ext rfl ?_
    funext k j
    show rmR _ (i + 1) mz k j = rmR CR i mz k j
    by_cases hk : k = 3
    · subst hk
      simp only [rmR, up2, if_true]
      by_cases hj : j = i
      · subst hj
        rw [if_neg (by omega), if_neg (by omega), if_pos rfl, if_pos (by omega)]
      · by_cases h1 : i + 1 ≤ j ∧ j < mz
        · rw [if_pos h1, if_neg (show ¬ j + 1 = i by omega), if_pos (show i ≤ j ∧ j < mz by omega)]
        · rw [if_neg h1, if_neg (show ¬ (i ≤ j ∧ j < mz) by omega), if_neg hj]
    · simp [up2, rmR, hk]
theorem f_LC_remove_eq {CI : Nat → Nat → Int32} {CR : Nat → Nat → Option Nat} {a mm : Nat} (ha : a < mm) : f_LC_remove CI CR a mm = (up2 CI 38 0 (nI (mm - 1)), rmR CR a (mm - 1)) := by
  unfold f_LC_remove
  exact f_LC_remove_12_eq _ _ _ _ _ (by omega)
def insR (CR : Nat → Nat → Option Nat) (a i z : Nat) : Nat → Nat → Option Nat := fun k => if k = 3 then (fun j => if j = a then some i else if a < j ∧ j ≤ z then CR 3 (j - 1) else CR 3 j) else CR k
theorem f_LC_insert_5_eq (CI : Nat → Nat → Int32) (a i mm : Nat) : ∀ (d : Nat) (CR : Nat → Nat → Option Nat), f_LC_insert_5 d CI CR a i mm = (up2 CI 38 0 (nI (mm + 1)), insR CR a i (a + d)) := by
  intro d
  induction d with
  | zero =>
    intro CR
    rw [f_LC_insert_5_z]
    refine Prod.ext rfl ?_
    funext k j
    show up2 CR 3 a (some i) k j = insR CR a i (a + 0) k j
    by_cases hk : k = 3
    · subst hk
      simp only [up2, insR, if_true]
      by_cases hj : j = a
      · rw [if_pos hj, if_pos hj]
      · rw [if_neg hj, if_neg hj, if_neg (by omega)]
    · simp [up2, insR, hk]
  | succ d ih =>
    intro CR
    rw [f_LC_insert_5_s, ih]
    refine Prod.ext rfl ?_
    funext k j
    show insR _ a i (a + d) k j = insR CR a i (a + (d + 1)) k j
    by_cases hk : k = 3
    · subst hk
      simp only [up2, insR, if_true]
      by_cases hj : j = a
      · rw [if_pos hj, if_pos hj]
      · rw [if_neg hj, if_neg hj]
        by_cases h1 : a < j ∧ j ≤ a + d
        · rw [if_pos h1, if_neg (show ¬ j - 1 = a + d + 1 by omega), if_pos (show a < j ∧ j ≤ a + (d + 1) by omega)]
        · rw [if_neg h1]
          by_cases h2 : j = a + d + 1
          · subst h2
            rw [if_pos rfl, if_pos (by omega)]
            rfl
          · rw [if_neg h2, if_neg (by omega)]
    · simp [up2, insR, hk]
theorem f_LC_insert_eq {CI : Nat → Nat → Int32} {CR : Nat → Nat → Option Nat} {a i mm : Nat} (ha : a ≤ mm) : f_LC_insert CI CR a i mm = (up2 CI 38 0 (nI (mm + 1)), insR CR a i mm) := by
  unfold f_LC_insert
  rw [f_LC_insert_5_eq, show a + (mm - a) = mm by omega]
theorem f_LC_remove_hm {CI : Nat → Nat → Int32} {CR : Nat → Nat → Option Nat} {a mm : Nat} (ha : a < mm) : (f_LC_remove CI CR a mm).1 38 0 = nI (mm - 1) := by
  rw [f_LC_remove_eq ha]
  simp [up2]
theorem f_LC_remove_all {CI : Nat → Nat → Int32} {CR : Nat → Nat → Option Nat} {a mm : Nat} (ha : a < mm) (h : ∀ j, j < mm → ∃ i, CR 3 j = some i) : ∀ j, j < mm - 1 → ∃ i, (f_LC_remove CI CR a mm).2 3 j = some i := by
  intro j hj
  rw [f_LC_remove_eq ha]
  simp only [rmR, if_true]
  by_cases h1 : a ≤ j ∧ j < mm - 1
  · rw [if_pos h1]; exact h (j + 1) (by omega)
  · rw [if_neg h1, if_neg (by omega)]; exact h j (by omega)
theorem kdn_sub (d : Nat) : nI d - 1 = kdn d := by
  cases d with
  | zero => decide
  | succ d =>
    show nI (d + 1) - 1 = nI d
    rw [← nI_1 d, Int32.sub_eq_add_neg, Int32.add_assoc, show (1 : Int32) + -1 = 0 by decide, Int32.add_zero]
def f_LC_forgetCalls_7 : Nat → (Nat → Nat → Int32) → (Nat → Nat → Option Nat) → (Nat → Msg) → Int32 → Nat → (Nat → Nat → Int32) × (Nat → Nat → Option Nat)
  | 0, CI, CR, M, li, mm =>
    (CI, CR)
  | d + 1, CI, CR, M, li, mm =>
    oc (CR 3 d) (
      (CI, CR))
      (fun y2 =>
      if mcls (M y2) = 6 then
        if (mline (M y2)) = li then
          f_LC_forgetCalls_7 d ((f_LC_remove CI CR d mm).1) ((f_LC_remove CI CR d mm).2) M li (mm - 1)
        else
          f_LC_forgetCalls_7 d CI CR M li mm
      else
        f_LC_forgetCalls_7 d CI CR M li mm)
theorem f_LC_forgetCalls_7_z (CI : Nat → Nat → Int32) (CR : Nat → Nat → Option Nat) (M : Nat → Msg) (li : Int32) (mm : Nat) : f_LC_forgetCalls_7 0 CI CR M li mm =
    (CI, CR) := rfl
theorem f_LC_forgetCalls_7_s (d : Nat) (CI : Nat → Nat → Int32) (CR : Nat → Nat → Option Nat) (M : Nat → Msg) (li : Int32) (mm : Nat) : f_LC_forgetCalls_7 (d + 1) CI CR M li mm =
    oc (CR 3 d) (
      (CI, CR))
      (fun y2 =>
      if mcls (M y2) = 6 then
        if (mline (M y2)) = li then
          f_LC_forgetCalls_7 d ((f_LC_remove CI CR d mm).1) ((f_LC_remove CI CR d mm).2) M li (mm - 1)
        else
          f_LC_forgetCalls_7 d CI CR M li mm
      else
        f_LC_forgetCalls_7 d CI CR M li mm) := rfl
set_option maxHeartbeats 4000000 in
set_option maxRecDepth 100000 in
theorem g_LC_forgetCalls_7 {p : Program} {l : Launch} {ev : Env} {s : State} {m : MethodId} {args : Array Value} {below : List Frame} {meth : Method} {c0 : Code} {D : va_G} {ac : Nat → ClassId} {o : Nat} {ad : Nat → Nat} {ws0 : va_W} {sz : Nat} {post : va_W → Prop} (X : Cx b_LC_forgetCalls 3 R_LC D ac p m args c0 s) (hr : meth.sig.returnType = none) (hk : meth.locks = false) (d : Nat) : ∀ (al : Nat → Nat) (CI : Nat → Nat → Int32) (CL : Nat → Nat → Int64) (CR : Nat → Nat → Option Nat) (M : Nat → Msg) (n : Nat) (li : Int32) (mm : Nat) (hm : CI 38 0 = nI mm) (hd : d ≤ mm) (hmm : mm < 25) (hok : CRok CR n) (hall : ∀ j, j < mm → ∃ i, CR 3 j = some i) {H : Heap} {locs : List Loc} {ls : Array Slot} (_ : Wo D (va_A ws0 sz) (cwm ac o ad al CI CL CR M n) s.heap H locs) (_ : lv_has ls 3 [(0, .ref o), (1, .int li), (2, .int (kdn d))]) (_ : CRok ((f_LC_forgetCalls_7 d CI CR M li mm).2) n → post (cwm ac o ad al ((f_LC_forgetCalls_7 d CI CR M li mm).1) CL ((f_LC_forgetCalls_7 d CI CR M li mm).2) M n)), W p l ev ({ frames := 1, cells := 0, slots := 0, locals := 22 } : Room) s m args below meth c0 H locs 0 0 (MQ below (va_Qv post (CPost D ws0 sz) (va_A ws0 sz)) args s 0 0 (va_A ws0 sz)) (F0 m 7 ls []) := by
  have hx := X.1
  have hb := X.2.1
  induction d with
  | zero =>
    intro al CI CL CR M n li mm hm hd hmm hok hall H locs ls w hl hp
    have hl : lv_has ls 3 [(0, .ref o), (1, .int li), (2, .int (-1))] := hl
    refine lv_iload_n hx hb d_LC_forgetCalls_7 rfl (lv_at hl 2 rfl) ?_
    refine lv_if_lt (tgt := 47) hx hb d_LC_forgetCalls_8 (by decide) (fun _ => ?_) (fun h => absurd h (by decide))
    have hF : f_LC_forgetCalls_7 0 CI CR M li mm = (CI, CR) := by rw [f_LC_forgetCalls_7_z]
    exact kvret (Qc := fun _ _ _ _ => True) X w hr hk (by have hp := hp (by rw [hF]; exact hok); rw [hF] at hp; exact hp) d_LC_forgetCalls_47
  | succ d ih =>
    intro al CI CL CR M n li mm hm hd hmm hok hall H locs ls w hl hp
    have hl : lv_has ls 3 [(0, .ref o), (1, .int li), (2, .int (nI d))] := hl
    refine lv_iload_n hx hb d_LC_forgetCalls_7 rfl (lv_at hl 2 rfl) ?_
    refine lv_if_lt (tgt := 47) hx hb d_LC_forgetCalls_8 (by decide) (fun h => absurd h (nI_pos (by omega))) (fun _ => ?_)
    refine lv_aload_n hx hb d_LC_forgetCalls_11 rfl (lv_at hl 0 rfl) ?_
    refine cg_LC_27 X w d_LC_forgetCalls_12 ?_
    refine lv_iload_n hx hb d_LC_forgetCalls_15 rfl (lv_at hl 2 rfl) ?_
    refine cl_messages X w d (by omega) rfl d_LC_forgetCalls_16 ?_
    cases ho1 : CR 3 d with
    | none =>
      exact absurd (hall d (by omega)) (by rw [ho1]; exact fun ⟨_, h⟩ => by cases h)
    | some y2 =>
      refine W.eq (g2 := F0 m 17 ls [.ref (al y2)]) (by first | rfl | exact congrArg (fun z => F0 m 17 ls [va_rf (Option.map al z)]) (show CR 3 d = _ from ho1)) ?_
      have hny2 : y2 < n := hok 3 d y2 (by decide) (ho1)
      refine kinst X w (q := y2) (by omega) wc_LC_54 d_LC_forgetCalls_17 (fun h3 => ?_) (fun h3 => ?_)
      · skip
        refine lv_if_eq (tgt := 41) hx hb d_LC_forgetCalls_20 (by decide) (fun h => absurd h (by decide)) (fun _ => ?_)
        refine lv_aload_n hx hb d_LC_forgetCalls_23 rfl (lv_at hl 0 rfl) ?_
        refine cg_LC_27 X w d_LC_forgetCalls_24 ?_
        refine lv_iload_n hx hb d_LC_forgetCalls_27 rfl (lv_at hl 2 rfl) ?_
        refine cl_messages X w d (by omega) rfl d_LC_forgetCalls_28 ?_
        refine W.eq (g2 := F0 m 29 ls [.ref (al y2)]) (by first | rfl | exact congrArg (fun z => F0 m 29 ls [va_rf (Option.map al z)]) (show CR 3 d = _ from ho1)) ?_
        refine qg_LC_56 (m9 := (M y2)) X w (hs_mem0 (i := y2) (by omega)) d_LC_forgetCalls_29 ?_
        refine lv_iload_n hx hb d_LC_forgetCalls_32 rfl (lv_at hl 1 rfl) ?_
        refine lv_icmp_ne (tgt := 41) hx hb d_LC_forgetCalls_33 (by decide) (fun h4 => ?_) (fun h4 => ?_)
        · skip
          refine lv_iinc (v := kdn d) (lv' := [(2, .int (kdn d)), (0, .ref o), (1, .int li)]) hx hb d_LC_forgetCalls_41 hl (k := 2) rfl (kdn_pred d) (by decide) rfl (fun ls hl => ?_)
          refine lv_goto (tgt := 7) hx hb d_LC_forgetCalls_44 (by decide) ?_
          have hF : f_LC_forgetCalls_7 (d + 1) CI CR M li mm = f_LC_forgetCalls_7 d CI CR M li mm := by rw [f_LC_forgetCalls_7_s, ho1, oc_some, if_pos h3, if_neg h4]
          exact ih al CI CL CR M n li mm hm (by omega) (by omega) hok hall w (lv_sub hl [1, 2, 0] rfl) (fun h3 => by have hp := hp (by rw [hF]; exact h3); rw [hF] at hp; exact hp)
        · skip
          refine lv_aload_n hx hb d_LC_forgetCalls_36 rfl (lv_at hl 0 rfl) ?_
          refine lv_iload_n hx hb d_LC_forgetCalls_37 rfl (lv_at hl 2 rfl) ?_
          refine kcallv (ws0 := []) w (krunV (ws0 := []) (wc := cwm ac o ad al CI CL CR M n) (n := 1) (As := [.int (nI d)]) (rest := []) (C := R_LC) X w (c_LC_remove l D ac o ad al CI CL CR M n _ d mm hm (by omega) (by omega) hok) wk_LC_remove wi_LC wm_LC_59 wx_LC_remove ws_LC_LC_remove (by decide +kernel) rfl rfl ⟨(Nat.le_of_ble_eq_true rfl), (Nat.le_of_ble_eq_true rfl)⟩ ⟨(Nat.le_of_ble_eq_true rfl), (Nat.le_of_ble_eq_true rfl)⟩ (crecv X w) rfl hl.1 rfl (Nat.le_of_ble_eq_true rfl) d_LC_forgetCalls_38) (fun u H locs hp w => ?_)
          obtain ⟨hok9, rfl⟩ := hp
          have hok := hok9
          have w : Wo D _ (cwm ac o ad al ((f_LC_remove CI CR d mm).1) CL ((f_LC_remove CI CR d mm).2) M n) s.heap H locs := w
          refine lv_iinc (v := kdn d) (lv' := [(2, .int (kdn d)), (0, .ref o), (1, .int li)]) hx hb d_LC_forgetCalls_41 hl (k := 2) rfl (kdn_pred d) (by decide) rfl (fun ls hl => ?_)
          refine lv_goto (tgt := 7) hx hb d_LC_forgetCalls_44 (by decide) ?_
          have hF : f_LC_forgetCalls_7 (d + 1) CI CR M li mm = f_LC_forgetCalls_7 d ((f_LC_remove CI CR d mm).1) ((f_LC_remove CI CR d mm).2) M li (mm - 1) := by rw [f_LC_forgetCalls_7_s, ho1, oc_some, if_pos h3, if_pos h4]
          exact ih al ((f_LC_remove CI CR d mm).1) CL ((f_LC_remove CI CR d mm).2) M n li (mm - 1) (f_LC_remove_hm (by omega)) (by omega) (by omega) hok (f_LC_remove_all (by omega) hall) w (lv_sub hl [1, 2, 0] rfl) (fun h3 => by have hp := hp (by rw [hF]; exact h3); rw [hF] at hp; exact hp)
      · skip
        refine lv_if_eq (tgt := 41) hx hb d_LC_forgetCalls_20 (by decide) (fun _ => ?_) (fun h => absurd h (by decide))
        refine lv_iinc (v := kdn d) (lv' := [(2, .int (kdn d)), (0, .ref o), (1, .int li)]) hx hb d_LC_forgetCalls_41 hl (k := 2) rfl (kdn_pred d) (by decide) rfl (fun ls hl => ?_)
        refine lv_goto (tgt := 7) hx hb d_LC_forgetCalls_44 (by decide) ?_
        have hF : f_LC_forgetCalls_7 (d + 1) CI CR M li mm = f_LC_forgetCalls_7 d CI CR M li mm := by rw [f_LC_forgetCalls_7_s, ho1, oc_some, if_neg h3]
        exact ih al CI CL CR M n li mm hm (by omega) (by omega) hok hall w (lv_sub hl [1, 2, 0] rfl) (fun h3 => by have hp := hp (by rw [hF]; exact h3); rw [hF] at hp; exact hp)
def f_LC_forgetCalls (CI : Nat → Nat → Int32) (CR : Nat → Nat → Option Nat) (M : Nat → Msg) (li : Int32) (mm : Nat) : (Nat → Nat → Int32) × (Nat → Nat → Option Nat) :=
  f_LC_forgetCalls_7 mm CI CR M li mm
set_option maxHeartbeats 4000000 in
set_option maxRecDepth 100000 in
theorem c_LC_forgetCalls (l : Launch) (D : va_G) (ac : Nat → ClassId) (o : Nat) (ad : Nat → Nat) (al : Nat → Nat) (CI : Nat → Nat → Int32) (CL : Nat → Nat → Int64) (CR : Nat → Nat → Option Nat) (M : Nat → Msg) (n : Nat) (sz : Nat) (li : Int32) (mm : Nat) (hm : CI 38 0 = nI mm) (hmm : mm < 25) (hok : CRok CR n) (hall : ∀ j, j < mm → ∃ i, CR 3 j = some i) : Met l y_LC_forgetCalls [Cond.code y_LC_forgetCalls b_LC_forgetCalls 3 none] { frames := 1, cells := 0, slots := 0, locals := 22 } (va_Pc [.ref o, .int li] (CPre D ac (cwm ac o ad al CI CL CR M n) sz)) (va_Qv (fun u => CRok ((f_LC_forgetCalls CI CR M li mm).2) n ∧ u = cwm ac o ad al ((f_LC_forgetCalls CI CR M li mm).1) CL ((f_LC_forgetCalls CI CR M li mm).2) M n) (CPost D (cwm ac o ad al CI CL CR M n) sz) (va_A (cwm ac o ad al CI CL CR M n) sz)) 0 0 (va_A (cwm ac o ad al CI CL CR M n) sz) := by
  refine kofW (by decide) (Nat.le_of_ble_eq_true rfl) ?_
  intro p ev s m args below meth c0 ls X hr hk hnm hex hsz w hl
  have X : Cx b_LC_forgetCalls 3 R_LC D ac p m args c0 s := X
  have hx := X.1
  have hb := X.2.1
  have hl : lv_has ls 3 [(0, .ref o), (1, .int li)] := hl
  refine lv_aload_n hx hb d_LC_forgetCalls_0 rfl (lv_at hl 0 rfl) ?_
  refine cg_LC_51 X w (v := CI 38 0) rfl d_LC_forgetCalls_1 ?_
  refine lv_iconst (v := 1) hx hb d_LC_forgetCalls_4 (by decide) ?_
  refine lv_isub hx hb d_LC_forgetCalls_5 ?_
  refine lv_istore_n (lv' := [(2, .int ((CI 38 0) - 1)), (0, .ref o), (1, .int li)]) hx hb d_LC_forgetCalls_6 rfl hl (by decide) rfl (fun ls hl => ?_)
  rw [show CI 38 0 - 1 = kdn mm from by rw [hm]; exact kdn_sub mm] at hl
  have hF : f_LC_forgetCalls CI CR M li mm = f_LC_forgetCalls_7 mm CI CR M li mm := by rfl
  exact g_LC_forgetCalls_7 X hr hk mm al CI CL CR M n li mm hm (by omega) (by omega) hok hall w (lv_sub hl [1, 2, 0] rfl) (fun h3 => ⟨by rw [hF]; exact h3, by rw [hF]⟩)
def f_LC_least_4 : Nat → (Nat → Nat → Int32) → (Nat → Nat → Int64) → (Nat → Nat → Option Nat) → Int32 → Option Nat → Nat → Option Nat
  | 0, CI, CL, CR, ow, f, k =>
    f
  | d + 1, CI, CL, CR, ow, f, k =>
    if ow = 0 then
      oc (CR 0 k) (
        oc (f) (
          f_LC_least_4 d CI CL CR ow (some k) (k + 1))
          (fun y5 =>
          if (CL 19 y5) ≤ (CL 19 k) then
            f_LC_least_4 d CI CL CR ow (some y5) (k + 1)
          else
            f_LC_least_4 d CI CL CR ow (some k) (k + 1)))
        (fun y3 =>
        f_LC_least_4 d CI CL CR ow f (k + 1))
    else
      oc (CR 0 k) (
        f_LC_least_4 d CI CL CR ow f (k + 1))
        (fun y8 =>
        oc (CR 1 k) (
          oc (f) (
            f_LC_least_4 d CI CL CR ow (some k) (k + 1))
            (fun y12 =>
            if (CL 19 y12) ≤ (CL 19 k) then
              f_LC_least_4 d CI CL CR ow (some y12) (k + 1)
            else
              f_LC_least_4 d CI CL CR ow (some k) (k + 1)))
          (fun y10 =>
          f_LC_least_4 d CI CL CR ow f (k + 1)))
theorem f_LC_least_4_z (CI : Nat → Nat → Int32) (CL : Nat → Nat → Int64) (CR : Nat → Nat → Option Nat) (ow : Int32) (f : Option Nat) (k : Nat) : f_LC_least_4 0 CI CL CR ow f k =
    f := rfl
theorem f_LC_least_4_s (d : Nat) (CI : Nat → Nat → Int32) (CL : Nat → Nat → Int64) (CR : Nat → Nat → Option Nat) (ow : Int32) (f : Option Nat) (k : Nat) : f_LC_least_4 (d + 1) CI CL CR ow f k =
    if ow = 0 then
      oc (CR 0 k) (
        oc (f) (
          f_LC_least_4 d CI CL CR ow (some k) (k + 1))
          (fun y5 =>
          if (CL 19 y5) ≤ (CL 19 k) then
            f_LC_least_4 d CI CL CR ow (some y5) (k + 1)
          else
            f_LC_least_4 d CI CL CR ow (some k) (k + 1)))
        (fun y3 =>
        f_LC_least_4 d CI CL CR ow f (k + 1))
    else
      oc (CR 0 k) (
        f_LC_least_4 d CI CL CR ow f (k + 1))
        (fun y8 =>
        oc (CR 1 k) (
          oc (f) (
            f_LC_least_4 d CI CL CR ow (some k) (k + 1))
            (fun y12 =>
            if (CL 19 y12) ≤ (CL 19 k) then
              f_LC_least_4 d CI CL CR ow (some y12) (k + 1)
            else
              f_LC_least_4 d CI CL CR ow (some k) (k + 1)))
          (fun y10 =>
          f_LC_least_4 d CI CL CR ow f (k + 1))) := rfl
set_option maxHeartbeats 4000000 in
set_option maxRecDepth 100000 in
theorem g_LC_least_4 {p : Program} {l : Launch} {ev : Env} {s : State} {m : MethodId} {args : Array Value} {below : List Frame} {meth : Method} {c0 : Code} {D : va_G} {ac : Nat → ClassId} {o : Nat} {ad : Nat → Nat} {ws0 : va_W} {sz : Nat} {post : Option Nat → va_W → Prop} (X : Cx b_LC_least 6 R_LC D ac p m args c0 s) (hr : meth.sig.returnType = (some (.object "LeaseCores$Entry"))) (hk : meth.locks = false) (d : Nat) : ∀ (al : Nat → Nat) (CI : Nat → Nat → Int32) (CL : Nat → Nat → Int64) (CR : Nat → Nat → Option Nat) (M : Nat → Msg) (n : Nat) (ow : Int32) (f : Option Nat) (k : Nat) (hkd : k + d = 6) (hf : ∀ j, f = some j → j < 6) {H : Heap} {locs : List Loc} {ls : Array Slot} (_ : Wo D (va_A ws0 sz) (cwm ac o ad al CI CL CR M n) s.heap H locs) (_ : lv_has ls 6 [(0, .ref o), (1, .int ow), (2, va_rf (rE ad f)), (3, .int (nI k))]) (_ : post (rE ad (f_LC_least_4 d CI CL CR ow f k)) (cwm ac o ad al CI CL CR M n)), W p l ev ({ frames := 0, cells := 0, slots := 0, locals := 0 } : Room) s m args below meth c0 H locs 0 0 (MQ below (va_Qq post (CPost D ws0 sz) (va_A ws0 sz)) args s 0 0 (va_A ws0 sz)) (F0 m 4 ls []) := by
  have hx := X.1
  have hb := X.2.1
  induction d with
  | zero =>
    intro al CI CL CR M n ow f k hkd hf H locs ls w hl hp
    have hl : lv_has ls 6 [(0, .ref o), (1, .int ow), (2, va_rf (rE ad f)), (3, .int (nI k))] := hl
    refine lv_iload_n hx hb d_LC_least_4 rfl (lv_at hl 3 rfl) ?_
    refine lv_bipush (v := 6) hx hb d_LC_least_5 (by decide) ?_
    refine lv_icmp_ge (tgt := 92) hx hb d_LC_least_7 (by decide) (fun _ => ?_) (fun h => absurd (nI_le (a := 6) (by omega) (by omega)) h)
    refine kaload_n hx hb d_LC_least_92 rfl (lv_at hl 2 rfl) ?_
    have hF : f_LC_least_4 0 CI CL CR ow f k = f := by rw [f_LC_least_4_z]
    exact kqret (r := rE ad f) X w hr hk (by have hp := hp; rw [hF] at hp; exact hp) d_LC_least_93
  | succ d ih =>
    intro al CI CL CR M n ow f k hkd hf H locs ls w hl hp
    have hl : lv_has ls 6 [(0, .ref o), (1, .int ow), (2, va_rf (rE ad f)), (3, .int (nI k))] := hl
    refine lv_iload_n hx hb d_LC_least_4 rfl (lv_at hl 3 rfl) ?_
    refine lv_bipush (v := 6) hx hb d_LC_least_5 (by decide) ?_
    refine lv_icmp_ge (tgt := 92) hx hb d_LC_least_7 (by decide) (fun h => absurd h (nI_ge (b := 6) (by omega) (by omega))) (fun _ => ?_)
    refine lv_aload_n hx hb d_LC_least_10 rfl (lv_at hl 0 rfl) ?_
    refine cg_LC_17 X w d_LC_least_11 ?_
    refine lv_iload_n hx hb d_LC_least_14 rfl (lv_at hl 3 rfl) ?_
    refine cl_entries X w k (by omega) rfl d_LC_least_15 ?_
    refine lv_astore (lv' := [(4, .ref (ad (22 + k))), (0, .ref o), (1, .int ow), (2, va_rf (rE ad f)), (3, .int (nI k))]) hx hb d_LC_least_16 hl (by decide) (by first | rfl | (cases f <;> rfl)) (fun ls hl => ?_)
    refine lv_iload_n hx hb d_LC_least_18 rfl (lv_at hl 2 rfl) ?_
    refine lv_if_eq (tgt := 46) hx hb d_LC_least_19 (by decide) (fun h1 => ?_) (fun h1 => ?_)
    · skip
      refine lv_aload hx hb d_LC_least_46 (lv_at hl 0 rfl) ?_
      refine cg_LC_158 X w k (by omega) d_LC_least_48 ?_
      cases ho2 : CR 0 k with
      | none =>
        refine W.eq (g2 := F0 m 51 ls [.null]) (by first | rfl | exact congrArg (fun z => F0 m 51 ls [va_rf (rC ad z)]) (show CR 0 k = _ from ho2)) ?_
        refine lv_ifnonnullN hx hb d_LC_least_51 ?_
        refine lv_iconst (v := 1) hx hb d_LC_least_54 (by decide) ?_
        refine lv_goto (tgt := 59) hx hb d_LC_least_55 (by decide) ?_
        refine lv_istore (lv' := [(5, .int 1), (4, .ref (ad (22 + k))), (0, .ref o), (1, .int ow), (2, va_rf (rE ad f)), (3, .int (nI k))]) hx hb d_LC_least_59 hl (by decide) (by first | rfl | (cases f <;> rfl)) (fun ls hl => ?_)
        refine lv_iload hx hb d_LC_least_61 (lv_at hl 0 rfl) ?_
        refine lv_if_eq (tgt := 86) hx hb d_LC_least_63 (by decide) (fun h => absurd h (by decide)) (fun _ => ?_)
        cases ho4 : f with
        | none =>
          rw [ho4] at hl
          have hl : lv_has ls 6 [(5, .int 1), (4, .ref (ad (22 + k))), (0, .ref o), (1, .int ow), (2, .null), (3, .int (nI k))] := hl
          refine lv_aload_nN hx hb d_LC_least_66 rfl (lv_at hl 4 rfl) ?_
          refine lv_ifnullN (tgt := 83) hx hb d_LC_least_67 (by decide) ?_
          refine lv_aload hx hb d_LC_least_83 (lv_at hl 1 rfl) ?_
          refine lv_astore_n (lv' := [(2, .ref (ad (22 + k))), (5, .int 1), (4, .ref (ad (22 + k))), (0, .ref o), (1, .int ow), (3, .int (nI k))]) hx hb d_LC_least_85 rfl hl (by decide) rfl (fun ls hl => ?_)
          refine lv_iinc (v := nI (k + 1)) (lv' := [(3, .int (nI (k + 1))), (2, .ref (ad (22 + k))), (5, .int 1), (4, .ref (ad (22 + k))), (0, .ref o), (1, .int ow)]) hx hb d_LC_least_86 hl (k := 5) rfl (by rw [show (nI k) = nI k from rfl]; exact nI_1 _) (by decide) rfl (fun ls hl => ?_)
          refine lv_goto (tgt := 4) hx hb d_LC_least_89 (by decide) ?_
          have hF : f_LC_least_4 (d + 1) CI CL CR ow f k = f_LC_least_4 d CI CL CR ow (some k) (k + 1) := by rw [f_LC_least_4_s, if_pos h1, ho2, oc_none, ho4, oc_none]
          exact ih al CI CL CR M n ow (some k) (k + 1) (by omega) (fun j h => by cases h; omega) w (lv_sub hl [4, 5, 1, 0] rfl) (by rw [hF] at hp; exact hp)
        | some y5 =>
          rw [ho4] at hl
          have hl : lv_has ls 6 [(5, .int 1), (4, .ref (ad (22 + k))), (0, .ref o), (1, .int ow), (2, .ref (ad (22 + y5))), (3, .int (nI k))] := hl
          have hy5 : y5 < 6 := hf y5 ho4
          refine lv_aload_n hx hb d_LC_least_66 rfl (lv_at hl 4 rfl) ?_
          refine lv_ifnull hx hb d_LC_least_67 ?_
          refine lv_aload hx hb d_LC_least_70 (lv_at hl 1 rfl) ?_
          refine cg_LC_166 X w k (by omega) (v := CL 19 k) rfl d_LC_least_72 ?_
          refine lv_aload_n hx hb d_LC_least_75 rfl (lv_at hl 4 rfl) ?_
          refine cg_LC_166 X w y5 (by omega) (v := CL 19 y5) rfl d_LC_least_76 ?_
          refine klc_ge (tgt := 86) hx hb d_LC_least_79 d_LC_least_80 (by decide) (fun h6 => ?_) (fun h6 => ?_)
          · skip
            refine lv_iinc (v := nI (k + 1)) (lv' := [(3, .int (nI (k + 1))), (5, .int 1), (4, .ref (ad (22 + k))), (0, .ref o), (1, .int ow), (2, .ref (ad (22 + y5)))]) hx hb d_LC_least_86 hl (k := 5) rfl (by rw [show (nI k) = nI k from rfl]; exact nI_1 _) (by decide) rfl (fun ls hl => ?_)
            refine lv_goto (tgt := 4) hx hb d_LC_least_89 (by decide) ?_
            have hF : f_LC_least_4 (d + 1) CI CL CR ow f k = f_LC_least_4 d CI CL CR ow (some y5) (k + 1) := by rw [f_LC_least_4_s, if_pos h1, ho2, oc_none, ho4, oc_some, if_pos h6]
            exact ih al CI CL CR M n ow (some y5) (k + 1) (by omega) (fun j h => by cases h; omega) w (lv_sub hl [3, 4, 5, 0] rfl) (by rw [hF] at hp; exact hp)
          · skip
            refine lv_aload hx hb d_LC_least_83 (lv_at hl 1 rfl) ?_
            refine lv_astore_n (lv' := [(2, .ref (ad (22 + k))), (5, .int 1), (4, .ref (ad (22 + k))), (0, .ref o), (1, .int ow), (3, .int (nI k))]) hx hb d_LC_least_85 rfl hl (by decide) rfl (fun ls hl => ?_)
            refine lv_iinc (v := nI (k + 1)) (lv' := [(3, .int (nI (k + 1))), (2, .ref (ad (22 + k))), (5, .int 1), (4, .ref (ad (22 + k))), (0, .ref o), (1, .int ow)]) hx hb d_LC_least_86 hl (k := 5) rfl (by rw [show (nI k) = nI k from rfl]; exact nI_1 _) (by decide) rfl (fun ls hl => ?_)
            refine lv_goto (tgt := 4) hx hb d_LC_least_89 (by decide) ?_
            have hF : f_LC_least_4 (d + 1) CI CL CR ow f k = f_LC_least_4 d CI CL CR ow (some k) (k + 1) := by rw [f_LC_least_4_s, if_pos h1, ho2, oc_none, ho4, oc_some, if_neg h6]
            exact ih al CI CL CR M n ow (some k) (k + 1) (by omega) (fun j h => by cases h; omega) w (lv_sub hl [4, 5, 1, 0] rfl) (by rw [hF] at hp; exact hp)
      | some y3 =>
        refine W.eq (g2 := F0 m 51 ls [.ref (ad (4 + y3))]) (by first | rfl | exact congrArg (fun z => F0 m 51 ls [va_rf (rC ad z)]) (show CR 0 k = _ from ho2)) ?_
        refine lv_ifnonnull (tgt := 58) hx hb d_LC_least_51 (by decide) ?_
        refine lv_iconst (v := 0) hx hb d_LC_least_58 (by decide) ?_
        refine lv_istore (lv' := [(5, .int 0), (4, .ref (ad (22 + k))), (0, .ref o), (1, .int ow), (2, va_rf (rE ad f)), (3, .int (nI k))]) hx hb d_LC_least_59 hl (by decide) (by first | rfl | (cases f <;> rfl)) (fun ls hl => ?_)
        refine lv_iload hx hb d_LC_least_61 (lv_at hl 0 rfl) ?_
        refine lv_if_eq (tgt := 86) hx hb d_LC_least_63 (by decide) (fun _ => ?_) (fun h => absurd h (by decide))
        refine lv_iinc (v := nI (k + 1)) (lv' := [(3, .int (nI (k + 1))), (5, .int 0), (4, .ref (ad (22 + k))), (0, .ref o), (1, .int ow), (2, va_rf (rE ad f))]) hx hb d_LC_least_86 hl (k := 5) rfl (by rw [show (nI k) = nI k from rfl]; exact nI_1 _) (by decide) (by first | rfl | (cases f <;> rfl)) (fun ls hl => ?_)
        refine lv_goto (tgt := 4) hx hb d_LC_least_89 (by decide) ?_
        have hF : f_LC_least_4 (d + 1) CI CL CR ow f k = f_LC_least_4 d CI CL CR ow f (k + 1) := by rw [f_LC_least_4_s, if_pos h1, ho2, oc_some]
        exact ih al CI CL CR M n ow f (k + 1) (by omega) hf w (lv_sub hl [3, 4, 5, 0] rfl) (by rw [hF] at hp; exact hp)
    · skip
      refine lv_aload hx hb d_LC_least_22 (lv_at hl 0 rfl) ?_
      refine cg_LC_158 X w k (by omega) d_LC_least_24 ?_
      cases ho7 : CR 0 k with
      | none =>
        refine W.eq (g2 := F0 m 27 ls [.null]) (by first | rfl | exact congrArg (fun z => F0 m 27 ls [va_rf (rC ad z)]) (show CR 0 k = _ from ho7)) ?_
        refine lv_ifnullN (tgt := 42) hx hb d_LC_least_27 (by decide) ?_
        refine lv_iconst (v := 0) hx hb d_LC_least_42 (by decide) ?_
        refine lv_goto (tgt := 59) hx hb d_LC_least_43 (by decide) ?_
        refine lv_istore (lv' := [(5, .int 0), (4, .ref (ad (22 + k))), (0, .ref o), (1, .int ow), (2, va_rf (rE ad f)), (3, .int (nI k))]) hx hb d_LC_least_59 hl (by decide) (by first | rfl | (cases f <;> rfl)) (fun ls hl => ?_)
        refine lv_iload hx hb d_LC_least_61 (lv_at hl 0 rfl) ?_
        refine lv_if_eq (tgt := 86) hx hb d_LC_least_63 (by decide) (fun _ => ?_) (fun h => absurd h (by decide))
        refine lv_iinc (v := nI (k + 1)) (lv' := [(3, .int (nI (k + 1))), (5, .int 0), (4, .ref (ad (22 + k))), (0, .ref o), (1, .int ow), (2, va_rf (rE ad f))]) hx hb d_LC_least_86 hl (k := 5) rfl (by rw [show (nI k) = nI k from rfl]; exact nI_1 _) (by decide) (by first | rfl | (cases f <;> rfl)) (fun ls hl => ?_)
        refine lv_goto (tgt := 4) hx hb d_LC_least_89 (by decide) ?_
        have hF : f_LC_least_4 (d + 1) CI CL CR ow f k = f_LC_least_4 d CI CL CR ow f (k + 1) := by rw [f_LC_least_4_s, if_neg h1, ho7, oc_none]
        exact ih al CI CL CR M n ow f (k + 1) (by omega) hf w (lv_sub hl [3, 4, 5, 0] rfl) (by rw [hF] at hp; exact hp)
      | some y8 =>
        refine W.eq (g2 := F0 m 27 ls [.ref (ad (4 + y8))]) (by first | rfl | exact congrArg (fun z => F0 m 27 ls [va_rf (rC ad z)]) (show CR 0 k = _ from ho7)) ?_
        refine lv_ifnull hx hb d_LC_least_27 ?_
        refine lv_aload hx hb d_LC_least_30 (lv_at hl 0 rfl) ?_
        refine cg_LC_162 X w k (by omega) d_LC_least_32 ?_
        cases ho9 : CR 1 k with
        | none =>
          refine W.eq (g2 := F0 m 35 ls [.null]) (by first | rfl | exact congrArg (fun z => F0 m 35 ls [va_rf (Option.map al z)]) (show CR 1 k = _ from ho9)) ?_
          refine lv_ifnonnullN hx hb d_LC_least_35 ?_
          refine lv_iconst (v := 1) hx hb d_LC_least_38 (by decide) ?_
          refine lv_goto (tgt := 59) hx hb d_LC_least_39 (by decide) ?_
          refine lv_istore (lv' := [(5, .int 1), (4, .ref (ad (22 + k))), (0, .ref o), (1, .int ow), (2, va_rf (rE ad f)), (3, .int (nI k))]) hx hb d_LC_least_59 hl (by decide) (by first | rfl | (cases f <;> rfl)) (fun ls hl => ?_)
          refine lv_iload hx hb d_LC_least_61 (lv_at hl 0 rfl) ?_
          refine lv_if_eq (tgt := 86) hx hb d_LC_least_63 (by decide) (fun h => absurd h (by decide)) (fun _ => ?_)
          cases ho11 : f with
          | none =>
            rw [ho11] at hl
            have hl : lv_has ls 6 [(5, .int 1), (4, .ref (ad (22 + k))), (0, .ref o), (1, .int ow), (2, .null), (3, .int (nI k))] := hl
            refine lv_aload_nN hx hb d_LC_least_66 rfl (lv_at hl 4 rfl) ?_
            refine lv_ifnullN (tgt := 83) hx hb d_LC_least_67 (by decide) ?_
            refine lv_aload hx hb d_LC_least_83 (lv_at hl 1 rfl) ?_
            refine lv_astore_n (lv' := [(2, .ref (ad (22 + k))), (5, .int 1), (4, .ref (ad (22 + k))), (0, .ref o), (1, .int ow), (3, .int (nI k))]) hx hb d_LC_least_85 rfl hl (by decide) rfl (fun ls hl => ?_)
            refine lv_iinc (v := nI (k + 1)) (lv' := [(3, .int (nI (k + 1))), (2, .ref (ad (22 + k))), (5, .int 1), (4, .ref (ad (22 + k))), (0, .ref o), (1, .int ow)]) hx hb d_LC_least_86 hl (k := 5) rfl (by rw [show (nI k) = nI k from rfl]; exact nI_1 _) (by decide) rfl (fun ls hl => ?_)
            refine lv_goto (tgt := 4) hx hb d_LC_least_89 (by decide) ?_
            have hF : f_LC_least_4 (d + 1) CI CL CR ow f k = f_LC_least_4 d CI CL CR ow (some k) (k + 1) := by rw [f_LC_least_4_s, if_neg h1, ho7, oc_some, ho9, oc_none, ho11, oc_none]
            exact ih al CI CL CR M n ow (some k) (k + 1) (by omega) (fun j h => by cases h; omega) w (lv_sub hl [4, 5, 1, 0] rfl) (by rw [hF] at hp; exact hp)
          | some y12 =>
            rw [ho11] at hl
            have hl : lv_has ls 6 [(5, .int 1), (4, .ref (ad (22 + k))), (0, .ref o), (1, .int ow), (2, .ref (ad (22 + y12))), (3, .int (nI k))] := hl
            have hy12 : y12 < 6 := hf y12 ho11
            refine lv_aload_n hx hb d_LC_least_66 rfl (lv_at hl 4 rfl) ?_
            refine lv_ifnull hx hb d_LC_least_67 ?_
            refine lv_aload hx hb d_LC_least_70 (lv_at hl 1 rfl) ?_
            refine cg_LC_166 X w k (by omega) (v := CL 19 k) rfl d_LC_least_72 ?_
            refine lv_aload_n hx hb d_LC_least_75 rfl (lv_at hl 4 rfl) ?_
            refine cg_LC_166 X w y12 (by omega) (v := CL 19 y12) rfl d_LC_least_76 ?_
            refine klc_ge (tgt := 86) hx hb d_LC_least_79 d_LC_least_80 (by decide) (fun h13 => ?_) (fun h13 => ?_)
            · skip
              refine lv_iinc (v := nI (k + 1)) (lv' := [(3, .int (nI (k + 1))), (5, .int 1), (4, .ref (ad (22 + k))), (0, .ref o), (1, .int ow), (2, .ref (ad (22 + y12)))]) hx hb d_LC_least_86 hl (k := 5) rfl (by rw [show (nI k) = nI k from rfl]; exact nI_1 _) (by decide) rfl (fun ls hl => ?_)
              refine lv_goto (tgt := 4) hx hb d_LC_least_89 (by decide) ?_
              have hF : f_LC_least_4 (d + 1) CI CL CR ow f k = f_LC_least_4 d CI CL CR ow (some y12) (k + 1) := by rw [f_LC_least_4_s, if_neg h1, ho7, oc_some, ho9, oc_none, ho11, oc_some, if_pos h13]
              exact ih al CI CL CR M n ow (some y12) (k + 1) (by omega) (fun j h => by cases h; omega) w (lv_sub hl [3, 4, 5, 0] rfl) (by rw [hF] at hp; exact hp)
            · skip
              refine lv_aload hx hb d_LC_least_83 (lv_at hl 1 rfl) ?_
              refine lv_astore_n (lv' := [(2, .ref (ad (22 + k))), (5, .int 1), (4, .ref (ad (22 + k))), (0, .ref o), (1, .int ow), (3, .int (nI k))]) hx hb d_LC_least_85 rfl hl (by decide) rfl (fun ls hl => ?_)
              refine lv_iinc (v := nI (k + 1)) (lv' := [(3, .int (nI (k + 1))), (2, .ref (ad (22 + k))), (5, .int 1), (4, .ref (ad (22 + k))), (0, .ref o), (1, .int ow)]) hx hb d_LC_least_86 hl (k := 5) rfl (by rw [show (nI k) = nI k from rfl]; exact nI_1 _) (by decide) rfl (fun ls hl => ?_)
              refine lv_goto (tgt := 4) hx hb d_LC_least_89 (by decide) ?_
              have hF : f_LC_least_4 (d + 1) CI CL CR ow f k = f_LC_least_4 d CI CL CR ow (some k) (k + 1) := by rw [f_LC_least_4_s, if_neg h1, ho7, oc_some, ho9, oc_none, ho11, oc_some, if_neg h13]
              exact ih al CI CL CR M n ow (some k) (k + 1) (by omega) (fun j h => by cases h; omega) w (lv_sub hl [4, 5, 1, 0] rfl) (by rw [hF] at hp; exact hp)
        | some y10 =>
          refine W.eq (g2 := F0 m 35 ls [.ref (al y10)]) (by first | rfl | exact congrArg (fun z => F0 m 35 ls [va_rf (Option.map al z)]) (show CR 1 k = _ from ho9)) ?_
          refine lv_ifnonnull (tgt := 42) hx hb d_LC_least_35 (by decide) ?_
          refine lv_iconst (v := 0) hx hb d_LC_least_42 (by decide) ?_
          refine lv_goto (tgt := 59) hx hb d_LC_least_43 (by decide) ?_
          refine lv_istore (lv' := [(5, .int 0), (4, .ref (ad (22 + k))), (0, .ref o), (1, .int ow), (2, va_rf (rE ad f)), (3, .int (nI k))]) hx hb d_LC_least_59 hl (by decide) (by first | rfl | (cases f <;> rfl)) (fun ls hl => ?_)
          refine lv_iload hx hb d_LC_least_61 (lv_at hl 0 rfl) ?_
          refine lv_if_eq (tgt := 86) hx hb d_LC_least_63 (by decide) (fun _ => ?_) (fun h => absurd h (by decide))
          refine lv_iinc (v := nI (k + 1)) (lv' := [(3, .int (nI (k + 1))), (5, .int 0), (4, .ref (ad (22 + k))), (0, .ref o), (1, .int ow), (2, va_rf (rE ad f))]) hx hb d_LC_least_86 hl (k := 5) rfl (by rw [show (nI k) = nI k from rfl]; exact nI_1 _) (by decide) (by first | rfl | (cases f <;> rfl)) (fun ls hl => ?_)
          refine lv_goto (tgt := 4) hx hb d_LC_least_89 (by decide) ?_
          have hF : f_LC_least_4 (d + 1) CI CL CR ow f k = f_LC_least_4 d CI CL CR ow f (k + 1) := by rw [f_LC_least_4_s, if_neg h1, ho7, oc_some, ho9, oc_some]
          exact ih al CI CL CR M n ow f (k + 1) (by omega) hf w (lv_sub hl [3, 4, 5, 0] rfl) (by rw [hF] at hp; exact hp)
def f_LC_least (CI : Nat → Nat → Int32) (CL : Nat → Nat → Int64) (CR : Nat → Nat → Option Nat) (ow : Int32) : Option Nat :=
  f_LC_least_4 6 CI CL CR ow none 0
set_option maxHeartbeats 4000000 in
set_option maxRecDepth 100000 in
theorem c_LC_least (l : Launch) (D : va_G) (ac : Nat → ClassId) (o : Nat) (ad : Nat → Nat) (al : Nat → Nat) (CI : Nat → Nat → Int32) (CL : Nat → Nat → Int64) (CR : Nat → Nat → Option Nat) (M : Nat → Msg) (n : Nat) (sz : Nat) (ow : Int32)  : Met l y_LC_least [Cond.code y_LC_least b_LC_least 6 (some (.object "LeaseCores$Entry"))] { frames := 0, cells := 0, slots := 0, locals := 0 } (va_Pc [.ref o, .int ow] (CPre D ac (cwm ac o ad al CI CL CR M n) sz)) (va_Qq (fun r u => r = rE ad (f_LC_least CI CL CR ow) ∧ u = cwm ac o ad al CI CL CR M n) (CPost D (cwm ac o ad al CI CL CR M n) sz) (va_A (cwm ac o ad al CI CL CR M n) sz)) 0 0 (va_A (cwm ac o ad al CI CL CR M n) sz) := by
  refine kofW (by decide) (Nat.le_of_ble_eq_true rfl) ?_
  intro p ev s m args below meth c0 ls X hr hk hnm hex hsz w hl
  have X : Cx b_LC_least 6 R_LC D ac p m args c0 s := X
  have hx := X.1
  have hb := X.2.1
  have hl : lv_has ls 6 [(0, .ref o), (1, .int ow)] := hl
  refine lv_null hx hb d_LC_least_0 ?_
  refine lv_astore_nN (lv' := [(2, .null), (0, .ref o), (1, .int ow)]) hx hb d_LC_least_1 rfl hl (by decide) rfl (fun ls hl => ?_)
  refine lv_iconst (v := 0) hx hb d_LC_least_2 (by decide) ?_
  refine lv_istore_n (lv' := [(3, .int 0), (2, .null), (0, .ref o), (1, .int ow)]) hx hb d_LC_least_3 rfl hl (by decide) rfl (fun ls hl => ?_)
  have hF : f_LC_least CI CL CR ow = f_LC_least_4 6 CI CL CR ow none 0 := by rfl
  exact g_LC_least_4 X hr hk 6 al CI CL CR M n ow none 0 (by omega) (fun j h => by cases h) w (lv_sub hl [2, 3, 1, 0] rfl) ⟨by rw [hF] <;> rfl, rfl⟩
theorem f_LC_least_4_lt {CI : Nat → Nat → Int32} {CL : Nat → Nat → Int64} {CR : Nat → Nat → Option Nat} {ow : Int32} {j : Nat} : ∀ (d k : Nat) (f : Option Nat), k + d = 6 → (∀ i, f = some i → i < 6) → f_LC_least_4 d CI CL CR ow f k = some j → j < 6 := by
  intro d
  induction d with
  | zero => intro k f _ hf h; exact hf j h
  | succ d ih =>
    intro k f hk hf h
    have h1 : ∀ i, some k = some i → i < 6 := fun i hi => by cases hi; omega
    rw [f_LC_least_4_s] at h
    cases e0 : CR 0 k <;> cases e1 : CR 1 k <;> cases f <;> simp only [e0, e1, oc_none, oc_some] at h <;> repeat' split at h
    all_goals first | exact ih (k + 1) _ (by omega) hf h | exact ih (k + 1) _ (by omega) h1 h
theorem f_LC_least_lt {CI : Nat → Nat → Int32} {CL : Nat → Nat → Int64} {CR : Nat → Nat → Option Nat} {ow : Int32} {j : Nat} (h : f_LC_least CI CL CR ow = some j) : j < 6 := f_LC_least_4_lt 6 0 none rfl (fun i h => by cases h) h
