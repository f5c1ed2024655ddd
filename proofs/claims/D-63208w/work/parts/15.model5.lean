theorem f_Model_forget_2_keep {li : Int32} {r : Nat} (hr : r < 28) : ∀ (d : Nat) (MI : Nat → Nat → Int32) (ML : Nat → Nat → Int64) (k : Nat), MI 38 0 = nI (k + d) → k + d < 26 → (f_Model_forget_2 d MI ML li k).1 r = MI r ∧ (f_Model_forget_2 d MI ML li k).2 r = ML r := by
  intro d
  induction d with
  | zero => intro MI ML k _ _; rw [f_Model_forget_2_z]; exact ⟨rfl, rfl⟩
  | succ d ih =>
    intro MI ML k hm hb
    have htn : tn (MI 38 0) = k + (d + 1) := by rw [hm]; exact tn_nI (by omega)
    have hlt : k < tn (MI 38 0) := by omega
    have step : (f_Model_forget_2 d (f_Model_remove MI ML k).1 (f_Model_remove MI ML k).2 li k).1 r = MI r ∧ (f_Model_forget_2 d (f_Model_remove MI ML k).1 (f_Model_remove MI ML k).2 li k).2 r = ML r := by
      obtain ⟨h1, h2⟩ := ih (f_Model_remove MI ML k).1 (f_Model_remove MI ML k).2 k (by rw [f_Model_remove_many hlt, htn]; rfl) (by omega)
      rw [h1, h2, f_Model_remove_k hlt hr, f_Model_remove_kL hlt (by omega)]
      exact ⟨rfl, rfl⟩
    have skip : (f_Model_forget_2 d MI ML li (k + 1)).1 r = MI r ∧ (f_Model_forget_2 d MI ML li (k + 1)).2 r = ML r := ih MI ML (k + 1) (by rw [hm]; congr 1; omega) (by omega)
    rw [f_Model_forget_2_s]
    repeat' split
    all_goals first | exact step | exact skip
theorem f_Model_forget_2_hm {li : Int32} : ∀ (d : Nat) (MI : Nat → Nat → Int32) (ML : Nat → Nat → Int64) (k : Nat), MI 38 0 = nI (k + d) → k + d < 26 → (f_Model_forget_2 d MI ML li k).1 38 0 = nI (tn ((f_Model_forget_2 d MI ML li k).1 38 0)) ∧ tn ((f_Model_forget_2 d MI ML li k).1 38 0) ≤ k + d := by
  intro d
  induction d with
  | zero => intro MI ML k hm hb; rw [f_Model_forget_2_z]; simp only [hm]; rw [tn_nI (by omega)]; exact ⟨rfl, Nat.le_refl _⟩
  | succ d ih =>
    intro MI ML k hm hb
    have htn : tn (MI 38 0) = k + (d + 1) := by rw [hm]; exact tn_nI (by omega)
    have hlt : k < tn (MI 38 0) := by omega
    have s1 := ih (f_Model_remove MI ML k).1 (f_Model_remove MI ML k).2 k (by rw [f_Model_remove_many hlt, htn]; rfl) (by omega)
    have s2 := ih MI ML (k + 1) (by rw [hm]; congr 1; omega) (by omega)
    rw [f_Model_forget_2_s]
    repeat' split
    all_goals first | exact ⟨s1.1, Nat.le_succ_of_le s1.2⟩ | exact ⟨s2.1, by have := s2.2; omega⟩
theorem f_Model_forget_2_up {li : Int32} : ∀ (d : Nat) (MI : Nat → Nat → Int32) (ML : Nat → Nat → Int64) (k : Nat), MI 38 0 = nI (k + d) → k + d < 26 → (∀ j, MI 31 j = 0 ∨ MI 31 j = 1) → ∀ j, (f_Model_forget_2 d MI ML li k).1 31 j = 0 ∨ (f_Model_forget_2 d MI ML li k).1 31 j = 1 := by
  intro d
  induction d with
  | zero => intro MI ML k hm hb h; rw [f_Model_forget_2_z]; exact h
  | succ d ih =>
    intro MI ML k hm hb h
    have htn : tn (MI 38 0) = k + (d + 1) := by rw [hm]; exact tn_nI (by omega)
    have hlt : k < tn (MI 38 0) := by omega
    have s1 := ih (f_Model_remove MI ML k).1 (f_Model_remove MI ML k).2 k (by rw [f_Model_remove_many hlt, htn]; rfl) (by omega) (f_Model_remove_up hlt h)
    have s2 := ih MI ML (k + 1) (by rw [hm]; congr 1; omega) (by omega) h
    rw [f_Model_forget_2_s]
    repeat' split
    all_goals first | exact s1 | exact s2
theorem f_Model_forget_keep {MI : Nat → Nat → Int32} {ML : Nat → Nat → Int64} {li : Int32} {r : Nat} (hr : r < 28) (hm : MI 38 0 = nI (tn (MI 38 0))) (h : tn (MI 38 0) < 26) : (f_Model_forget MI ML li).1 r = MI r ∧ (f_Model_forget MI ML li).2 r = ML r := f_Model_forget_2_keep hr _ MI ML 0 (by rw [Nat.zero_add]; exact hm) (by omega)
theorem f_Model_forget_hm {MI : Nat → Nat → Int32} {ML : Nat → Nat → Int64} {li : Int32} (hm : MI 38 0 = nI (tn (MI 38 0))) (h : tn (MI 38 0) < 26) : (f_Model_forget MI ML li).1 38 0 = nI (tn ((f_Model_forget MI ML li).1 38 0)) := (f_Model_forget_2_hm _ MI ML 0 (by rw [Nat.zero_add]; exact hm) (by omega)).1
theorem f_Model_forget_le {MI : Nat → Nat → Int32} {ML : Nat → Nat → Int64} {li : Int32} (hm : MI 38 0 = nI (tn (MI 38 0))) (h : tn (MI 38 0) < 26) : tn ((f_Model_forget MI ML li).1 38 0) ≤ tn (MI 38 0) := by
  have := (f_Model_forget_2_hm (li := li) _ MI ML 0 (by rw [Nat.zero_add]; exact hm) (by omega)).2
  rw [Nat.zero_add] at this
  exact this
theorem f_Model_serves_204_38 (I : Nat → Nat → Int32) (L : Nat → Nat → Int64) (e ax : Nat) : (f_Model_serves_204 I L e ax).2.1 38 = I 38 := by simp [f_Model_serves_204, up2]
theorem f_Model_serves_204_22 (I : Nat → Nat → Int32) (L : Nat → Nat → Int64) (e ax : Nat) : (f_Model_serves_204 I L e ax).2.1 22 e = I 22 e - 1 := by simp [f_Model_serves_204, up2]
theorem f_Model_serves_141_38 (I : Nat → Nat → Int32) (L : Nat → Nat → Int64) (e ax : Nat) (co : Int32) : (f_Model_serves_141 I L e ax co).2.1 38 0 = nI (tn (I 38 0) + 1) := by
  unfold f_Model_serves_141
  split
  · rw [f_Model_serves_204_38]; simp [up2]
  · rw [f_Model_serves_204_38]; simp [up2]
theorem f_Model_serves_141_22 (I : Nat → Nat → Int32) (L : Nat → Nat → Int64) (e ax : Nat) (co : Int32) : (f_Model_serves_141 I L e ax co).2.1 22 e = I 22 e - 1 := by
  unfold f_Model_serves_141
  split
  · rw [f_Model_serves_204_22]; simp [up2]
  · rw [f_Model_serves_204_22]; simp [up2]
theorem f_Model_serves_38 (MI : Nat → Nat → Int32) (ML : Nat → Nat → Int64) (e : Nat) : (f_Model_serves MI ML e).2.1 38 0 = nI (tn (MI 38 0) + 1) ∨ (f_Model_serves MI ML e).2.1 38 0 = MI 38 0 := by
  unfold f_Model_serves
  repeat' split
  all_goals first
    | exact Or.inl (f_Model_serves_141_38 _ _ _ _ _)
    | exact Or.inr rfl
    | (refine Or.inl ?_; simp [up2])
theorem f_Model_serves_hm {MI : Nat → Nat → Int32} {ML : Nat → Nat → Int64} {e : Nat} (hm : MI 38 0 = nI (tn (MI 38 0))) (h : tn (MI 38 0) < 26) : (f_Model_serves MI ML e).2.1 38 0 = nI (tn ((f_Model_serves MI ML e).2.1 38 0)) := by
  rcases f_Model_serves_38 MI ML e with q | q
  · rw [q, tn_nI (by omega)]
  · rw [q]; exact hm
theorem f_Model_serves_le {MI : Nat → Nat → Int32} {ML : Nat → Nat → Int64} {e : Nat} (h : tn (MI 38 0) < 26) : tn ((f_Model_serves MI ML e).2.1 38 0) ≤ tn (MI 38 0) + 1 := by
  rcases f_Model_serves_38 MI ML e with q | q
  · rw [q, tn_nI (by omega)]
    omega
  · rw [q]; omega
theorem f_Model_serves_ask {MI : Nat → Nat → Int32} {ML : Nat → Nat → Int64} {e d : Nat} (h : MI 22 e = nI (d + 1)) : (f_Model_serves MI ML e).1 = 0 ∨ (f_Model_serves MI ML e).2.1 22 e = nI d := by
  have e9 : nI (d + 1) - 1 = nI d := nI_pred d
  unfold f_Model_serves
  repeat' split
  all_goals first
    | (refine Or.inr ?_; rw [f_Model_serves_141_22]; first | rw [h]; exact e9 | (show MI 22 e - 1 = nI d; rw [h]; exact e9))
    | exact Or.inl rfl
def f_Model_takesBack_76 : Nat → (Nat → Nat → Int32) → (Nat → Nat → Int64) → Nat → Int32 → (Nat → Nat → Int32) × (Nat → Nat → Int64)
  | 0, MI, ML, e, mo =>
    if mo = 0 then
      (MI, ML)
    else
      (MI, ML)
  | d + 1, MI, ML, e, mo =>
    if mo = 0 then
      (MI, ML)
    else
      f_Model_takesBack_76 d ((f_Model_serves MI ML e).2.1) ((f_Model_serves MI ML e).2.2) e ((f_Model_serves MI ML e).1)
theorem f_Model_takesBack_76_z (MI : Nat → Nat → Int32) (ML : Nat → Nat → Int64) (e : Nat) (mo : Int32) : f_Model_takesBack_76 0 MI ML e mo =
    if mo = 0 then
      (MI, ML)
    else
      (MI, ML) := rfl
theorem f_Model_takesBack_76_s (d : Nat) (MI : Nat → Nat → Int32) (ML : Nat → Nat → Int64) (e : Nat) (mo : Int32) : f_Model_takesBack_76 (d + 1) MI ML e mo =
    if mo = 0 then
      (MI, ML)
    else
      f_Model_takesBack_76 d ((f_Model_serves MI ML e).2.1) ((f_Model_serves MI ML e).2.2) e ((f_Model_serves MI ML e).1) := rfl
set_option maxHeartbeats 4000000 in
set_option maxRecDepth 100000 in
theorem g_Model_takesBack_76 {p : Program} {l : Launch} {ev : Env} {s : State} {m : MethodId} {args : Array Value} {below : List Frame} {meth : Method} {c0 : Code} {D : va_G} {ac : Nat → ClassId} {o : Nat} {ad : Nat → Nat} {ws0 : va_W} {sz : Nat} {post : va_W → Prop} (X : Cx b_Model_takesBack 5 R_Model D ac p m args c0 s) (hr : meth.sig.returnType = none) (hk : meth.locks = false) (d : Nat) : ∀ (MI : Nat → Nat → Int32) (ML : Nat → Nat → Int64) (e : Nat) (mo : Int32) (he : e < 6) (hm : MI 38 0 = nI (tn (MI 38 0))) (hmd : tn (MI 38 0) + d < 24) (hq : mo = 0 ∨ MI 22 e = nI d) {H : Heap} {locs : List Loc} {ls : Array Slot} (_ : Wo D (va_A ws0 sz) (mws ac o ad MI ML) s.heap H locs) (_ : lv_has ls 5 [(0, .ref o), (3, .int (nI e)), (4, .int mo)]) (_ : post (mws ac o ad (f_Model_takesBack_76 d MI ML e mo).1 (f_Model_takesBack_76 d MI ML e mo).2)), W p l ev ({ frames := 2, cells := 0, slots := 0, locals := 57 } : Room) s m args below meth c0 H locs 0 0 (MQ below (va_Qv post (CPost D ws0 sz) (va_A ws0 sz)) args s 0 0 (va_A ws0 sz)) (F0 m 76 ls []) := by
  have hx := X.1
  have hb := X.2.1
  induction d with
  | zero =>
    intro MI ML e mo he hm hmd hq H locs ls w hl hp
    have hl : lv_has ls 5 [(0, .ref o), (3, .int (nI e)), (4, .int mo)] := hl
    refine lv_iload hx hb d_Model_takesBack_76 (lv_at hl 2 rfl) ?_
    refine lv_if_eq (tgt := 100) hx hb d_Model_takesBack_78 (by decide) (fun h1 => ?_) (fun h1 => ?_)
    · skip
      have hF : f_Model_takesBack_76 0 MI ML e mo = (MI, ML) := by rw [f_Model_takesBack_76_z, if_pos h1]
      exact kvret (Qc := fun _ _ _ _ => True) X w hr hk (by rw [hF] at hp; exact hp) d_Model_takesBack_100
    · skip
      refine lv_aload_n hx hb d_Model_takesBack_81 rfl (lv_at hl 0 rfl) ?_
      refine mg_78 X w d_Model_takesBack_82 ?_
      refine lv_iload_n hx hb d_Model_takesBack_85 rfl (lv_at hl 1 rfl) ?_
      refine ald_22 X w e (v := MI 22 e) (by omega) rfl rfl d_Model_takesBack_86 ?_
      refine lv_if_le (tgt := 100) hx hb d_Model_takesBack_87 (by decide) (fun _ => ?_) (fun h => absurd (by rw [hq.resolve_left h1]; decide) h)
      have hF : f_Model_takesBack_76 0 MI ML e mo = (MI, ML) := by rw [f_Model_takesBack_76_z, if_neg h1]
      exact kvret (Qc := fun _ _ _ _ => True) X w hr hk (by rw [hF] at hp; exact hp) d_Model_takesBack_100
  | succ d ih =>
    intro MI ML e mo he hm hmd hq H locs ls w hl hp
    have hl : lv_has ls 5 [(0, .ref o), (3, .int (nI e)), (4, .int mo)] := hl
    refine lv_iload hx hb d_Model_takesBack_76 (lv_at hl 2 rfl) ?_
    refine lv_if_eq (tgt := 100) hx hb d_Model_takesBack_78 (by decide) (fun h1 => ?_) (fun h1 => ?_)
    · skip
      have hF : f_Model_takesBack_76 (d + 1) MI ML e mo = (MI, ML) := by rw [f_Model_takesBack_76_s, if_pos h1]
      exact kvret (Qc := fun _ _ _ _ => True) X w hr hk (by rw [hF] at hp; exact hp) d_Model_takesBack_100
    · skip
      refine lv_aload_n hx hb d_Model_takesBack_81 rfl (lv_at hl 0 rfl) ?_
      refine mg_78 X w d_Model_takesBack_82 ?_
      refine lv_iload_n hx hb d_Model_takesBack_85 rfl (lv_at hl 1 rfl) ?_
      refine ald_22 X w e (v := MI 22 e) (by omega) rfl rfl d_Model_takesBack_86 ?_
      refine lv_if_le (tgt := 100) hx hb d_Model_takesBack_87 (by decide) (fun h => absurd h (by rw [hq.resolve_left h1]; exact nI_nle (by omega) (by omega))) (fun _ => ?_)
      refine lv_aload_n hx hb d_Model_takesBack_90 rfl (lv_at hl 0 rfl) ?_
      refine lv_iload_n hx hb d_Model_takesBack_91 rfl (lv_at hl 1 rfl) ?_
      refine kcalli (ws0 := []) w (krunV (ws0 := []) (wc := mws ac o ad MI ML) (n := 1) (As := [.int (nI e)]) (rest := []) (C := R_Model) X w (c_Model_serves l D ac o ad MI ML _ e he hm (by omega)) wk_Model_serves wi_Model wm_Model_184 wx_Model_serves ws_Model_Model_serves (by decide +kernel) rfl rfl ⟨(Nat.le_of_ble_eq_true rfl), (Nat.le_of_ble_eq_true rfl)⟩ ⟨(Nat.le_of_ble_eq_true rfl), (Nat.le_of_ble_eq_true rfl)⟩ (mrecv X w) rfl hl.1 rfl (Nat.le_of_ble_eq_true rfl) d_Model_takesBack_92) (fun r2 u H locs hp w => ?_)
      obtain ⟨rfl, rfl⟩ := hp
      have w : Wo D _ (mws ac o ad ((f_Model_serves MI ML e).2.1) ((f_Model_serves MI ML e).2.2)) s.heap H locs := w
      refine lv_istore (lv' := [(4, .int ((f_Model_serves MI ML e).1)), (0, .ref o), (3, .int (nI e))]) hx hb d_Model_takesBack_95 hl (by decide) rfl (fun ls hl => ?_)
      refine lv_goto (tgt := 76) hx hb d_Model_takesBack_97 (by decide) ?_
      have hF : f_Model_takesBack_76 (d + 1) MI ML e mo = f_Model_takesBack_76 d ((f_Model_serves MI ML e).2.1) ((f_Model_serves MI ML e).2.2) e ((f_Model_serves MI ML e).1) := by rw [f_Model_takesBack_76_s, if_neg h1]
      exact ih ((f_Model_serves MI ML e).2.1) ((f_Model_serves MI ML e).2.2) e ((f_Model_serves MI ML e).1) he (f_Model_serves_hm hm (by omega)) (by have h9 := f_Model_serves_le (MI := MI) (ML := ML) (e := e) (by omega); omega) (f_Model_serves_ask (hq.resolve_left h1)) w (lv_sub hl [1, 2, 0] rfl) (by rw [hF] at hp; exact hp)
def f_Model_takesBack_73 (MI : Nat → Nat → Int32) (ML : Nat → Nat → Int64) (e : Nat) : (Nat → Nat → Int32) × (Nat → Nat → Int64) :=
  f_Model_takesBack_76 (tn (MI 22 e)) MI ML e 1
set_option maxHeartbeats 4000000 in
set_option maxRecDepth 100000 in
theorem g_Model_takesBack_73 {p : Program} {l : Launch} {ev : Env} {s : State} {m : MethodId} {args : Array Value} {below : List Frame} {meth : Method} {c0 : Code} {D : va_G} {ac : Nat → ClassId} {o : Nat} {ad : Nat → Nat} {ws0 : va_W} {sz : Nat} {post : va_W → Prop} (X : Cx b_Model_takesBack 5 R_Model D ac p m args c0 s) (hr : meth.sig.returnType = none) (hk : meth.locks = false) (MI : Nat → Nat → Int32) (ML : Nat → Nat → Int64) (e : Nat) (he : e < 6) (hm : MI 38 0 = nI (tn (MI 38 0))) (hm20 : tn (MI 38 0) < 20) (hae : MI 22 e = nI (tn (MI 22 e)) ∧ tn (MI 22 e) ≤ 3) {H : Heap} {locs : List Loc} {ls : Array Slot} (w : Wo D (va_A ws0 sz) (mws ac o ad MI ML) s.heap H locs) (hl : lv_has ls 5 [(0, .ref o), (3, .int (nI e))]) (hp : post (mws ac o ad (f_Model_takesBack_73 MI ML e).1 (f_Model_takesBack_73 MI ML e).2)) : W p l ev ({ frames := 2, cells := 0, slots := 0, locals := 57 } : Room) s m args below meth c0 H locs 0 0 (MQ below (va_Qv post (CPost D ws0 sz) (va_A ws0 sz)) args s 0 0 (va_A ws0 sz)) (F0 m 73 ls []) := by
  have hx := X.1
  have hb := X.2.1
  refine lv_iconst (v := 1) hx hb d_Model_takesBack_73 (by decide) ?_
  refine lv_istore (lv' := [(4, .int 1), (0, .ref o), (3, .int (nI e))]) hx hb d_Model_takesBack_74 hl (by decide) rfl (fun ls hl => ?_)
  have hF : f_Model_takesBack_73 MI ML e = f_Model_takesBack_76 (tn (MI 22 e)) MI ML e 1 := by rfl
  exact g_Model_takesBack_76 X hr hk (tn (MI 22 e))  MI ML e 1 he hm (by omega) (Or.inr hae.1) w (lv_sub hl [1, 2, 0] rfl) (by rw [hF] at hp; exact hp)
def f_Model_takesBack_68 (MI : Nat → Nat → Int32) (ML : Nat → Nat → Int64) (li : Int32) (e : Nat) : (Nat → Nat → Int32) × (Nat → Nat → Int64) :=
  f_Model_takesBack_73 ((f_Model_forget MI ML li).1) ((f_Model_forget MI ML li).2) e
set_option maxHeartbeats 4000000 in
set_option maxRecDepth 100000 in
theorem g_Model_takesBack_68 {p : Program} {l : Launch} {ev : Env} {s : State} {m : MethodId} {args : Array Value} {below : List Frame} {meth : Method} {c0 : Code} {D : va_G} {ac : Nat → ClassId} {o : Nat} {ad : Nat → Nat} {ws0 : va_W} {sz : Nat} {post : va_W → Prop} (X : Cx b_Model_takesBack 5 R_Model D ac p m args c0 s) (hr : meth.sig.returnType = none) (hk : meth.locks = false) (MI : Nat → Nat → Int32) (ML : Nat → Nat → Int64) (li : Int32) (e : Nat) (he : e < 6) (hm : MI 38 0 = nI (tn (MI 38 0))) (hm20 : tn (MI 38 0) < 20) (hup : ∀ j, MI 31 j = 0 ∨ MI 31 j = 1) (hae : MI 22 e = nI (tn (MI 22 e)) ∧ tn (MI 22 e) ≤ 3) {H : Heap} {locs : List Loc} {ls : Array Slot} (w : Wo D (va_A ws0 sz) (mws ac o ad MI ML) s.heap H locs) (hl : lv_has ls 5 [(0, .ref o), (2, .int li), (3, .int (nI e))]) (hp : post (mws ac o ad (f_Model_takesBack_68 MI ML li e).1 (f_Model_takesBack_68 MI ML li e).2)) : W p l ev ({ frames := 2, cells := 0, slots := 0, locals := 57 } : Room) s m args below meth c0 H locs 0 0 (MQ below (va_Qv post (CPost D ws0 sz) (va_A ws0 sz)) args s 0 0 (va_A ws0 sz)) (F0 m 68 ls []) := by
  have hx := X.1
  have hb := X.2.1
  refine lv_aload_n hx hb d_Model_takesBack_68 rfl (lv_at hl 0 rfl) ?_
  refine lv_iload_n hx hb d_Model_takesBack_69 rfl (lv_at hl 1 rfl) ?_
  refine kcallv (ws0 := []) w (krunV (ws0 := []) (wc := mws ac o ad MI ML) (n := 1) (As := [.int li]) (rest := []) (C := R_Model) X w (c_Model_forget l D ac o ad MI ML _ li hm (Nat.lt_trans hm20 (by decide)) hup) wk_Model_forget wi_Model wm_Model_188 wx_Model_forget ws_Model_Model_forget (by decide +kernel) rfl rfl ⟨(Nat.le_of_ble_eq_true rfl), (Nat.le_of_ble_eq_true rfl)⟩ ⟨(Nat.le_of_ble_eq_true rfl), (Nat.le_of_ble_eq_true rfl)⟩ (mrecv X w) rfl hl.1 rfl (Nat.le_of_ble_eq_true rfl) d_Model_takesBack_70) (fun u H locs hp w => ?_)
  obtain rfl := hp
  have w : Wo D _ (mws ac o ad ((f_Model_forget MI ML li).1) ((f_Model_forget MI ML li).2)) s.heap H locs := w
  have hF : f_Model_takesBack_68 MI ML li e = f_Model_takesBack_73 ((f_Model_forget MI ML li).1) ((f_Model_forget MI ML li).2) e := by rfl
  exact g_Model_takesBack_73 X hr hk  ((f_Model_forget MI ML li).1) ((f_Model_forget MI ML li).2) e he (f_Model_forget_hm hm (Nat.lt_trans hm20 (by decide))) (Nat.lt_of_le_of_lt (f_Model_forget_le hm (Nat.lt_trans hm20 (by decide))) hm20) (by rw [(f_Model_forget_keep (by decide) hm (Nat.lt_trans hm20 (by decide))).1]; exact hae) w (lv_sub hl [0, 2] rfl) (by rw [hF] at hp; exact hp)
def f_Model_takesBack (MI : Nat → Nat → Int32) (ML : Nat → Nat → Int64) (k : Nat) : (Nat → Nat → Int32) × (Nat → Nat → Int64) :=
  oc (f_Model_entryOf MI ML (MI 29 k)) (
    (MI, ML))
    (fun y3 =>
    f_Model_takesBack_68 ((f_Model_remove (up2 (up2 (up2 MI 17 y3 (MI 32 k)) 20 y3 (-1)) 21 y3 0) (up2 (up2 ML 18 y3 (ML 34 k)) 19 y3 (ML 33 k)) k).1) ((f_Model_remove (up2 (up2 (up2 MI 17 y3 (MI 32 k)) 20 y3 (-1)) 21 y3 0) (up2 (up2 ML 18 y3 (ML 34 k)) 19 y3 (ML 33 k)) k).2) (MI 29 k) y3)
set_option maxHeartbeats 4000000 in
set_option maxRecDepth 100000 in
theorem c_Model_takesBack (l : Launch) (D : va_G) (ac : Nat → ClassId) (o : Nat) (ad : Nat → Nat) (MI : Nat → Nat → Int32) (ML : Nat → Nat → Int64) (sz : Nat) (k : Nat) (hkm : k < tn (MI 38 0)) (hm : MI 38 0 = nI (tn (MI 38 0))) (hm20 : tn (MI 38 0) < 20) (hup : ∀ j, MI 31 j = 0 ∨ MI 31 j = 1) (hent : f_Model_entryOf MI ML (MI 29 k) ≠ none) (hask : ∀ e, e < 6 → MI 22 e = nI (tn (MI 22 e)) ∧ tn (MI 22 e) ≤ 3) : Met l y_Model_takesBack [Cond.code y_Model_takesBack b_Model_takesBack 5 none] { frames := 2, cells := 0, slots := 0, locals := 57 } (va_Pc [.ref o, .int (nI k)] (CPre D ac (mws ac o ad MI ML) sz)) (va_Qv (fun u => u = mws ac o ad (f_Model_takesBack MI ML k).1 (f_Model_takesBack MI ML k).2) (CPost D (mws ac o ad MI ML) sz) (va_A (mws ac o ad MI ML) sz)) 0 0 (va_A (mws ac o ad MI ML) sz) := by
  refine kofW (by decide) (Nat.le_of_ble_eq_true rfl) ?_
  intro p ev s m args below meth c0 ls X hr hk hnm hex hsz w hl
  have X : Cx b_Model_takesBack 5 R_Model D ac p m args c0 s := X
  have hx := X.1
  have hb := X.2.1
  have hl : lv_has ls 5 [(0, .ref o), (1, .int (nI k))] := hl
  refine lv_aload_n hx hb d_Model_takesBack_0 rfl (lv_at hl 0 rfl) ?_
  refine mg_99 X w d_Model_takesBack_1 ?_
  refine lv_iload_n hx hb d_Model_takesBack_4 rfl (lv_at hl 1 rfl) ?_
  refine ald_29 X w k (v := MI 29 k) (by omega) rfl rfl d_Model_takesBack_5 ?_
  refine lv_istore_n (lv' := [(2, .int (MI 29 k)), (0, .ref o), (1, .int (nI k))]) hx hb d_Model_takesBack_6 rfl hl (by decide) rfl (fun ls hl => ?_)
  refine lv_aload_n hx hb d_Model_takesBack_7 rfl (lv_at hl 1 rfl) ?_
  refine lv_iload_n hx hb d_Model_takesBack_8 rfl (lv_at hl 0 rfl) ?_
  refine kcalli (ws0 := []) w (krunV (ws0 := []) (wc := mws ac o ad MI ML) (n := 1) (As := [.int (MI 29 k)]) (rest := []) (C := R_Model) X w (c_Model_entryOf l D ac o ad MI ML _ (MI 29 k)) wk_Model_entryOf wi_Model wm_Model_167 wx_Model_entryOf ws_Model_Model_entryOf (by decide +kernel) rfl rfl ⟨(Nat.le_of_ble_eq_true rfl), (Nat.le_of_ble_eq_true rfl)⟩ ⟨(Nat.le_of_ble_eq_true rfl), (Nat.le_of_ble_eq_true rfl)⟩ (mrecv X w) rfl hl.1 rfl (Nat.le_of_ble_eq_true rfl) d_Model_takesBack_9) (fun r1 u H locs hp w => ?_)
  obtain ⟨rfl, rfl⟩ := hp
  have w : Wo D _ (mws ac o ad MI ML) s.heap H locs := w
  refine lv_istore_n (lv' := [(3, .int (oI (f_Model_entryOf MI ML (MI 29 k)))), (2, .int (MI 29 k)), (0, .ref o), (1, .int (nI k))]) hx hb d_Model_takesBack_12 rfl hl (by decide) rfl (fun ls hl => ?_)
  cases ho2 : f_Model_entryOf MI ML (MI 29 k) with
  | none =>
    rw [ho2] at hl
    have hl : lv_has ls 5 [(3, .int (-1)), (2, .int (MI 29 k)), (0, .ref o), (1, .int (nI k))] := hl
    exact absurd ho2 hent
  | some y3 =>
    rw [ho2] at hl
    have hl : lv_has ls 5 [(3, .int (nI y3)), (2, .int (MI 29 k)), (0, .ref o), (1, .int (nI k))] := hl
    have hy3 : y3 < 6 := f_Model_entryOf_lt ho2
    refine lv_aload_n hx hb d_Model_takesBack_13 rfl (lv_at hl 2 rfl) ?_
    refine mg_63 X w d_Model_takesBack_14 ?_
    refine lv_iload_n hx hb d_Model_takesBack_17 rfl (lv_at hl 0 rfl) ?_
    refine lv_aload_n hx hb d_Model_takesBack_18 rfl (lv_at hl 2 rfl) ?_
    refine mg_108 X w d_Model_takesBack_19 ?_
    refine lv_iload_n hx hb d_Model_takesBack_22 rfl (lv_at hl 3 rfl) ?_
    refine ald_32 X w k (v := MI 32 k) (by omega) rfl rfl d_Model_takesBack_23 ?_
    refine ast_17 X w y3 (by omega) rfl d_Model_takesBack_24 (fun H locs w => ?_)
    refine lv_aload_n hx hb d_Model_takesBack_25 rfl (lv_at hl 2 rfl) ?_
    refine mg_66 X w d_Model_takesBack_26 ?_
    refine lv_iload_n hx hb d_Model_takesBack_29 rfl (lv_at hl 0 rfl) ?_
    refine lv_aload_n hx hb d_Model_takesBack_30 rfl (lv_at hl 2 rfl) ?_
    refine mg_114 X w d_Model_takesBack_31 ?_
    refine lv_iload_n hx hb d_Model_takesBack_34 rfl (lv_at hl 3 rfl) ?_
    refine ald_34 X w k (v := ML 34 k) (by omega) rfl rfl d_Model_takesBack_35 ?_
    refine ast_18 X w y3 (by omega) rfl d_Model_takesBack_36 (fun H locs w => ?_)
    refine lv_aload_n hx hb d_Model_takesBack_37 rfl (lv_at hl 2 rfl) ?_
    refine mg_69 X w d_Model_takesBack_38 ?_
    refine lv_iload_n hx hb d_Model_takesBack_41 rfl (lv_at hl 0 rfl) ?_
    refine lv_aload_n hx hb d_Model_takesBack_42 rfl (lv_at hl 2 rfl) ?_
    refine mg_111 X w d_Model_takesBack_43 ?_
    refine lv_iload_n hx hb d_Model_takesBack_46 rfl (lv_at hl 3 rfl) ?_
    refine ald_33 X w k (v := ML 33 k) (by omega) rfl rfl d_Model_takesBack_47 ?_
    refine ast_19 X w y3 (by omega) rfl d_Model_takesBack_48 (fun H locs w => ?_)
    refine lv_aload_n hx hb d_Model_takesBack_49 rfl (lv_at hl 2 rfl) ?_
    refine mg_72 X w d_Model_takesBack_50 ?_
    refine lv_iload_n hx hb d_Model_takesBack_53 rfl (lv_at hl 0 rfl) ?_
    refine lv_iconst (v := (-1)) hx hb d_Model_takesBack_54 (by decide) ?_
    refine ast_20 X w y3 (by omega) rfl d_Model_takesBack_55 (fun H locs w => ?_)
    refine lv_aload_n hx hb d_Model_takesBack_56 rfl (lv_at hl 2 rfl) ?_
    refine mg_75 X w d_Model_takesBack_57 ?_
    refine lv_iload_n hx hb d_Model_takesBack_60 rfl (lv_at hl 0 rfl) ?_
    refine lv_iconst (v := 0) hx hb d_Model_takesBack_61 (by decide) ?_
    refine ast_21 X w y3 (by decide) (by omega) rfl d_Model_takesBack_62 (fun H locs w => ?_)
    refine lv_aload_n hx hb d_Model_takesBack_63 rfl (lv_at hl 2 rfl) ?_
    refine lv_iload_n hx hb d_Model_takesBack_64 rfl (lv_at hl 3 rfl) ?_
    refine kcallv (ws0 := []) w (krunV (ws0 := []) (wc := mws ac o ad (up2 (up2 (up2 MI 17 y3 (MI 32 k)) 20 y3 (-1)) 21 y3 0) (up2 (up2 ML 18 y3 (ML 34 k)) 19 y3 (ML 33 k))) (n := 1) (As := [.int (nI k)]) (rest := []) (C := R_Model) X w (c_Model_remove l D ac o ad (up2 (up2 (up2 MI 17 y3 (MI 32 k)) 20 y3 (-1)) 21 y3 0) (up2 (up2 ML 18 y3 (ML 34 k)) 19 y3 (ML 33 k)) _ k hm hkm (Nat.lt_trans hm20 (by decide)) hup) wk_Model_remove wi_Model wm_Model_130 wx_Model_remove ws_Model_Model_remove (by decide +kernel) rfl rfl ⟨(Nat.le_of_ble_eq_true rfl), (Nat.le_of_ble_eq_true rfl)⟩ ⟨(Nat.le_of_ble_eq_true rfl), (Nat.le_of_ble_eq_true rfl)⟩ (mrecv X w) rfl hl.1 rfl (Nat.le_of_ble_eq_true rfl) d_Model_takesBack_65) (fun u H locs hp w => ?_)
    obtain rfl := hp
    have w : Wo D _ (mws ac o ad ((f_Model_remove (up2 (up2 (up2 MI 17 y3 (MI 32 k)) 20 y3 (-1)) 21 y3 0) (up2 (up2 ML 18 y3 (ML 34 k)) 19 y3 (ML 33 k)) k).1) ((f_Model_remove (up2 (up2 (up2 MI 17 y3 (MI 32 k)) 20 y3 (-1)) 21 y3 0) (up2 (up2 ML 18 y3 (ML 34 k)) 19 y3 (ML 33 k)) k).2)) s.heap H locs := w
    have hF : f_Model_takesBack MI ML k = f_Model_takesBack_68 ((f_Model_remove (up2 (up2 (up2 MI 17 y3 (MI 32 k)) 20 y3 (-1)) 21 y3 0) (up2 (up2 ML 18 y3 (ML 34 k)) 19 y3 (ML 33 k)) k).1) ((f_Model_remove (up2 (up2 (up2 MI 17 y3 (MI 32 k)) 20 y3 (-1)) 21 y3 0) (up2 (up2 ML 18 y3 (ML 34 k)) 19 y3 (ML 33 k)) k).2) (MI 29 k) y3 := by unfold f_Model_takesBack; rw [ho2, oc_some]
    exact g_Model_takesBack_68 X hr hk  ((f_Model_remove (up2 (up2 (up2 MI 17 y3 (MI 32 k)) 20 y3 (-1)) 21 y3 0) (up2 (up2 ML 18 y3 (ML 34 k)) 19 y3 (ML 33 k)) k).1) ((f_Model_remove (up2 (up2 (up2 MI 17 y3 (MI 32 k)) 20 y3 (-1)) 21 y3 0) (up2 (up2 ML 18 y3 (ML 34 k)) 19 y3 (ML 33 k)) k).2) (MI 29 k) y3 (by omega) (f_Model_remove_hm hkm (Nat.lt_trans hm20 (by decide))) (Nat.lt_of_le_of_lt (f_Model_remove_le hkm (Nat.lt_trans hm20 (by decide))) hm20) (f_Model_remove_up hkm hup) (by rw [f_Model_remove_k (by exact hkm) (by decide)]; exact hask y3 (by omega)) w (lv_sub hl [2, 1, 0] rfl) (by rw [hF])
def f_Model_can_n (MI : Nat → Nat → Int32) (ML : Nat → Nat → Int64) (c : Nat) (x : Int32) : Int32 :=
  0
set_option maxHeartbeats 4000000 in
set_option maxRecDepth 100000 in
theorem c_Model_can_n (l : Launch) (D : va_G) (ac : Nat → ClassId) (o : Nat) (ad : Nat → Nat) (MI : Nat → Nat → Int32) (ML : Nat → Nat → Int64) (sz : Nat) (c : Nat) (x : Int32) (hx1 : x = -1) : Met l y_Model_can [Cond.code y_Model_can b_Model_can 3 (some .boolean)] { frames := 0, cells := 0, slots := 0, locals := 0 } (va_Pc [.ref o, .int (nI c), .int x] (CPre D ac (mws ac o ad MI ML) sz)) (va_Qi (fun r u => r = f_Model_can_n MI ML c x ∧ u = mws ac o ad MI ML) (CPost D (mws ac o ad MI ML) sz) (va_A (mws ac o ad MI ML) sz)) 0 0 (va_A (mws ac o ad MI ML) sz) := by
  refine kofW (by decide) (Nat.le_of_ble_eq_true rfl) ?_
  intro p ev s m args below meth c0 ls X hr hk hnm hex hsz w hl
  have X : Cx b_Model_can 3 R_Model D ac p m args c0 s := X
  have hx := X.1
  have hb := X.2.1
  have hl : lv_has ls 3 [(0, .ref o), (1, .int (nI c)), (2, .int x)] := hl
  refine lv_iload_n hx hb d_Model_can_0 rfl (lv_at hl 2 rfl) ?_
  refine lv_if_ge (tgt := 6) hx hb d_Model_can_1 (by decide) (fun h => absurd h (by rw [hx1]; decide)) (fun _ => ?_)
  refine lv_iconst (v := 0) hx hb d_Model_can_4 (by decide) ?_
  have hF : f_Model_can_n MI ML c x = 0 := by rfl
  exact kzret X w hr hk (by decide) ⟨by rw [hF], rfl⟩ d_Model_can_5
theorem f_Model_room_75_1 (MI : Nat → Nat → Int32) (ML : Nat → Nat → Int64) (c li q : Nat) : (f_Model_room_75 MI ML c li q).1 = some q := by
  unfold f_Model_room_75
  repeat' split
  all_goals rfl
theorem f_Model_room_lt {MI : Nat → Nat → Int32} {ML : Nat → Nat → Int64} {c li : Nat} (hl : tn (MI 15 ((4 * c + 2 * (li % 2)) / 2)) < 2) : ∃ q, (f_Model_room MI ML c li).1 = some q ∧ 4 * c + 2 * (li % 2) ≤ q ∧ q ≤ 4 * c + 2 * (li % 2) + 1 := by
  unfold f_Model_room
  cases h : f_Model_placeOf MI ML c li with
  | some y =>
    rw [oc_some]
    have h2 := f_Model_placeOf_lt h
    exact ⟨y, rfl, by omega, by omega⟩
  | none =>
    rw [oc_none]
    repeat' split
    all_goals exact ⟨_, f_Model_room_75_1 _ _ _ _ _, by omega, by omega⟩
def f_Model_answered_36 (MI : Nat → Nat → Int32) (ML : Nat → Nat → Int64) (k : Nat) (c : Nat) (q : Nat) (b : Int32) : (Nat → Nat → Int32) × (Nat → Nat → Int64) :=
  if (MI 2 c) = 0 then
    if b = 0 then
      ((f_Model_does (up2 (up2 MI 11 q 0) 12 q (MI 32 k)) (up2 (up2 ML 14 q (ML 33 k)) 13 q (ML 34 k)) c q).1, (f_Model_does (up2 (up2 MI 11 q 0) 12 q (MI 32 k)) (up2 (up2 ML 14 q (ML 33 k)) 13 q (ML 34 k)) c q).2)
    else
      ((f_Model_does (up2 (up2 MI 11 q 0) 12 q (MI 12 q)) (up2 (up2 ML 14 q (ML 33 k)) 13 q (ML 13 q)) c q).1, (f_Model_does (up2 (up2 MI 11 q 0) 12 q (MI 12 q)) (up2 (up2 ML 14 q (ML 33 k)) 13 q (ML 13 q)) c q).2)
  else
    if b = 0 then
      ((f_Model_does (up2 (up2 MI 11 q 1) 12 q (MI 32 k)) (up2 (up2 ML 14 q (ML 33 k)) 13 q (ML 34 k)) c q).1, (f_Model_does (up2 (up2 MI 11 q 1) 12 q (MI 32 k)) (up2 (up2 ML 14 q (ML 33 k)) 13 q (ML 34 k)) c q).2)
    else
      ((f_Model_does (up2 (up2 MI 11 q 1) 12 q (MI 12 q)) (up2 (up2 ML 14 q (ML 33 k)) 13 q (ML 13 q)) c q).1, (f_Model_does (up2 (up2 MI 11 q 1) 12 q (MI 12 q)) (up2 (up2 ML 14 q (ML 33 k)) 13 q (ML 13 q)) c q).2)
set_option maxHeartbeats 4000000 in
set_option maxRecDepth 100000 in
theorem g_Model_answered_36 {p : Program} {l : Launch} {ev : Env} {s : State} {m : MethodId} {args : Array Value} {below : List Frame} {meth : Method} {c0 : Code} {D : va_G} {ac : Nat → ClassId} {o : Nat} {ad : Nat → Nat} {ws0 : va_W} {sz : Nat} {post : va_W → Prop} (X : Cx b_Model_answered 5 R_Model D ac p m args c0 s) (hr : meth.sig.returnType = none) (hk : meth.locks = false) (MI : Nat → Nat → Int32) (ML : Nat → Nat → Int64) (k : Nat) (c : Nat) (q : Nat) (b : Int32) (hk25 : k < 25) (hc : c < 3) (hq : q < 12) {H : Heap} {locs : List Loc} {ls : Array Slot} (w : Wo D (va_A ws0 sz) (mws ac o ad MI ML) s.heap H locs) (hl : lv_has ls 5 [(0, .ref o), (1, .int (nI k)), (2, .int (nI c)), (3, .int (nI q)), (4, .int b)]) (hp : post (mws ac o ad (f_Model_answered_36 MI ML k c q b).1 (f_Model_answered_36 MI ML k c q b).2)) : W p l ev ({ frames := 2, cells := 0, slots := 0, locals := 53 } : Room) s m args below meth c0 H locs 0 0 (MQ below (va_Qv post (CPost D ws0 sz) (va_A ws0 sz)) args s 0 0 (va_A ws0 sz)) (F0 m 36 ls []) := by
  have hx := X.1
  have hb := X.2.1
  refine lv_aload_n hx hb d_Model_answered_36 rfl (lv_at hl 0 rfl) ?_
  refine mg_45 X w d_Model_answered_37 ?_
  refine lv_iload_n hx hb d_Model_answered_40 rfl (lv_at hl 3 rfl) ?_
  refine lv_aload_n hx hb d_Model_answered_41 rfl (lv_at hl 0 rfl) ?_
  refine mg_17 X w d_Model_answered_42 ?_
  refine lv_iload_n hx hb d_Model_answered_45 rfl (lv_at hl 2 rfl) ?_
  refine ald_2 X w c (v := MI 2 c) (by omega) rfl rfl d_Model_answered_46 ?_
  refine lv_if_eq (tgt := 54) hx hb d_Model_answered_47 (by decide) (fun h1 => ?_) (fun h1 => ?_)
  · skip
    refine lv_iconst (v := 0) hx hb d_Model_answered_54 (by decide) ?_
    refine ast_11 X w q (by decide) (by omega) rfl d_Model_answered_55 (fun H locs w => ?_)
    refine lv_aload_n hx hb d_Model_answered_56 rfl (lv_at hl 0 rfl) ?_
    refine mg_54 X w d_Model_answered_57 ?_
    refine lv_iload_n hx hb d_Model_answered_60 rfl (lv_at hl 3 rfl) ?_
    refine lv_aload_n hx hb d_Model_answered_61 rfl (lv_at hl 0 rfl) ?_
    refine mg_111 X w d_Model_answered_62 ?_
    refine lv_iload_n hx hb d_Model_answered_65 rfl (lv_at hl 1 rfl) ?_
    refine ald_33 X w k (v := ML 33 k) (by omega) rfl rfl d_Model_answered_66 ?_
    refine ast_14 X w q (by omega) rfl d_Model_answered_67 (fun H locs w => ?_)
    refine lv_aload_n hx hb d_Model_answered_68 rfl (lv_at hl 0 rfl) ?_
    refine mg_48 X w d_Model_answered_69 ?_
    refine lv_iload_n hx hb d_Model_answered_72 rfl (lv_at hl 3 rfl) ?_
    refine lv_iload hx hb d_Model_answered_73 (lv_at hl 4 rfl) ?_
    refine lv_if_eq (tgt := 87) hx hb d_Model_answered_75 (by decide) (fun h2 => ?_) (fun h2 => ?_)
    · skip
      refine lv_aload_n hx hb d_Model_answered_87 rfl (lv_at hl 0 rfl) ?_
      refine mg_108 X w d_Model_answered_88 ?_
      refine lv_iload_n hx hb d_Model_answered_91 rfl (lv_at hl 1 rfl) ?_
      refine ald_32 X w k (v := MI 32 k) (by omega) rfl rfl d_Model_answered_92 ?_
      refine ast_12 X w q (by omega) rfl d_Model_answered_93 (fun H locs w => ?_)
      refine lv_aload_n hx hb d_Model_answered_94 rfl (lv_at hl 0 rfl) ?_
      refine mg_51 X w d_Model_answered_95 ?_
      refine lv_iload_n hx hb d_Model_answered_98 rfl (lv_at hl 3 rfl) ?_
      refine lv_iload hx hb d_Model_answered_99 (lv_at hl 4 rfl) ?_
      refine lv_if_eq (tgt := 113) hx hb d_Model_answered_101 (by decide) (fun _ => ?_) (fun h => absurd h2 h)
      refine lv_aload_n hx hb d_Model_answered_113 rfl (lv_at hl 0 rfl) ?_
      refine mg_114 X w d_Model_answered_114 ?_
      refine lv_iload_n hx hb d_Model_answered_117 rfl (lv_at hl 1 rfl) ?_
      refine ald_34 X w k (v := ML 34 k) (by omega) rfl rfl d_Model_answered_118 ?_
      refine ast_13 X w q (by omega) rfl d_Model_answered_119 (fun H locs w => ?_)
      refine lv_aload_n hx hb d_Model_answered_120 rfl (lv_at hl 0 rfl) ?_
      refine lv_iload_n hx hb d_Model_answered_121 rfl (lv_at hl 2 rfl) ?_
      refine lv_iload_n hx hb d_Model_answered_122 rfl (lv_at hl 3 rfl) ?_
      refine kcallv (ws0 := []) w (krunV (ws0 := []) (wc := mws ac o ad (up2 (up2 MI 11 q 0) 12 q (MI 32 k)) (up2 (up2 ML 14 q (ML 33 k)) 13 q (ML 34 k))) (n := 2) (As := [.int (nI c), .int (nI q)]) (rest := []) (C := R_Model) X w (c_Model_does l D ac o ad (up2 (up2 MI 11 q 0) 12 q (MI 32 k)) (up2 (up2 ML 14 q (ML 33 k)) 13 q (ML 34 k)) _ c q (by omega) (by omega)) wk_Model_does wi_Model wm_Model_161 wx_Model_does ws_Model_Model_does (by decide +kernel) rfl rfl ⟨(Nat.le_of_ble_eq_true rfl), (Nat.le_of_ble_eq_true rfl)⟩ ⟨(Nat.le_of_ble_eq_true rfl), (Nat.le_of_ble_eq_true rfl)⟩ (mrecv X w) rfl hl.1 rfl (Nat.le_of_ble_eq_true rfl) d_Model_answered_123) (fun u H locs hp w => ?_)
      obtain rfl := hp
      have w : Wo D _ (mws ac o ad ((f_Model_does (up2 (up2 MI 11 q 0) 12 q (MI 32 k)) (up2 (up2 ML 14 q (ML 33 k)) 13 q (ML 34 k)) c q).1) ((f_Model_does (up2 (up2 MI 11 q 0) 12 q (MI 32 k)) (up2 (up2 ML 14 q (ML 33 k)) 13 q (ML 34 k)) c q).2)) s.heap H locs := w
      have hF : f_Model_answered_36 MI ML k c q b = ((f_Model_does (up2 (up2 MI 11 q 0) 12 q (MI 32 k)) (up2 (up2 ML 14 q (ML 33 k)) 13 q (ML 34 k)) c q).1, (f_Model_does (up2 (up2 MI 11 q 0) 12 q (MI 32 k)) (up2 (up2 ML 14 q (ML 33 k)) 13 q (ML 34 k)) c q).2) := by unfold f_Model_answered_36; rw [if_pos h1, if_pos h2]
      exact kvret (Qc := fun _ _ _ _ => True) X w hr hk (by rw [hF] at hp; exact hp) d_Model_answered_126
    · skip
      refine lv_aload_n hx hb d_Model_answered_78 rfl (lv_at hl 0 rfl) ?_
      refine mg_48 X w d_Model_answered_79 ?_
      refine lv_iload_n hx hb d_Model_answered_82 rfl (lv_at hl 3 rfl) ?_
      refine ald_12 X w q (v := MI 12 q) (by omega) rfl rfl d_Model_answered_83 ?_
      refine lv_goto (tgt := 93) hx hb d_Model_answered_84 (by decide) ?_
      refine ast_12 X w q (by omega) rfl d_Model_answered_93 (fun H locs w => ?_)
      refine lv_aload_n hx hb d_Model_answered_94 rfl (lv_at hl 0 rfl) ?_
      refine mg_51 X w d_Model_answered_95 ?_
      refine lv_iload_n hx hb d_Model_answered_98 rfl (lv_at hl 3 rfl) ?_
      refine lv_iload hx hb d_Model_answered_99 (lv_at hl 4 rfl) ?_
      refine lv_if_eq (tgt := 113) hx hb d_Model_answered_101 (by decide) (fun h => absurd h h2) (fun _ => ?_)
      refine lv_aload_n hx hb d_Model_answered_104 rfl (lv_at hl 0 rfl) ?_
      refine mg_51 X w d_Model_answered_105 ?_
      refine lv_iload_n hx hb d_Model_answered_108 rfl (lv_at hl 3 rfl) ?_
      refine ald_13 X w q (v := ML 13 q) (by omega) rfl rfl d_Model_answered_109 ?_
      refine lv_goto (tgt := 119) hx hb d_Model_answered_110 (by decide) ?_
      refine ast_13 X w q (by omega) rfl d_Model_answered_119 (fun H locs w => ?_)
      refine lv_aload_n hx hb d_Model_answered_120 rfl (lv_at hl 0 rfl) ?_
      refine lv_iload_n hx hb d_Model_answered_121 rfl (lv_at hl 2 rfl) ?_
      refine lv_iload_n hx hb d_Model_answered_122 rfl (lv_at hl 3 rfl) ?_
      refine kcallv (ws0 := []) w (krunV (ws0 := []) (wc := mws ac o ad (up2 (up2 MI 11 q 0) 12 q (MI 12 q)) (up2 (up2 ML 14 q (ML 33 k)) 13 q (ML 13 q))) (n := 2) (As := [.int (nI c), .int (nI q)]) (rest := []) (C := R_Model) X w (c_Model_does l D ac o ad (up2 (up2 MI 11 q 0) 12 q (MI 12 q)) (up2 (up2 ML 14 q (ML 33 k)) 13 q (ML 13 q)) _ c q (by omega) (by omega)) wk_Model_does wi_Model wm_Model_161 wx_Model_does ws_Model_Model_does (by decide +kernel) rfl rfl ⟨(Nat.le_of_ble_eq_true rfl), (Nat.le_of_ble_eq_true rfl)⟩ ⟨(Nat.le_of_ble_eq_true rfl), (Nat.le_of_ble_eq_true rfl)⟩ (mrecv X w) rfl hl.1 rfl (Nat.le_of_ble_eq_true rfl) d_Model_answered_123) (fun u H locs hp w => ?_)
      obtain rfl := hp
      have w : Wo D _ (mws ac o ad ((f_Model_does (up2 (up2 MI 11 q 0) 12 q (MI 12 q)) (up2 (up2 ML 14 q (ML 33 k)) 13 q (ML 13 q)) c q).1) ((f_Model_does (up2 (up2 MI 11 q 0) 12 q (MI 12 q)) (up2 (up2 ML 14 q (ML 33 k)) 13 q (ML 13 q)) c q).2)) s.heap H locs := w
      have hF : f_Model_answered_36 MI ML k c q b = ((f_Model_does (up2 (up2 MI 11 q 0) 12 q (MI 12 q)) (up2 (up2 ML 14 q (ML 33 k)) 13 q (ML 13 q)) c q).1, (f_Model_does (up2 (up2 MI 11 q 0) 12 q (MI 12 q)) (up2 (up2 ML 14 q (ML 33 k)) 13 q (ML 13 q)) c q).2) := by unfold f_Model_answered_36; rw [if_pos h1, if_neg h2]
      exact kvret (Qc := fun _ _ _ _ => True) X w hr hk (by rw [hF] at hp; exact hp) d_Model_answered_126
  · skip
    refine lv_iconst (v := 1) hx hb d_Model_answered_50 (by decide) ?_
    refine lv_goto (tgt := 55) hx hb d_Model_answered_51 (by decide) ?_
    refine ast_11 X w q (by decide) (by omega) rfl d_Model_answered_55 (fun H locs w => ?_)
    refine lv_aload_n hx hb d_Model_answered_56 rfl (lv_at hl 0 rfl) ?_
    refine mg_54 X w d_Model_answered_57 ?_
    refine lv_iload_n hx hb d_Model_answered_60 rfl (lv_at hl 3 rfl) ?_
    refine lv_aload_n hx hb d_Model_answered_61 rfl (lv_at hl 0 rfl) ?_
    refine mg_111 X w d_Model_answered_62 ?_
    refine lv_iload_n hx hb d_Model_answered_65 rfl (lv_at hl 1 rfl) ?_
    refine ald_33 X w k (v := ML 33 k) (by omega) rfl rfl d_Model_answered_66 ?_
    refine ast_14 X w q (by omega) rfl d_Model_answered_67 (fun H locs w => ?_)
    refine lv_aload_n hx hb d_Model_answered_68 rfl (lv_at hl 0 rfl) ?_
    refine mg_48 X w d_Model_answered_69 ?_
    refine lv_iload_n hx hb d_Model_answered_72 rfl (lv_at hl 3 rfl) ?_
    refine lv_iload hx hb d_Model_answered_73 (lv_at hl 4 rfl) ?_
    refine lv_if_eq (tgt := 87) hx hb d_Model_answered_75 (by decide) (fun h3 => ?_) (fun h3 => ?_)
    · skip
      refine lv_aload_n hx hb d_Model_answered_87 rfl (lv_at hl 0 rfl) ?_
      refine mg_108 X w d_Model_answered_88 ?_
      refine lv_iload_n hx hb d_Model_answered_91 rfl (lv_at hl 1 rfl) ?_
      refine ald_32 X w k (v := MI 32 k) (by omega) rfl rfl d_Model_answered_92 ?_
      refine ast_12 X w q (by omega) rfl d_Model_answered_93 (fun H locs w => ?_)
      refine lv_aload_n hx hb d_Model_answered_94 rfl (lv_at hl 0 rfl) ?_
      refine mg_51 X w d_Model_answered_95 ?_
      refine lv_iload_n hx hb d_Model_answered_98 rfl (lv_at hl 3 rfl) ?_
      refine lv_iload hx hb d_Model_answered_99 (lv_at hl 4 rfl) ?_
      refine lv_if_eq (tgt := 113) hx hb d_Model_answered_101 (by decide) (fun _ => ?_) (fun h => absurd h3 h)
      refine lv_aload_n hx hb d_Model_answered_113 rfl (lv_at hl 0 rfl) ?_
      refine mg_114 X w d_Model_answered_114 ?_
      refine lv_iload_n hx hb d_Model_answered_117 rfl (lv_at hl 1 rfl) ?_
      refine ald_34 X w k (v := ML 34 k) (by omega) rfl rfl d_Model_answered_118 ?_
      refine ast_13 X w q (by omega) rfl d_Model_answered_119 (fun H locs w => ?_)
      refine lv_aload_n hx hb d_Model_answered_120 rfl (lv_at hl 0 rfl) ?_
      refine lv_iload_n hx hb d_Model_answered_121 rfl (lv_at hl 2 rfl) ?_
      refine lv_iload_n hx hb d_Model_answered_122 rfl (lv_at hl 3 rfl) ?_
      refine kcallv (ws0 := []) w (krunV (ws0 := []) (wc := mws ac o ad (up2 (up2 MI 11 q 1) 12 q (MI 32 k)) (up2 (up2 ML 14 q (ML 33 k)) 13 q (ML 34 k))) (n := 2) (As := [.int (nI c), .int (nI q)]) (rest := []) (C := R_Model) X w (c_Model_does l D ac o ad (up2 (up2 MI 11 q 1) 12 q (MI 32 k)) (up2 (up2 ML 14 q (ML 33 k)) 13 q (ML 34 k)) _ c q (by omega) (by omega)) wk_Model_does wi_Model wm_Model_161 wx_Model_does ws_Model_Model_does (by decide +kernel) rfl rfl ⟨(Nat.le_of_ble_eq_true rfl), (Nat.le_of_ble_eq_true rfl)⟩ ⟨(Nat.le_of_ble_eq_true rfl), (Nat.le_of_ble_eq_true rfl)⟩ (mrecv X w) rfl hl.1 rfl (Nat.le_of_ble_eq_true rfl) d_Model_answered_123) (fun u H locs hp w => ?_)
      obtain rfl := hp
      have w : Wo D _ (mws ac o ad ((f_Model_does (up2 (up2 MI 11 q 1) 12 q (MI 32 k)) (up2 (up2 ML 14 q (ML 33 k)) 13 q (ML 34 k)) c q).1) ((f_Model_does (up2 (up2 MI 11 q 1) 12 q (MI 32 k)) (up2 (up2 ML 14 q (ML 33 k)) 13 q (ML 34 k)) c q).2)) s.heap H locs := w
      have hF : f_Model_answered_36 MI ML k c q b = ((f_Model_does (up2 (up2 MI 11 q 1) 12 q (MI 32 k)) (up2 (up2 ML 14 q (ML 33 k)) 13 q (ML 34 k)) c q).1, (f_Model_does (up2 (up2 MI 11 q 1) 12 q (MI 32 k)) (up2 (up2 ML 14 q (ML 33 k)) 13 q (ML 34 k)) c q).2) := by unfold f_Model_answered_36; rw [if_neg h1, if_pos h3]
      exact kvret (Qc := fun _ _ _ _ => True) X w hr hk (by rw [hF] at hp; exact hp) d_Model_answered_126
    · skip
      refine lv_aload_n hx hb d_Model_answered_78 rfl (lv_at hl 0 rfl) ?_
      refine mg_48 X w d_Model_answered_79 ?_
      refine lv_iload_n hx hb d_Model_answered_82 rfl (lv_at hl 3 rfl) ?_
      refine ald_12 X w q (v := MI 12 q) (by omega) rfl rfl d_Model_answered_83 ?_
      refine lv_goto (tgt := 93) hx hb d_Model_answered_84 (by decide) ?_
      refine ast_12 X w q (by omega) rfl d_Model_answered_93 (fun H locs w => ?_)
      refine lv_aload_n hx hb d_Model_answered_94 rfl (lv_at hl 0 rfl) ?_
      refine mg_51 X w d_Model_answered_95 ?_
      refine lv_iload_n hx hb d_Model_answered_98 rfl (lv_at hl 3 rfl) ?_
      refine lv_iload hx hb d_Model_answered_99 (lv_at hl 4 rfl) ?_
      refine lv_if_eq (tgt := 113) hx hb d_Model_answered_101 (by decide) (fun h => absurd h h3) (fun _ => ?_)
      refine lv_aload_n hx hb d_Model_answered_104 rfl (lv_at hl 0 rfl) ?_
      refine mg_51 X w d_Model_answered_105 ?_
      refine lv_iload_n hx hb d_Model_answered_108 rfl (lv_at hl 3 rfl) ?_
      refine ald_13 X w q (v := ML 13 q) (by omega) rfl rfl d_Model_answered_109 ?_
      refine lv_goto (tgt := 119) hx hb d_Model_answered_110 (by decide) ?_
      refine ast_13 X w q (by omega) rfl d_Model_answered_119 (fun H locs w => ?_)
      refine lv_aload_n hx hb d_Model_answered_120 rfl (lv_at hl 0 rfl) ?_
      refine lv_iload_n hx hb d_Model_answered_121 rfl (lv_at hl 2 rfl) ?_
      refine lv_iload_n hx hb d_Model_answered_122 rfl (lv_at hl 3 rfl) ?_
      refine kcallv (ws0 := []) w (krunV (ws0 := []) (wc := mws ac o ad (up2 (up2 MI 11 q 1) 12 q (MI 12 q)) (up2 (up2 ML 14 q (ML 33 k)) 13 q (ML 13 q))) (n := 2) (As := [.int (nI c), .int (nI q)]) (rest := []) (C := R_Model) X w (c_Model_does l D ac o ad (up2 (up2 MI 11 q 1) 12 q (MI 12 q)) (up2 (up2 ML 14 q (ML 33 k)) 13 q (ML 13 q)) _ c q (by omega) (by omega)) wk_Model_does wi_Model wm_Model_161 wx_Model_does ws_Model_Model_does (by decide +kernel) rfl rfl ⟨(Nat.le_of_ble_eq_true rfl), (Nat.le_of_ble_eq_true rfl)⟩ ⟨(Nat.le_of_ble_eq_true rfl), (Nat.le_of_ble_eq_true rfl)⟩ (mrecv X w) rfl hl.1 rfl (Nat.le_of_ble_eq_true rfl) d_Model_answered_123) (fun u H locs hp w => ?_)
      obtain rfl := hp
      have w : Wo D _ (mws ac o ad ((f_Model_does (up2 (up2 MI 11 q 1) 12 q (MI 12 q)) (up2 (up2 ML 14 q (ML 33 k)) 13 q (ML 13 q)) c q).1) ((f_Model_does (up2 (up2 MI 11 q 1) 12 q (MI 12 q)) (up2 (up2 ML 14 q (ML 33 k)) 13 q (ML 13 q)) c q).2)) s.heap H locs := w
      have hF : f_Model_answered_36 MI ML k c q b = ((f_Model_does (up2 (up2 MI 11 q 1) 12 q (MI 12 q)) (up2 (up2 ML 14 q (ML 33 k)) 13 q (ML 13 q)) c q).1, (f_Model_does (up2 (up2 MI 11 q 1) 12 q (MI 12 q)) (up2 (up2 ML 14 q (ML 33 k)) 13 q (ML 13 q)) c q).2) := by unfold f_Model_answered_36; rw [if_neg h1, if_neg h3]
      exact kvret (Qc := fun _ _ _ _ => True) X w hr hk (by rw [hF] at hp; exact hp) d_Model_answered_126
def f_Model_answered (MI : Nat → Nat → Int32) (ML : Nat → Nat → Int64) (k : Nat) : (Nat → Nat → Int32) × (Nat → Nat → Int64) :=
  oc ((f_Model_room MI ML (tn (MI 30 k)) (tn (MI 29 k))).1) (
    (MI, ML))
    (fun y3 =>
    if (((f_Model_room MI ML (tn (MI 30 k)) (tn (MI 29 k))).2.1) 28 k) = 4 then
      f_Model_answered_36 ((f_Model_room MI ML (tn (MI 30 k)) (tn (MI 29 k))).2.1) ((f_Model_room MI ML (tn (MI 30 k)) (tn (MI 29 k))).2.2) k (tn (MI 30 k)) y3 1
    else
      f_Model_answered_36 ((f_Model_room MI ML (tn (MI 30 k)) (tn (MI 29 k))).2.1) ((f_Model_room MI ML (tn (MI 30 k)) (tn (MI 29 k))).2.2) k (tn (MI 30 k)) y3 0)
set_option maxHeartbeats 4000000 in
set_option maxRecDepth 100000 in
theorem c_Model_answered (l : Launch) (D : va_G) (ac : Nat → ClassId) (o : Nat) (ad : Nat → Nat) (MI : Nat → Nat → Int32) (ML : Nat → Nat → Int64) (sz : Nat) (k : Nat) (hk25 : k < 25) (hm : MI 38 0 = nI (tn (MI 38 0))) (hm20 : tn (MI 38 0) < 20) (hw : MI 30 k = nI (tn (MI 30 k)) ∧ tn (MI 30 k) < 3) (hli : MI 29 k = nI (tn (MI 29 k)) ∧ tn (MI 29 k) < 12) (hlat : ∀ j, j < 6 → MI 15 j = nI (tn (MI 15 j)) ∧ tn (MI 15 j) < 2) : Met l y_Model_answered [Cond.code y_Model_answered b_Model_answered 5 none] { frames := 2, cells := 0, slots := 0, locals := 53 } (va_Pc [.ref o, .int (nI k)] (CPre D ac (mws ac o ad MI ML) sz)) (va_Qv (fun u => u = mws ac o ad (f_Model_answered MI ML k).1 (f_Model_answered MI ML k).2) (CPost D (mws ac o ad MI ML) sz) (va_A (mws ac o ad MI ML) sz)) 0 0 (va_A (mws ac o ad MI ML) sz) := by
  refine kofW (by decide) (Nat.le_of_ble_eq_true rfl) ?_
  intro p ev s m args below meth c0 ls X hr hk hnm hex hsz w hl
  have X : Cx b_Model_answered 5 R_Model D ac p m args c0 s := X
  have hx := X.1
  have hb := X.2.1
  have hl : lv_has ls 5 [(0, .ref o), (1, .int (nI k))] := hl
  have hw2 := hw.2
  have hli2 := hli.2
  refine lv_aload_n hx hb d_Model_answered_0 rfl (lv_at hl 0 rfl) ?_
  refine mg_102 X w d_Model_answered_1 ?_
  refine lv_iload_n hx hb d_Model_answered_4 rfl (lv_at hl 1 rfl) ?_
  refine ald_30 X w k (v := MI 30 k) (by omega) rfl rfl d_Model_answered_5 ?_
  refine lv_istore_n (lv' := [(2, .int (MI 30 k)), (0, .ref o), (1, .int (nI k))]) hx hb d_Model_answered_6 rfl hl (by decide) rfl (fun ls hl => ?_)
  refine lv_aload_n hx hb d_Model_answered_7 rfl (lv_at hl 1 rfl) ?_
  refine lv_iload_n hx hb d_Model_answered_8 rfl (lv_at hl 0 rfl) ?_
  refine lv_aload_n hx hb d_Model_answered_9 rfl (lv_at hl 1 rfl) ?_
  refine mg_99 X w d_Model_answered_10 ?_
  refine lv_iload_n hx hb d_Model_answered_13 rfl (lv_at hl 2 rfl) ?_
  refine ald_29 X w k (v := MI 29 k) (by omega) rfl rfl d_Model_answered_14 ?_
  refine W.eq (g2 := F0 m 15 ls [.int (nI (tn (MI 29 k))), .int (nI (tn (MI 30 k))), .ref o]) (by rw [← hw.1, ← hli.1]) ?_
  refine kcalli (ws0 := []) w (krunV (ws0 := []) (wc := mws ac o ad MI ML) (n := 2) (As := [.int (nI (tn (MI 30 k))), .int (nI (tn (MI 29 k)))]) (rest := []) (C := R_Model) X w (c_Model_room l D ac o ad MI ML _ (tn (MI 30 k)) (tn (MI 29 k)) hw.2 hli.2 hlat hm (by omega)) wk_Model_room wi_Model wm_Model_191 wx_Model_room ws_Model_Model_room (by decide +kernel) rfl rfl ⟨(Nat.le_of_ble_eq_true rfl), (Nat.le_of_ble_eq_true rfl)⟩ ⟨(Nat.le_of_ble_eq_true rfl), (Nat.le_of_ble_eq_true rfl)⟩ (mrecv X w) rfl hl.1 rfl (Nat.le_of_ble_eq_true rfl) d_Model_answered_15) (fun r1 u H locs hp w => ?_)
  obtain ⟨rfl, rfl⟩ := hp
  have w : Wo D _ (mws ac o ad ((f_Model_room MI ML (tn (MI 30 k)) (tn (MI 29 k))).2.1) ((f_Model_room MI ML (tn (MI 30 k)) (tn (MI 29 k))).2.2)) s.heap H locs := w
  refine lv_istore_n (lv' := [(3, .int (oI (f_Model_room MI ML (tn (MI 30 k)) (tn (MI 29 k))).1)), (2, .int (MI 30 k)), (0, .ref o), (1, .int (nI k))]) hx hb d_Model_answered_18 rfl hl (by decide) rfl (fun ls hl => ?_)
  cases ho2 : (f_Model_room MI ML (tn (MI 30 k)) (tn (MI 29 k))).1 with
  | none =>
    rw [ho2] at hl
    have hl : lv_has ls 5 [(3, .int (-1)), (2, .int (MI 30 k)), (0, .ref o), (1, .int (nI k))] := hl
    obtain ⟨q9, e9, -, -⟩ := f_Model_room_lt (MI := MI) (ML := ML) (c := tn (MI 30 k)) (li := tn (MI 29 k)) (hlat _ (by omega)).2
    rw [ho2] at e9; cases e9
  | some y3 =>
    rw [ho2] at hl
    have hl : lv_has ls 5 [(3, .int (nI y3)), (2, .int (MI 30 k)), (0, .ref o), (1, .int (nI k))] := hl
    have hy3 : y3 < 12 := by
        obtain ⟨q9, e9, h8, h9⟩ := f_Model_room_lt (MI := MI) (ML := ML) (c := (tn (MI 30 k))) (li := (tn (MI 29 k))) (hlat _ (by omega)).2
        rw [ho2] at e9; cases e9; omega
    refine lv_aload_n hx hb d_Model_answered_19 rfl (lv_at hl 2 rfl) ?_
    refine mg_96 X w d_Model_answered_20 ?_
    refine lv_iload_n hx hb d_Model_answered_23 rfl (lv_at hl 3 rfl) ?_
    refine ald_28 X w k (v := ((f_Model_room MI ML (tn (MI 30 k)) (tn (MI 29 k))).2.1) 28 k) (by omega) rfl rfl d_Model_answered_24 ?_
    refine lv_iconst (v := 4) hx hb d_Model_answered_25 (by decide) ?_
    refine lv_icmp_ne (tgt := 33) hx hb d_Model_answered_26 (by decide) (fun h4 => ?_) (fun h4 => ?_)
    · skip
      refine lv_iconst (v := 0) hx hb d_Model_answered_33 (by decide) ?_
      refine lv_istore (lv' := [(4, .int 0), (3, .int (nI y3)), (2, .int (MI 30 k)), (0, .ref o), (1, .int (nI k))]) hx hb d_Model_answered_34 hl (by decide) rfl (fun ls hl => ?_)
      rw [hw.1] at hl
      have hF : f_Model_answered MI ML k = f_Model_answered_36 ((f_Model_room MI ML (tn (MI 30 k)) (tn (MI 29 k))).2.1) ((f_Model_room MI ML (tn (MI 30 k)) (tn (MI 29 k))).2.2) k (tn (MI 30 k)) y3 0 := by unfold f_Model_answered; rw [ho2, oc_some, if_neg h4]
      exact g_Model_answered_36 X hr hk  ((f_Model_room MI ML (tn (MI 30 k)) (tn (MI 29 k))).2.1) ((f_Model_room MI ML (tn (MI 30 k)) (tn (MI 29 k))).2.2) k (tn (MI 30 k)) y3 0 hk25 hw.2 (by omega) w (lv_sub hl [3, 4, 2, 1, 0] rfl) (by rw [hF])
    · skip
      refine lv_iconst (v := 1) hx hb d_Model_answered_29 (by decide) ?_
      refine lv_goto (tgt := 34) hx hb d_Model_answered_30 (by decide) ?_
      refine lv_istore (lv' := [(4, .int 1), (3, .int (nI y3)), (2, .int (MI 30 k)), (0, .ref o), (1, .int (nI k))]) hx hb d_Model_answered_34 hl (by decide) rfl (fun ls hl => ?_)
      rw [hw.1] at hl
      have hF : f_Model_answered MI ML k = f_Model_answered_36 ((f_Model_room MI ML (tn (MI 30 k)) (tn (MI 29 k))).2.1) ((f_Model_room MI ML (tn (MI 30 k)) (tn (MI 29 k))).2.2) k (tn (MI 30 k)) y3 1 := by unfold f_Model_answered; rw [ho2, oc_some, if_pos h4]
      exact g_Model_answered_36 X hr hk  ((f_Model_room MI ML (tn (MI 30 k)) (tn (MI 29 k))).2.1) ((f_Model_room MI ML (tn (MI 30 k)) (tn (MI 29 k))).2.2) k (tn (MI 30 k)) y3 1 hk25 hw.2 (by omega) w (lv_sub hl [3, 4, 2, 1, 0] rfl) (by rw [hF])
def f_Model_gives_107 (MI : Nat → Nat → Int32) (ML : Nat → Nat → Int64) (c : Nat) (li : Nat) (q : Nat) (b : Int32) (t : Int64) : Int32 × (Nat → Nat → Int32) × (Nat → Nat → Int64) :=
  if b = 0 then
    (1, up2 (up2 (up2 (up2 (up2 (up2 (up2 MI 10 q (-1)) 28 (tn ((up2 MI 10 q (-1)) 38 0)) 7) 29 (tn ((up2 MI 10 q (-1)) 38 0)) (nI li)) 30 (tn ((up2 MI 10 q (-1)) 38 0)) (nI c)) 31 (tn ((up2 MI 10 q (-1)) 38 0)) 1) 32 (tn ((up2 MI 10 q (-1)) 38 0)) (MI 12 q)) 38 0 (nI ((tn ((up2 MI 10 q (-1)) 38 0)) + 1)), up2 (up2 ML 33 (tn ((up2 MI 10 q (-1)) 38 0)) (ML 14 q)) 34 (tn ((up2 MI 10 q (-1)) 38 0)) (ML 13 q))
  else
    (1, up2 (up2 (up2 (up2 (up2 (up2 (up2 MI 11 q 0) 28 (tn ((up2 MI 11 q 0) 38 0)) 8) 29 (tn ((up2 MI 11 q 0) 38 0)) (nI li)) 30 (tn ((up2 MI 11 q 0) 38 0)) (nI c)) 31 (tn ((up2 MI 11 q 0) 38 0)) 1) 32 (tn ((up2 MI 11 q 0) 38 0)) (MI 12 q)) 38 0 (nI ((tn ((up2 MI 11 q 0) 38 0)) + 1)), up2 (up2 (up2 ML 14 q (f_Model_most (ML 14 q) (f_Model_most ((ML 13 q) + ((MI 36 0).toInt64)) t))) 33 (tn ((up2 MI 11 q 0) 38 0)) (f_Model_most (ML 14 q) (f_Model_most ((ML 13 q) + ((MI 36 0).toInt64)) t))) 34 (tn ((up2 MI 11 q 0) 38 0)) (ML 13 q))
set_option maxHeartbeats 4000000 in
set_option maxRecDepth 100000 in
theorem g_Model_gives_107 {p : Program} {l : Launch} {ev : Env} {s : State} {m : MethodId} {args : Array Value} {below : List Frame} {meth : Method} {c0 : Code} {D : va_G} {ac : Nat → ClassId} {o : Nat} {ad : Nat → Nat} {ws0 : va_W} {sz : Nat} {post : Int32 → va_W → Prop} (X : Cx b_Model_gives 9 R_Model D ac p m args c0 s) (hr : meth.sig.returnType = (some .boolean)) (hk : meth.locks = false) (MI : Nat → Nat → Int32) (ML : Nat → Nat → Int64) (c : Nat) (li : Nat) (q : Nat) (b : Int32) (t : Int64) (hc : c < 3) (hli : li < 12) (hq : q < 12) (hm : MI 38 0 = nI (tn (MI 38 0))) (hm20 : tn (MI 38 0) < 20) {H : Heap} {locs : List Loc} {ls : Array Slot} (w : Wo D (va_A ws0 sz) (mws ac o ad MI ML) s.heap H locs) (hl : lv_has ls 9 [(0, .ref o), (2, .int (nI c)), (3, .int (nI li)), (4, .int (nI q)), (6, .int b), (7, .long t)]) (hp : post ((f_Model_gives_107 MI ML c li q b t).1) (mws ac o ad (f_Model_gives_107 MI ML c li q b t).2.1 (f_Model_gives_107 MI ML c li q b t).2.2)) : W p l ev ({ frames := 1, cells := 0, slots := 0, locals := 29 } : Room) s m args below meth c0 H locs 0 0 (MQ below (va_Qi post (CPost D ws0 sz) (va_A ws0 sz)) args s 0 0 (va_A ws0 sz)) (F0 m 107 ls []) := by
  have hx := X.1
  have hb := X.2.1
  refine lv_iload hx hb d_Model_gives_107 (lv_at hl 4 rfl) ?_
  refine lv_if_eq (tgt := 158) hx hb d_Model_gives_109 (by decide) (fun h1 => ?_) (fun h1 => ?_)
  · skip
    refine lv_aload_n hx hb d_Model_gives_158 rfl (lv_at hl 0 rfl) ?_
    refine mg_42 X w d_Model_gives_159 ?_
    refine lv_iload hx hb d_Model_gives_162 (lv_at hl 3 rfl) ?_
    refine lv_iconst (v := (-1)) hx hb d_Model_gives_164 (by decide) ?_
    refine ast_10 X w q (by omega) rfl d_Model_gives_165 (fun H locs w => ?_)
    refine lv_aload_n hx hb d_Model_gives_166 rfl (lv_at hl 0 rfl) ?_
    refine lv_iload hx hb d_Model_gives_167 (lv_at hl 4 rfl) ?_
    refine lv_if_eq (tgt := 177) hx hb d_Model_gives_169 (by decide) (fun _ => ?_) (fun h => absurd h1 h)
    refine lv_bipush (v := 7) hx hb d_Model_gives_177 (by decide) ?_
    refine lv_iload_n hx hb d_Model_gives_179 rfl (lv_at hl 2 rfl) ?_
    refine lv_iload_n hx hb d_Model_gives_180 rfl (lv_at hl 1 rfl) ?_
    refine lv_iconst (v := 1) hx hb d_Model_gives_181 (by decide) ?_
    refine lv_aload_n hx hb d_Model_gives_182 rfl (lv_at hl 0 rfl) ?_
    refine mg_48 X w d_Model_gives_183 ?_
    refine lv_iload hx hb d_Model_gives_186 (lv_at hl 3 rfl) ?_
    refine ald_12 X w q (v := MI 12 q) (by omega) rfl rfl d_Model_gives_188 ?_
    refine lv_aload_n hx hb d_Model_gives_189 rfl (lv_at hl 0 rfl) ?_
    refine mg_54 X w d_Model_gives_190 ?_
    refine lv_iload hx hb d_Model_gives_193 (lv_at hl 3 rfl) ?_
    refine ald_14 X w q (v := ML 14 q) (by omega) rfl rfl d_Model_gives_195 ?_
    refine lv_aload_n hx hb d_Model_gives_196 rfl (lv_at hl 0 rfl) ?_
    refine mg_51 X w d_Model_gives_197 ?_
    refine lv_iload hx hb d_Model_gives_200 (lv_at hl 3 rfl) ?_
    refine ald_13 X w q (v := ML 13 q) (by omega) rfl rfl d_Model_gives_202 ?_
    refine kcallv (ws0 := []) w (krunV (ws0 := []) (wc := mws ac o ad (up2 MI 10 q (-1)) ML) (n := 7) (As := [.int 7, .int (nI li), .int (nI c), .int 1, .int (MI 12 q), .long (ML 14 q), .long (ML 13 q)]) (rest := []) (C := R_Model) X w (c_Model_send l D ac o ad (up2 MI 10 q (-1)) ML _ 7 (nI li) (nI c) 1 (MI 12 q) (ML 14 q) (ML 13 q) hm (Nat.lt_trans hm20 (by decide)) (by decide)) wk_Model_send wi_Model wm_Model_138 wx_Model_send ws_Model_Model_send (by decide +kernel) rfl rfl ⟨(Nat.le_of_ble_eq_true rfl), (Nat.le_of_ble_eq_true rfl)⟩ ⟨(Nat.le_of_ble_eq_true rfl), (Nat.le_of_ble_eq_true rfl)⟩ (mrecv X w) rfl hl.1 rfl (Nat.le_of_ble_eq_true rfl) d_Model_gives_203) (fun u H locs hp w => ?_)
    obtain rfl := hp
    have w : Wo D _ (mws ac o ad (up2 (up2 (up2 (up2 (up2 (up2 (up2 MI 10 q (-1)) 28 (tn ((up2 MI 10 q (-1)) 38 0)) 7) 29 (tn ((up2 MI 10 q (-1)) 38 0)) (nI li)) 30 (tn ((up2 MI 10 q (-1)) 38 0)) (nI c)) 31 (tn ((up2 MI 10 q (-1)) 38 0)) 1) 32 (tn ((up2 MI 10 q (-1)) 38 0)) (MI 12 q)) 38 0 (nI ((tn ((up2 MI 10 q (-1)) 38 0)) + 1))) (up2 (up2 ML 33 (tn ((up2 MI 10 q (-1)) 38 0)) (ML 14 q)) 34 (tn ((up2 MI 10 q (-1)) 38 0)) (ML 13 q))) s.heap H locs := w
    refine lv_iconst (v := 1) hx hb d_Model_gives_206 (by decide) ?_
    have hF : f_Model_gives_107 MI ML c li q b t = (1, up2 (up2 (up2 (up2 (up2 (up2 (up2 MI 10 q (-1)) 28 (tn ((up2 MI 10 q (-1)) 38 0)) 7) 29 (tn ((up2 MI 10 q (-1)) 38 0)) (nI li)) 30 (tn ((up2 MI 10 q (-1)) 38 0)) (nI c)) 31 (tn ((up2 MI 10 q (-1)) 38 0)) 1) 32 (tn ((up2 MI 10 q (-1)) 38 0)) (MI 12 q)) 38 0 (nI ((tn ((up2 MI 10 q (-1)) 38 0)) + 1)), up2 (up2 ML 33 (tn ((up2 MI 10 q (-1)) 38 0)) (ML 14 q)) 34 (tn ((up2 MI 10 q (-1)) 38 0)) (ML 13 q)) := by unfold f_Model_gives_107; rw [if_pos h1]
    exact kzret X w hr hk (by decide) (by rw [hF] at hp; exact hp) d_Model_gives_207
  · skip
    refine lv_aload_n hx hb d_Model_gives_112 rfl (lv_at hl 0 rfl) ?_
    refine mg_54 X w d_Model_gives_113 ?_
    refine lv_iload hx hb d_Model_gives_116 (lv_at hl 3 rfl) ?_
    refine lv_aload_n hx hb d_Model_gives_118 rfl (lv_at hl 0 rfl) ?_
    refine mg_54 X w d_Model_gives_119 ?_
    refine lv_iload hx hb d_Model_gives_122 (lv_at hl 3 rfl) ?_
    refine ald_14 X w q (v := ML 14 q) (by omega) rfl rfl d_Model_gives_124 ?_
    refine lv_aload_n hx hb d_Model_gives_125 rfl (lv_at hl 0 rfl) ?_
    refine mg_51 X w d_Model_gives_126 ?_
    refine lv_iload hx hb d_Model_gives_129 (lv_at hl 3 rfl) ?_
    refine ald_13 X w q (v := ML 13 q) (by omega) rfl rfl d_Model_gives_131 ?_
    refine lv_aload_n hx hb d_Model_gives_132 rfl (lv_at hl 0 rfl) ?_
    refine mg_117 X w (v := MI 36 0) rfl d_Model_gives_133 ?_
    refine lv_i2l (v := (MI 36 0).toInt64) hx hb d_Model_gives_136 (rfl) ?_
    refine lv_ladd hx hb d_Model_gives_137 ?_
    refine lv_lload hx hb d_Model_gives_138 (lv_at hl 5 rfl) ?_
    refine kcalll (ws0 := []) w (krunS (ws0 := []) (wc := mws ac o ad MI ML) (n := 2) (As := [.long ((ML 13 q) + ((MI 36 0).toInt64)), .long t]) (rest := [.long (ML 14 q), .int (nI q), .ref (ad 14)]) X w (c_Model_most l D ac o ad MI ML _ ((ML 13 q) + ((MI 36 0).toInt64)) t) wk_Model_most wi_Model wm_Model_142 wt_Model_most (by decide +kernel) rfl rfl ⟨(Nat.le_of_ble_eq_true rfl), (Nat.le_of_ble_eq_true rfl)⟩ ⟨(Nat.le_of_ble_eq_true rfl), (Nat.le_of_ble_eq_true rfl)⟩ rfl hl.1 rfl (Nat.le_of_ble_eq_true rfl) d_Model_gives_140) (fun r2 u H locs hp w => ?_)
    obtain ⟨rfl, rfl⟩ := hp
    have w : Wo D _ (mws ac o ad MI ML) s.heap H locs := w
    refine kcalll (ws0 := []) w (krunS (ws0 := []) (wc := mws ac o ad MI ML) (n := 2) (As := [.long (ML 14 q), .long (f_Model_most ((ML 13 q) + ((MI 36 0).toInt64)) t)]) (rest := [.int (nI q), .ref (ad 14)]) X w (c_Model_most l D ac o ad MI ML _ (ML 14 q) (f_Model_most ((ML 13 q) + ((MI 36 0).toInt64)) t)) wk_Model_most wi_Model wm_Model_142 wt_Model_most (by decide +kernel) rfl rfl ⟨(Nat.le_of_ble_eq_true rfl), (Nat.le_of_ble_eq_true rfl)⟩ ⟨(Nat.le_of_ble_eq_true rfl), (Nat.le_of_ble_eq_true rfl)⟩ rfl hl.1 rfl (Nat.le_of_ble_eq_true rfl) d_Model_gives_143) (fun r3 u H locs hp w => ?_)
    obtain ⟨rfl, rfl⟩ := hp
    have w : Wo D _ (mws ac o ad MI ML) s.heap H locs := w
    refine ast_14 X w q (by omega) rfl d_Model_gives_146 (fun H locs w => ?_)
    refine lv_aload_n hx hb d_Model_gives_147 rfl (lv_at hl 0 rfl) ?_
    refine mg_45 X w d_Model_gives_148 ?_
    refine lv_iload hx hb d_Model_gives_151 (lv_at hl 3 rfl) ?_
    refine lv_iconst (v := 0) hx hb d_Model_gives_153 (by decide) ?_
    refine ast_11 X w q (by decide) (by omega) rfl d_Model_gives_154 (fun H locs w => ?_)
    refine lv_goto (tgt := 166) hx hb d_Model_gives_155 (by decide) ?_
    refine lv_aload_n hx hb d_Model_gives_166 rfl (lv_at hl 0 rfl) ?_
    refine lv_iload hx hb d_Model_gives_167 (lv_at hl 4 rfl) ?_
    refine lv_if_eq (tgt := 177) hx hb d_Model_gives_169 (by decide) (fun h => absurd h h1) (fun _ => ?_)
    refine lv_bipush (v := 8) hx hb d_Model_gives_172 (by decide) ?_
    refine lv_goto (tgt := 179) hx hb d_Model_gives_174 (by decide) ?_
    refine lv_iload_n hx hb d_Model_gives_179 rfl (lv_at hl 2 rfl) ?_
    refine lv_iload_n hx hb d_Model_gives_180 rfl (lv_at hl 1 rfl) ?_
    refine lv_iconst (v := 1) hx hb d_Model_gives_181 (by decide) ?_
    refine lv_aload_n hx hb d_Model_gives_182 rfl (lv_at hl 0 rfl) ?_
    refine mg_48 X w d_Model_gives_183 ?_
    refine lv_iload hx hb d_Model_gives_186 (lv_at hl 3 rfl) ?_
    refine ald_12 X w q (v := MI 12 q) (by omega) rfl rfl d_Model_gives_188 ?_
    refine lv_aload_n hx hb d_Model_gives_189 rfl (lv_at hl 0 rfl) ?_
    refine mg_54 X w d_Model_gives_190 ?_
    refine lv_iload hx hb d_Model_gives_193 (lv_at hl 3 rfl) ?_
    refine ald_14 X w q (v := f_Model_most (ML 14 q) (f_Model_most ((ML 13 q) + ((MI 36 0).toInt64)) t)) (by omega) rfl (by simp [up2]) d_Model_gives_195 ?_
    refine lv_aload_n hx hb d_Model_gives_196 rfl (lv_at hl 0 rfl) ?_
    refine mg_51 X w d_Model_gives_197 ?_
    refine lv_iload hx hb d_Model_gives_200 (lv_at hl 3 rfl) ?_
    refine ald_13 X w q (v := ML 13 q) (by omega) rfl rfl d_Model_gives_202 ?_
    refine kcallv (ws0 := []) w (krunV (ws0 := []) (wc := mws ac o ad (up2 MI 11 q 0) (up2 ML 14 q (f_Model_most (ML 14 q) (f_Model_most ((ML 13 q) + ((MI 36 0).toInt64)) t)))) (n := 7) (As := [.int 8, .int (nI li), .int (nI c), .int 1, .int (MI 12 q), .long (f_Model_most (ML 14 q) (f_Model_most ((ML 13 q) + ((MI 36 0).toInt64)) t)), .long (ML 13 q)]) (rest := []) (C := R_Model) X w (c_Model_send l D ac o ad (up2 MI 11 q 0) (up2 ML 14 q (f_Model_most (ML 14 q) (f_Model_most ((ML 13 q) + ((MI 36 0).toInt64)) t))) _ 8 (nI li) (nI c) 1 (MI 12 q) (f_Model_most (ML 14 q) (f_Model_most ((ML 13 q) + ((MI 36 0).toInt64)) t)) (ML 13 q) hm (Nat.lt_trans hm20 (by decide)) (by decide)) wk_Model_send wi_Model wm_Model_138 wx_Model_send ws_Model_Model_send (by decide +kernel) rfl rfl ⟨(Nat.le_of_ble_eq_true rfl), (Nat.le_of_ble_eq_true rfl)⟩ ⟨(Nat.le_of_ble_eq_true rfl), (Nat.le_of_ble_eq_true rfl)⟩ (mrecv X w) rfl hl.1 rfl (Nat.le_of_ble_eq_true rfl) d_Model_gives_203) (fun u H locs hp w => ?_)
    obtain rfl := hp
    have w : Wo D _ (mws ac o ad (up2 (up2 (up2 (up2 (up2 (up2 (up2 MI 11 q 0) 28 (tn ((up2 MI 11 q 0) 38 0)) 8) 29 (tn ((up2 MI 11 q 0) 38 0)) (nI li)) 30 (tn ((up2 MI 11 q 0) 38 0)) (nI c)) 31 (tn ((up2 MI 11 q 0) 38 0)) 1) 32 (tn ((up2 MI 11 q 0) 38 0)) (MI 12 q)) 38 0 (nI ((tn ((up2 MI 11 q 0) 38 0)) + 1))) (up2 (up2 (up2 ML 14 q (f_Model_most (ML 14 q) (f_Model_most ((ML 13 q) + ((MI 36 0).toInt64)) t))) 33 (tn ((up2 MI 11 q 0) 38 0)) (f_Model_most (ML 14 q) (f_Model_most ((ML 13 q) + ((MI 36 0).toInt64)) t))) 34 (tn ((up2 MI 11 q 0) 38 0)) (ML 13 q))) s.heap H locs := w
    refine lv_iconst (v := 1) hx hb d_Model_gives_206 (by decide) ?_
    have hF : f_Model_gives_107 MI ML c li q b t = (1, up2 (up2 (up2 (up2 (up2 (up2 (up2 MI 11 q 0) 28 (tn ((up2 MI 11 q 0) 38 0)) 8) 29 (tn ((up2 MI 11 q 0) 38 0)) (nI li)) 30 (tn ((up2 MI 11 q 0) 38 0)) (nI c)) 31 (tn ((up2 MI 11 q 0) 38 0)) 1) 32 (tn ((up2 MI 11 q 0) 38 0)) (MI 12 q)) 38 0 (nI ((tn ((up2 MI 11 q 0) 38 0)) + 1)), up2 (up2 (up2 ML 14 q (f_Model_most (ML 14 q) (f_Model_most ((ML 13 q) + ((MI 36 0).toInt64)) t))) 33 (tn ((up2 MI 11 q 0) 38 0)) (f_Model_most (ML 14 q) (f_Model_most ((ML 13 q) + ((MI 36 0).toInt64)) t))) 34 (tn ((up2 MI 11 q 0) 38 0)) (ML 13 q)) := by unfold f_Model_gives_107; rw [if_neg h1]
    exact kzret X w hr hk (by decide) (by rw [hF] at hp; exact hp) d_Model_gives_207
def f_Model_gives (MI : Nat → Nat → Int32) (ML : Nat → Nat → Int64) (k : Nat) : Int32 × (Nat → Nat → Int32) × (Nat → Nat → Int64) :=
  oc (f_Model_placeOf MI ML (tn (MI 30 k)) (tn (MI 29 k))) (
    if (MI 1 (tn (MI 30 k))) = 0 then
      if (MI 28 k) = 5 then
        (1, (f_Model_remove MI ML k).1, (f_Model_remove MI ML k).2)
      else
        (1, (f_Model_remove MI ML k).1, (f_Model_remove MI ML k).2)
    else
      if (MI 3 (tn (MI 30 k))) = (MI 29 k) then
        (0, MI, ML)
      else
        if (MI 28 k) = 5 then
          (1, (f_Model_remove MI ML k).1, (f_Model_remove MI ML k).2)
        else
          (1, (f_Model_remove MI ML k).1, (f_Model_remove MI ML k).2))
    (fun y3 =>
    if (MI 11 y3) = 0 then
      if (MI 1 (tn (MI 30 k))) = 0 then
        if (MI 28 k) = 5 then
          (1, (f_Model_remove MI ML k).1, (f_Model_remove MI ML k).2)
        else
          (1, (f_Model_remove MI ML k).1, (f_Model_remove MI ML k).2)
      else
        if (MI 3 (tn (MI 30 k))) = (MI 29 k) then
          (0, MI, ML)
        else
          if (MI 28 k) = 5 then
            (1, (f_Model_remove MI ML k).1, (f_Model_remove MI ML k).2)
          else
            (1, (f_Model_remove MI ML k).1, (f_Model_remove MI ML k).2)
    else
      if (MI 28 k) = 5 then
        f_Model_gives_107 ((f_Model_remove MI ML k).1) ((f_Model_remove MI ML k).2) (tn (MI 30 k)) (tn (MI 29 k)) y3 1 (ML 33 k)
      else
        f_Model_gives_107 ((f_Model_remove MI ML k).1) ((f_Model_remove MI ML k).2) (tn (MI 30 k)) (tn (MI 29 k)) y3 0 (ML 33 k))
set_option maxHeartbeats 4000000 in
set_option maxRecDepth 100000 in
theorem c_Model_gives (l : Launch) (D : va_G) (ac : Nat → ClassId) (o : Nat) (ad : Nat → Nat) (MI : Nat → Nat → Int32) (ML : Nat → Nat → Int64) (sz : Nat) (k : Nat) (hkm : k < tn (MI 38 0)) (hm : MI 38 0 = nI (tn (MI 38 0))) (hm20 : tn (MI 38 0) < 20) (hup : ∀ j, MI 31 j = 0 ∨ MI 31 j = 1) (hw : MI 30 k = nI (tn (MI 30 k)) ∧ tn (MI 30 k) < 3) (hli : MI 29 k = nI (tn (MI 29 k)) ∧ tn (MI 29 k) < 12) : Met l y_Model_gives [Cond.code y_Model_gives b_Model_gives 9 (some .boolean)] { frames := 1, cells := 0, slots := 0, locals := 29 } (va_Pc [.ref o, .int (nI k)] (CPre D ac (mws ac o ad MI ML) sz)) (va_Qi (fun r u => r = (f_Model_gives MI ML k).1 ∧ u = mws ac o ad (f_Model_gives MI ML k).2.1 (f_Model_gives MI ML k).2.2) (CPost D (mws ac o ad MI ML) sz) (va_A (mws ac o ad MI ML) sz)) 0 0 (va_A (mws ac o ad MI ML) sz) := by
  refine kofW (by decide) (Nat.le_of_ble_eq_true rfl) ?_
  intro p ev s m args below meth c0 ls X hr hk hnm hex hsz w hl
  have X : Cx b_Model_gives 9 R_Model D ac p m args c0 s := X
  have hx := X.1
  have hb := X.2.1
  have hl : lv_has ls 9 [(0, .ref o), (1, .int (nI k))] := hl
  have hw2 := hw.2
  have hli2 := hli.2
  refine lv_aload_n hx hb d_Model_gives_0 rfl (lv_at hl 0 rfl) ?_
  refine mg_102 X w d_Model_gives_1 ?_
  refine lv_iload_n hx hb d_Model_gives_4 rfl (lv_at hl 1 rfl) ?_
  refine ald_30 X w k (v := MI 30 k) (by omega) rfl rfl d_Model_gives_5 ?_
  refine lv_istore_n (lv' := [(2, .int (MI 30 k)), (0, .ref o), (1, .int (nI k))]) hx hb d_Model_gives_6 rfl hl (by decide) rfl (fun ls hl => ?_)
  refine lv_aload_n hx hb d_Model_gives_7 rfl (lv_at hl 1 rfl) ?_
  refine mg_99 X w d_Model_gives_8 ?_
  refine lv_iload_n hx hb d_Model_gives_11 rfl (lv_at hl 2 rfl) ?_
  refine ald_29 X w k (v := MI 29 k) (by omega) rfl rfl d_Model_gives_12 ?_
  refine lv_istore_n (lv' := [(3, .int (MI 29 k)), (2, .int (MI 30 k)), (0, .ref o), (1, .int (nI k))]) hx hb d_Model_gives_13 rfl hl (by decide) rfl (fun ls hl => ?_)
  refine lv_aload_n hx hb d_Model_gives_14 rfl (lv_at hl 2 rfl) ?_
  refine lv_iload_n hx hb d_Model_gives_15 rfl (lv_at hl 1 rfl) ?_
  refine lv_iload_n hx hb d_Model_gives_16 rfl (lv_at hl 0 rfl) ?_
  refine W.eq (g2 := F0 m 17 ls [.int (nI (tn (MI 29 k))), .int (nI (tn (MI 30 k))), .ref o]) (by rw [← hw.1, ← hli.1]) ?_
  refine kcalli (ws0 := []) w (krunV (ws0 := []) (wc := mws ac o ad MI ML) (n := 2) (As := [.int (nI (tn (MI 30 k))), .int (nI (tn (MI 29 k)))]) (rest := []) (C := R_Model) X w (c_Model_placeOf l D ac o ad MI ML _ (tn (MI 30 k)) (tn (MI 29 k)) hw.2 hli.2) wk_Model_placeOf wi_Model wm_Model_134 wx_Model_placeOf ws_Model_Model_placeOf (by decide +kernel) rfl rfl ⟨(Nat.le_of_ble_eq_true rfl), (Nat.le_of_ble_eq_true rfl)⟩ ⟨(Nat.le_of_ble_eq_true rfl), (Nat.le_of_ble_eq_true rfl)⟩ (mrecv X w) rfl hl.1 rfl (Nat.le_of_ble_eq_true rfl) d_Model_gives_17) (fun r1 u H locs hp w => ?_)
  obtain ⟨rfl, rfl⟩ := hp
  have w : Wo D _ (mws ac o ad MI ML) s.heap H locs := w
  refine lv_istore (lv' := [(4, .int (oI (f_Model_placeOf MI ML (tn (MI 30 k)) (tn (MI 29 k))))), (3, .int (MI 29 k)), (2, .int (MI 30 k)), (0, .ref o), (1, .int (nI k))]) hx hb d_Model_gives_20 hl (by decide) rfl (fun ls hl => ?_)
  cases ho2 : f_Model_placeOf MI ML (tn (MI 30 k)) (tn (MI 29 k)) with
  | none =>
    rw [ho2] at hl
    have hl : lv_has ls 9 [(4, .int (-1)), (3, .int (MI 29 k)), (2, .int (MI 30 k)), (0, .ref o), (1, .int (nI k))] := hl
    refine lv_iload hx hb d_Model_gives_22 (lv_at hl 0 rfl) ?_
    refine lv_if_lt (tgt := 41) hx hb d_Model_gives_24 (by decide) (fun _ => ?_) (fun h => absurd h (by decide))
    refine lv_iconst (v := 0) hx hb d_Model_gives_41 (by decide) ?_
    refine lv_istore (lv' := [(5, .int 0), (4, .int (-1)), (3, .int (MI 29 k)), (2, .int (MI 30 k)), (0, .ref o), (1, .int (nI k))]) hx hb d_Model_gives_42 hl (by decide) rfl (fun ls hl => ?_)
    refine lv_iload hx hb d_Model_gives_44 (lv_at hl 0 rfl) ?_
    refine lv_if_ne (tgt := 70) hx hb d_Model_gives_46 (by decide) (fun h => absurd h (by decide)) (fun _ => ?_)
    refine lv_aload_n hx hb d_Model_gives_49 rfl (lv_at hl 4 rfl) ?_
    refine mg_13 X w d_Model_gives_50 ?_
    refine lv_iload_n hx hb d_Model_gives_53 rfl (lv_at hl 3 rfl) ?_
    refine ald_1 X w (tn (MI 30 k)) (v := MI 1 (tn (MI 30 k))) (by omega) hw.1 rfl d_Model_gives_54 ?_
    refine lv_if_eq (tgt := 70) hx hb d_Model_gives_55 (by decide) (fun h4 => ?_) (fun h4 => ?_)
    · skip
      refine lv_aload_n hx hb d_Model_gives_70 rfl (lv_at hl 4 rfl) ?_
      refine mg_96 X w d_Model_gives_71 ?_
      refine lv_iload_n hx hb d_Model_gives_74 rfl (lv_at hl 5 rfl) ?_
      refine ald_28 X w k (v := MI 28 k) (by omega) rfl rfl d_Model_gives_75 ?_
      refine lv_iconst (v := 5) hx hb d_Model_gives_76 (by decide) ?_
      refine lv_icmp_ne (tgt := 84) hx hb d_Model_gives_77 (by decide) (fun h5 => ?_) (fun h5 => ?_)
      · skip
        refine lv_iconst (v := 0) hx hb d_Model_gives_84 (by decide) ?_
        refine lv_istore (lv' := [(6, .int 0), (5, .int 0), (4, .int (-1)), (3, .int (MI 29 k)), (2, .int (MI 30 k)), (0, .ref o), (1, .int (nI k))]) hx hb d_Model_gives_85 hl (by decide) rfl (fun ls hl => ?_)
        refine lv_aload_n hx hb d_Model_gives_87 rfl (lv_at hl 5 rfl) ?_
        refine mg_111 X w d_Model_gives_88 ?_
        refine lv_iload_n hx hb d_Model_gives_91 rfl (lv_at hl 6 rfl) ?_
        refine ald_33 X w k (v := ML 33 k) (by omega) rfl rfl d_Model_gives_92 ?_
        refine lv_lstore (lv' := [(7, .long (ML 33 k)), (6, .int 0), (5, .int 0), (4, .int (-1)), (3, .int (MI 29 k)), (2, .int (MI 30 k)), (0, .ref o), (1, .int (nI k))]) hx hb d_Model_gives_93 hl (by decide) rfl (fun ls hl => ?_)
        refine lv_aload_n hx hb d_Model_gives_95 rfl (lv_at hl 6 rfl) ?_
        refine lv_iload_n hx hb d_Model_gives_96 rfl (lv_at hl 7 rfl) ?_
        refine kcallv (ws0 := []) w (krunV (ws0 := []) (wc := mws ac o ad MI ML) (n := 1) (As := [.int (nI k)]) (rest := []) (C := R_Model) X w (c_Model_remove l D ac o ad MI ML _ k hm hkm (Nat.lt_trans hm20 (by decide)) hup) wk_Model_remove wi_Model wm_Model_130 wx_Model_remove ws_Model_Model_remove (by decide +kernel) rfl rfl ⟨(Nat.le_of_ble_eq_true rfl), (Nat.le_of_ble_eq_true rfl)⟩ ⟨(Nat.le_of_ble_eq_true rfl), (Nat.le_of_ble_eq_true rfl)⟩ (mrecv X w) rfl hl.1 rfl (Nat.le_of_ble_eq_true rfl) d_Model_gives_97) (fun u H locs hp w => ?_)
        obtain rfl := hp
        have w : Wo D _ (mws ac o ad ((f_Model_remove MI ML k).1) ((f_Model_remove MI ML k).2)) s.heap H locs := w
        refine lv_iload hx hb d_Model_gives_100 (lv_at hl 2 rfl) ?_
        refine lv_if_ne (tgt := 107) hx hb d_Model_gives_102 (by decide) (fun h => absurd h (by decide)) (fun _ => ?_)
        refine lv_iconst (v := 1) hx hb d_Model_gives_105 (by decide) ?_
        have hF : f_Model_gives MI ML k = (1, (f_Model_remove MI ML k).1, (f_Model_remove MI ML k).2) := by unfold f_Model_gives; rw [ho2, oc_none, if_pos h4, if_neg h5]
        exact kzret X w hr hk (by decide) ⟨by rw [hF], by rw [hF]⟩ d_Model_gives_106
      · skip
        refine lv_iconst (v := 1) hx hb d_Model_gives_80 (by decide) ?_
        refine lv_goto (tgt := 85) hx hb d_Model_gives_81 (by decide) ?_
        refine lv_istore (lv' := [(6, .int 1), (5, .int 0), (4, .int (-1)), (3, .int (MI 29 k)), (2, .int (MI 30 k)), (0, .ref o), (1, .int (nI k))]) hx hb d_Model_gives_85 hl (by decide) rfl (fun ls hl => ?_)
        refine lv_aload_n hx hb d_Model_gives_87 rfl (lv_at hl 5 rfl) ?_
        refine mg_111 X w d_Model_gives_88 ?_
        refine lv_iload_n hx hb d_Model_gives_91 rfl (lv_at hl 6 rfl) ?_
        refine ald_33 X w k (v := ML 33 k) (by omega) rfl rfl d_Model_gives_92 ?_
        refine lv_lstore (lv' := [(7, .long (ML 33 k)), (6, .int 1), (5, .int 0), (4, .int (-1)), (3, .int (MI 29 k)), (2, .int (MI 30 k)), (0, .ref o), (1, .int (nI k))]) hx hb d_Model_gives_93 hl (by decide) rfl (fun ls hl => ?_)
        refine lv_aload_n hx hb d_Model_gives_95 rfl (lv_at hl 6 rfl) ?_
        refine lv_iload_n hx hb d_Model_gives_96 rfl (lv_at hl 7 rfl) ?_
        refine kcallv (ws0 := []) w (krunV (ws0 := []) (wc := mws ac o ad MI ML) (n := 1) (As := [.int (nI k)]) (rest := []) (C := R_Model) X w (c_Model_remove l D ac o ad MI ML _ k hm hkm (Nat.lt_trans hm20 (by decide)) hup) wk_Model_remove wi_Model wm_Model_130 wx_Model_remove ws_Model_Model_remove (by decide +kernel) rfl rfl ⟨(Nat.le_of_ble_eq_true rfl), (Nat.le_of_ble_eq_true rfl)⟩ ⟨(Nat.le_of_ble_eq_true rfl), (Nat.le_of_ble_eq_true rfl)⟩ (mrecv X w) rfl hl.1 rfl (Nat.le_of_ble_eq_true rfl) d_Model_gives_97) (fun u H locs hp w => ?_)
        obtain rfl := hp
        have w : Wo D _ (mws ac o ad ((f_Model_remove MI ML k).1) ((f_Model_remove MI ML k).2)) s.heap H locs := w
        refine lv_iload hx hb d_Model_gives_100 (lv_at hl 2 rfl) ?_
        refine lv_if_ne (tgt := 107) hx hb d_Model_gives_102 (by decide) (fun h => absurd h (by decide)) (fun _ => ?_)
        refine lv_iconst (v := 1) hx hb d_Model_gives_105 (by decide) ?_
        have hF : f_Model_gives MI ML k = (1, (f_Model_remove MI ML k).1, (f_Model_remove MI ML k).2) := by unfold f_Model_gives; rw [ho2, oc_none, if_pos h4, if_pos h5]
        exact kzret X w hr hk (by decide) ⟨by rw [hF], by rw [hF]⟩ d_Model_gives_106
    · skip
      refine lv_aload_n hx hb d_Model_gives_58 rfl (lv_at hl 4 rfl) ?_
      refine mg_21 X w d_Model_gives_59 ?_
      refine lv_iload_n hx hb d_Model_gives_62 rfl (lv_at hl 3 rfl) ?_
      refine ald_3 X w (tn (MI 30 k)) (v := MI 3 (tn (MI 30 k))) (by omega) hw.1 rfl d_Model_gives_63 ?_
      refine lv_iload_n hx hb d_Model_gives_64 rfl (lv_at hl 2 rfl) ?_
      refine lv_icmp_ne (tgt := 70) hx hb d_Model_gives_65 (by decide) (fun h6 => ?_) (fun h6 => ?_)
      · skip
        refine lv_aload_n hx hb d_Model_gives_70 rfl (lv_at hl 4 rfl) ?_
        refine mg_96 X w d_Model_gives_71 ?_
        refine lv_iload_n hx hb d_Model_gives_74 rfl (lv_at hl 5 rfl) ?_
        refine ald_28 X w k (v := MI 28 k) (by omega) rfl rfl d_Model_gives_75 ?_
        refine lv_iconst (v := 5) hx hb d_Model_gives_76 (by decide) ?_
        refine lv_icmp_ne (tgt := 84) hx hb d_Model_gives_77 (by decide) (fun h7 => ?_) (fun h7 => ?_)
        · skip
          refine lv_iconst (v := 0) hx hb d_Model_gives_84 (by decide) ?_
          refine lv_istore (lv' := [(6, .int 0), (5, .int 0), (4, .int (-1)), (3, .int (MI 29 k)), (2, .int (MI 30 k)), (0, .ref o), (1, .int (nI k))]) hx hb d_Model_gives_85 hl (by decide) rfl (fun ls hl => ?_)
          refine lv_aload_n hx hb d_Model_gives_87 rfl (lv_at hl 5 rfl) ?_
          refine mg_111 X w d_Model_gives_88 ?_
          refine lv_iload_n hx hb d_Model_gives_91 rfl (lv_at hl 6 rfl) ?_
          refine ald_33 X w k (v := ML 33 k) (by omega) rfl rfl d_Model_gives_92 ?_
          refine lv_lstore (lv' := [(7, .long (ML 33 k)), (6, .int 0), (5, .int 0), (4, .int (-1)), (3, .int (MI 29 k)), (2, .int (MI 30 k)), (0, .ref o), (1, .int (nI k))]) hx hb d_Model_gives_93 hl (by decide) rfl (fun ls hl => ?_)
          refine lv_aload_n hx hb d_Model_gives_95 rfl (lv_at hl 6 rfl) ?_
          refine lv_iload_n hx hb d_Model_gives_96 rfl (lv_at hl 7 rfl) ?_
          refine kcallv (ws0 := []) w (krunV (ws0 := []) (wc := mws ac o ad MI ML) (n := 1) (As := [.int (nI k)]) (rest := []) (C := R_Model) X w (c_Model_remove l D ac o ad MI ML _ k hm hkm (Nat.lt_trans hm20 (by decide)) hup) wk_Model_remove wi_Model wm_Model_130 wx_Model_remove ws_Model_Model_remove (by decide +kernel) rfl rfl ⟨(Nat.le_of_ble_eq_true rfl), (Nat.le_of_ble_eq_true rfl)⟩ ⟨(Nat.le_of_ble_eq_true rfl), (Nat.le_of_ble_eq_true rfl)⟩ (mrecv X w) rfl hl.1 rfl (Nat.le_of_ble_eq_true rfl) d_Model_gives_97) (fun u H locs hp w => ?_)
          obtain rfl := hp
          have w : Wo D _ (mws ac o ad ((f_Model_remove MI ML k).1) ((f_Model_remove MI ML k).2)) s.heap H locs := w
          refine lv_iload hx hb d_Model_gives_100 (lv_at hl 2 rfl) ?_
          refine lv_if_ne (tgt := 107) hx hb d_Model_gives_102 (by decide) (fun h => absurd h (by decide)) (fun _ => ?_)
          refine lv_iconst (v := 1) hx hb d_Model_gives_105 (by decide) ?_
          have hF : f_Model_gives MI ML k = (1, (f_Model_remove MI ML k).1, (f_Model_remove MI ML k).2) := by unfold f_Model_gives; rw [ho2, oc_none, if_neg h4, if_neg h6, if_neg h7]
          exact kzret X w hr hk (by decide) ⟨by rw [hF], by rw [hF]⟩ d_Model_gives_106
        · skip
          refine lv_iconst (v := 1) hx hb d_Model_gives_80 (by decide) ?_
          refine lv_goto (tgt := 85) hx hb d_Model_gives_81 (by decide) ?_
          refine lv_istore (lv' := [(6, .int 1), (5, .int 0), (4, .int (-1)), (3, .int (MI 29 k)), (2, .int (MI 30 k)), (0, .ref o), (1, .int (nI k))]) hx hb d_Model_gives_85 hl (by decide) rfl (fun ls hl => ?_)
          refine lv_aload_n hx hb d_Model_gives_87 rfl (lv_at hl 5 rfl) ?_
          refine mg_111 X w d_Model_gives_88 ?_
          refine lv_iload_n hx hb d_Model_gives_91 rfl (lv_at hl 6 rfl) ?_
          refine ald_33 X w k (v := ML 33 k) (by omega) rfl rfl d_Model_gives_92 ?_
          refine lv_lstore (lv' := [(7, .long (ML 33 k)), (6, .int 1), (5, .int 0), (4, .int (-1)), (3, .int (MI 29 k)), (2, .int (MI 30 k)), (0, .ref o), (1, .int (nI k))]) hx hb d_Model_gives_93 hl (by decide) rfl (fun ls hl => ?_)
          refine lv_aload_n hx hb d_Model_gives_95 rfl (lv_at hl 6 rfl) ?_
          refine lv_iload_n hx hb d_Model_gives_96 rfl (lv_at hl 7 rfl) ?_
          refine kcallv (ws0 := []) w (krunV (ws0 := []) (wc := mws ac o ad MI ML) (n := 1) (As := [.int (nI k)]) (rest := []) (C := R_Model) X w (c_Model_remove l D ac o ad MI ML _ k hm hkm (Nat.lt_trans hm20 (by decide)) hup) wk_Model_remove wi_Model wm_Model_130 wx_Model_remove ws_Model_Model_remove (by decide +kernel) rfl rfl ⟨(Nat.le_of_ble_eq_true rfl), (Nat.le_of_ble_eq_true rfl)⟩ ⟨(Nat.le_of_ble_eq_true rfl), (Nat.le_of_ble_eq_true rfl)⟩ (mrecv X w) rfl hl.1 rfl (Nat.le_of_ble_eq_true rfl) d_Model_gives_97) (fun u H locs hp w => ?_)
          obtain rfl := hp
          have w : Wo D _ (mws ac o ad ((f_Model_remove MI ML k).1) ((f_Model_remove MI ML k).2)) s.heap H locs := w
          refine lv_iload hx hb d_Model_gives_100 (lv_at hl 2 rfl) ?_
          refine lv_if_ne (tgt := 107) hx hb d_Model_gives_102 (by decide) (fun h => absurd h (by decide)) (fun _ => ?_)
          refine lv_iconst (v := 1) hx hb d_Model_gives_105 (by decide) ?_
          have hF : f_Model_gives MI ML k = (1, (f_Model_remove MI ML k).1, (f_Model_remove MI ML k).2) := by unfold f_Model_gives; rw [ho2, oc_none, if_neg h4, if_neg h6, if_pos h7]
          exact kzret X w hr hk (by decide) ⟨by rw [hF], by rw [hF]⟩ d_Model_gives_106
      · skip
        refine lv_iconst (v := 0) hx hb d_Model_gives_68 (by decide) ?_
        have hF : f_Model_gives MI ML k = (0, MI, ML) := by unfold f_Model_gives; rw [ho2, oc_none, if_neg h4, if_pos h6]
        exact kzret X w hr hk (by decide) ⟨by rw [hF], by rw [hF]⟩ d_Model_gives_69
  | some y3 =>
    rw [ho2] at hl
    have hl : lv_has ls 9 [(4, .int (nI y3)), (3, .int (MI 29 k)), (2, .int (MI 30 k)), (0, .ref o), (1, .int (nI k))] := hl
    have hy3 := f_Model_placeOf_lt ho2
    have hy3b : y3 < 12 := by omega
    refine lv_iload hx hb d_Model_gives_22 (lv_at hl 0 rfl) ?_
    refine lv_if_lt (tgt := 41) hx hb d_Model_gives_24 (by decide) (fun h => absurd h (nI_pos (by omega))) (fun _ => ?_)
    refine lv_aload_n hx hb d_Model_gives_27 rfl (lv_at hl 3 rfl) ?_
    refine mg_45 X w d_Model_gives_28 ?_
    refine lv_iload hx hb d_Model_gives_31 (lv_at hl 0 rfl) ?_
    refine ald_11 X w y3 (v := MI 11 y3) (by omega) rfl rfl d_Model_gives_33 ?_
    refine lv_if_eq (tgt := 41) hx hb d_Model_gives_34 (by decide) (fun h8 => ?_) (fun h8 => ?_)
    · skip
      refine lv_iconst (v := 0) hx hb d_Model_gives_41 (by decide) ?_
      refine lv_istore (lv' := [(5, .int 0), (4, .int (nI y3)), (3, .int (MI 29 k)), (2, .int (MI 30 k)), (0, .ref o), (1, .int (nI k))]) hx hb d_Model_gives_42 hl (by decide) rfl (fun ls hl => ?_)
      refine lv_iload hx hb d_Model_gives_44 (lv_at hl 0 rfl) ?_
      refine lv_if_ne (tgt := 70) hx hb d_Model_gives_46 (by decide) (fun h => absurd h (by decide)) (fun _ => ?_)
      refine lv_aload_n hx hb d_Model_gives_49 rfl (lv_at hl 4 rfl) ?_
      refine mg_13 X w d_Model_gives_50 ?_
      refine lv_iload_n hx hb d_Model_gives_53 rfl (lv_at hl 3 rfl) ?_
      refine ald_1 X w (tn (MI 30 k)) (v := MI 1 (tn (MI 30 k))) (by omega) hw.1 rfl d_Model_gives_54 ?_
      refine lv_if_eq (tgt := 70) hx hb d_Model_gives_55 (by decide) (fun h9 => ?_) (fun h9 => ?_)
      · skip
        refine lv_aload_n hx hb d_Model_gives_70 rfl (lv_at hl 4 rfl) ?_
        refine mg_96 X w d_Model_gives_71 ?_
        refine lv_iload_n hx hb d_Model_gives_74 rfl (lv_at hl 5 rfl) ?_
        refine ald_28 X w k (v := MI 28 k) (by omega) rfl rfl d_Model_gives_75 ?_
        refine lv_iconst (v := 5) hx hb d_Model_gives_76 (by decide) ?_
        refine lv_icmp_ne (tgt := 84) hx hb d_Model_gives_77 (by decide) (fun h10 => ?_) (fun h10 => ?_)
        · skip
          refine lv_iconst (v := 0) hx hb d_Model_gives_84 (by decide) ?_
          refine lv_istore (lv' := [(6, .int 0), (5, .int 0), (4, .int (nI y3)), (3, .int (MI 29 k)), (2, .int (MI 30 k)), (0, .ref o), (1, .int (nI k))]) hx hb d_Model_gives_85 hl (by decide) rfl (fun ls hl => ?_)
          refine lv_aload_n hx hb d_Model_gives_87 rfl (lv_at hl 5 rfl) ?_
          refine mg_111 X w d_Model_gives_88 ?_
          refine lv_iload_n hx hb d_Model_gives_91 rfl (lv_at hl 6 rfl) ?_
          refine ald_33 X w k (v := ML 33 k) (by omega) rfl rfl d_Model_gives_92 ?_
          refine lv_lstore (lv' := [(7, .long (ML 33 k)), (6, .int 0), (5, .int 0), (4, .int (nI y3)), (3, .int (MI 29 k)), (2, .int (MI 30 k)), (0, .ref o), (1, .int (nI k))]) hx hb d_Model_gives_93 hl (by decide) rfl (fun ls hl => ?_)
          refine lv_aload_n hx hb d_Model_gives_95 rfl (lv_at hl 6 rfl) ?_
          refine lv_iload_n hx hb d_Model_gives_96 rfl (lv_at hl 7 rfl) ?_
          refine kcallv (ws0 := []) w (krunV (ws0 := []) (wc := mws ac o ad MI ML) (n := 1) (As := [.int (nI k)]) (rest := []) (C := R_Model) X w (c_Model_remove l D ac o ad MI ML _ k hm hkm (Nat.lt_trans hm20 (by decide)) hup) wk_Model_remove wi_Model wm_Model_130 wx_Model_remove ws_Model_Model_remove (by decide +kernel) rfl rfl ⟨(Nat.le_of_ble_eq_true rfl), (Nat.le_of_ble_eq_true rfl)⟩ ⟨(Nat.le_of_ble_eq_true rfl), (Nat.le_of_ble_eq_true rfl)⟩ (mrecv X w) rfl hl.1 rfl (Nat.le_of_ble_eq_true rfl) d_Model_gives_97) (fun u H locs hp w => ?_)
          obtain rfl := hp
          have w : Wo D _ (mws ac o ad ((f_Model_remove MI ML k).1) ((f_Model_remove MI ML k).2)) s.heap H locs := w
          refine lv_iload hx hb d_Model_gives_100 (lv_at hl 2 rfl) ?_
          refine lv_if_ne (tgt := 107) hx hb d_Model_gives_102 (by decide) (fun h => absurd h (by decide)) (fun _ => ?_)
          refine lv_iconst (v := 1) hx hb d_Model_gives_105 (by decide) ?_
          have hF : f_Model_gives MI ML k = (1, (f_Model_remove MI ML k).1, (f_Model_remove MI ML k).2) := by unfold f_Model_gives; rw [ho2, oc_some, if_pos h8, if_pos h9, if_neg h10]
          exact kzret X w hr hk (by decide) ⟨by rw [hF], by rw [hF]⟩ d_Model_gives_106
        · skip
          refine lv_iconst (v := 1) hx hb d_Model_gives_80 (by decide) ?_
          refine lv_goto (tgt := 85) hx hb d_Model_gives_81 (by decide) ?_
          refine lv_istore (lv' := [(6, .int 1), (5, .int 0), (4, .int (nI y3)), (3, .int (MI 29 k)), (2, .int (MI 30 k)), (0, .ref o), (1, .int (nI k))]) hx hb d_Model_gives_85 hl (by decide) rfl (fun ls hl => ?_)
          refine lv_aload_n hx hb d_Model_gives_87 rfl (lv_at hl 5 rfl) ?_
          refine mg_111 X w d_Model_gives_88 ?_
          refine lv_iload_n hx hb d_Model_gives_91 rfl (lv_at hl 6 rfl) ?_
          refine ald_33 X w k (v := ML 33 k) (by omega) rfl rfl d_Model_gives_92 ?_
          refine lv_lstore (lv' := [(7, .long (ML 33 k)), (6, .int 1), (5, .int 0), (4, .int (nI y3)), (3, .int (MI 29 k)), (2, .int (MI 30 k)), (0, .ref o), (1, .int (nI k))]) hx hb d_Model_gives_93 hl (by decide) rfl (fun ls hl => ?_)
          refine lv_aload_n hx hb d_Model_gives_95 rfl (lv_at hl 6 rfl) ?_
          refine lv_iload_n hx hb d_Model_gives_96 rfl (lv_at hl 7 rfl) ?_
          refine kcallv (ws0 := []) w (krunV (ws0 := []) (wc := mws ac o ad MI ML) (n := 1) (As := [.int (nI k)]) (rest := []) (C := R_Model) X w (c_Model_remove l D ac o ad MI ML _ k hm hkm (Nat.lt_trans hm20 (by decide)) hup) wk_Model_remove wi_Model wm_Model_130 wx_Model_remove ws_Model_Model_remove (by decide +kernel) rfl rfl ⟨(Nat.le_of_ble_eq_true rfl), (Nat.le_of_ble_eq_true rfl)⟩ ⟨(Nat.le_of_ble_eq_true rfl), (Nat.le_of_ble_eq_true rfl)⟩ (mrecv X w) rfl hl.1 rfl (Nat.le_of_ble_eq_true rfl) d_Model_gives_97) (fun u H locs hp w => ?_)
          obtain rfl := hp
          have w : Wo D _ (mws ac o ad ((f_Model_remove MI ML k).1) ((f_Model_remove MI ML k).2)) s.heap H locs := w
          refine lv_iload hx hb d_Model_gives_100 (lv_at hl 2 rfl) ?_
          refine lv_if_ne (tgt := 107) hx hb d_Model_gives_102 (by decide) (fun h => absurd h (by decide)) (fun _ => ?_)
          refine lv_iconst (v := 1) hx hb d_Model_gives_105 (by decide) ?_
          have hF : f_Model_gives MI ML k = (1, (f_Model_remove MI ML k).1, (f_Model_remove MI ML k).2) := by unfold f_Model_gives; rw [ho2, oc_some, if_pos h8, if_pos h9, if_pos h10]
          exact kzret X w hr hk (by decide) ⟨by rw [hF], by rw [hF]⟩ d_Model_gives_106
      · skip
        refine lv_aload_n hx hb d_Model_gives_58 rfl (lv_at hl 4 rfl) ?_
        refine mg_21 X w d_Model_gives_59 ?_
        refine lv_iload_n hx hb d_Model_gives_62 rfl (lv_at hl 3 rfl) ?_
        refine ald_3 X w (tn (MI 30 k)) (v := MI 3 (tn (MI 30 k))) (by omega) hw.1 rfl d_Model_gives_63 ?_
        refine lv_iload_n hx hb d_Model_gives_64 rfl (lv_at hl 2 rfl) ?_
        refine lv_icmp_ne (tgt := 70) hx hb d_Model_gives_65 (by decide) (fun h11 => ?_) (fun h11 => ?_)
        · skip
          refine lv_aload_n hx hb d_Model_gives_70 rfl (lv_at hl 4 rfl) ?_
          refine mg_96 X w d_Model_gives_71 ?_
          refine lv_iload_n hx hb d_Model_gives_74 rfl (lv_at hl 5 rfl) ?_
          refine ald_28 X w k (v := MI 28 k) (by omega) rfl rfl d_Model_gives_75 ?_
          refine lv_iconst (v := 5) hx hb d_Model_gives_76 (by decide) ?_
          refine lv_icmp_ne (tgt := 84) hx hb d_Model_gives_77 (by decide) (fun h12 => ?_) (fun h12 => ?_)
          · skip
            refine lv_iconst (v := 0) hx hb d_Model_gives_84 (by decide) ?_
            refine lv_istore (lv' := [(6, .int 0), (5, .int 0), (4, .int (nI y3)), (3, .int (MI 29 k)), (2, .int (MI 30 k)), (0, .ref o), (1, .int (nI k))]) hx hb d_Model_gives_85 hl (by decide) rfl (fun ls hl => ?_)
            refine lv_aload_n hx hb d_Model_gives_87 rfl (lv_at hl 5 rfl) ?_
            refine mg_111 X w d_Model_gives_88 ?_
            refine lv_iload_n hx hb d_Model_gives_91 rfl (lv_at hl 6 rfl) ?_
            refine ald_33 X w k (v := ML 33 k) (by omega) rfl rfl d_Model_gives_92 ?_
            refine lv_lstore (lv' := [(7, .long (ML 33 k)), (6, .int 0), (5, .int 0), (4, .int (nI y3)), (3, .int (MI 29 k)), (2, .int (MI 30 k)), (0, .ref o), (1, .int (nI k))]) hx hb d_Model_gives_93 hl (by decide) rfl (fun ls hl => ?_)
            refine lv_aload_n hx hb d_Model_gives_95 rfl (lv_at hl 6 rfl) ?_
            refine lv_iload_n hx hb d_Model_gives_96 rfl (lv_at hl 7 rfl) ?_
            refine kcallv (ws0 := []) w (krunV (ws0 := []) (wc := mws ac o ad MI ML) (n := 1) (As := [.int (nI k)]) (rest := []) (C := R_Model) X w (c_Model_remove l D ac o ad MI ML _ k hm hkm (Nat.lt_trans hm20 (by decide)) hup) wk_Model_remove wi_Model wm_Model_130 wx_Model_remove ws_Model_Model_remove (by decide +kernel) rfl rfl ⟨(Nat.le_of_ble_eq_true rfl), (Nat.le_of_ble_eq_true rfl)⟩ ⟨(Nat.le_of_ble_eq_true rfl), (Nat.le_of_ble_eq_true rfl)⟩ (mrecv X w) rfl hl.1 rfl (Nat.le_of_ble_eq_true rfl) d_Model_gives_97) (fun u H locs hp w => ?_)
            obtain rfl := hp
            have w : Wo D _ (mws ac o ad ((f_Model_remove MI ML k).1) ((f_Model_remove MI ML k).2)) s.heap H locs := w
            refine lv_iload hx hb d_Model_gives_100 (lv_at hl 2 rfl) ?_
            refine lv_if_ne (tgt := 107) hx hb d_Model_gives_102 (by decide) (fun h => absurd h (by decide)) (fun _ => ?_)
            refine lv_iconst (v := 1) hx hb d_Model_gives_105 (by decide) ?_
            have hF : f_Model_gives MI ML k = (1, (f_Model_remove MI ML k).1, (f_Model_remove MI ML k).2) := by unfold f_Model_gives; rw [ho2, oc_some, if_pos h8, if_neg h9, if_neg h11, if_neg h12]
            exact kzret X w hr hk (by decide) ⟨by rw [hF], by rw [hF]⟩ d_Model_gives_106
          · skip
            refine lv_iconst (v := 1) hx hb d_Model_gives_80 (by decide) ?_
            refine lv_goto (tgt := 85) hx hb d_Model_gives_81 (by decide) ?_
            refine lv_istore (lv' := [(6, .int 1), (5, .int 0), (4, .int (nI y3)), (3, .int (MI 29 k)), (2, .int (MI 30 k)), (0, .ref o), (1, .int (nI k))]) hx hb d_Model_gives_85 hl (by decide) rfl (fun ls hl => ?_)
            refine lv_aload_n hx hb d_Model_gives_87 rfl (lv_at hl 5 rfl) ?_
            refine mg_111 X w d_Model_gives_88 ?_
            refine lv_iload_n hx hb d_Model_gives_91 rfl (lv_at hl 6 rfl) ?_
            refine ald_33 X w k (v := ML 33 k) (by omega) rfl rfl d_Model_gives_92 ?_
            refine lv_lstore (lv' := [(7, .long (ML 33 k)), (6, .int 1), (5, .int 0), (4, .int (nI y3)), (3, .int (MI 29 k)), (2, .int (MI 30 k)), (0, .ref o), (1, .int (nI k))]) hx hb d_Model_gives_93 hl (by decide) rfl (fun ls hl => ?_)
            refine lv_aload_n hx hb d_Model_gives_95 rfl (lv_at hl 6 rfl) ?_
            refine lv_iload_n hx hb d_Model_gives_96 rfl (lv_at hl 7 rfl) ?_
            refine kcallv (ws0 := []) w (krunV (ws0 := []) (wc := mws ac o ad MI ML) (n := 1) (As := [.int (nI k)]) (rest := []) (C := R_Model) X w (c_Model_remove l D ac o ad MI ML _ k hm hkm (Nat.lt_trans hm20 (by decide)) hup) wk_Model_remove wi_Model wm_Model_130 wx_Model_remove ws_Model_Model_remove (by decide +kernel) rfl rfl ⟨(Nat.le_of_ble_eq_true rfl), (Nat.le_of_ble_eq_true rfl)⟩ ⟨(Nat.le_of_ble_eq_true rfl), (Nat.le_of_ble_eq_true rfl)⟩ (mrecv X w) rfl hl.1 rfl (Nat.le_of_ble_eq_true rfl) d_Model_gives_97) (fun u H locs hp w => ?_)
            obtain rfl := hp
            have w : Wo D _ (mws ac o ad ((f_Model_remove MI ML k).1) ((f_Model_remove MI ML k).2)) s.heap H locs := w
            refine lv_iload hx hb d_Model_gives_100 (lv_at hl 2 rfl) ?_
            refine lv_if_ne (tgt := 107) hx hb d_Model_gives_102 (by decide) (fun h => absurd h (by decide)) (fun _ => ?_)
            refine lv_iconst (v := 1) hx hb d_Model_gives_105 (by decide) ?_
            have hF : f_Model_gives MI ML k = (1, (f_Model_remove MI ML k).1, (f_Model_remove MI ML k).2) := by unfold f_Model_gives; rw [ho2, oc_some, if_pos h8, if_neg h9, if_neg h11, if_pos h12]
            exact kzret X w hr hk (by decide) ⟨by rw [hF], by rw [hF]⟩ d_Model_gives_106
        · skip
          refine lv_iconst (v := 0) hx hb d_Model_gives_68 (by decide) ?_
          have hF : f_Model_gives MI ML k = (0, MI, ML) := by unfold f_Model_gives; rw [ho2, oc_some, if_pos h8, if_neg h9, if_pos h11]
          exact kzret X w hr hk (by decide) ⟨by rw [hF], by rw [hF]⟩ d_Model_gives_69
    · skip
      refine lv_iconst (v := 1) hx hb d_Model_gives_37 (by decide) ?_
      refine lv_goto (tgt := 42) hx hb d_Model_gives_38 (by decide) ?_
      refine lv_istore (lv' := [(5, .int 1), (4, .int (nI y3)), (3, .int (MI 29 k)), (2, .int (MI 30 k)), (0, .ref o), (1, .int (nI k))]) hx hb d_Model_gives_42 hl (by decide) rfl (fun ls hl => ?_)
      refine lv_iload hx hb d_Model_gives_44 (lv_at hl 0 rfl) ?_
      refine lv_if_ne (tgt := 70) hx hb d_Model_gives_46 (by decide) (fun _ => ?_) (fun h => absurd h (by decide))
      refine lv_aload_n hx hb d_Model_gives_70 rfl (lv_at hl 4 rfl) ?_
      refine mg_96 X w d_Model_gives_71 ?_
      refine lv_iload_n hx hb d_Model_gives_74 rfl (lv_at hl 5 rfl) ?_
      refine ald_28 X w k (v := MI 28 k) (by omega) rfl rfl d_Model_gives_75 ?_
      refine lv_iconst (v := 5) hx hb d_Model_gives_76 (by decide) ?_
      refine lv_icmp_ne (tgt := 84) hx hb d_Model_gives_77 (by decide) (fun h13 => ?_) (fun h13 => ?_)
      · skip
        refine lv_iconst (v := 0) hx hb d_Model_gives_84 (by decide) ?_
        refine lv_istore (lv' := [(6, .int 0), (5, .int 1), (4, .int (nI y3)), (3, .int (MI 29 k)), (2, .int (MI 30 k)), (0, .ref o), (1, .int (nI k))]) hx hb d_Model_gives_85 hl (by decide) rfl (fun ls hl => ?_)
        refine lv_aload_n hx hb d_Model_gives_87 rfl (lv_at hl 5 rfl) ?_
        refine mg_111 X w d_Model_gives_88 ?_
        refine lv_iload_n hx hb d_Model_gives_91 rfl (lv_at hl 6 rfl) ?_
        refine ald_33 X w k (v := ML 33 k) (by omega) rfl rfl d_Model_gives_92 ?_
        refine lv_lstore (lv' := [(7, .long (ML 33 k)), (6, .int 0), (5, .int 1), (4, .int (nI y3)), (3, .int (MI 29 k)), (2, .int (MI 30 k)), (0, .ref o), (1, .int (nI k))]) hx hb d_Model_gives_93 hl (by decide) rfl (fun ls hl => ?_)
        refine lv_aload_n hx hb d_Model_gives_95 rfl (lv_at hl 6 rfl) ?_
        refine lv_iload_n hx hb d_Model_gives_96 rfl (lv_at hl 7 rfl) ?_
        refine kcallv (ws0 := []) w (krunV (ws0 := []) (wc := mws ac o ad MI ML) (n := 1) (As := [.int (nI k)]) (rest := []) (C := R_Model) X w (c_Model_remove l D ac o ad MI ML _ k hm hkm (Nat.lt_trans hm20 (by decide)) hup) wk_Model_remove wi_Model wm_Model_130 wx_Model_remove ws_Model_Model_remove (by decide +kernel) rfl rfl ⟨(Nat.le_of_ble_eq_true rfl), (Nat.le_of_ble_eq_true rfl)⟩ ⟨(Nat.le_of_ble_eq_true rfl), (Nat.le_of_ble_eq_true rfl)⟩ (mrecv X w) rfl hl.1 rfl (Nat.le_of_ble_eq_true rfl) d_Model_gives_97) (fun u H locs hp w => ?_)
        obtain rfl := hp
        have w : Wo D _ (mws ac o ad ((f_Model_remove MI ML k).1) ((f_Model_remove MI ML k).2)) s.heap H locs := w
        refine lv_iload hx hb d_Model_gives_100 (lv_at hl 2 rfl) ?_
        refine lv_if_ne (tgt := 107) hx hb d_Model_gives_102 (by decide) (fun _ => ?_) (fun h => absurd h (by decide))
        rw [hw.1] at hl
        rw [hli.1] at hl
        have hF : f_Model_gives MI ML k = f_Model_gives_107 ((f_Model_remove MI ML k).1) ((f_Model_remove MI ML k).2) (tn (MI 30 k)) (tn (MI 29 k)) y3 0 (ML 33 k) := by unfold f_Model_gives; rw [ho2, oc_some, if_neg h8, if_neg h13]
        exact g_Model_gives_107 X hr hk  ((f_Model_remove MI ML k).1) ((f_Model_remove MI ML k).2) (tn (MI 30 k)) (tn (MI 29 k)) y3 0 (ML 33 k) hw.2 hli.2 (by omega) (f_Model_remove_hm hkm (Nat.lt_trans hm20 (by decide))) (Nat.lt_of_le_of_lt (f_Model_remove_le hkm (Nat.lt_trans hm20 (by decide))) hm20) w (lv_sub hl [6, 5, 4, 3, 1, 0] rfl) ⟨by rw [hF], by rw [hF]⟩
      · skip
        refine lv_iconst (v := 1) hx hb d_Model_gives_80 (by decide) ?_
        refine lv_goto (tgt := 85) hx hb d_Model_gives_81 (by decide) ?_
        refine lv_istore (lv' := [(6, .int 1), (5, .int 1), (4, .int (nI y3)), (3, .int (MI 29 k)), (2, .int (MI 30 k)), (0, .ref o), (1, .int (nI k))]) hx hb d_Model_gives_85 hl (by decide) rfl (fun ls hl => ?_)
        refine lv_aload_n hx hb d_Model_gives_87 rfl (lv_at hl 5 rfl) ?_
        refine mg_111 X w d_Model_gives_88 ?_
        refine lv_iload_n hx hb d_Model_gives_91 rfl (lv_at hl 6 rfl) ?_
        refine ald_33 X w k (v := ML 33 k) (by omega) rfl rfl d_Model_gives_92 ?_
        refine lv_lstore (lv' := [(7, .long (ML 33 k)), (6, .int 1), (5, .int 1), (4, .int (nI y3)), (3, .int (MI 29 k)), (2, .int (MI 30 k)), (0, .ref o), (1, .int (nI k))]) hx hb d_Model_gives_93 hl (by decide) rfl (fun ls hl => ?_)
        refine lv_aload_n hx hb d_Model_gives_95 rfl (lv_at hl 6 rfl) ?_
        refine lv_iload_n hx hb d_Model_gives_96 rfl (lv_at hl 7 rfl) ?_
        refine kcallv (ws0 := []) w (krunV (ws0 := []) (wc := mws ac o ad MI ML) (n := 1) (As := [.int (nI k)]) (rest := []) (C := R_Model) X w (c_Model_remove l D ac o ad MI ML _ k hm hkm (Nat.lt_trans hm20 (by decide)) hup) wk_Model_remove wi_Model wm_Model_130 wx_Model_remove ws_Model_Model_remove (by decide +kernel) rfl rfl ⟨(Nat.le_of_ble_eq_true rfl), (Nat.le_of_ble_eq_true rfl)⟩ ⟨(Nat.le_of_ble_eq_true rfl), (Nat.le_of_ble_eq_true rfl)⟩ (mrecv X w) rfl hl.1 rfl (Nat.le_of_ble_eq_true rfl) d_Model_gives_97) (fun u H locs hp w => ?_)
        obtain rfl := hp
        have w : Wo D _ (mws ac o ad ((f_Model_remove MI ML k).1) ((f_Model_remove MI ML k).2)) s.heap H locs := w
        refine lv_iload hx hb d_Model_gives_100 (lv_at hl 2 rfl) ?_
        refine lv_if_ne (tgt := 107) hx hb d_Model_gives_102 (by decide) (fun _ => ?_) (fun h => absurd h (by decide))
        rw [hw.1] at hl
        rw [hli.1] at hl
        have hF : f_Model_gives MI ML k = f_Model_gives_107 ((f_Model_remove MI ML k).1) ((f_Model_remove MI ML k).2) (tn (MI 30 k)) (tn (MI 29 k)) y3 1 (ML 33 k) := by unfold f_Model_gives; rw [ho2, oc_some, if_neg h8, if_pos h13]
        exact g_Model_gives_107 X hr hk  ((f_Model_remove MI ML k).1) ((f_Model_remove MI ML k).2) (tn (MI 30 k)) (tn (MI 29 k)) y3 1 (ML 33 k) hw.2 hli.2 (by omega) (f_Model_remove_hm hkm (Nat.lt_trans hm20 (by decide))) (Nat.lt_of_le_of_lt (f_Model_remove_le hkm (Nat.lt_trans hm20 (by decide))) hm20) w (lv_sub hl [6, 5, 4, 3, 1, 0] rfl) ⟨by rw [hF], by rw [hF]⟩
