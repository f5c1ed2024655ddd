theorem within_tn {x : Int32} (m : Nat) (hm : m < 2 ^ 31) (h : ¬ f_Model_within x 0 (nI m) = 0) : x = nI (tn x) ∧ tn x ≤ m := by
  unfold f_Model_within at h
  split at h
  · exact absurd rfl h
  · rename_i h0
    split at h
    · exact absurd rfl h
    · rename_i h1
      obtain ⟨j, hj, rfl⟩ := nI_of h0
      rw [nI_ltI hm hj] at h1
      rw [tn_nI hj]
      exact ⟨rfl, by omega⟩
theorem within_many {x y : Int32} {n : Nat} (hy : y = nI n) (hn : n < 2 ^ 30) (h : ¬ f_Model_within x 0 (y - 1) = 0) : x = nI (tn x) ∧ tn x < n := by
  subst hy
  cases n with
  | zero =>
    unfold f_Model_within at h
    split at h
    · exact absurd rfl h
    · rename_i h0
      split at h
      · exact absurd rfl h
      · rename_i h1
        obtain ⟨j, hj, rfl⟩ := nI_of h0
        exact absurd (show nI 0 - 1 < nI j by
          rw [Int32.lt_iff_toInt_lt, nI_toInt hj, show (nI 0 - 1).toInt = -1 by decide]
          omega) h1
  | succ n =>
    rw [nI_pred] at h
    obtain ⟨h1, h2⟩ := within_tn n (by omega) h
    exact ⟨h1, by omega⟩
theorem f_Model_remove_hm {MI : Nat → Nat → Int32} {ML : Nat → Nat → Int64} {a : Nat} (ha : a < tn (MI 38 0)) (h : tn (MI 38 0) < 26) : (f_Model_remove MI ML a).1 38 0 = nI (tn ((f_Model_remove MI ML a).1 38 0)) := by
  rw [f_Model_remove_many ha, tn_nI (by omega)]
theorem f_Model_remove_le {MI : Nat → Nat → Int32} {ML : Nat → Nat → Int64} {a : Nat} (ha : a < tn (MI 38 0)) (h : tn (MI 38 0) < 26) : tn ((f_Model_remove MI ML a).1 38 0) ≤ tn (MI 38 0) := by
  rw [f_Model_remove_many ha, tn_nI (by omega)]
  omega
theorem f_Model_open_keep {MI : Nat → Nat → Int32} {ML : Nat → Nat → Int64} {li k : Nat} (h1 : k ≠ 16) (h2 : k ≠ 17) (h3 : k ≠ 20) (h4 : k ≠ 21) (h5 : k ≠ 22) (h6 : k ≠ 27) : (f_Model_open MI ML li).2.1 k = MI k := by
  have h84 : ∀ (I : Nat → Nat → Int32) (L : Nat → Nat → Int64) (e : Nat), (f_Model_open_84 I L li e).2.1 k = I k := fun I L e => by simp [f_Model_open_84, up2, h1, h2, h3, h4, h5]
  have h34 : ∀ (f : Option Nat), (f_Model_open_34 MI ML li f).2.1 k = MI k := by
    intro f
    unfold f_Model_open_34
    cases f with
    | none =>
      simp only [oc_none]
      cases f_Model_least MI ML 1 with
      | none => simp only [oc_none]
      | some y => simp only [oc_some]; rw [h84]; simp [up2, h6]
    | some y => simp only [oc_some]; rw [h84]
  have h8 : ∀ (d : Nat) (f : Option Nat), (f_Model_open_8 d MI ML li f).2.1 k = MI k := by
    intro d
    induction d with
    | zero => intro f; rw [f_Model_open_8_z]; exact h34 f
    | succ d ih =>
      intro f
      rw [f_Model_open_8_s]
      split
      · exact ih _
      · exact ih _
  exact h8 6 _
theorem f_Model_open_asked {MI : Nat → Nat → Int32} {ML : Nat → Nat → Int64} {li j : Nat} (h : (f_Model_open MI ML li).1 = some j) : (f_Model_open MI ML li).2.1 22 j = 0 := by
  have h84 : ∀ (I : Nat → Nat → Int32) (L : Nat → Nat → Int64) (e : Nat), (f_Model_open_84 I L li e).1 = some j → (f_Model_open_84 I L li e).2.1 22 j = 0 := by
    intro I L e h
    have : e = j := Option.some.inj h
    subst this
    simp [f_Model_open_84, up2]
  have h34 : ∀ (f : Option Nat), (f_Model_open_34 MI ML li f).1 = some j → (f_Model_open_34 MI ML li f).2.1 22 j = 0 := by
    intro f h
    unfold f_Model_open_34 at h ⊢
    cases f with
    | none =>
      simp only [oc_none] at h ⊢
      cases h9 : f_Model_least MI ML 1 with
      | none => rw [h9] at h; simp only [oc_none] at h; cases h
      | some y => rw [h9] at h; simp only [oc_some] at h ⊢; exact h84 _ _ _ h
    | some y => simp only [oc_some] at h ⊢; exact h84 _ _ _ h
  have h8 : ∀ (d : Nat) (f : Option Nat), (f_Model_open_8 d MI ML li f).1 = some j → (f_Model_open_8 d MI ML li f).2.1 22 j = 0 := by
    intro d
    induction d with
    | zero => intro f h; rw [f_Model_open_8_z] at h ⊢; exact h34 f h
    | succ d ih =>
      intro f h
      rw [f_Model_open_8_s] at h ⊢
      split
      · rename_i h9; rw [if_pos h9] at h; exact ih _ h
      · rename_i h9; rw [if_neg h9] at h; exact ih _ h
  exact h8 6 _ h
def f_Model_takesRequest_110 (MI : Nat → Nat → Int32) (ML : Nat → Nat → Int64) (e : Nat) : Int32 × (Nat → Nat → Int32) × (Nat → Nat → Int64) :=
  if (MI 22 e) = 1 then
    (1, (f_Model_serves MI ML e).2.1, (f_Model_serves MI ML e).2.2)
  else
    (1, MI, ML)
set_option maxHeartbeats 4000000 in
set_option maxRecDepth 100000 in
theorem g_Model_takesRequest_110 {p : Program} {l : Launch} {ev : Env} {s : State} {m : MethodId} {args : Array Value} {below : List Frame} {meth : Method} {c0 : Code} {D : va_G} {ac : Nat → ClassId} {o : Nat} {ad : Nat → Nat} {ws0 : va_W} {sz : Nat} {post : Int32 → va_W → Prop} (X : Cx b_Model_takesRequest 4 R_Model D ac p m args c0 s) (hr : meth.sig.returnType = (some .boolean)) (hk : meth.locks = false) (MI : Nat → Nat → Int32) (ML : Nat → Nat → Int64) (e : Nat) (he : e < 6) (hm : MI 38 0 = nI (tn (MI 38 0))) (hm20 : tn (MI 38 0) < 20) {H : Heap} {locs : List Loc} {ls : Array Slot} (w : Wo D (va_A ws0 sz) (mws ac o ad MI ML) s.heap H locs) (hl : lv_has ls 4 [(0, .ref o), (2, .int (nI e))]) (hp : post ((f_Model_takesRequest_110 MI ML e).1) (mws ac o ad (f_Model_takesRequest_110 MI ML e).2.1 (f_Model_takesRequest_110 MI ML e).2.2)) : W p l ev ({ frames := 2, cells := 0, slots := 0, locals := 57 } : Room) s m args below meth c0 H locs 0 0 (MQ below (va_Qi post (CPost D ws0 sz) (va_A ws0 sz)) args s 0 0 (va_A ws0 sz)) (F0 m 110 ls []) := by
  have hx := X.1
  have hb := X.2.1
  refine lv_aload_n hx hb d_Model_takesRequest_110 rfl (lv_at hl 0 rfl) ?_
  refine mg_78 X w d_Model_takesRequest_111 ?_
  refine lv_iload_n hx hb d_Model_takesRequest_114 rfl (lv_at hl 1 rfl) ?_
  refine ald_22 X w e (v := MI 22 e) (by omega) rfl rfl d_Model_takesRequest_115 ?_
  refine lv_iconst (v := 1) hx hb d_Model_takesRequest_116 (by decide) ?_
  refine lv_icmp_ne (tgt := 126) hx hb d_Model_takesRequest_117 (by decide) (fun h1 => ?_) (fun h1 => ?_)
  · skip
    refine lv_iconst (v := 1) hx hb d_Model_takesRequest_126 (by decide) ?_
    have hF : f_Model_takesRequest_110 MI ML e = (1, MI, ML) := by unfold f_Model_takesRequest_110; rw [if_neg h1]
    exact kzret X w hr hk (by decide) (by rw [hF] at hp; exact hp) d_Model_takesRequest_127
  · skip
    refine lv_aload_n hx hb d_Model_takesRequest_120 rfl (lv_at hl 0 rfl) ?_
    refine lv_iload_n hx hb d_Model_takesRequest_121 rfl (lv_at hl 1 rfl) ?_
    refine kcalli (ws0 := []) w (krunV (ws0 := []) (wc := mws ac o ad MI ML) (n := 1) (As := [.int (nI e)]) (rest := []) (C := R_Model) X w (c_Model_serves l D ac o ad MI ML _ e he hm (by omega)) wk_Model_serves wi_Model wm_Model_184 wx_Model_serves ws_Model_Model_serves (by decide +kernel) rfl rfl ⟨(Nat.le_of_ble_eq_true rfl), (Nat.le_of_ble_eq_true rfl)⟩ ⟨(Nat.le_of_ble_eq_true rfl), (Nat.le_of_ble_eq_true rfl)⟩ (mrecv X w) rfl hl.1 rfl (Nat.le_of_ble_eq_true rfl) d_Model_takesRequest_122) (fun r2 u H locs hp w => ?_)
    obtain ⟨rfl, rfl⟩ := hp
    have w : Wo D _ (mws ac o ad ((f_Model_serves MI ML e).2.1) ((f_Model_serves MI ML e).2.2)) s.heap H locs := w
    refine lv_pop hx hb d_Model_takesRequest_125 (by first | rfl | (cases ‹Option Nat› <;> rfl)) ?_
    refine lv_iconst (v := 1) hx hb d_Model_takesRequest_126 (by decide) ?_
    have hF : f_Model_takesRequest_110 MI ML e = (1, (f_Model_serves MI ML e).2.1, (f_Model_serves MI ML e).2.2) := by unfold f_Model_takesRequest_110; rw [if_pos h1]
    exact kzret X w hr hk (by decide) (by rw [hF] at hp; exact hp) d_Model_takesRequest_127
def f_Model_takesRequest_36 (MI : Nat → Nat → Int32) (ML : Nat → Nat → Int64) (k : Nat) (e : Nat) : Int32 × (Nat → Nat → Int32) × (Nat → Nat → Int64) :=
  f_Model_takesRequest_110 ((f_Model_remove (up2 (up2 (up2 MI 23 ((3 * e) + (tn (MI 22 e))) (MI 30 k)) 24 ((3 * e) + (tn (MI 22 e))) (MI 28 k)) 22 e (nI ((tn (MI 22 e)) + 1))) (up2 (up2 ML 25 ((3 * e) + (tn (MI 22 e))) (ML 33 k)) 26 ((3 * e) + (tn (MI 22 e))) (ML 34 k)) k).1) ((f_Model_remove (up2 (up2 (up2 MI 23 ((3 * e) + (tn (MI 22 e))) (MI 30 k)) 24 ((3 * e) + (tn (MI 22 e))) (MI 28 k)) 22 e (nI ((tn (MI 22 e)) + 1))) (up2 (up2 ML 25 ((3 * e) + (tn (MI 22 e))) (ML 33 k)) 26 ((3 * e) + (tn (MI 22 e))) (ML 34 k)) k).2) e
set_option maxHeartbeats 4000000 in
set_option maxRecDepth 100000 in
theorem g_Model_takesRequest_36 {p : Program} {l : Launch} {ev : Env} {s : State} {m : MethodId} {args : Array Value} {below : List Frame} {meth : Method} {c0 : Code} {D : va_G} {ac : Nat → ClassId} {o : Nat} {ad : Nat → Nat} {ws0 : va_W} {sz : Nat} {post : Int32 → va_W → Prop} (X : Cx b_Model_takesRequest 4 R_Model D ac p m args c0 s) (hr : meth.sig.returnType = (some .boolean)) (hk : meth.locks = false) (MI : Nat → Nat → Int32) (ML : Nat → Nat → Int64) (k : Nat) (e : Nat) (hkm : k < tn (MI 38 0)) (hm : MI 38 0 = nI (tn (MI 38 0))) (hm20 : tn (MI 38 0) < 20) (hup : ∀ j, MI 31 j = 0 ∨ MI 31 j = 1) (he : e < 6) (hae : MI 22 e = nI (tn (MI 22 e))) (ha3 : tn (MI 22 e) < 3) {H : Heap} {locs : List Loc} {ls : Array Slot} (w : Wo D (va_A ws0 sz) (mws ac o ad MI ML) s.heap H locs) (hl : lv_has ls 4 [(0, .ref o), (1, .int (nI k)), (2, .int (nI e))]) (hp : post ((f_Model_takesRequest_36 MI ML k e).1) (mws ac o ad (f_Model_takesRequest_36 MI ML k e).2.1 (f_Model_takesRequest_36 MI ML k e).2.2)) : W p l ev ({ frames := 2, cells := 0, slots := 0, locals := 57 } : Room) s m args below meth c0 H locs 0 0 (MQ below (va_Qi post (CPost D ws0 sz) (va_A ws0 sz)) args s 0 0 (va_A ws0 sz)) (F0 m 36 ls []) := by
  have hx := X.1
  have hb := X.2.1
  refine lv_iconst (v := 3) hx hb d_Model_takesRequest_36 (by decide) ?_
  refine lv_iload_n hx hb d_Model_takesRequest_37 rfl (lv_at hl 2 rfl) ?_
  refine kimul (a := 3) (b := e) (r := 3 * e) hx hb rfl rfl rfl d_Model_takesRequest_38 ?_
  refine lv_aload_n hx hb d_Model_takesRequest_39 rfl (lv_at hl 0 rfl) ?_
  refine mg_78 X w d_Model_takesRequest_40 ?_
  refine lv_iload_n hx hb d_Model_takesRequest_43 rfl (lv_at hl 2 rfl) ?_
  refine ald_22 X w e (v := MI 22 e) (by omega) rfl rfl d_Model_takesRequest_44 ?_
  refine kiadd (a := 3 * e) (b := tn (MI 22 e)) (r := (3 * e) + (tn (MI 22 e))) hx hb rfl hae rfl d_Model_takesRequest_45 ?_
  refine lv_istore_n (lv' := [(3, .int (nI ((3 * e) + (tn (MI 22 e))))), (0, .ref o), (1, .int (nI k)), (2, .int (nI e))]) hx hb d_Model_takesRequest_46 rfl hl (by decide) rfl (fun ls hl => ?_)
  refine lv_aload_n hx hb d_Model_takesRequest_47 rfl (lv_at hl 1 rfl) ?_
  refine mg_81 X w d_Model_takesRequest_48 ?_
  refine lv_iload_n hx hb d_Model_takesRequest_51 rfl (lv_at hl 0 rfl) ?_
  refine lv_aload_n hx hb d_Model_takesRequest_52 rfl (lv_at hl 1 rfl) ?_
  refine mg_102 X w d_Model_takesRequest_53 ?_
  refine lv_iload_n hx hb d_Model_takesRequest_56 rfl (lv_at hl 2 rfl) ?_
  refine ald_30 X w k (v := MI 30 k) (by omega) rfl rfl d_Model_takesRequest_57 ?_
  refine ast_23 X w ((3 * e) + (tn (MI 22 e))) (by omega) rfl d_Model_takesRequest_58 (fun H locs w => ?_)
  refine lv_aload_n hx hb d_Model_takesRequest_59 rfl (lv_at hl 1 rfl) ?_
  refine mg_84 X w d_Model_takesRequest_60 ?_
  refine lv_iload_n hx hb d_Model_takesRequest_63 rfl (lv_at hl 0 rfl) ?_
  refine lv_aload_n hx hb d_Model_takesRequest_64 rfl (lv_at hl 1 rfl) ?_
  refine mg_96 X w d_Model_takesRequest_65 ?_
  refine lv_iload_n hx hb d_Model_takesRequest_68 rfl (lv_at hl 2 rfl) ?_
  refine ald_28 X w k (v := MI 28 k) (by omega) rfl rfl d_Model_takesRequest_69 ?_
  refine ast_24 X w ((3 * e) + (tn (MI 22 e))) (by omega) rfl d_Model_takesRequest_70 (fun H locs w => ?_)
  refine lv_aload_n hx hb d_Model_takesRequest_71 rfl (lv_at hl 1 rfl) ?_
  refine mg_87 X w d_Model_takesRequest_72 ?_
  refine lv_iload_n hx hb d_Model_takesRequest_75 rfl (lv_at hl 0 rfl) ?_
  refine lv_aload_n hx hb d_Model_takesRequest_76 rfl (lv_at hl 1 rfl) ?_
  refine mg_111 X w d_Model_takesRequest_77 ?_
  refine lv_iload_n hx hb d_Model_takesRequest_80 rfl (lv_at hl 2 rfl) ?_
  refine ald_33 X w k (v := ML 33 k) (by omega) rfl rfl d_Model_takesRequest_81 ?_
  refine ast_25 X w ((3 * e) + (tn (MI 22 e))) (by omega) rfl d_Model_takesRequest_82 (fun H locs w => ?_)
  refine lv_aload_n hx hb d_Model_takesRequest_83 rfl (lv_at hl 1 rfl) ?_
  refine mg_90 X w d_Model_takesRequest_84 ?_
  refine lv_iload_n hx hb d_Model_takesRequest_87 rfl (lv_at hl 0 rfl) ?_
  refine lv_aload_n hx hb d_Model_takesRequest_88 rfl (lv_at hl 1 rfl) ?_
  refine mg_114 X w d_Model_takesRequest_89 ?_
  refine lv_iload_n hx hb d_Model_takesRequest_92 rfl (lv_at hl 2 rfl) ?_
  refine ald_34 X w k (v := ML 34 k) (by omega) rfl rfl d_Model_takesRequest_93 ?_
  refine ast_26 X w ((3 * e) + (tn (MI 22 e))) (by omega) rfl d_Model_takesRequest_94 (fun H locs w => ?_)
  refine lv_aload_n hx hb d_Model_takesRequest_95 rfl (lv_at hl 1 rfl) ?_
  refine mg_78 X w d_Model_takesRequest_96 ?_
  refine lv_iload_n hx hb d_Model_takesRequest_99 rfl (lv_at hl 3 rfl) ?_
  refine lv_dup2_11 hx hb d_Model_takesRequest_100 rfl rfl ?_
  refine ald_22 X w e (v := MI 22 e) (by omega) rfl rfl d_Model_takesRequest_101 ?_
  refine lv_iconst (v := 1) hx hb d_Model_takesRequest_102 (by decide) ?_
  refine kiadd (a := tn (MI 22 e)) (b := 1) (r := (tn (MI 22 e)) + 1) hx hb hae rfl rfl d_Model_takesRequest_103 ?_
  refine ast_22 X w e (by omega) rfl d_Model_takesRequest_104 (fun H locs w => ?_)
  refine lv_aload_n hx hb d_Model_takesRequest_105 rfl (lv_at hl 1 rfl) ?_
  refine lv_iload_n hx hb d_Model_takesRequest_106 rfl (lv_at hl 2 rfl) ?_
  refine kcallv (ws0 := []) w (krunV (ws0 := []) (wc := mws ac o ad (up2 (up2 (up2 MI 23 ((3 * e) + (tn (MI 22 e))) (MI 30 k)) 24 ((3 * e) + (tn (MI 22 e))) (MI 28 k)) 22 e (nI ((tn (MI 22 e)) + 1))) (up2 (up2 ML 25 ((3 * e) + (tn (MI 22 e))) (ML 33 k)) 26 ((3 * e) + (tn (MI 22 e))) (ML 34 k))) (n := 1) (As := [.int (nI k)]) (rest := []) (C := R_Model) X w (c_Model_remove l D ac o ad (up2 (up2 (up2 MI 23 ((3 * e) + (tn (MI 22 e))) (MI 30 k)) 24 ((3 * e) + (tn (MI 22 e))) (MI 28 k)) 22 e (nI ((tn (MI 22 e)) + 1))) (up2 (up2 ML 25 ((3 * e) + (tn (MI 22 e))) (ML 33 k)) 26 ((3 * e) + (tn (MI 22 e))) (ML 34 k)) _ k hm hkm (Nat.lt_trans hm20 (by decide)) hup) wk_Model_remove wi_Model wm_Model_130 wx_Model_remove ws_Model_Model_remove (by decide +kernel) rfl rfl ⟨(Nat.le_of_ble_eq_true rfl), (Nat.le_of_ble_eq_true rfl)⟩ ⟨(Nat.le_of_ble_eq_true rfl), (Nat.le_of_ble_eq_true rfl)⟩ (mrecv X w) rfl hl.1 rfl (Nat.le_of_ble_eq_true rfl) d_Model_takesRequest_107) (fun u H locs hp w => ?_)
  obtain rfl := hp
  have w : Wo D _ (mws ac o ad ((f_Model_remove (up2 (up2 (up2 MI 23 ((3 * e) + (tn (MI 22 e))) (MI 30 k)) 24 ((3 * e) + (tn (MI 22 e))) (MI 28 k)) 22 e (nI ((tn (MI 22 e)) + 1))) (up2 (up2 ML 25 ((3 * e) + (tn (MI 22 e))) (ML 33 k)) 26 ((3 * e) + (tn (MI 22 e))) (ML 34 k)) k).1) ((f_Model_remove (up2 (up2 (up2 MI 23 ((3 * e) + (tn (MI 22 e))) (MI 30 k)) 24 ((3 * e) + (tn (MI 22 e))) (MI 28 k)) 22 e (nI ((tn (MI 22 e)) + 1))) (up2 (up2 ML 25 ((3 * e) + (tn (MI 22 e))) (ML 33 k)) 26 ((3 * e) + (tn (MI 22 e))) (ML 34 k)) k).2)) s.heap H locs := w
  have hF : f_Model_takesRequest_36 MI ML k e = f_Model_takesRequest_110 ((f_Model_remove (up2 (up2 (up2 MI 23 ((3 * e) + (tn (MI 22 e))) (MI 30 k)) 24 ((3 * e) + (tn (MI 22 e))) (MI 28 k)) 22 e (nI ((tn (MI 22 e)) + 1))) (up2 (up2 ML 25 ((3 * e) + (tn (MI 22 e))) (ML 33 k)) 26 ((3 * e) + (tn (MI 22 e))) (ML 34 k)) k).1) ((f_Model_remove (up2 (up2 (up2 MI 23 ((3 * e) + (tn (MI 22 e))) (MI 30 k)) 24 ((3 * e) + (tn (MI 22 e))) (MI 28 k)) 22 e (nI ((tn (MI 22 e)) + 1))) (up2 (up2 ML 25 ((3 * e) + (tn (MI 22 e))) (ML 33 k)) 26 ((3 * e) + (tn (MI 22 e))) (ML 34 k)) k).2) e := by rfl
  exact g_Model_takesRequest_110 X hr hk  ((f_Model_remove (up2 (up2 (up2 MI 23 ((3 * e) + (tn (MI 22 e))) (MI 30 k)) 24 ((3 * e) + (tn (MI 22 e))) (MI 28 k)) 22 e (nI ((tn (MI 22 e)) + 1))) (up2 (up2 ML 25 ((3 * e) + (tn (MI 22 e))) (ML 33 k)) 26 ((3 * e) + (tn (MI 22 e))) (ML 34 k)) k).1) ((f_Model_remove (up2 (up2 (up2 MI 23 ((3 * e) + (tn (MI 22 e))) (MI 30 k)) 24 ((3 * e) + (tn (MI 22 e))) (MI 28 k)) 22 e (nI ((tn (MI 22 e)) + 1))) (up2 (up2 ML 25 ((3 * e) + (tn (MI 22 e))) (ML 33 k)) 26 ((3 * e) + (tn (MI 22 e))) (ML 34 k)) k).2) e he (f_Model_remove_hm hkm (Nat.lt_trans hm20 (by decide))) (Nat.lt_of_le_of_lt (f_Model_remove_le hkm (Nat.lt_trans hm20 (by decide))) hm20) w (lv_sub hl [1, 3] rfl) (by rw [hF] at hp; exact hp)
def f_Model_takesRequest (MI : Nat → Nat → Int32) (ML : Nat → Nat → Int64) (k : Nat) : Int32 × (Nat → Nat → Int32) × (Nat → Nat → Int64) :=
  oc (f_Model_entryOf MI ML (MI 29 k)) (
    oc ((f_Model_open MI ML (tn (MI 29 k))).1) (
      (0, (f_Model_call ((f_Model_open MI ML (tn (MI 29 k))).2.1) ((f_Model_open MI ML (tn (MI 29 k))).2.2) ).1, (f_Model_call ((f_Model_open MI ML (tn (MI 29 k))).2.1) ((f_Model_open MI ML (tn (MI 29 k))).2.2) ).2))
      (fun y6 =>
      f_Model_takesRequest_36 ((f_Model_open MI ML (tn (MI 29 k))).2.1) ((f_Model_open MI ML (tn (MI 29 k))).2.2) k y6))
    (fun y3 =>
    f_Model_takesRequest_36 MI ML k y3)
set_option maxHeartbeats 4000000 in
set_option maxRecDepth 100000 in
theorem c_Model_takesRequest (l : Launch) (D : va_G) (ac : Nat → ClassId) (o : Nat) (ad : Nat → Nat) (MI : Nat → Nat → Int32) (ML : Nat → Nat → Int64) (sz : Nat) (k : Nat) (hkm : k < tn (MI 38 0)) (hm : MI 38 0 = nI (tn (MI 38 0))) (hm20 : tn (MI 38 0) < 20) (hup : ∀ j, MI 31 j = 0 ∨ MI 31 j = 1) (hli : MI 29 k = nI (tn (MI 29 k)) ∧ tn (MI 29 k) < 12) (hel : ∀ k, k < 6 → MI 16 k = -1 ∨ (MI 16 k = nI (tn (MI 16 k)) ∧ tn (MI 16 k) < 12)) (hask : ∀ e, f_Model_entryOf MI ML (MI 29 k) = some e → MI 22 e = nI (tn (MI 22 e)) ∧ tn (MI 22 e) < 3) : Met l y_Model_takesRequest [Cond.code y_Model_takesRequest b_Model_takesRequest 4 (some .boolean)] { frames := 2, cells := 0, slots := 0, locals := 57 } (va_Pc [.ref o, .int (nI k)] (CPre D ac (mws ac o ad MI ML) sz)) (va_Qi (fun r u => r = (f_Model_takesRequest MI ML k).1 ∧ u = mws ac o ad (f_Model_takesRequest MI ML k).2.1 (f_Model_takesRequest MI ML k).2.2) (CPost D (mws ac o ad MI ML) sz) (va_A (mws ac o ad MI ML) sz)) 0 0 (va_A (mws ac o ad MI ML) sz) := by
  refine kofW (by decide) (Nat.le_of_ble_eq_true rfl) ?_
  intro p ev s m args below meth c0 ls X hr hk hnm hex hsz w hl
  have X : Cx b_Model_takesRequest 4 R_Model D ac p m args c0 s := X
  have hx := X.1
  have hb := X.2.1
  have hl : lv_has ls 4 [(0, .ref o), (1, .int (nI k))] := hl
  refine lv_aload_n hx hb d_Model_takesRequest_0 rfl (lv_at hl 0 rfl) ?_
  refine lv_aload_n hx hb d_Model_takesRequest_1 rfl (lv_at hl 0 rfl) ?_
  refine mg_99 X w d_Model_takesRequest_2 ?_
  refine lv_iload_n hx hb d_Model_takesRequest_5 rfl (lv_at hl 1 rfl) ?_
  refine ald_29 X w k (v := MI 29 k) (by omega) rfl rfl d_Model_takesRequest_6 ?_
  refine kcalli (ws0 := []) w (krunV (ws0 := []) (wc := mws ac o ad MI ML) (n := 1) (As := [.int (MI 29 k)]) (rest := []) (C := R_Model) X w (c_Model_entryOf l D ac o ad MI ML _ (MI 29 k)) wk_Model_entryOf wi_Model wm_Model_167 wx_Model_entryOf ws_Model_Model_entryOf (by decide +kernel) rfl rfl ⟨(Nat.le_of_ble_eq_true rfl), (Nat.le_of_ble_eq_true rfl)⟩ ⟨(Nat.le_of_ble_eq_true rfl), (Nat.le_of_ble_eq_true rfl)⟩ (mrecv X w) rfl hl.1 rfl (Nat.le_of_ble_eq_true rfl) d_Model_takesRequest_7) (fun r1 u H locs hp w => ?_)
  obtain ⟨rfl, rfl⟩ := hp
  have w : Wo D _ (mws ac o ad MI ML) s.heap H locs := w
  refine lv_istore_n (lv' := [(2, .int (oI (f_Model_entryOf MI ML (MI 29 k)))), (0, .ref o), (1, .int (nI k))]) hx hb d_Model_takesRequest_10 rfl hl (by decide) rfl (fun ls hl => ?_)
  cases ho2 : f_Model_entryOf MI ML (MI 29 k) with
  | none =>
    rw [ho2] at hl
    have hl : lv_has ls 4 [(2, .int (-1)), (0, .ref o), (1, .int (nI k))] := hl
    refine lv_iload_n hx hb d_Model_takesRequest_11 rfl (lv_at hl 0 rfl) ?_
    refine lv_if_ge (tgt := 26) hx hb d_Model_takesRequest_12 (by decide) (fun h => absurd h (by decide)) (fun _ => ?_)
    refine lv_aload_n hx hb d_Model_takesRequest_15 rfl (lv_at hl 1 rfl) ?_
    refine lv_aload_n hx hb d_Model_takesRequest_16 rfl (lv_at hl 1 rfl) ?_
    refine mg_99 X w d_Model_takesRequest_17 ?_
    refine lv_iload_n hx hb d_Model_takesRequest_20 rfl (lv_at hl 2 rfl) ?_
    refine ald_29 X w k (v := MI 29 k) (by omega) rfl rfl d_Model_takesRequest_21 ?_
    refine W.eq (g2 := F0 m 22 ls [.int (nI (tn (MI 29 k))), .ref o]) (by rw [← hli.1]) ?_
    refine kcalli (ws0 := []) w (krunV (ws0 := []) (wc := mws ac o ad MI ML) (n := 1) (As := [.int (nI (tn (MI 29 k)))]) (rest := []) (C := R_Model) X w (c_Model_open l D ac o ad MI ML _ (tn (MI 29 k)) hli.2 hel) wk_Model_open wi_Model wm_Model_178 wx_Model_open ws_Model_Model_open (by decide +kernel) rfl rfl ⟨(Nat.le_of_ble_eq_true rfl), (Nat.le_of_ble_eq_true rfl)⟩ ⟨(Nat.le_of_ble_eq_true rfl), (Nat.le_of_ble_eq_true rfl)⟩ (mrecv X w) rfl hl.1 rfl (Nat.le_of_ble_eq_true rfl) d_Model_takesRequest_22) (fun r4 u H locs hp w => ?_)
    obtain ⟨rfl, rfl⟩ := hp
    have w : Wo D _ (mws ac o ad ((f_Model_open MI ML (tn (MI 29 k))).2.1) ((f_Model_open MI ML (tn (MI 29 k))).2.2)) s.heap H locs := w
    refine lv_istore_n (lv' := [(2, .int (oI (f_Model_open MI ML (tn (MI 29 k))).1)), (0, .ref o), (1, .int (nI k))]) hx hb d_Model_takesRequest_25 rfl hl (by decide) rfl (fun ls hl => ?_)
    cases ho5 : (f_Model_open MI ML (tn (MI 29 k))).1 with
    | none =>
      rw [ho5] at hl
      have hl : lv_has ls 4 [(2, .int (-1)), (0, .ref o), (1, .int (nI k))] := hl
      refine lv_iload_n hx hb d_Model_takesRequest_26 rfl (lv_at hl 0 rfl) ?_
      refine lv_if_ge (tgt := 36) hx hb d_Model_takesRequest_27 (by decide) (fun h => absurd h (by decide)) (fun _ => ?_)
      refine lv_aload_n hx hb d_Model_takesRequest_30 rfl (lv_at hl 1 rfl) ?_
      refine kcallv (ws0 := []) w (krunV (ws0 := []) (wc := mws ac o ad ((f_Model_open MI ML (tn (MI 29 k))).2.1) ((f_Model_open MI ML (tn (MI 29 k))).2.2)) (n := 0) (As := []) (rest := []) (C := R_Model) X w (c_Model_call l D ac o ad ((f_Model_open MI ML (tn (MI 29 k))).2.1) ((f_Model_open MI ML (tn (MI 29 k))).2.2) _ (by rw [f_Model_open_keep (by decide) (by decide) (by decide) (by decide) (by decide) (by decide)]; exact hm) (by rw [f_Model_open_keep (by decide) (by decide) (by decide) (by decide) (by decide) (by decide)]; omega)) wk_Model_call wi_Model wm_Model_181 wx_Model_call ws_Model_Model_call (by decide +kernel) rfl rfl ⟨(Nat.le_of_ble_eq_true rfl), (Nat.le_of_ble_eq_true rfl)⟩ ⟨(Nat.le_of_ble_eq_true rfl), (Nat.le_of_ble_eq_true rfl)⟩ (mrecv X w) rfl hl.1 rfl (Nat.le_of_ble_eq_true rfl) d_Model_takesRequest_31) (fun u H locs hp w => ?_)
      obtain rfl := hp
      have w : Wo D _ (mws ac o ad ((f_Model_call ((f_Model_open MI ML (tn (MI 29 k))).2.1) ((f_Model_open MI ML (tn (MI 29 k))).2.2) ).1) ((f_Model_call ((f_Model_open MI ML (tn (MI 29 k))).2.1) ((f_Model_open MI ML (tn (MI 29 k))).2.2) ).2)) s.heap H locs := w
      refine lv_iconst (v := 0) hx hb d_Model_takesRequest_34 (by decide) ?_
      have hF : f_Model_takesRequest MI ML k = (0, (f_Model_call ((f_Model_open MI ML (tn (MI 29 k))).2.1) ((f_Model_open MI ML (tn (MI 29 k))).2.2) ).1, (f_Model_call ((f_Model_open MI ML (tn (MI 29 k))).2.1) ((f_Model_open MI ML (tn (MI 29 k))).2.2) ).2) := by unfold f_Model_takesRequest; rw [ho2, oc_none, ho5, oc_none]
      exact kzret X w hr hk (by decide) ⟨by rw [hF], by rw [hF]⟩ d_Model_takesRequest_35
    | some y6 =>
      rw [ho5] at hl
      have hl : lv_has ls 4 [(2, .int (nI y6)), (0, .ref o), (1, .int (nI k))] := hl
      have hy6 : y6 < 6 := f_Model_open_lt ho5
      refine lv_iload_n hx hb d_Model_takesRequest_26 rfl (lv_at hl 0 rfl) ?_
      refine lv_if_ge (tgt := 36) hx hb d_Model_takesRequest_27 (by decide) (fun _ => ?_) (fun h => absurd (nI_pos' (by omega)) h)
      have hF : f_Model_takesRequest MI ML k = f_Model_takesRequest_36 ((f_Model_open MI ML (tn (MI 29 k))).2.1) ((f_Model_open MI ML (tn (MI 29 k))).2.2) k y6 := by unfold f_Model_takesRequest; rw [ho2, oc_none, ho5, oc_some]
      exact g_Model_takesRequest_36 X hr hk  ((f_Model_open MI ML (tn (MI 29 k))).2.1) ((f_Model_open MI ML (tn (MI 29 k))).2.2) k y6 (by rw [f_Model_open_keep (by decide) (by decide) (by decide) (by decide) (by decide) (by decide)]; exact hkm) (by rw [f_Model_open_keep (by decide) (by decide) (by decide) (by decide) (by decide) (by decide)]; exact hm) (by rw [f_Model_open_keep (by decide) (by decide) (by decide) (by decide) (by decide) (by decide)]; exact hm20) (by rw [f_Model_open_keep (by decide) (by decide) (by decide) (by decide) (by decide) (by decide)]; exact hup) (by omega) (by rw [f_Model_open_asked ho5]; decide) (by rw [f_Model_open_asked ho5]; decide) w (lv_sub hl [1, 2, 0] rfl) ⟨by rw [hF], by rw [hF]⟩
  | some y3 =>
    rw [ho2] at hl
    have hl : lv_has ls 4 [(2, .int (nI y3)), (0, .ref o), (1, .int (nI k))] := hl
    have hy3 : y3 < 6 := f_Model_entryOf_lt ho2
    refine lv_iload_n hx hb d_Model_takesRequest_11 rfl (lv_at hl 0 rfl) ?_
    refine lv_if_ge (tgt := 26) hx hb d_Model_takesRequest_12 (by decide) (fun _ => ?_) (fun h => absurd (nI_pos' (by omega)) h)
    refine lv_iload_n hx hb d_Model_takesRequest_26 rfl (lv_at hl 0 rfl) ?_
    refine lv_if_ge (tgt := 36) hx hb d_Model_takesRequest_27 (by decide) (fun _ => ?_) (fun h => absurd (nI_pos' (by omega)) h)
    have hF : f_Model_takesRequest MI ML k = f_Model_takesRequest_36 MI ML k y3 := by unfold f_Model_takesRequest; rw [ho2, oc_some]
    exact g_Model_takesRequest_36 X hr hk  MI ML k y3 hkm hm hm20 hup (by omega) (hask y3 ho2).1 (hask y3 ho2).2 w (lv_sub hl [1, 2, 0] rfl) ⟨by rw [hF], by rw [hF]⟩
