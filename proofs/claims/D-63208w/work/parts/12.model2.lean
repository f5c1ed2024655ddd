def kdn (d : Nat) : Int32 := match d with
  | 0 => -1
  | d + 1 => nI d
theorem kdn_pred (d : Nat) : nI d + (-1) = kdn d := by
  cases d with
  | zero => decide
  | succ d => exact pk_m1 d
def f_Model_remove_12 : Nat → (Nat → Nat → Int32) → (Nat → Nat → Int64) → Int32 → Nat → Nat → (Nat → Nat → Int32) × (Nat → Nat → Int64)
  | 0, MI, ML, a, i, n =>
    (MI, ML)
  | d + 1, MI, ML, a, i, n =>
    f_Model_remove_12 d (up2 (up2 (up2 (up2 (up2 MI 28 i (MI 28 (i + 1))) 29 i (MI 29 (i + 1))) 30 i (MI 30 (i + 1))) 31 i (MI 31 (i + 1))) 32 i (MI 32 (i + 1))) (up2 (up2 ML 33 i (ML 33 (i + 1))) 34 i (ML 34 (i + 1))) a (i + 1) n
theorem f_Model_remove_12_z (MI : Nat → Nat → Int32) (ML : Nat → Nat → Int64) (a : Int32) (i : Nat) (n : Nat) : f_Model_remove_12 0 MI ML a i n =
    (MI, ML) := rfl
theorem f_Model_remove_12_s (d : Nat) (MI : Nat → Nat → Int32) (ML : Nat → Nat → Int64) (a : Int32) (i : Nat) (n : Nat) : f_Model_remove_12 (d + 1) MI ML a i n =
    f_Model_remove_12 d (up2 (up2 (up2 (up2 (up2 MI 28 i (MI 28 (i + 1))) 29 i (MI 29 (i + 1))) 30 i (MI 30 (i + 1))) 31 i (MI 31 (i + 1))) 32 i (MI 32 (i + 1))) (up2 (up2 ML 33 i (ML 33 (i + 1))) 34 i (ML 34 (i + 1))) a (i + 1) n := rfl
set_option maxHeartbeats 4000000 in
set_option maxRecDepth 100000 in
theorem g_Model_remove_12 {p : Program} {l : Launch} {ev : Env} {s : State} {m : MethodId} {args : Array Value} {below : List Frame} {meth : Method} {c0 : Code} {D : va_G} {ac : Nat → ClassId} {o : Nat} {ad : Nat → Nat} {ws0 : va_W} {sz : Nat} {post : va_W → Prop} (X : Cx b_Model_remove 3 R_Model D ac p m args c0 s) (hr : meth.sig.returnType = none) (hk : meth.locks = false) (d : Nat) : ∀ (MI : Nat → Nat → Int32) (ML : Nat → Nat → Int64) (a : Int32) (i : Nat) (n : Nat) (hi : i + d = n) (hm : MI 38 0 = nI n) (hn25 : n < 25) (hup : ∀ j, MI 31 j = 0 ∨ MI 31 j = 1) {H : Heap} {locs : List Loc} {ls : Array Slot} (_ : Wo D (va_A ws0 sz) (mws ac o ad MI ML) s.heap H locs) (_ : lv_has ls 3 [(0, .ref o), (1, .int a), (2, .int (nI i))]) (_ : post (mws ac o ad (f_Model_remove_12 d MI ML a i n).1 (f_Model_remove_12 d MI ML a i n).2)), W p l ev ({ frames := 0, cells := 0, slots := 0, locals := 0 } : Room) s m args below meth c0 H locs 0 0 (MQ below (va_Qv post (CPost D ws0 sz) (va_A ws0 sz)) args s 0 0 (va_A ws0 sz)) (F0 m 12 ls []) := by
  have hx := X.1
  have hb := X.2.1
  induction d with
  | zero =>
    intro MI ML a i n hi hm hn25 hup H locs ls w hl hp
    have hl : lv_has ls 3 [(0, .ref o), (1, .int a), (2, .int (nI i))] := hl
    refine lv_iload_n hx hb d_Model_remove_12 rfl (lv_at hl 2 rfl) ?_
    refine lv_aload_n hx hb d_Model_remove_13 rfl (lv_at hl 0 rfl) ?_
    refine mg_127 X w (v := MI 38 0) rfl d_Model_remove_14 ?_
    refine lv_icmp_ge (tgt := 124) hx hb d_Model_remove_17 (by decide) (fun _ => ?_) (fun h => absurd (by rw [hm]; exact nI_le (by omega) (by omega)) h)
    have hF : f_Model_remove_12 0 MI ML a i n = (MI, ML) := by rw [f_Model_remove_12_z]
    exact kvret (Qc := fun _ _ _ _ => True) X w hr hk (by rw [hF] at hp; exact hp) d_Model_remove_124
  | succ d ih =>
    intro MI ML a i n hi hm hn25 hup H locs ls w hl hp
    have hl : lv_has ls 3 [(0, .ref o), (1, .int a), (2, .int (nI i))] := hl
    refine lv_iload_n hx hb d_Model_remove_12 rfl (lv_at hl 2 rfl) ?_
    refine lv_aload_n hx hb d_Model_remove_13 rfl (lv_at hl 0 rfl) ?_
    refine mg_127 X w (v := MI 38 0) rfl d_Model_remove_14 ?_
    refine lv_icmp_ge (tgt := 124) hx hb d_Model_remove_17 (by decide) (fun h => absurd h (by rw [hm]; exact nI_ge (by omega) (by omega))) (fun _ => ?_)
    refine lv_aload_n hx hb d_Model_remove_20 rfl (lv_at hl 0 rfl) ?_
    refine mg_96 X w d_Model_remove_21 ?_
    refine lv_iload_n hx hb d_Model_remove_24 rfl (lv_at hl 2 rfl) ?_
    refine lv_aload_n hx hb d_Model_remove_25 rfl (lv_at hl 0 rfl) ?_
    refine mg_96 X w d_Model_remove_26 ?_
    refine lv_iload_n hx hb d_Model_remove_29 rfl (lv_at hl 2 rfl) ?_
    refine lv_iconst (v := 1) hx hb d_Model_remove_30 (by decide) ?_
    refine kiadd (a := i) (b := 1) (r := i + 1) hx hb rfl rfl rfl d_Model_remove_31 ?_
    refine ald_28 X w (i + 1) (v := MI 28 (i + 1)) (by omega) rfl rfl d_Model_remove_32 ?_
    refine ast_28 X w i (by omega) rfl d_Model_remove_33 (fun H locs w => ?_)
    refine lv_aload_n hx hb d_Model_remove_34 rfl (lv_at hl 0 rfl) ?_
    refine mg_99 X w d_Model_remove_35 ?_
    refine lv_iload_n hx hb d_Model_remove_38 rfl (lv_at hl 2 rfl) ?_
    refine lv_aload_n hx hb d_Model_remove_39 rfl (lv_at hl 0 rfl) ?_
    refine mg_99 X w d_Model_remove_40 ?_
    refine lv_iload_n hx hb d_Model_remove_43 rfl (lv_at hl 2 rfl) ?_
    refine lv_iconst (v := 1) hx hb d_Model_remove_44 (by decide) ?_
    refine kiadd (a := i) (b := 1) (r := i + 1) hx hb rfl rfl rfl d_Model_remove_45 ?_
    refine ald_29 X w (i + 1) (v := MI 29 (i + 1)) (by omega) rfl rfl d_Model_remove_46 ?_
    refine ast_29 X w i (by omega) rfl d_Model_remove_47 (fun H locs w => ?_)
    refine lv_aload_n hx hb d_Model_remove_48 rfl (lv_at hl 0 rfl) ?_
    refine mg_102 X w d_Model_remove_49 ?_
    refine lv_iload_n hx hb d_Model_remove_52 rfl (lv_at hl 2 rfl) ?_
    refine lv_aload_n hx hb d_Model_remove_53 rfl (lv_at hl 0 rfl) ?_
    refine mg_102 X w d_Model_remove_54 ?_
    refine lv_iload_n hx hb d_Model_remove_57 rfl (lv_at hl 2 rfl) ?_
    refine lv_iconst (v := 1) hx hb d_Model_remove_58 (by decide) ?_
    refine kiadd (a := i) (b := 1) (r := i + 1) hx hb rfl rfl rfl d_Model_remove_59 ?_
    refine ald_30 X w (i + 1) (v := MI 30 (i + 1)) (by omega) rfl rfl d_Model_remove_60 ?_
    refine ast_30 X w i (by omega) rfl d_Model_remove_61 (fun H locs w => ?_)
    refine lv_aload_n hx hb d_Model_remove_62 rfl (lv_at hl 0 rfl) ?_
    refine mg_105 X w d_Model_remove_63 ?_
    refine lv_iload_n hx hb d_Model_remove_66 rfl (lv_at hl 2 rfl) ?_
    refine lv_aload_n hx hb d_Model_remove_67 rfl (lv_at hl 0 rfl) ?_
    refine mg_105 X w d_Model_remove_68 ?_
    refine lv_iload_n hx hb d_Model_remove_71 rfl (lv_at hl 2 rfl) ?_
    refine lv_iconst (v := 1) hx hb d_Model_remove_72 (by decide) ?_
    refine kiadd (a := i) (b := 1) (r := i + 1) hx hb rfl rfl rfl d_Model_remove_73 ?_
    refine ald_31 X w (i + 1) (v := MI 31 (i + 1)) (by omega) rfl rfl d_Model_remove_74 ?_
    refine ast_31 X w i (hup (i + 1)) (by omega) rfl d_Model_remove_75 (fun H locs w => ?_)
    refine lv_aload_n hx hb d_Model_remove_76 rfl (lv_at hl 0 rfl) ?_
    refine mg_108 X w d_Model_remove_77 ?_
    refine lv_iload_n hx hb d_Model_remove_80 rfl (lv_at hl 2 rfl) ?_
    refine lv_aload_n hx hb d_Model_remove_81 rfl (lv_at hl 0 rfl) ?_
    refine mg_108 X w d_Model_remove_82 ?_
    refine lv_iload_n hx hb d_Model_remove_85 rfl (lv_at hl 2 rfl) ?_
    refine lv_iconst (v := 1) hx hb d_Model_remove_86 (by decide) ?_
    refine kiadd (a := i) (b := 1) (r := i + 1) hx hb rfl rfl rfl d_Model_remove_87 ?_
    refine ald_32 X w (i + 1) (v := MI 32 (i + 1)) (by omega) rfl rfl d_Model_remove_88 ?_
    refine ast_32 X w i (by omega) rfl d_Model_remove_89 (fun H locs w => ?_)
    refine lv_aload_n hx hb d_Model_remove_90 rfl (lv_at hl 0 rfl) ?_
    refine mg_111 X w d_Model_remove_91 ?_
    refine lv_iload_n hx hb d_Model_remove_94 rfl (lv_at hl 2 rfl) ?_
    refine lv_aload_n hx hb d_Model_remove_95 rfl (lv_at hl 0 rfl) ?_
    refine mg_111 X w d_Model_remove_96 ?_
    refine lv_iload_n hx hb d_Model_remove_99 rfl (lv_at hl 2 rfl) ?_
    refine lv_iconst (v := 1) hx hb d_Model_remove_100 (by decide) ?_
    refine kiadd (a := i) (b := 1) (r := i + 1) hx hb rfl rfl rfl d_Model_remove_101 ?_
    refine ald_33 X w (i + 1) (v := ML 33 (i + 1)) (by omega) rfl rfl d_Model_remove_102 ?_
    refine ast_33 X w i (by omega) rfl d_Model_remove_103 (fun H locs w => ?_)
    refine lv_aload_n hx hb d_Model_remove_104 rfl (lv_at hl 0 rfl) ?_
    refine mg_114 X w d_Model_remove_105 ?_
    refine lv_iload_n hx hb d_Model_remove_108 rfl (lv_at hl 2 rfl) ?_
    refine lv_aload_n hx hb d_Model_remove_109 rfl (lv_at hl 0 rfl) ?_
    refine mg_114 X w d_Model_remove_110 ?_
    refine lv_iload_n hx hb d_Model_remove_113 rfl (lv_at hl 2 rfl) ?_
    refine lv_iconst (v := 1) hx hb d_Model_remove_114 (by decide) ?_
    refine kiadd (a := i) (b := 1) (r := i + 1) hx hb rfl rfl rfl d_Model_remove_115 ?_
    refine ald_34 X w (i + 1) (v := ML 34 (i + 1)) (by omega) rfl rfl d_Model_remove_116 ?_
    refine ast_34 X w i (by omega) rfl d_Model_remove_117 (fun H locs w => ?_)
    refine lv_iinc (v := nI (i + 1)) (lv' := [(2, .int (nI (i + 1))), (0, .ref o), (1, .int a)]) hx hb d_Model_remove_118 hl (k := 2) rfl (by rw [show (nI i) = nI i from rfl]; exact nI_1 _) (by decide) rfl (fun ls hl => ?_)
    refine lv_goto (tgt := 12) hx hb d_Model_remove_121 (by decide) ?_
    have hF : f_Model_remove_12 (d + 1) MI ML a i n = f_Model_remove_12 d (up2 (up2 (up2 (up2 (up2 MI 28 i (MI 28 (i + 1))) 29 i (MI 29 (i + 1))) 30 i (MI 30 (i + 1))) 31 i (MI 31 (i + 1))) 32 i (MI 32 (i + 1))) (up2 (up2 ML 33 i (ML 33 (i + 1))) 34 i (ML 34 (i + 1))) a (i + 1) n := by rw [f_Model_remove_12_s]
    exact ih (up2 (up2 (up2 (up2 (up2 MI 28 i (MI 28 (i + 1))) 29 i (MI 29 (i + 1))) 30 i (MI 30 (i + 1))) 31 i (MI 31 (i + 1))) 32 i (MI 32 (i + 1))) (up2 (up2 ML 33 i (ML 33 (i + 1))) 34 i (ML 34 (i + 1))) a (i + 1) n (by omega) hm hn25 (fun j => by have h3 := hup j; have h4 := hup (i + 1); by_cases h5 : j = i <;> simp [up2, h5] <;> assumption) w (lv_sub hl [1, 2, 0] rfl) (by rw [hF] at hp; exact hp)
def f_Model_remove (MI : Nat → Nat → Int32) (ML : Nat → Nat → Int64) (a : Nat) : (Nat → Nat → Int32) × (Nat → Nat → Int64) :=
  f_Model_remove_12 (tn (MI 38 0) - 1 - a) (up2 MI 38 0 (nI ((tn (MI 38 0)) - 1))) ML (nI a) a (tn (MI 38 0) - 1)
set_option maxHeartbeats 4000000 in
set_option maxRecDepth 100000 in
theorem c_Model_remove (l : Launch) (D : va_G) (ac : Nat → ClassId) (o : Nat) (ad : Nat → Nat) (MI : Nat → Nat → Int32) (ML : Nat → Nat → Int64) (sz : Nat) (a : Nat) (hm : MI 38 0 = nI (tn (MI 38 0))) (ha : a < tn (MI 38 0)) (hm25 : tn (MI 38 0) < 26) (hup : ∀ j, MI 31 j = 0 ∨ MI 31 j = 1) : Met l y_Model_remove [Cond.code y_Model_remove b_Model_remove 3 none] { frames := 0, cells := 0, slots := 0, locals := 0 } (va_Pc [.ref o, .int (nI a)] (CPre D ac (mws ac o ad MI ML) sz)) (va_Qv (fun u => u = mws ac o ad (f_Model_remove MI ML a).1 (f_Model_remove MI ML a).2) (CPost D (mws ac o ad MI ML) sz) (va_A (mws ac o ad MI ML) sz)) 0 0 (va_A (mws ac o ad MI ML) sz) := by
  refine kofW (by decide) (Nat.le_of_ble_eq_true rfl) ?_
  intro p ev s m args below meth c0 ls X hr hk hnm hex hsz w hl
  have X : Cx b_Model_remove 3 R_Model D ac p m args c0 s := X
  have hx := X.1
  have hb := X.2.1
  have hl : lv_has ls 3 [(0, .ref o), (1, .int (nI a))] := hl
  refine lv_aload_n hx hb d_Model_remove_0 rfl (lv_at hl 0 rfl) ?_
  refine lv_dup hx hb d_Model_remove_1 rfl ?_
  refine mg_127 X w (v := MI 38 0) rfl d_Model_remove_2 ?_
  refine lv_iconst (v := 1) hx hb d_Model_remove_5 (by decide) ?_
  refine kisub (a := tn (MI 38 0)) (b := 1) (r := (tn (MI 38 0)) - 1) hx hb hm rfl (by omega) rfl d_Model_remove_6 ?_
  refine mp_127 X w d_Model_remove_7 (fun H locs w => ?_)
  refine lv_iload_n hx hb d_Model_remove_10 rfl (lv_at hl 1 rfl) ?_
  refine lv_istore_n (lv' := [(2, .int (nI a)), (0, .ref o), (1, .int (nI a))]) hx hb d_Model_remove_11 rfl hl (by decide) rfl (fun ls hl => ?_)
  have hF : f_Model_remove MI ML a = f_Model_remove_12 (tn (MI 38 0) - 1 - a) (up2 MI 38 0 (nI ((tn (MI 38 0)) - 1))) ML (nI a) a (tn (MI 38 0) - 1) := by rfl
  exact g_Model_remove_12 X hr hk (tn (MI 38 0) - 1 - a)  (up2 MI 38 0 (nI ((tn (MI 38 0)) - 1))) ML (nI a) a (tn (MI 38 0) - 1) (by omega) rfl (by omega) hup w (lv_sub hl [1, 2, 0] rfl) (by rw [hF])
/-- the messages' rows behind a removal: those from a on move up by one, up to the row n -/
def rmI (MI : Nat → Nat → Int32) (a n : Nat) : Nat → Nat → Int32 := fun k => if 28 ≤ k ∧ k ≤ 32 then (fun j => if a ≤ j ∧ j < n then MI k (j + 1) else MI k j) else MI k
def rmL (ML : Nat → Nat → Int64) (a n : Nat) : Nat → Nat → Int64 := fun k => if 33 ≤ k ∧ k ≤ 34 then (fun j => if a ≤ j ∧ j < n then ML k (j + 1) else ML k j) else ML k
theorem f_Model_remove_12_eq (x : Int32) (n : Nat) : ∀ (d : Nat) (MI : Nat → Nat → Int32) (ML : Nat → Nat → Int64) (i : Nat), f_Model_remove_12 d MI ML x i n = (rmI MI i (i + d), rmL ML i (i + d)) := by
  intro d
  induction d with
  | zero =>
    intro MI ML i
    rw [f_Model_remove_12_z]
    refine Prod.ext ?_ ?_
    · funext k j
      show MI k j = rmI MI i (i + 0) k j
      unfold rmI
      split
      · exact (if_neg (show ¬ (i ≤ j ∧ j < i + 0) by omega)).symm
      · rfl
    · funext k j
      show ML k j = rmL ML i (i + 0) k j
      unfold rmL
      split
      · exact (if_neg (show ¬ (i ≤ j ∧ j < i + 0) by omega)).symm
      · rfl
  | succ d ih =>
    intro MI ML i
    rw [f_Model_remove_12_s, ih]
    refine Prod.ext ?_ ?_
    · funext k j
      simp only [rmI]
      by_cases hk : 28 ≤ k ∧ k ≤ 32
      · rw [if_pos hk, if_pos hk]
        have h5 : k = 28 ∨ k = 29 ∨ k = 30 ∨ k = 31 ∨ k = 32 := by omega
        by_cases hj : i + 1 ≤ j ∧ j < i + 1 + d
        · rw [if_pos hj, if_pos (by omega)]
          have : j + 1 ≠ i := by omega
          rcases h5 with rfl | rfl | rfl | rfl | rfl <;> simp [up2, this]
        · rw [if_neg hj]
          by_cases hi : j = i
          · subst hi
            rw [if_pos (by omega)]
            rcases h5 with rfl | rfl | rfl | rfl | rfl <;> simp [up2]
          · rw [if_neg (by omega)]
            rcases h5 with rfl | rfl | rfl | rfl | rfl <;> simp [up2, hi]
      · rw [if_neg hk, if_neg hk]
        have e1 : k ≠ 28 := by omega
        have e2 : k ≠ 29 := by omega
        have e3 : k ≠ 30 := by omega
        have e4 : k ≠ 31 := by omega
        have e5 : k ≠ 32 := by omega
        simp [up2, e1, e2, e3, e4, e5]
    · funext k j
      simp only [rmL]
      by_cases hk : 33 ≤ k ∧ k ≤ 34
      · rw [if_pos hk, if_pos hk]
        have h5 : k = 33 ∨ k = 34 := by omega
        by_cases hj : i + 1 ≤ j ∧ j < i + 1 + d
        · rw [if_pos hj, if_pos (by omega)]
          have : j + 1 ≠ i := by omega
          rcases h5 with rfl | rfl <;> simp [up2, this]
        · rw [if_neg hj]
          by_cases hi : j = i
          · subst hi
            rw [if_pos (by omega)]
            rcases h5 with rfl | rfl <;> simp [up2]
          · rw [if_neg (by omega)]
            rcases h5 with rfl | rfl <;> simp [up2, hi]
      · rw [if_neg hk, if_neg hk]
        have e1 : k ≠ 33 := by omega
        have e2 : k ≠ 34 := by omega
        simp [up2, e1, e2]
theorem f_Model_remove_eq {MI : Nat → Nat → Int32} {ML : Nat → Nat → Int64} {a : Nat} (ha : a < tn (MI 38 0)) : f_Model_remove MI ML a = (rmI (up2 MI 38 0 (nI (tn (MI 38 0) - 1))) a (tn (MI 38 0) - 1), rmL ML a (tn (MI 38 0) - 1)) := by
  unfold f_Model_remove
  rw [f_Model_remove_12_eq, show a + (tn (MI 38 0) - 1 - a) = tn (MI 38 0) - 1 by omega]
theorem f_Model_remove_many {MI : Nat → Nat → Int32} {ML : Nat → Nat → Int64} {a : Nat} (ha : a < tn (MI 38 0)) : (f_Model_remove MI ML a).1 38 0 = nI (tn (MI 38 0) - 1) := by
  rw [f_Model_remove_eq ha]
  simp [rmI, up2]
theorem f_Model_remove_up {MI : Nat → Nat → Int32} {ML : Nat → Nat → Int64} {a : Nat} (ha : a < tn (MI 38 0)) (h : ∀ j, MI 31 j = 0 ∨ MI 31 j = 1) : ∀ j, (f_Model_remove MI ML a).1 31 j = 0 ∨ (f_Model_remove MI ML a).1 31 j = 1 := by
  intro j
  rw [f_Model_remove_eq ha]
  simp only [rmI]
  rw [if_pos (by omega)]
  split
  · exact h (j + 1)
  · exact h j
theorem f_Model_remove_k {MI : Nat → Nat → Int32} {ML : Nat → Nat → Int64} {a : Nat} (ha : a < tn (MI 38 0)) {k : Nat} (hk : k < 28) : (f_Model_remove MI ML a).1 k = MI k := by
  rw [f_Model_remove_eq ha]
  simp only [rmI]
  rw [if_neg (by omega)]
  simp [up2, show k ≠ 38 by omega]
theorem f_Model_remove_kL {MI : Nat → Nat → Int32} {ML : Nat → Nat → Int64} {a : Nat} (ha : a < tn (MI 38 0)) {k : Nat} (hk : k < 33) : (f_Model_remove MI ML a).2 k = ML k := by
  rw [f_Model_remove_eq ha]
  simp only [rmL]
  rw [if_neg (by omega)]
def f_Model_forget_2 : Nat → (Nat → Nat → Int32) → (Nat → Nat → Int64) → Int32 → Nat → (Nat → Nat → Int32) × (Nat → Nat → Int64)
  | 0, MI, ML, li, k =>
    (MI, ML)
  | d + 1, MI, ML, li, k =>
    if (MI 29 k) = li then
      if (MI 28 k) = 5 then
        f_Model_forget_2 d ((f_Model_remove MI ML k).1) ((f_Model_remove MI ML k).2) li k
      else
        if (MI 28 k) = 6 then
          f_Model_forget_2 d ((f_Model_remove MI ML k).1) ((f_Model_remove MI ML k).2) li k
        else
          f_Model_forget_2 d MI ML li (k + 1)
    else
      f_Model_forget_2 d MI ML li (k + 1)
theorem f_Model_forget_2_z (MI : Nat → Nat → Int32) (ML : Nat → Nat → Int64) (li : Int32) (k : Nat) : f_Model_forget_2 0 MI ML li k =
    (MI, ML) := rfl
theorem f_Model_forget_2_s (d : Nat) (MI : Nat → Nat → Int32) (ML : Nat → Nat → Int64) (li : Int32) (k : Nat) : f_Model_forget_2 (d + 1) MI ML li k =
    if (MI 29 k) = li then
      if (MI 28 k) = 5 then
        f_Model_forget_2 d ((f_Model_remove MI ML k).1) ((f_Model_remove MI ML k).2) li k
      else
        if (MI 28 k) = 6 then
          f_Model_forget_2 d ((f_Model_remove MI ML k).1) ((f_Model_remove MI ML k).2) li k
        else
          f_Model_forget_2 d MI ML li (k + 1)
    else
      f_Model_forget_2 d MI ML li (k + 1) := rfl
set_option maxHeartbeats 4000000 in
set_option maxRecDepth 100000 in
theorem g_Model_forget_2 {p : Program} {l : Launch} {ev : Env} {s : State} {m : MethodId} {args : Array Value} {below : List Frame} {meth : Method} {c0 : Code} {D : va_G} {ac : Nat → ClassId} {o : Nat} {ad : Nat → Nat} {ws0 : va_W} {sz : Nat} {post : va_W → Prop} (X : Cx b_Model_forget 3 R_Model D ac p m args c0 s) (hr : meth.sig.returnType = none) (hk : meth.locks = false) (d : Nat) : ∀ (MI : Nat → Nat → Int32) (ML : Nat → Nat → Int64) (li : Int32) (k : Nat) (hm : MI 38 0 = nI (k + d)) (hb25 : k + d < 26) (hup : ∀ j, MI 31 j = 0 ∨ MI 31 j = 1) {H : Heap} {locs : List Loc} {ls : Array Slot} (_ : Wo D (va_A ws0 sz) (mws ac o ad MI ML) s.heap H locs) (_ : lv_has ls 3 [(0, .ref o), (1, .int li), (2, .int (nI k))]) (_ : post (mws ac o ad (f_Model_forget_2 d MI ML li k).1 (f_Model_forget_2 d MI ML li k).2)), W p l ev ({ frames := 1, cells := 0, slots := 0, locals := 22 } : Room) s m args below meth c0 H locs 0 0 (MQ below (va_Qv post (CPost D ws0 sz) (va_A ws0 sz)) args s 0 0 (va_A ws0 sz)) (F0 m 2 ls []) := by
  have hx := X.1
  have hb := X.2.1
  induction d with
  | zero =>
    intro MI ML li k hm hb25 hup H locs ls w hl hp
    have hl : lv_has ls 3 [(0, .ref o), (1, .int li), (2, .int (nI k))] := hl
    refine lv_iload_n hx hb d_Model_forget_2 rfl (lv_at hl 2 rfl) ?_
    refine lv_aload_n hx hb d_Model_forget_3 rfl (lv_at hl 0 rfl) ?_
    refine mg_127 X w (v := MI 38 0) rfl d_Model_forget_4 ?_
    refine lv_icmp_ge (tgt := 55) hx hb d_Model_forget_7 (by decide) (fun _ => ?_) (fun h => absurd (by rw [hm]; exact nI_le (by omega) (by omega)) h)
    have hF : f_Model_forget_2 0 MI ML li k = (MI, ML) := by rw [f_Model_forget_2_z]
    exact kvret (Qc := fun _ _ _ _ => True) X w hr hk (by rw [hF] at hp; exact hp) d_Model_forget_55
  | succ d ih =>
    intro MI ML li k hm hb25 hup H locs ls w hl hp
    have hl : lv_has ls 3 [(0, .ref o), (1, .int li), (2, .int (nI k))] := hl
    have htn : tn (MI 38 0) = k + (d + 1) := by rw [hm]; exact tn_nI (by omega)
    refine lv_iload_n hx hb d_Model_forget_2 rfl (lv_at hl 2 rfl) ?_
    refine lv_aload_n hx hb d_Model_forget_3 rfl (lv_at hl 0 rfl) ?_
    refine mg_127 X w (v := MI 38 0) rfl d_Model_forget_4 ?_
    refine lv_icmp_ge (tgt := 55) hx hb d_Model_forget_7 (by decide) (fun h => absurd h (by rw [hm]; exact nI_ge (by omega) (by omega))) (fun _ => ?_)
    refine lv_aload_n hx hb d_Model_forget_10 rfl (lv_at hl 0 rfl) ?_
    refine mg_99 X w d_Model_forget_11 ?_
    refine lv_iload_n hx hb d_Model_forget_14 rfl (lv_at hl 2 rfl) ?_
    refine ald_29 X w k (v := MI 29 k) (by omega) rfl rfl d_Model_forget_15 ?_
    refine lv_iload_n hx hb d_Model_forget_16 rfl (lv_at hl 1 rfl) ?_
    refine lv_icmp_ne (tgt := 49) hx hb d_Model_forget_17 (by decide) (fun h1 => ?_) (fun h1 => ?_)
    · skip
      refine lv_iinc (v := nI (k + 1)) (lv' := [(2, .int (nI (k + 1))), (0, .ref o), (1, .int li)]) hx hb d_Model_forget_49 hl (k := 2) rfl (by rw [show (nI k) = nI k from rfl]; exact nI_1 _) (by decide) rfl (fun ls hl => ?_)
      refine lv_goto (tgt := 2) hx hb d_Model_forget_52 (by decide) ?_
      have hF : f_Model_forget_2 (d + 1) MI ML li k = f_Model_forget_2 d MI ML li (k + 1) := by rw [f_Model_forget_2_s, if_neg h1]
      exact ih MI ML li (k + 1) (by rw [hm]; congr 1; omega) (by omega) hup w (lv_sub hl [1, 2, 0] rfl) (by rw [hF] at hp; exact hp)
    · skip
      refine lv_aload_n hx hb d_Model_forget_20 rfl (lv_at hl 0 rfl) ?_
      refine mg_96 X w d_Model_forget_21 ?_
      refine lv_iload_n hx hb d_Model_forget_24 rfl (lv_at hl 2 rfl) ?_
      refine ald_28 X w k (v := MI 28 k) (by omega) rfl rfl d_Model_forget_25 ?_
      refine lv_iconst (v := 5) hx hb d_Model_forget_26 (by decide) ?_
      refine lv_icmp_eq (tgt := 41) hx hb d_Model_forget_27 (by decide) (fun h2 => ?_) (fun h2 => ?_)
      · skip
        refine lv_aload_n hx hb d_Model_forget_41 rfl (lv_at hl 0 rfl) ?_
        refine lv_iload_n hx hb d_Model_forget_42 rfl (lv_at hl 2 rfl) ?_
        refine kcallv (ws0 := []) w (krunV (ws0 := []) (wc := mws ac o ad MI ML) (n := 1) (As := [.int (nI k)]) (rest := []) (C := R_Model) X w (c_Model_remove l D ac o ad MI ML _ k (by rw [htn]; exact hm) (by omega) (by omega) hup) wk_Model_remove wi_Model wm_Model_130 wx_Model_remove ws_Model_Model_remove (by decide +kernel) rfl rfl ⟨(Nat.le_of_ble_eq_true rfl), (Nat.le_of_ble_eq_true rfl)⟩ ⟨(Nat.le_of_ble_eq_true rfl), (Nat.le_of_ble_eq_true rfl)⟩ (mrecv X w) rfl hl.1 rfl (Nat.le_of_ble_eq_true rfl) d_Model_forget_43) (fun u H locs hp w => ?_)
        obtain rfl := hp
        have w : Wo D _ (mws ac o ad ((f_Model_remove MI ML k).1) ((f_Model_remove MI ML k).2)) s.heap H locs := w
        refine lv_goto (tgt := 2) hx hb d_Model_forget_46 (by decide) ?_
        have hF : f_Model_forget_2 (d + 1) MI ML li k = f_Model_forget_2 d ((f_Model_remove MI ML k).1) ((f_Model_remove MI ML k).2) li k := by rw [f_Model_forget_2_s, if_pos h1, if_pos h2]
        exact ih ((f_Model_remove MI ML k).1) ((f_Model_remove MI ML k).2) li k (by rw [f_Model_remove_many (by omega), htn]; rfl) (by omega) (f_Model_remove_up (by omega) hup) w (lv_sub hl [0, 1, 2] rfl) (by rw [hF] at hp; exact hp)
      · skip
        refine lv_aload_n hx hb d_Model_forget_30 rfl (lv_at hl 0 rfl) ?_
        refine mg_96 X w d_Model_forget_31 ?_
        refine lv_iload_n hx hb d_Model_forget_34 rfl (lv_at hl 2 rfl) ?_
        refine ald_28 X w k (v := MI 28 k) (by omega) rfl rfl d_Model_forget_35 ?_
        refine lv_bipush (v := 6) hx hb d_Model_forget_36 (by decide) ?_
        refine lv_icmp_ne (tgt := 49) hx hb d_Model_forget_38 (by decide) (fun h3 => ?_) (fun h3 => ?_)
        · skip
          refine lv_iinc (v := nI (k + 1)) (lv' := [(2, .int (nI (k + 1))), (0, .ref o), (1, .int li)]) hx hb d_Model_forget_49 hl (k := 2) rfl (by rw [show (nI k) = nI k from rfl]; exact nI_1 _) (by decide) rfl (fun ls hl => ?_)
          refine lv_goto (tgt := 2) hx hb d_Model_forget_52 (by decide) ?_
          have hF : f_Model_forget_2 (d + 1) MI ML li k = f_Model_forget_2 d MI ML li (k + 1) := by rw [f_Model_forget_2_s, if_pos h1, if_neg h2, if_neg h3]
          exact ih MI ML li (k + 1) (by rw [hm]; congr 1; omega) (by omega) hup w (lv_sub hl [1, 2, 0] rfl) (by rw [hF] at hp; exact hp)
        · skip
          refine lv_aload_n hx hb d_Model_forget_41 rfl (lv_at hl 0 rfl) ?_
          refine lv_iload_n hx hb d_Model_forget_42 rfl (lv_at hl 2 rfl) ?_
          refine kcallv (ws0 := []) w (krunV (ws0 := []) (wc := mws ac o ad MI ML) (n := 1) (As := [.int (nI k)]) (rest := []) (C := R_Model) X w (c_Model_remove l D ac o ad MI ML _ k (by rw [htn]; exact hm) (by omega) (by omega) hup) wk_Model_remove wi_Model wm_Model_130 wx_Model_remove ws_Model_Model_remove (by decide +kernel) rfl rfl ⟨(Nat.le_of_ble_eq_true rfl), (Nat.le_of_ble_eq_true rfl)⟩ ⟨(Nat.le_of_ble_eq_true rfl), (Nat.le_of_ble_eq_true rfl)⟩ (mrecv X w) rfl hl.1 rfl (Nat.le_of_ble_eq_true rfl) d_Model_forget_43) (fun u H locs hp w => ?_)
          obtain rfl := hp
          have w : Wo D _ (mws ac o ad ((f_Model_remove MI ML k).1) ((f_Model_remove MI ML k).2)) s.heap H locs := w
          refine lv_goto (tgt := 2) hx hb d_Model_forget_46 (by decide) ?_
          have hF : f_Model_forget_2 (d + 1) MI ML li k = f_Model_forget_2 d ((f_Model_remove MI ML k).1) ((f_Model_remove MI ML k).2) li k := by rw [f_Model_forget_2_s, if_pos h1, if_neg h2, if_pos h3]
          exact ih ((f_Model_remove MI ML k).1) ((f_Model_remove MI ML k).2) li k (by rw [f_Model_remove_many (by omega), htn]; rfl) (by omega) (f_Model_remove_up (by omega) hup) w (lv_sub hl [0, 1, 2] rfl) (by rw [hF] at hp; exact hp)
def f_Model_forget (MI : Nat → Nat → Int32) (ML : Nat → Nat → Int64) (li : Int32) : (Nat → Nat → Int32) × (Nat → Nat → Int64) :=
  f_Model_forget_2 (tn (MI 38 0)) MI ML li 0
set_option maxHeartbeats 4000000 in
set_option maxRecDepth 100000 in
theorem c_Model_forget (l : Launch) (D : va_G) (ac : Nat → ClassId) (o : Nat) (ad : Nat → Nat) (MI : Nat → Nat → Int32) (ML : Nat → Nat → Int64) (sz : Nat) (li : Int32) (hm : MI 38 0 = nI (tn (MI 38 0))) (hm25 : tn (MI 38 0) < 26) (hup : ∀ j, MI 31 j = 0 ∨ MI 31 j = 1) : Met l y_Model_forget [Cond.code y_Model_forget b_Model_forget 3 none] { frames := 1, cells := 0, slots := 0, locals := 22 } (va_Pc [.ref o, .int li] (CPre D ac (mws ac o ad MI ML) sz)) (va_Qv (fun u => u = mws ac o ad (f_Model_forget MI ML li).1 (f_Model_forget MI ML li).2) (CPost D (mws ac o ad MI ML) sz) (va_A (mws ac o ad MI ML) sz)) 0 0 (va_A (mws ac o ad MI ML) sz) := by
  refine kofW (by decide) (Nat.le_of_ble_eq_true rfl) ?_
  intro p ev s m args below meth c0 ls X hr hk hnm hex hsz w hl
  have X : Cx b_Model_forget 3 R_Model D ac p m args c0 s := X
  have hx := X.1
  have hb := X.2.1
  have hl : lv_has ls 3 [(0, .ref o), (1, .int li)] := hl
  refine lv_iconst (v := 0) hx hb d_Model_forget_0 (by decide) ?_
  refine lv_istore_n (lv' := [(2, .int 0), (0, .ref o), (1, .int li)]) hx hb d_Model_forget_1 rfl hl (by decide) rfl (fun ls hl => ?_)
  have hF : f_Model_forget MI ML li = f_Model_forget_2 (tn (MI 38 0)) MI ML li 0 := by rfl
  exact g_Model_forget_2 X hr hk (tn (MI 38 0))  MI ML li 0 (by rw [Nat.zero_add]; exact hm) (by omega) hup w (lv_sub hl [1, 2, 0] rfl) (by rw [hF])
def f_Model_entryOf_4 : Nat → (Nat → Nat → Int32) → (Nat → Nat → Int64) → Int32 → Option Nat → Nat → Option Nat
  | 0, MI, ML, li, f, k =>
    f
  | d + 1, MI, ML, li, f, k =>
    if (MI 16 k) = li then
      f_Model_entryOf_4 d MI ML li (some k) (k + 1)
    else
      f_Model_entryOf_4 d MI ML li f (k + 1)
theorem f_Model_entryOf_4_z (MI : Nat → Nat → Int32) (ML : Nat → Nat → Int64) (li : Int32) (f : Option Nat) (k : Nat) : f_Model_entryOf_4 0 MI ML li f k =
    f := rfl
theorem f_Model_entryOf_4_s (d : Nat) (MI : Nat → Nat → Int32) (ML : Nat → Nat → Int64) (li : Int32) (f : Option Nat) (k : Nat) : f_Model_entryOf_4 (d + 1) MI ML li f k =
    if (MI 16 k) = li then
      f_Model_entryOf_4 d MI ML li (some k) (k + 1)
    else
      f_Model_entryOf_4 d MI ML li f (k + 1) := rfl
set_option maxHeartbeats 4000000 in
set_option maxRecDepth 100000 in
theorem g_Model_entryOf_4 {p : Program} {l : Launch} {ev : Env} {s : State} {m : MethodId} {args : Array Value} {below : List Frame} {meth : Method} {c0 : Code} {D : va_G} {ac : Nat → ClassId} {o : Nat} {ad : Nat → Nat} {ws0 : va_W} {sz : Nat} {post : Int32 → va_W → Prop} (X : Cx b_Model_entryOf 4 R_Model D ac p m args c0 s) (hr : meth.sig.returnType = (some .int)) (hk : meth.locks = false) (d : Nat) : ∀ (MI : Nat → Nat → Int32) (ML : Nat → Nat → Int64) (li : Int32) (f : Option Nat) (k : Nat) (hkd : k + d = 6) {H : Heap} {locs : List Loc} {ls : Array Slot} (_ : Wo D (va_A ws0 sz) (mws ac o ad MI ML) s.heap H locs) (_ : lv_has ls 4 [(0, .ref o), (1, .int li), (2, .int (oI f)), (3, .int (nI k))]) (_ : post (oI (f_Model_entryOf_4 d MI ML li f k)) (mws ac o ad MI ML)), W p l ev ({ frames := 0, cells := 0, slots := 0, locals := 0 } : Room) s m args below meth c0 H locs 0 0 (MQ below (va_Qi post (CPost D ws0 sz) (va_A ws0 sz)) args s 0 0 (va_A ws0 sz)) (F0 m 4 ls []) := by
  have hx := X.1
  have hb := X.2.1
  induction d with
  | zero =>
    intro MI ML li f k hkd H locs ls w hl hp
    have hl : lv_has ls 4 [(0, .ref o), (1, .int li), (2, .int (oI f)), (3, .int (nI k))] := hl
    refine lv_iload_n hx hb d_Model_entryOf_4 rfl (lv_at hl 3 rfl) ?_
    refine lv_bipush (v := 6) hx hb d_Model_entryOf_5 (by decide) ?_
    refine lv_icmp_ge (tgt := 32) hx hb d_Model_entryOf_7 (by decide) (fun _ => ?_) (fun h => absurd (nI_le (a := 6) (b := k) (by omega) (by omega)) h)
    refine lv_iload_n hx hb d_Model_entryOf_32 rfl (lv_at hl 2 rfl) ?_
    have hF : f_Model_entryOf_4 0 MI ML li f k = f := by rw [f_Model_entryOf_4_z]
    exact kiret X w hr hk (by rw [hF] at hp; exact hp) d_Model_entryOf_33
  | succ d ih =>
    intro MI ML li f k hkd H locs ls w hl hp
    have hl : lv_has ls 4 [(0, .ref o), (1, .int li), (2, .int (oI f)), (3, .int (nI k))] := hl
    refine lv_iload_n hx hb d_Model_entryOf_4 rfl (lv_at hl 3 rfl) ?_
    refine lv_bipush (v := 6) hx hb d_Model_entryOf_5 (by decide) ?_
    refine lv_icmp_ge (tgt := 32) hx hb d_Model_entryOf_7 (by decide) (fun h => absurd h (nI_ge (a := k) (b := 6) (by omega) (by omega))) (fun _ => ?_)
    refine lv_aload_n hx hb d_Model_entryOf_10 rfl (lv_at hl 0 rfl) ?_
    refine mg_60 X w d_Model_entryOf_11 ?_
    refine lv_iload_n hx hb d_Model_entryOf_14 rfl (lv_at hl 3 rfl) ?_
    refine ald_16 X w k (v := MI 16 k) (by omega) rfl rfl d_Model_entryOf_15 ?_
    refine lv_iload_n hx hb d_Model_entryOf_16 rfl (lv_at hl 1 rfl) ?_
    refine lv_icmp_ne (tgt := 24) hx hb d_Model_entryOf_17 (by decide) (fun h1 => ?_) (fun h1 => ?_)
    · skip
      refine lv_iload_n hx hb d_Model_entryOf_24 rfl (lv_at hl 2 rfl) ?_
      refine lv_istore_n (lv' := [(2, .int (oI f)), (0, .ref o), (1, .int li), (3, .int (nI k))]) hx hb d_Model_entryOf_25 rfl hl (by decide) rfl (fun ls hl => ?_)
      refine lv_iinc (v := nI (k + 1)) (lv' := [(3, .int (nI (k + 1))), (2, .int (oI f)), (0, .ref o), (1, .int li)]) hx hb d_Model_entryOf_26 hl (k := 3) rfl (by rw [show (nI k) = nI k from rfl]; exact nI_1 _) (by decide) rfl (fun ls hl => ?_)
      refine lv_goto (tgt := 4) hx hb d_Model_entryOf_29 (by decide) ?_
      have hF : f_Model_entryOf_4 (d + 1) MI ML li f k = f_Model_entryOf_4 d MI ML li f (k + 1) := by rw [f_Model_entryOf_4_s, if_neg h1]
      exact ih MI ML li f (k + 1) (by omega) w (lv_sub hl [2, 3, 1, 0] rfl) (by rw [hF] at hp; exact hp)
    · skip
      refine lv_iload_n hx hb d_Model_entryOf_20 rfl (lv_at hl 3 rfl) ?_
      refine lv_goto (tgt := 25) hx hb d_Model_entryOf_21 (by decide) ?_
      refine lv_istore_n (lv' := [(2, .int (nI k)), (0, .ref o), (1, .int li), (3, .int (nI k))]) hx hb d_Model_entryOf_25 rfl hl (by decide) rfl (fun ls hl => ?_)
      refine lv_iinc (v := nI (k + 1)) (lv' := [(3, .int (nI (k + 1))), (2, .int (nI k)), (0, .ref o), (1, .int li)]) hx hb d_Model_entryOf_26 hl (k := 3) rfl (by rw [show (nI k) = nI k from rfl]; exact nI_1 _) (by decide) rfl (fun ls hl => ?_)
      refine lv_goto (tgt := 4) hx hb d_Model_entryOf_29 (by decide) ?_
      have hF : f_Model_entryOf_4 (d + 1) MI ML li f k = f_Model_entryOf_4 d MI ML li (some k) (k + 1) := by rw [f_Model_entryOf_4_s, if_pos h1]
      exact ih MI ML li (some k) (k + 1) (by omega) w (lv_sub hl [2, 3, 1, 0] rfl) (by rw [hF] at hp; exact hp)
def f_Model_entryOf (MI : Nat → Nat → Int32) (ML : Nat → Nat → Int64) (li : Int32) : Option Nat :=
  f_Model_entryOf_4 6 MI ML li none 0
set_option maxHeartbeats 4000000 in
set_option maxRecDepth 100000 in
theorem c_Model_entryOf (l : Launch) (D : va_G) (ac : Nat → ClassId) (o : Nat) (ad : Nat → Nat) (MI : Nat → Nat → Int32) (ML : Nat → Nat → Int64) (sz : Nat) (li : Int32)  : Met l y_Model_entryOf [Cond.code y_Model_entryOf b_Model_entryOf 4 (some .int)] { frames := 0, cells := 0, slots := 0, locals := 0 } (va_Pc [.ref o, .int li] (CPre D ac (mws ac o ad MI ML) sz)) (va_Qi (fun r u => r = oI (f_Model_entryOf MI ML li) ∧ u = mws ac o ad MI ML) (CPost D (mws ac o ad MI ML) sz) (va_A (mws ac o ad MI ML) sz)) 0 0 (va_A (mws ac o ad MI ML) sz) := by
  refine kofW (by decide) (Nat.le_of_ble_eq_true rfl) ?_
  intro p ev s m args below meth c0 ls X hr hk hnm hex hsz w hl
  have X : Cx b_Model_entryOf 4 R_Model D ac p m args c0 s := X
  have hx := X.1
  have hb := X.2.1
  have hl : lv_has ls 4 [(0, .ref o), (1, .int li)] := hl
  refine lv_iconst (v := (-1)) hx hb d_Model_entryOf_0 (by decide) ?_
  refine lv_istore_n (lv' := [(2, .int (-1)), (0, .ref o), (1, .int li)]) hx hb d_Model_entryOf_1 rfl hl (by decide) rfl (fun ls hl => ?_)
  refine lv_iconst (v := 0) hx hb d_Model_entryOf_2 (by decide) ?_
  refine lv_istore_n (lv' := [(3, .int 0), (2, .int (-1)), (0, .ref o), (1, .int li)]) hx hb d_Model_entryOf_3 rfl hl (by decide) rfl (fun ls hl => ?_)
  have hF : f_Model_entryOf MI ML li = f_Model_entryOf_4 6 MI ML li none 0 := by rfl
  exact g_Model_entryOf_4 X hr hk 6  MI ML li none 0 (by omega) w (lv_sub hl [2, 3, 1, 0] rfl) ⟨by rw [hF] <;> rfl, rfl⟩
theorem f_Model_entryOf_4_lt {MI : Nat → Nat → Int32} {ML : Nat → Nat → Int64} {li : Int32} {j : Nat} : ∀ (d k : Nat) (f : Option Nat), k + d = 6 → (∀ i, f = some i → i < 6) → f_Model_entryOf_4 d MI ML li f k = some j → j < 6 := by
  intro d
  induction d with
  | zero => intro k f _ hf h; exact hf j h
  | succ d ih =>
    intro k f hk hf h
    rw [f_Model_entryOf_4_s] at h
    split at h
    · exact ih (k + 1) _ (by omega) (fun i hi => by cases hi; omega) h
    · exact ih (k + 1) _ (by omega) hf h
theorem f_Model_entryOf_lt {MI : Nat → Nat → Int32} {ML : Nat → Nat → Int64} {li : Int32} {j : Nat} (h : f_Model_entryOf MI ML li = some j) : j < 6 := f_Model_entryOf_4_lt 6 0 none rfl (fun i h => by cases h) h
def f_Model_least_4 : Nat → (Nat → Nat → Int32) → (Nat → Nat → Int64) → Int32 → Option Nat → Nat → Option Nat
  | 0, MI, ML, fr, f, k =>
    f
  | d + 1, MI, ML, fr, f, k =>
    if fr = 0 then
      if (MI 22 k) = 0 then
        oc (f) (
          f_Model_least_4 d MI ML fr (some k) (k + 1))
          (fun y4 =>
          if (ML 19 y4) ≤ (ML 19 k) then
            f_Model_least_4 d MI ML fr (some y4) (k + 1)
          else
            f_Model_least_4 d MI ML fr (some k) (k + 1))
      else
        f_Model_least_4 d MI ML fr f (k + 1)
    else
      if 0 ≤ (MI 20 k) then
        f_Model_least_4 d MI ML fr f (k + 1)
      else
        oc (f) (
          f_Model_least_4 d MI ML fr (some k) (k + 1))
          (fun y8 =>
          if (ML 19 y8) ≤ (ML 19 k) then
            f_Model_least_4 d MI ML fr (some y8) (k + 1)
          else
            f_Model_least_4 d MI ML fr (some k) (k + 1))
theorem f_Model_least_4_z (MI : Nat → Nat → Int32) (ML : Nat → Nat → Int64) (fr : Int32) (f : Option Nat) (k : Nat) : f_Model_least_4 0 MI ML fr f k =
    f := rfl
theorem f_Model_least_4_s (d : Nat) (MI : Nat → Nat → Int32) (ML : Nat → Nat → Int64) (fr : Int32) (f : Option Nat) (k : Nat) : f_Model_least_4 (d + 1) MI ML fr f k =
    if fr = 0 then
      if (MI 22 k) = 0 then
        oc (f) (
          f_Model_least_4 d MI ML fr (some k) (k + 1))
          (fun y4 =>
          if (ML 19 y4) ≤ (ML 19 k) then
            f_Model_least_4 d MI ML fr (some y4) (k + 1)
          else
            f_Model_least_4 d MI ML fr (some k) (k + 1))
      else
        f_Model_least_4 d MI ML fr f (k + 1)
    else
      if 0 ≤ (MI 20 k) then
        f_Model_least_4 d MI ML fr f (k + 1)
      else
        oc (f) (
          f_Model_least_4 d MI ML fr (some k) (k + 1))
          (fun y8 =>
          if (ML 19 y8) ≤ (ML 19 k) then
            f_Model_least_4 d MI ML fr (some y8) (k + 1)
          else
            f_Model_least_4 d MI ML fr (some k) (k + 1)) := rfl
set_option maxHeartbeats 4000000 in
set_option maxRecDepth 100000 in
theorem g_Model_least_4 {p : Program} {l : Launch} {ev : Env} {s : State} {m : MethodId} {args : Array Value} {below : List Frame} {meth : Method} {c0 : Code} {D : va_G} {ac : Nat → ClassId} {o : Nat} {ad : Nat → Nat} {ws0 : va_W} {sz : Nat} {post : Int32 → va_W → Prop} (X : Cx b_Model_least 5 R_Model D ac p m args c0 s) (hr : meth.sig.returnType = (some .int)) (hk : meth.locks = false) (d : Nat) : ∀ (MI : Nat → Nat → Int32) (ML : Nat → Nat → Int64) (fr : Int32) (f : Option Nat) (k : Nat) (hkd : k + d = 6) (hf : ∀ j, f = some j → j < 6) {H : Heap} {locs : List Loc} {ls : Array Slot} (_ : Wo D (va_A ws0 sz) (mws ac o ad MI ML) s.heap H locs) (_ : lv_has ls 5 [(0, .ref o), (1, .int fr), (2, .int (oI f)), (3, .int (nI k))]) (_ : post (oI (f_Model_least_4 d MI ML fr f k)) (mws ac o ad MI ML)), W p l ev ({ frames := 0, cells := 0, slots := 0, locals := 0 } : Room) s m args below meth c0 H locs 0 0 (MQ below (va_Qi post (CPost D ws0 sz) (va_A ws0 sz)) args s 0 0 (va_A ws0 sz)) (F0 m 4 ls []) := by
  have hx := X.1
  have hb := X.2.1
  induction d with
  | zero =>
    intro MI ML fr f k hkd hf H locs ls w hl hp
    have hl : lv_has ls 5 [(0, .ref o), (1, .int fr), (2, .int (oI f)), (3, .int (nI k))] := hl
    refine lv_iload_n hx hb d_Model_least_4 rfl (lv_at hl 3 rfl) ?_
    refine lv_bipush (v := 6) hx hb d_Model_least_5 (by decide) ?_
    refine lv_icmp_ge (tgt := 84) hx hb d_Model_least_7 (by decide) (fun _ => ?_) (fun h => absurd (nI_le (a := 6) (b := k) (by omega) (by omega)) h)
    refine lv_iload_n hx hb d_Model_least_84 rfl (lv_at hl 2 rfl) ?_
    have hF : f_Model_least_4 0 MI ML fr f k = f := by rw [f_Model_least_4_z]
    exact kiret X w hr hk (by rw [hF] at hp; exact hp) d_Model_least_85
  | succ d ih =>
    intro MI ML fr f k hkd hf H locs ls w hl hp
    have hl : lv_has ls 5 [(0, .ref o), (1, .int fr), (2, .int (oI f)), (3, .int (nI k))] := hl
    refine lv_iload_n hx hb d_Model_least_4 rfl (lv_at hl 3 rfl) ?_
    refine lv_bipush (v := 6) hx hb d_Model_least_5 (by decide) ?_
    refine lv_icmp_ge (tgt := 84) hx hb d_Model_least_7 (by decide) (fun h => absurd h (nI_ge (a := k) (b := 6) (by omega) (by omega))) (fun _ => ?_)
    refine lv_iload_n hx hb d_Model_least_10 rfl (lv_at hl 1 rfl) ?_
    refine lv_if_eq (tgt := 31) hx hb d_Model_least_11 (by decide) (fun h1 => ?_) (fun h1 => ?_)
    · skip
      refine lv_aload_n hx hb d_Model_least_31 rfl (lv_at hl 0 rfl) ?_
      refine mg_78 X w d_Model_least_32 ?_
      refine lv_iload_n hx hb d_Model_least_35 rfl (lv_at hl 3 rfl) ?_
      refine ald_22 X w k (v := MI 22 k) (by omega) rfl rfl d_Model_least_36 ?_
      refine lv_if_ne (tgt := 44) hx hb d_Model_least_37 (by decide) (fun h2 => ?_) (fun h2 => ?_)
      · skip
        refine lv_iconst (v := 0) hx hb d_Model_least_44 (by decide) ?_
        refine lv_istore (lv' := [(4, .int 0), (0, .ref o), (1, .int fr), (2, .int (oI f)), (3, .int (nI k))]) hx hb d_Model_least_45 hl (by decide) rfl (fun ls hl => ?_)
        refine lv_iload hx hb d_Model_least_47 (lv_at hl 0 rfl) ?_
        refine lv_if_eq (tgt := 76) hx hb d_Model_least_49 (by decide) (fun _ => ?_) (fun h => absurd h (by decide))
        refine lv_iload_n hx hb d_Model_least_76 rfl (lv_at hl 3 rfl) ?_
        refine lv_istore_n (lv' := [(2, .int (oI f)), (4, .int 0), (0, .ref o), (1, .int fr), (3, .int (nI k))]) hx hb d_Model_least_77 rfl hl (by decide) rfl (fun ls hl => ?_)
        refine lv_iinc (v := nI (k + 1)) (lv' := [(3, .int (nI (k + 1))), (2, .int (oI f)), (4, .int 0), (0, .ref o), (1, .int fr)]) hx hb d_Model_least_78 hl (k := 4) rfl (by rw [show (nI k) = nI k from rfl]; exact nI_1 _) (by decide) rfl (fun ls hl => ?_)
        refine lv_goto (tgt := 4) hx hb d_Model_least_81 (by decide) ?_
        have hF : f_Model_least_4 (d + 1) MI ML fr f k = f_Model_least_4 d MI ML fr f (k + 1) := by rw [f_Model_least_4_s, if_pos h1, if_neg h2]
        exact ih MI ML fr f (k + 1) (by omega) hf w (lv_sub hl [3, 4, 1, 0] rfl) (by rw [hF] at hp; exact hp)
      · skip
        refine lv_iconst (v := 1) hx hb d_Model_least_40 (by decide) ?_
        refine lv_goto (tgt := 45) hx hb d_Model_least_41 (by decide) ?_
        refine lv_istore (lv' := [(4, .int 1), (0, .ref o), (1, .int fr), (2, .int (oI f)), (3, .int (nI k))]) hx hb d_Model_least_45 hl (by decide) rfl (fun ls hl => ?_)
        refine lv_iload hx hb d_Model_least_47 (lv_at hl 0 rfl) ?_
        refine lv_if_eq (tgt := 76) hx hb d_Model_least_49 (by decide) (fun h => absurd h (by decide)) (fun _ => ?_)
        cases ho3 : f with
        | none =>
          rw [ho3] at hl
          have hl : lv_has ls 5 [(4, .int 1), (0, .ref o), (1, .int fr), (2, .int (-1)), (3, .int (nI k))] := hl
          refine lv_iload_n hx hb d_Model_least_52 rfl (lv_at hl 3 rfl) ?_
          refine lv_if_lt (tgt := 72) hx hb d_Model_least_53 (by decide) (fun _ => ?_) (fun h => absurd h (by decide))
          refine lv_iload_n hx hb d_Model_least_72 rfl (lv_at hl 4 rfl) ?_
          refine lv_goto (tgt := 77) hx hb d_Model_least_73 (by decide) ?_
          refine lv_istore_n (lv' := [(2, .int (nI k)), (4, .int 1), (0, .ref o), (1, .int fr), (3, .int (nI k))]) hx hb d_Model_least_77 rfl hl (by decide) rfl (fun ls hl => ?_)
          refine lv_iinc (v := nI (k + 1)) (lv' := [(3, .int (nI (k + 1))), (2, .int (nI k)), (4, .int 1), (0, .ref o), (1, .int fr)]) hx hb d_Model_least_78 hl (k := 4) rfl (by rw [show (nI k) = nI k from rfl]; exact nI_1 _) (by decide) rfl (fun ls hl => ?_)
          refine lv_goto (tgt := 4) hx hb d_Model_least_81 (by decide) ?_
          have hF : f_Model_least_4 (d + 1) MI ML fr f k = f_Model_least_4 d MI ML fr (some k) (k + 1) := by rw [f_Model_least_4_s, if_pos h1, if_pos h2, ho3, oc_none]
          exact ih MI ML fr (some k) (k + 1) (by omega) (fun j h => by cases h; omega) w (lv_sub hl [3, 4, 1, 0] rfl) (by rw [hF] at hp; exact hp)
        | some y4 =>
          rw [ho3] at hl
          have hl : lv_has ls 5 [(4, .int 1), (0, .ref o), (1, .int fr), (2, .int (nI y4)), (3, .int (nI k))] := hl
          have hy4 : y4 < 6 := hf y4 ho3
          refine lv_iload_n hx hb d_Model_least_52 rfl (lv_at hl 3 rfl) ?_
          refine lv_if_lt (tgt := 72) hx hb d_Model_least_53 (by decide) (fun h => absurd h (nI_pos (by omega))) (fun _ => ?_)
          refine lv_aload_n hx hb d_Model_least_56 rfl (lv_at hl 1 rfl) ?_
          refine mg_69 X w d_Model_least_57 ?_
          refine lv_iload_n hx hb d_Model_least_60 rfl (lv_at hl 4 rfl) ?_
          refine ald_19 X w k (v := ML 19 k) (by omega) rfl rfl d_Model_least_61 ?_
          refine lv_aload_n hx hb d_Model_least_62 rfl (lv_at hl 1 rfl) ?_
          refine mg_69 X w d_Model_least_63 ?_
          refine lv_iload_n hx hb d_Model_least_66 rfl (lv_at hl 3 rfl) ?_
          refine ald_19 X w y4 (v := ML 19 y4) (by omega) rfl rfl d_Model_least_67 ?_
          refine klc_ge (tgt := 76) hx hb d_Model_least_68 d_Model_least_69 (by decide) (fun h5 => ?_) (fun h5 => ?_)
          · skip
            refine lv_iload_n hx hb d_Model_least_76 rfl (lv_at hl 3 rfl) ?_
            refine lv_istore_n (lv' := [(2, .int (nI y4)), (4, .int 1), (0, .ref o), (1, .int fr), (3, .int (nI k))]) hx hb d_Model_least_77 rfl hl (by decide) rfl (fun ls hl => ?_)
            refine lv_iinc (v := nI (k + 1)) (lv' := [(3, .int (nI (k + 1))), (2, .int (nI y4)), (4, .int 1), (0, .ref o), (1, .int fr)]) hx hb d_Model_least_78 hl (k := 4) rfl (by rw [show (nI k) = nI k from rfl]; exact nI_1 _) (by decide) rfl (fun ls hl => ?_)
            refine lv_goto (tgt := 4) hx hb d_Model_least_81 (by decide) ?_
            have hF : f_Model_least_4 (d + 1) MI ML fr f k = f_Model_least_4 d MI ML fr (some y4) (k + 1) := by rw [f_Model_least_4_s, if_pos h1, if_pos h2, ho3, oc_some, if_pos h5]
            exact ih MI ML fr (some y4) (k + 1) (by omega) (fun j h => by cases h; omega) w (lv_sub hl [3, 4, 1, 0] rfl) (by rw [hF] at hp; exact hp)
          · skip
            refine lv_iload_n hx hb d_Model_least_72 rfl (lv_at hl 4 rfl) ?_
            refine lv_goto (tgt := 77) hx hb d_Model_least_73 (by decide) ?_
            refine lv_istore_n (lv' := [(2, .int (nI k)), (4, .int 1), (0, .ref o), (1, .int fr), (3, .int (nI k))]) hx hb d_Model_least_77 rfl hl (by decide) rfl (fun ls hl => ?_)
            refine lv_iinc (v := nI (k + 1)) (lv' := [(3, .int (nI (k + 1))), (2, .int (nI k)), (4, .int 1), (0, .ref o), (1, .int fr)]) hx hb d_Model_least_78 hl (k := 4) rfl (by rw [show (nI k) = nI k from rfl]; exact nI_1 _) (by decide) rfl (fun ls hl => ?_)
            refine lv_goto (tgt := 4) hx hb d_Model_least_81 (by decide) ?_
            have hF : f_Model_least_4 (d + 1) MI ML fr f k = f_Model_least_4 d MI ML fr (some k) (k + 1) := by rw [f_Model_least_4_s, if_pos h1, if_pos h2, ho3, oc_some, if_neg h5]
            exact ih MI ML fr (some k) (k + 1) (by omega) (fun j h => by cases h; omega) w (lv_sub hl [3, 4, 1, 0] rfl) (by rw [hF] at hp; exact hp)
    · skip
      refine lv_aload_n hx hb d_Model_least_14 rfl (lv_at hl 0 rfl) ?_
      refine mg_72 X w d_Model_least_15 ?_
      refine lv_iload_n hx hb d_Model_least_18 rfl (lv_at hl 3 rfl) ?_
      refine ald_20 X w k (v := MI 20 k) (by omega) rfl rfl d_Model_least_19 ?_
      refine lv_if_ge (tgt := 27) hx hb d_Model_least_20 (by decide) (fun h6 => ?_) (fun h6 => ?_)
      · skip
        refine lv_iconst (v := 0) hx hb d_Model_least_27 (by decide) ?_
        refine lv_goto (tgt := 45) hx hb d_Model_least_28 (by decide) ?_
        refine lv_istore (lv' := [(4, .int 0), (0, .ref o), (1, .int fr), (2, .int (oI f)), (3, .int (nI k))]) hx hb d_Model_least_45 hl (by decide) rfl (fun ls hl => ?_)
        refine lv_iload hx hb d_Model_least_47 (lv_at hl 0 rfl) ?_
        refine lv_if_eq (tgt := 76) hx hb d_Model_least_49 (by decide) (fun _ => ?_) (fun h => absurd h (by decide))
        refine lv_iload_n hx hb d_Model_least_76 rfl (lv_at hl 3 rfl) ?_
        refine lv_istore_n (lv' := [(2, .int (oI f)), (4, .int 0), (0, .ref o), (1, .int fr), (3, .int (nI k))]) hx hb d_Model_least_77 rfl hl (by decide) rfl (fun ls hl => ?_)
        refine lv_iinc (v := nI (k + 1)) (lv' := [(3, .int (nI (k + 1))), (2, .int (oI f)), (4, .int 0), (0, .ref o), (1, .int fr)]) hx hb d_Model_least_78 hl (k := 4) rfl (by rw [show (nI k) = nI k from rfl]; exact nI_1 _) (by decide) rfl (fun ls hl => ?_)
        refine lv_goto (tgt := 4) hx hb d_Model_least_81 (by decide) ?_
        have hF : f_Model_least_4 (d + 1) MI ML fr f k = f_Model_least_4 d MI ML fr f (k + 1) := by rw [f_Model_least_4_s, if_neg h1, if_pos h6]
        exact ih MI ML fr f (k + 1) (by omega) hf w (lv_sub hl [3, 4, 1, 0] rfl) (by rw [hF] at hp; exact hp)
      · skip
        refine lv_iconst (v := 1) hx hb d_Model_least_23 (by decide) ?_
        refine lv_goto (tgt := 45) hx hb d_Model_least_24 (by decide) ?_
        refine lv_istore (lv' := [(4, .int 1), (0, .ref o), (1, .int fr), (2, .int (oI f)), (3, .int (nI k))]) hx hb d_Model_least_45 hl (by decide) rfl (fun ls hl => ?_)
        refine lv_iload hx hb d_Model_least_47 (lv_at hl 0 rfl) ?_
        refine lv_if_eq (tgt := 76) hx hb d_Model_least_49 (by decide) (fun h => absurd h (by decide)) (fun _ => ?_)
        cases ho7 : f with
        | none =>
          rw [ho7] at hl
          have hl : lv_has ls 5 [(4, .int 1), (0, .ref o), (1, .int fr), (2, .int (-1)), (3, .int (nI k))] := hl
          refine lv_iload_n hx hb d_Model_least_52 rfl (lv_at hl 3 rfl) ?_
          refine lv_if_lt (tgt := 72) hx hb d_Model_least_53 (by decide) (fun _ => ?_) (fun h => absurd h (by decide))
          refine lv_iload_n hx hb d_Model_least_72 rfl (lv_at hl 4 rfl) ?_
          refine lv_goto (tgt := 77) hx hb d_Model_least_73 (by decide) ?_
          refine lv_istore_n (lv' := [(2, .int (nI k)), (4, .int 1), (0, .ref o), (1, .int fr), (3, .int (nI k))]) hx hb d_Model_least_77 rfl hl (by decide) rfl (fun ls hl => ?_)
          refine lv_iinc (v := nI (k + 1)) (lv' := [(3, .int (nI (k + 1))), (2, .int (nI k)), (4, .int 1), (0, .ref o), (1, .int fr)]) hx hb d_Model_least_78 hl (k := 4) rfl (by rw [show (nI k) = nI k from rfl]; exact nI_1 _) (by decide) rfl (fun ls hl => ?_)
          refine lv_goto (tgt := 4) hx hb d_Model_least_81 (by decide) ?_
          have hF : f_Model_least_4 (d + 1) MI ML fr f k = f_Model_least_4 d MI ML fr (some k) (k + 1) := by rw [f_Model_least_4_s, if_neg h1, if_neg h6, ho7, oc_none]
          exact ih MI ML fr (some k) (k + 1) (by omega) (fun j h => by cases h; omega) w (lv_sub hl [3, 4, 1, 0] rfl) (by rw [hF] at hp; exact hp)
        | some y8 =>
          rw [ho7] at hl
          have hl : lv_has ls 5 [(4, .int 1), (0, .ref o), (1, .int fr), (2, .int (nI y8)), (3, .int (nI k))] := hl
          have hy8 : y8 < 6 := hf y8 ho7
          refine lv_iload_n hx hb d_Model_least_52 rfl (lv_at hl 3 rfl) ?_
          refine lv_if_lt (tgt := 72) hx hb d_Model_least_53 (by decide) (fun h => absurd h (nI_pos (by omega))) (fun _ => ?_)
          refine lv_aload_n hx hb d_Model_least_56 rfl (lv_at hl 1 rfl) ?_
          refine mg_69 X w d_Model_least_57 ?_
          refine lv_iload_n hx hb d_Model_least_60 rfl (lv_at hl 4 rfl) ?_
          refine ald_19 X w k (v := ML 19 k) (by omega) rfl rfl d_Model_least_61 ?_
          refine lv_aload_n hx hb d_Model_least_62 rfl (lv_at hl 1 rfl) ?_
          refine mg_69 X w d_Model_least_63 ?_
          refine lv_iload_n hx hb d_Model_least_66 rfl (lv_at hl 3 rfl) ?_
          refine ald_19 X w y8 (v := ML 19 y8) (by omega) rfl rfl d_Model_least_67 ?_
          refine klc_ge (tgt := 76) hx hb d_Model_least_68 d_Model_least_69 (by decide) (fun h9 => ?_) (fun h9 => ?_)
          · skip
            refine lv_iload_n hx hb d_Model_least_76 rfl (lv_at hl 3 rfl) ?_
            refine lv_istore_n (lv' := [(2, .int (nI y8)), (4, .int 1), (0, .ref o), (1, .int fr), (3, .int (nI k))]) hx hb d_Model_least_77 rfl hl (by decide) rfl (fun ls hl => ?_)
            refine lv_iinc (v := nI (k + 1)) (lv' := [(3, .int (nI (k + 1))), (2, .int (nI y8)), (4, .int 1), (0, .ref o), (1, .int fr)]) hx hb d_Model_least_78 hl (k := 4) rfl (by rw [show (nI k) = nI k from rfl]; exact nI_1 _) (by decide) rfl (fun ls hl => ?_)
            refine lv_goto (tgt := 4) hx hb d_Model_least_81 (by decide) ?_
            have hF : f_Model_least_4 (d + 1) MI ML fr f k = f_Model_least_4 d MI ML fr (some y8) (k + 1) := by rw [f_Model_least_4_s, if_neg h1, if_neg h6, ho7, oc_some, if_pos h9]
            exact ih MI ML fr (some y8) (k + 1) (by omega) (fun j h => by cases h; omega) w (lv_sub hl [3, 4, 1, 0] rfl) (by rw [hF] at hp; exact hp)
          · skip
            refine lv_iload_n hx hb d_Model_least_72 rfl (lv_at hl 4 rfl) ?_
            refine lv_goto (tgt := 77) hx hb d_Model_least_73 (by decide) ?_
            refine lv_istore_n (lv' := [(2, .int (nI k)), (4, .int 1), (0, .ref o), (1, .int fr), (3, .int (nI k))]) hx hb d_Model_least_77 rfl hl (by decide) rfl (fun ls hl => ?_)
            refine lv_iinc (v := nI (k + 1)) (lv' := [(3, .int (nI (k + 1))), (2, .int (nI k)), (4, .int 1), (0, .ref o), (1, .int fr)]) hx hb d_Model_least_78 hl (k := 4) rfl (by rw [show (nI k) = nI k from rfl]; exact nI_1 _) (by decide) rfl (fun ls hl => ?_)
            refine lv_goto (tgt := 4) hx hb d_Model_least_81 (by decide) ?_
            have hF : f_Model_least_4 (d + 1) MI ML fr f k = f_Model_least_4 d MI ML fr (some k) (k + 1) := by rw [f_Model_least_4_s, if_neg h1, if_neg h6, ho7, oc_some, if_neg h9]
            exact ih MI ML fr (some k) (k + 1) (by omega) (fun j h => by cases h; omega) w (lv_sub hl [3, 4, 1, 0] rfl) (by rw [hF] at hp; exact hp)
def f_Model_least (MI : Nat → Nat → Int32) (ML : Nat → Nat → Int64) (fr : Int32) : Option Nat :=
  f_Model_least_4 6 MI ML fr none 0
set_option maxHeartbeats 4000000 in
set_option maxRecDepth 100000 in
theorem c_Model_least (l : Launch) (D : va_G) (ac : Nat → ClassId) (o : Nat) (ad : Nat → Nat) (MI : Nat → Nat → Int32) (ML : Nat → Nat → Int64) (sz : Nat) (fr : Int32)  : Met l y_Model_least [Cond.code y_Model_least b_Model_least 5 (some .int)] { frames := 0, cells := 0, slots := 0, locals := 0 } (va_Pc [.ref o, .int fr] (CPre D ac (mws ac o ad MI ML) sz)) (va_Qi (fun r u => r = oI (f_Model_least MI ML fr) ∧ u = mws ac o ad MI ML) (CPost D (mws ac o ad MI ML) sz) (va_A (mws ac o ad MI ML) sz)) 0 0 (va_A (mws ac o ad MI ML) sz) := by
  refine kofW (by decide) (Nat.le_of_ble_eq_true rfl) ?_
  intro p ev s m args below meth c0 ls X hr hk hnm hex hsz w hl
  have X : Cx b_Model_least 5 R_Model D ac p m args c0 s := X
  have hx := X.1
  have hb := X.2.1
  have hl : lv_has ls 5 [(0, .ref o), (1, .int fr)] := hl
  refine lv_iconst (v := (-1)) hx hb d_Model_least_0 (by decide) ?_
  refine lv_istore_n (lv' := [(2, .int (-1)), (0, .ref o), (1, .int fr)]) hx hb d_Model_least_1 rfl hl (by decide) rfl (fun ls hl => ?_)
  refine lv_iconst (v := 0) hx hb d_Model_least_2 (by decide) ?_
  refine lv_istore_n (lv' := [(3, .int 0), (2, .int (-1)), (0, .ref o), (1, .int fr)]) hx hb d_Model_least_3 rfl hl (by decide) rfl (fun ls hl => ?_)
  have hF : f_Model_least MI ML fr = f_Model_least_4 6 MI ML fr none 0 := by rfl
  exact g_Model_least_4 X hr hk 6  MI ML fr none 0 (by omega) (fun j h => by cases h) w (lv_sub hl [2, 3, 1, 0] rfl) ⟨by rw [hF] <;> rfl, rfl⟩
theorem f_Model_least_4_lt {MI : Nat → Nat → Int32} {ML : Nat → Nat → Int64} {fr : Int32} {j : Nat} : ∀ (d k : Nat) (f : Option Nat), k + d = 6 → (∀ i, f = some i → i < 6) → f_Model_least_4 d MI ML fr f k = some j → j < 6 := by
  intro d
  induction d with
  | zero => intro k f _ hf h; exact hf j h
  | succ d ih =>
    intro k f hk hf h
    have h1 : ∀ i, some k = some i → i < 6 := fun i hi => by cases hi; omega
    rw [f_Model_least_4_s] at h
    cases f with
    | none =>
      simp only [oc_none] at h
      repeat' split at h
      all_goals first | exact ih (k + 1) _ (by omega) hf h | exact ih (k + 1) _ (by omega) h1 h
    | some q =>
      simp only [oc_some] at h
      repeat' split at h
      all_goals first | exact ih (k + 1) _ (by omega) hf h | exact ih (k + 1) _ (by omega) h1 h
theorem f_Model_least_lt {MI : Nat → Nat → Int32} {ML : Nat → Nat → Int64} {fr : Int32} {j : Nat} (h : f_Model_least MI ML fr = some j) : j < 6 := f_Model_least_4_lt 6 0 none rfl (fun i h => by cases h) h
