def f_Entry_next (CI : Nat → Nat → Int32) (CR : Nat → Nat → Option Nat) (e : Nat) : Option Nat × (Nat → Nat → Int32) × (Nat → Nat → Option Nat) :=
  oc (CR (10 + e) 0) (
    oc (CR (10 + e) 1) (
      (none, up2 CI 22 e ((CI 22 e) - 1), up2 (up2 CR (10 + e) 0 none) (10 + e) 1 none))
      (fun y4 =>
      (none, up2 CI 22 e ((CI 22 e) - 1), up2 (up2 CR (10 + e) 0 (some y4)) (10 + e) 1 none)))
    (fun y2 =>
    oc (CR (10 + e) 1) (
      (some y2, up2 CI 22 e ((CI 22 e) - 1), up2 (up2 CR (10 + e) 0 none) (10 + e) 1 none))
      (fun y6 =>
      (some y2, up2 CI 22 e ((CI 22 e) - 1), up2 (up2 CR (10 + e) 0 (some y6)) (10 + e) 1 none)))
set_option maxHeartbeats 4000000 in
set_option maxRecDepth 100000 in
theorem c_Entry_next (l : Launch) (D : va_G) (ac : Nat → ClassId) (o : Nat) (ad : Nat → Nat) (al : Nat → Nat) (CI : Nat → Nat → Int32) (CL : Nat → Nat → Int64) (CR : Nat → Nat → Option Nat) (M : Nat → Msg) (n : Nat) (sz : Nat) (e : Nat) (he : e < 6) (hok : CRok CR n) (hQ : ∀ j i, CR (10 + e) j = some i → mcls (M i) = 4) : Met l y_Entry_next [Cond.code y_Entry_next b_Entry_next 2 (some (.object "LeaseCores$Request"))] { frames := 0, cells := 0, slots := 0, locals := 0 } (va_Pc [.ref (ad (22 + e))] (CPre D ac (cwm ac o ad al CI CL CR M n) sz)) (va_Qq (fun r u => CRok ((f_Entry_next CI CR e).2.2) n ∧ r = Option.map al ((f_Entry_next CI CR e).1) ∧ u = cwm ac o ad al ((f_Entry_next CI CR e).2.1) CL ((f_Entry_next CI CR e).2.2) M n) (CPost D (cwm ac o ad al CI CL CR M n) sz) (va_A (cwm ac o ad al CI CL CR M n) sz)) 0 0 (va_A (cwm ac o ad al CI CL CR M n) sz) := by
  refine kofW (by decide) (Nat.le_of_ble_eq_true rfl) ?_
  intro p ev s m args below meth c0 ls X hr hk hnm hex hsz w hl
  have X : Cx b_Entry_next 2 R_Entry D ac p m args c0 s := X
  have hx := X.1
  have hb := X.2.1
  have hl : lv_has ls 2 [(0, .ref (ad (22 + e)))] := hl
  refine lv_aload_n hx hb d_Entry_next_0 rfl (lv_at hl 0 rfl) ?_
  refine cg_Entry_11 X w e (by omega) d_Entry_next_1 ?_
  refine lv_iconst (v := 0) hx hb d_Entry_next_4 (by decide) ?_
  refine cl_queueM X w e (by omega) 0 (by omega) rfl d_Entry_next_5 ?_
  cases ho1 : CR (10 + e) 0 with
  | none =>
    refine W.eq (g2 := F0 m 6 ls [.null]) (by first | rfl | exact congrArg (fun z => F0 m 6 ls [va_rf (Option.map al z)]) (show CR (10 + e) 0 = _ from ho1)) ?_
    refine lv_astore_nN (lv' := [(1, .null), (0, .ref (ad (22 + e)))]) hx hb d_Entry_next_6 rfl hl (by decide) rfl (fun ls hl => ?_)
    refine lv_aload_n hx hb d_Entry_next_7 rfl (lv_at hl 1 rfl) ?_
    refine cg_Entry_11 X w e (by omega) d_Entry_next_8 ?_
    refine lv_iconst (v := 0) hx hb d_Entry_next_11 (by decide) ?_
    refine lv_aload_n hx hb d_Entry_next_12 rfl (lv_at hl 1 rfl) ?_
    refine cg_Entry_11 X w e (by omega) d_Entry_next_13 ?_
    refine lv_iconst (v := 1) hx hb d_Entry_next_16 (by decide) ?_
    refine cl_queueM X w e (by omega) 1 (by omega) rfl d_Entry_next_17 ?_
    cases ho3 : CR (10 + e) 1 with
    | none =>
      refine W.eq (g2 := F0 m 18 ls [.null, .int 0, .ref (ad (28 + e))]) (by first | rfl | exact congrArg (fun z => F0 m 18 ls [va_rf (Option.map al z), .int 0, .ref (ad (28 + e))]) (show CR (10 + e) 1 = _ from ho3)) ?_
      refine ct_queue X w e (by omega) 0 (x := none) (fun q h => by cases h) (by omega) rfl d_Entry_next_18 (fun H locs w => ?_)
      have hok := crok_up (k := 10 + e) (j := 0) (x := none) hok (Or.inr (fun i h => by cases h))
      refine lv_aload_n hx hb d_Entry_next_19 rfl (lv_at hl 1 rfl) ?_
      refine cg_Entry_11 X w e (by omega) d_Entry_next_20 ?_
      refine lv_iconst (v := 1) hx hb d_Entry_next_23 (by decide) ?_
      refine lv_null hx hb d_Entry_next_24 ?_
      refine ct_queue X w e (by omega) 1 (x := none) (fun q h => by cases h) (by omega) rfl d_Entry_next_25 (fun H locs w => ?_)
      have hok := crok_up (k := 10 + e) (j := 1) (x := none) hok (Or.inr (fun i h => by cases h))
      refine lv_aload_n hx hb d_Entry_next_26 rfl (lv_at hl 1 rfl) ?_
      refine lv_dup hx hb d_Entry_next_27 rfl ?_
      refine cg_Entry_29 X w e (by omega) (v := CI 22 e) rfl d_Entry_next_28 ?_
      refine lv_iconst (v := 1) hx hb d_Entry_next_31 (by decide) ?_
      refine lv_isub hx hb d_Entry_next_32 ?_
      refine cp_Entry_29 X w e (by omega) d_Entry_next_33 (fun H locs w => ?_)
      refine lv_aload_nN hx hb d_Entry_next_36 rfl (lv_at hl 0 rfl) ?_
      have hF : f_Entry_next CI CR e = (none, up2 CI 22 e ((CI 22 e) - 1), up2 (up2 CR (10 + e) 0 none) (10 + e) 1 none) := by unfold f_Entry_next; rw [ho1, oc_none, ho3, oc_none]
      exact kqret (r := Option.map al none) X w hr hk ⟨by rw [hF]; exact hok, by rw [hF] <;> rfl, by rw [hF]⟩ d_Entry_next_37
    | some y4 =>
      refine W.eq (g2 := F0 m 18 ls [.ref (al y4), .int 0, .ref (ad (28 + e))]) (by first | rfl | exact congrArg (fun z => F0 m 18 ls [va_rf (Option.map al z), .int 0, .ref (ad (28 + e))]) (show CR (10 + e) 1 = _ from ho3)) ?_
      have hny4 : y4 < n := hok (10 + e) 1 y4 (by omega) (ho3)
      have hcy4 : mcls (M y4) = 4 := hQ _ y4 ho3
      refine ct_queue X w e (by omega) 0 (x := some y4) (fun q h => by cases h; exact ⟨by omega, hcy4⟩) (by omega) rfl d_Entry_next_18 (fun H locs w => ?_)
      have hok := crok_up (k := 10 + e) (j := 0) (x := some y4) hok (Or.inr (fun i h => by cases h; omega))
      refine lv_aload_n hx hb d_Entry_next_19 rfl (lv_at hl 1 rfl) ?_
      refine cg_Entry_11 X w e (by omega) d_Entry_next_20 ?_
      refine lv_iconst (v := 1) hx hb d_Entry_next_23 (by decide) ?_
      refine lv_null hx hb d_Entry_next_24 ?_
      refine ct_queue X w e (by omega) 1 (x := none) (fun q h => by cases h) (by omega) rfl d_Entry_next_25 (fun H locs w => ?_)
      have hok := crok_up (k := 10 + e) (j := 1) (x := none) hok (Or.inr (fun i h => by cases h))
      refine lv_aload_n hx hb d_Entry_next_26 rfl (lv_at hl 1 rfl) ?_
      refine lv_dup hx hb d_Entry_next_27 rfl ?_
      refine cg_Entry_29 X w e (by omega) (v := CI 22 e) rfl d_Entry_next_28 ?_
      refine lv_iconst (v := 1) hx hb d_Entry_next_31 (by decide) ?_
      refine lv_isub hx hb d_Entry_next_32 ?_
      refine cp_Entry_29 X w e (by omega) d_Entry_next_33 (fun H locs w => ?_)
      refine lv_aload_nN hx hb d_Entry_next_36 rfl (lv_at hl 0 rfl) ?_
      have hF : f_Entry_next CI CR e = (none, up2 CI 22 e ((CI 22 e) - 1), up2 (up2 CR (10 + e) 0 (some y4)) (10 + e) 1 none) := by unfold f_Entry_next; rw [ho1, oc_none, ho3, oc_some]
      exact kqret (r := Option.map al none) X w hr hk ⟨by rw [hF]; exact hok, by rw [hF] <;> rfl, by rw [hF]⟩ d_Entry_next_37
  | some y2 =>
    refine W.eq (g2 := F0 m 6 ls [.ref (al y2)]) (by first | rfl | exact congrArg (fun z => F0 m 6 ls [va_rf (Option.map al z)]) (show CR (10 + e) 0 = _ from ho1)) ?_
    have hny2 : y2 < n := hok (10 + e) 0 y2 (by omega) (ho1)
    have hcy2 : mcls (M y2) = 4 := hQ _ y2 ho1
    refine lv_astore_n (lv' := [(1, .ref (al y2)), (0, .ref (ad (22 + e)))]) hx hb d_Entry_next_6 rfl hl (by decide) rfl (fun ls hl => ?_)
    refine lv_aload_n hx hb d_Entry_next_7 rfl (lv_at hl 1 rfl) ?_
    refine cg_Entry_11 X w e (by omega) d_Entry_next_8 ?_
    refine lv_iconst (v := 0) hx hb d_Entry_next_11 (by decide) ?_
    refine lv_aload_n hx hb d_Entry_next_12 rfl (lv_at hl 1 rfl) ?_
    refine cg_Entry_11 X w e (by omega) d_Entry_next_13 ?_
    refine lv_iconst (v := 1) hx hb d_Entry_next_16 (by decide) ?_
    refine cl_queueM X w e (by omega) 1 (by omega) rfl d_Entry_next_17 ?_
    cases ho5 : CR (10 + e) 1 with
    | none =>
      refine W.eq (g2 := F0 m 18 ls [.null, .int 0, .ref (ad (28 + e))]) (by first | rfl | exact congrArg (fun z => F0 m 18 ls [va_rf (Option.map al z), .int 0, .ref (ad (28 + e))]) (show CR (10 + e) 1 = _ from ho5)) ?_
      refine ct_queue X w e (by omega) 0 (x := none) (fun q h => by cases h) (by omega) rfl d_Entry_next_18 (fun H locs w => ?_)
      have hok := crok_up (k := 10 + e) (j := 0) (x := none) hok (Or.inr (fun i h => by cases h))
      refine lv_aload_n hx hb d_Entry_next_19 rfl (lv_at hl 1 rfl) ?_
      refine cg_Entry_11 X w e (by omega) d_Entry_next_20 ?_
      refine lv_iconst (v := 1) hx hb d_Entry_next_23 (by decide) ?_
      refine lv_null hx hb d_Entry_next_24 ?_
      refine ct_queue X w e (by omega) 1 (x := none) (fun q h => by cases h) (by omega) rfl d_Entry_next_25 (fun H locs w => ?_)
      have hok := crok_up (k := 10 + e) (j := 1) (x := none) hok (Or.inr (fun i h => by cases h))
      refine lv_aload_n hx hb d_Entry_next_26 rfl (lv_at hl 1 rfl) ?_
      refine lv_dup hx hb d_Entry_next_27 rfl ?_
      refine cg_Entry_29 X w e (by omega) (v := CI 22 e) rfl d_Entry_next_28 ?_
      refine lv_iconst (v := 1) hx hb d_Entry_next_31 (by decide) ?_
      refine lv_isub hx hb d_Entry_next_32 ?_
      refine cp_Entry_29 X w e (by omega) d_Entry_next_33 (fun H locs w => ?_)
      refine lv_aload_n hx hb d_Entry_next_36 rfl (lv_at hl 0 rfl) ?_
      have hF : f_Entry_next CI CR e = (some y2, up2 CI 22 e ((CI 22 e) - 1), up2 (up2 CR (10 + e) 0 none) (10 + e) 1 none) := by unfold f_Entry_next; rw [ho1, oc_some, ho5, oc_none]
      exact kqret (r := Option.map al (some y2)) X w hr hk ⟨by rw [hF]; exact hok, by rw [hF] <;> rfl, by rw [hF]⟩ d_Entry_next_37
    | some y6 =>
      refine W.eq (g2 := F0 m 18 ls [.ref (al y6), .int 0, .ref (ad (28 + e))]) (by first | rfl | exact congrArg (fun z => F0 m 18 ls [va_rf (Option.map al z), .int 0, .ref (ad (28 + e))]) (show CR (10 + e) 1 = _ from ho5)) ?_
      have hny6 : y6 < n := hok (10 + e) 1 y6 (by omega) (ho5)
      have hcy6 : mcls (M y6) = 4 := hQ _ y6 ho5
      refine ct_queue X w e (by omega) 0 (x := some y6) (fun q h => by cases h; exact ⟨by omega, hcy6⟩) (by omega) rfl d_Entry_next_18 (fun H locs w => ?_)
      have hok := crok_up (k := 10 + e) (j := 0) (x := some y6) hok (Or.inr (fun i h => by cases h; omega))
      refine lv_aload_n hx hb d_Entry_next_19 rfl (lv_at hl 1 rfl) ?_
      refine cg_Entry_11 X w e (by omega) d_Entry_next_20 ?_
      refine lv_iconst (v := 1) hx hb d_Entry_next_23 (by decide) ?_
      refine lv_null hx hb d_Entry_next_24 ?_
      refine ct_queue X w e (by omega) 1 (x := none) (fun q h => by cases h) (by omega) rfl d_Entry_next_25 (fun H locs w => ?_)
      have hok := crok_up (k := 10 + e) (j := 1) (x := none) hok (Or.inr (fun i h => by cases h))
      refine lv_aload_n hx hb d_Entry_next_26 rfl (lv_at hl 1 rfl) ?_
      refine lv_dup hx hb d_Entry_next_27 rfl ?_
      refine cg_Entry_29 X w e (by omega) (v := CI 22 e) rfl d_Entry_next_28 ?_
      refine lv_iconst (v := 1) hx hb d_Entry_next_31 (by decide) ?_
      refine lv_isub hx hb d_Entry_next_32 ?_
      refine cp_Entry_29 X w e (by omega) d_Entry_next_33 (fun H locs w => ?_)
      refine lv_aload_n hx hb d_Entry_next_36 rfl (lv_at hl 0 rfl) ?_
      have hF : f_Entry_next CI CR e = (some y2, up2 CI 22 e ((CI 22 e) - 1), up2 (up2 CR (10 + e) 0 (some y6)) (10 + e) 1 none) := by unfold f_Entry_next; rw [ho1, oc_some, ho5, oc_some]
      exact kqret (r := Option.map al (some y2)) X w hr hk ⟨by rw [hF]; exact hok, by rw [hF] <;> rfl, by rw [hF]⟩ d_Entry_next_37
def f_LC_remove_12 : Nat → (Nat → Nat → Int32) → (Nat → Nat → Option Nat) → Nat → Nat → (Nat → Nat → Int32) × (Nat → Nat → Option Nat)
  | 0, CI, CR, i, mz =>
    (CI, up2 CR 3 mz none)
  | d + 1, CI, CR, i, mz =>
    f_LC_remove_12 d CI (up2 CR 3 i (CR 3 (i + 1))) (i + 1) mz
theorem f_LC_remove_12_z (CI : Nat → Nat → Int32) (CR : Nat → Nat → Option Nat) (i : Nat) (mz : Nat) : f_LC_remove_12 0 CI CR i mz =
    (CI, up2 CR 3 mz none) := rfl
theorem f_LC_remove_12_s (d : Nat) (CI : Nat → Nat → Int32) (CR : Nat → Nat → Option Nat) (i : Nat) (mz : Nat) : f_LC_remove_12 (d + 1) CI CR i mz =
    f_LC_remove_12 d CI (up2 CR 3 i (CR 3 (i + 1))) (i + 1) mz := rfl
set_option maxHeartbeats 4000000 in
set_option maxRecDepth 100000 in
theorem g_LC_remove_12 {p : Program} {l : Launch} {ev : Env} {s : State} {m : MethodId} {args : Array Value} {below : List Frame} {meth : Method} {c0 : Code} {D : va_G} {ac : Nat → ClassId} {o : Nat} {ad : Nat → Nat} {ws0 : va_W} {sz : Nat} {post : va_W → Prop} (X : Cx b_LC_remove 3 R_LC D ac p m args c0 s) (hr : meth.sig.returnType = none) (hk : meth.locks = false) (d : Nat) : ∀ (al : Nat → Nat) (CI : Nat → Nat → Int32) (CL : Nat → Nat → Int64) (CR : Nat → Nat → Option Nat) (M : Nat → Msg) (n : Nat) (i : Nat) (mz : Nat) (hi : i + d = mz) (hm : CI 38 0 = nI mz) (hz : mz < 24) (hok : CRok CR n) {H : Heap} {locs : List Loc} {ls : Array Slot} (_ : Wo D (va_A ws0 sz) (cwm ac o ad al CI CL CR M n) s.heap H locs) (_ : lv_has ls 3 [(0, .ref o), (2, .int (nI i))]) (_ : CRok ((f_LC_remove_12 d CI CR i mz).2) n → post (cwm ac o ad al ((f_LC_remove_12 d CI CR i mz).1) CL ((f_LC_remove_12 d CI CR i mz).2) M n)), W p l ev ({ frames := 0, cells := 0, slots := 0, locals := 0 } : Room) s m args below meth c0 H locs 0 0 (MQ below (va_Qv post (CPost D ws0 sz) (va_A ws0 sz)) args s 0 0 (va_A ws0 sz)) (F0 m 12 ls []) := by
  have hx := X.1
  have hb := X.2.1
  induction d with
  | zero =>
    intro al CI CL CR M n i mz hi hm hz hok H locs ls w hl hp
    have hl : lv_has ls 3 [(0, .ref o), (2, .int (nI i))] := hl
    refine lv_iload_n hx hb d_LC_remove_12 rfl (lv_at hl 1 rfl) ?_
    refine lv_aload_n hx hb d_LC_remove_13 rfl (lv_at hl 0 rfl) ?_
    refine cg_LC_51 X w (v := CI 38 0) rfl d_LC_remove_14 ?_
    refine lv_icmp_ge (tgt := 40) hx hb d_LC_remove_17 (by decide) (fun _ => ?_) (fun h => absurd (by rw [hm]; exact nI_le (by omega) (by omega)) h)
    refine lv_aload_n hx hb d_LC_remove_40 rfl (lv_at hl 0 rfl) ?_
    refine cg_LC_27 X w d_LC_remove_41 ?_
    refine lv_aload_n hx hb d_LC_remove_44 rfl (lv_at hl 0 rfl) ?_
    refine cg_LC_51 X w (v := CI 38 0) rfl d_LC_remove_45 ?_
    refine lv_null hx hb d_LC_remove_48 ?_
    refine ct_messages X w mz (x := none) (fun q h => by cases h) (by omega) hm d_LC_remove_49 (fun H locs w => ?_)
    have hok := crok_up (k := 3) (j := mz) (x := none) hok (Or.inr (fun i h => by cases h))
    have hF : f_LC_remove_12 0 CI CR i mz = (CI, up2 CR 3 mz none) := by rw [f_LC_remove_12_z]
    exact kvret (Qc := fun _ _ _ _ => True) X w hr hk (by have hp := hp (by rw [hF]; exact hok); rw [hF] at hp; exact hp) d_LC_remove_50
  | succ d ih =>
    intro al CI CL CR M n i mz hi hm hz hok H locs ls w hl hp
    have hl : lv_has ls 3 [(0, .ref o), (2, .int (nI i))] := hl
    refine lv_iload_n hx hb d_LC_remove_12 rfl (lv_at hl 1 rfl) ?_
    refine lv_aload_n hx hb d_LC_remove_13 rfl (lv_at hl 0 rfl) ?_
    refine cg_LC_51 X w (v := CI 38 0) rfl d_LC_remove_14 ?_
    refine lv_icmp_ge (tgt := 40) hx hb d_LC_remove_17 (by decide) (fun h => absurd h (by rw [hm]; exact nI_ge (by omega) (by omega))) (fun _ => ?_)
    refine lv_aload_n hx hb d_LC_remove_20 rfl (lv_at hl 0 rfl) ?_
    refine cg_LC_27 X w d_LC_remove_21 ?_
    refine lv_iload_n hx hb d_LC_remove_24 rfl (lv_at hl 1 rfl) ?_
    refine lv_aload_n hx hb d_LC_remove_25 rfl (lv_at hl 0 rfl) ?_
    refine cg_LC_27 X w d_LC_remove_26 ?_
    refine lv_iload_n hx hb d_LC_remove_29 rfl (lv_at hl 1 rfl) ?_
    refine lv_iconst (v := 1) hx hb d_LC_remove_30 (by decide) ?_
    refine kiadd (a := i) (b := 1) (r := i + 1) hx hb rfl rfl rfl d_LC_remove_31 ?_
    refine cl_messages X w (i + 1) (by omega) rfl d_LC_remove_32 ?_
    refine ct_messages X w i (x := CR 3 (i + 1)) (fun q h => hok 3 _ q (by decide) h) (by omega) rfl d_LC_remove_33 (fun H locs w => ?_)
    have hok := crok_up (k := 3) (j := i) (x := CR 3 (i + 1)) hok (Or.inr (fun i h => hok 3 _ i (by decide) h))
    refine lv_iinc (v := nI (i + 1)) (lv' := [(2, .int (nI (i + 1))), (0, .ref o)]) hx hb d_LC_remove_34 hl (k := 1) rfl (by rw [show (nI i) = nI i from rfl]; exact nI_1 _) (by decide) rfl (fun ls hl => ?_)
    refine lv_goto (tgt := 12) hx hb d_LC_remove_37 (by decide) ?_
    have hF : f_LC_remove_12 (d + 1) CI CR i mz = f_LC_remove_12 d CI (up2 CR 3 i (CR 3 (i + 1))) (i + 1) mz := by rw [f_LC_remove_12_s]
    exact ih al CI CL (up2 CR 3 i (CR 3 (i + 1))) M n (i + 1) mz (by omega) hm (by omega) hok w (lv_sub hl [1, 0] rfl) (fun h3 => by have hp := hp (by rw [hF]; exact h3); rw [hF] at hp; exact hp)
def f_LC_remove (CI : Nat → Nat → Int32) (CR : Nat → Nat → Option Nat) (a : Nat) (mm : Nat) : (Nat → Nat → Int32) × (Nat → Nat → Option Nat) :=
  f_LC_remove_12 (mm - 1 - a) (up2 CI 38 0 (nI (mm - 1))) CR a (mm - 1)
set_option maxHeartbeats 4000000 in
set_option maxRecDepth 100000 in
theorem c_LC_remove (l : Launch) (D : va_G) (ac : Nat → ClassId) (o : Nat) (ad : Nat → Nat) (al : Nat → Nat) (CI : Nat → Nat → Int32) (CL : Nat → Nat → Int64) (CR : Nat → Nat → Option Nat) (M : Nat → Msg) (n : Nat) (sz : Nat) (a : Nat) (mm : Nat) (hm : CI 38 0 = nI mm) (ha : a < mm) (hmm : mm < 25) (hok : CRok CR n) : Met l y_LC_remove [Cond.code y_LC_remove b_LC_remove 3 none] { frames := 0, cells := 0, slots := 0, locals := 0 } (va_Pc [.ref o, .int (nI a)] (CPre D ac (cwm ac o ad al CI CL CR M n) sz)) (va_Qv (fun u => CRok ((f_LC_remove CI CR a mm).2) n ∧ u = cwm ac o ad al ((f_LC_remove CI CR a mm).1) CL ((f_LC_remove CI CR a mm).2) M n) (CPost D (cwm ac o ad al CI CL CR M n) sz) (va_A (cwm ac o ad al CI CL CR M n) sz)) 0 0 (va_A (cwm ac o ad al CI CL CR M n) sz) := by
  refine kofW (by decide) (Nat.le_of_ble_eq_true rfl) ?_
  intro p ev s m args below meth c0 ls X hr hk hnm hex hsz w hl
  have X : Cx b_LC_remove 3 R_LC D ac p m args c0 s := X
  have hx := X.1
  have hb := X.2.1
  have hl : lv_has ls 3 [(0, .ref o), (1, .int (nI a))] := hl
  refine lv_aload_n hx hb d_LC_remove_0 rfl (lv_at hl 0 rfl) ?_
  refine lv_dup hx hb d_LC_remove_1 rfl ?_
  refine cg_LC_51 X w (v := CI 38 0) rfl d_LC_remove_2 ?_
  refine lv_iconst (v := 1) hx hb d_LC_remove_5 (by decide) ?_
  refine kisub (a := mm) (b := 1) (r := mm - 1) hx hb hm rfl (by omega) rfl d_LC_remove_6 ?_
  refine cp_LC_51 X w d_LC_remove_7 (fun H locs w => ?_)
  refine lv_iload_n hx hb d_LC_remove_10 rfl (lv_at hl 1 rfl) ?_
  refine lv_istore_n (lv' := [(2, .int (nI a)), (0, .ref o), (1, .int (nI a))]) hx hb d_LC_remove_11 rfl hl (by decide) rfl (fun ls hl => ?_)
  have hF : f_LC_remove CI CR a mm = f_LC_remove_12 (mm - 1 - a) (up2 CI 38 0 (nI (mm - 1))) CR a (mm - 1) := by rfl
  exact g_LC_remove_12 X hr hk (mm - 1 - a) al (up2 CI 38 0 (nI (mm - 1))) CL CR M n a (mm - 1) (by omega) (by simp [up2]) (by omega) hok w (lv_sub hl [1, 0] rfl) (fun h3 => ⟨by rw [hF]; exact h3, by rw [hF]⟩)
def f_LC_insert_5 : Nat → (Nat → Nat → Int32) → (Nat → Nat → Option Nat) → Nat → Nat → Nat → (Nat → Nat → Int32) × (Nat → Nat → Option Nat)
  | 0, CI, CR, a, i, mm =>
    (up2 CI 38 0 (nI (mm + 1)), up2 CR 3 a (some i))
  | d + 1, CI, CR, a, i, mm =>
    f_LC_insert_5 d CI (up2 CR 3 (a + d + 1) (CR 3 (a + d))) a i mm
theorem f_LC_insert_5_z (CI : Nat → Nat → Int32) (CR : Nat → Nat → Option Nat) (a : Nat) (i : Nat) (mm : Nat) : f_LC_insert_5 0 CI CR a i mm =
    (up2 CI 38 0 (nI (mm + 1)), up2 CR 3 a (some i)) := rfl
theorem f_LC_insert_5_s (d : Nat) (CI : Nat → Nat → Int32) (CR : Nat → Nat → Option Nat) (a : Nat) (i : Nat) (mm : Nat) : f_LC_insert_5 (d + 1) CI CR a i mm =
    f_LC_insert_5 d CI (up2 CR 3 (a + d + 1) (CR 3 (a + d))) a i mm := rfl
set_option maxHeartbeats 4000000 in
set_option maxRecDepth 100000 in
theorem g_LC_insert_5 {p : Program} {l : Launch} {ev : Env} {s : State} {m : MethodId} {args : Array Value} {below : List Frame} {meth : Method} {c0 : Code} {D : va_G} {ac : Nat → ClassId} {o : Nat} {ad : Nat → Nat} {ws0 : va_W} {sz : Nat} {post : va_W → Prop} (X : Cx b_LC_insert 4 R_LC D ac p m args c0 s) (hr : meth.sig.returnType = none) (hk : meth.locks = false) (d : Nat) : ∀ (al : Nat → Nat) (CI : Nat → Nat → Int32) (CL : Nat → Nat → Int64) (CR : Nat → Nat → Option Nat) (M : Nat → Msg) (n : Nat) (a : Nat) (i : Nat) (mm : Nat) (hd : a + d ≤ mm) (hm : CI 38 0 = nI mm) (hmm : mm < 24) (hi : i < n) (hok : CRok CR n) {H : Heap} {locs : List Loc} {ls : Array Slot} (_ : Wo D (va_A ws0 sz) (cwm ac o ad al CI CL CR M n) s.heap H locs) (_ : lv_has ls 4 [(0, .ref o), (1, .int (nI a)), (2, .ref (al i)), (3, .int (nI (a + d)))]) (_ : CRok ((f_LC_insert_5 d CI CR a i mm).2) n → post (cwm ac o ad al ((f_LC_insert_5 d CI CR a i mm).1) CL ((f_LC_insert_5 d CI CR a i mm).2) M n)), W p l ev ({ frames := 0, cells := 0, slots := 0, locals := 0 } : Room) s m args below meth c0 H locs 0 0 (MQ below (va_Qv post (CPost D ws0 sz) (va_A ws0 sz)) args s 0 0 (va_A ws0 sz)) (F0 m 5 ls []) := by
  have hx := X.1
  have hb := X.2.1
  induction d with
  | zero =>
    intro al CI CL CR M n a i mm hd hm hmm hi hok H locs ls w hl hp
    have hl : lv_has ls 4 [(0, .ref o), (1, .int (nI a)), (2, .ref (al i)), (3, .int (nI a))] := hl
    refine lv_iload_n hx hb d_LC_insert_5 rfl (lv_at hl 3 rfl) ?_
    refine lv_iload_n hx hb d_LC_insert_6 rfl (lv_at hl 1 rfl) ?_
    refine lv_icmp_le (tgt := 30) hx hb d_LC_insert_7 (by decide) (fun _ => ?_) (fun h => absurd (nI_le (by omega) (by omega)) h)
    refine lv_aload_n hx hb d_LC_insert_30 rfl (lv_at hl 0 rfl) ?_
    refine cg_LC_27 X w d_LC_insert_31 ?_
    refine lv_iload_n hx hb d_LC_insert_34 rfl (lv_at hl 1 rfl) ?_
    refine lv_aload_n hx hb d_LC_insert_35 rfl (lv_at hl 2 rfl) ?_
    refine ct_messages X w a (x := some i) (fun q h => by cases h; omega) (by omega) rfl d_LC_insert_36 (fun H locs w => ?_)
    have hok := crok_up (k := 3) (j := a) (x := some i) hok (Or.inr (fun i h => by cases h; omega))
    refine lv_aload_n hx hb d_LC_insert_37 rfl (lv_at hl 0 rfl) ?_
    refine lv_dup hx hb d_LC_insert_38 rfl ?_
    refine cg_LC_51 X w (v := CI 38 0) rfl d_LC_insert_39 ?_
    refine lv_iconst (v := 1) hx hb d_LC_insert_42 (by decide) ?_
    refine kiadd (a := mm) (b := 1) (r := mm + 1) hx hb hm rfl rfl d_LC_insert_43 ?_
    refine cp_LC_51 X w d_LC_insert_44 (fun H locs w => ?_)
    have hF : f_LC_insert_5 0 CI CR a i mm = (up2 CI 38 0 (nI (mm + 1)), up2 CR 3 a (some i)) := by rw [f_LC_insert_5_z]
    exact kvret (Qc := fun _ _ _ _ => True) X w hr hk (by have hp := hp (by rw [hF]; exact hok); rw [hF] at hp; exact hp) d_LC_insert_47
  | succ d ih =>
    intro al CI CL CR M n a i mm hd hm hmm hi hok H locs ls w hl hp
    have hl : lv_has ls 4 [(0, .ref o), (1, .int (nI a)), (2, .ref (al i)), (3, .int (nI (a + d + 1)))] := hl
    refine lv_iload_n hx hb d_LC_insert_5 rfl (lv_at hl 3 rfl) ?_
    refine lv_iload_n hx hb d_LC_insert_6 rfl (lv_at hl 1 rfl) ?_
    refine lv_icmp_le (tgt := 30) hx hb d_LC_insert_7 (by decide) (fun h => absurd h (nI_ge (by omega) (by omega))) (fun _ => ?_)
    refine lv_aload_n hx hb d_LC_insert_10 rfl (lv_at hl 0 rfl) ?_
    refine cg_LC_27 X w d_LC_insert_11 ?_
    refine lv_iload_n hx hb d_LC_insert_14 rfl (lv_at hl 3 rfl) ?_
    refine lv_aload_n hx hb d_LC_insert_15 rfl (lv_at hl 0 rfl) ?_
    refine cg_LC_27 X w d_LC_insert_16 ?_
    refine lv_iload_n hx hb d_LC_insert_19 rfl (lv_at hl 3 rfl) ?_
    refine lv_iconst (v := 1) hx hb d_LC_insert_20 (by decide) ?_
    refine kisub (a := a + d + 1) (b := 1) (r := a + d) hx hb rfl rfl (by omega) rfl d_LC_insert_21 ?_
    refine cl_messages X w (a + d) (by omega) rfl d_LC_insert_22 ?_
    refine ct_messages X w (a + d + 1) (x := CR 3 (a + d)) (fun q h => hok 3 _ q (by decide) h) (by omega) rfl d_LC_insert_23 (fun H locs w => ?_)
    have hok := crok_up (k := 3) (j := a + d + 1) (x := CR 3 (a + d)) hok (Or.inr (fun i h => hok 3 _ i (by decide) h))
    refine lv_iinc (v := nI (a + d)) (lv' := [(3, .int (nI (a + d))), (0, .ref o), (1, .int (nI a)), (2, .ref (al i))]) hx hb d_LC_insert_24 hl (k := 3) rfl (by rw [show (nI (a + d + 1)) = nI (a + d + 1) from rfl]; exact pk_m1 _) (by decide) rfl (fun ls hl => ?_)
    refine lv_goto (tgt := 5) hx hb d_LC_insert_27 (by decide) ?_
    have hF : f_LC_insert_5 (d + 1) CI CR a i mm = f_LC_insert_5 d CI (up2 CR 3 (a + d + 1) (CR 3 (a + d))) a i mm := by rw [f_LC_insert_5_s]
    exact ih al CI CL (up2 CR 3 (a + d + 1) (CR 3 (a + d))) M n a i mm (by omega) hm (by omega) (by omega) hok w (lv_sub hl [1, 2, 3, 0] rfl) (fun h3 => by have hp := hp (by rw [hF]; exact h3); rw [hF] at hp; exact hp)
def f_LC_insert (CI : Nat → Nat → Int32) (CR : Nat → Nat → Option Nat) (a : Nat) (i : Nat) (mm : Nat) : (Nat → Nat → Int32) × (Nat → Nat → Option Nat) :=
  f_LC_insert_5 (mm - a) CI CR a i mm
set_option maxHeartbeats 4000000 in
set_option maxRecDepth 100000 in
theorem c_LC_insert (l : Launch) (D : va_G) (ac : Nat → ClassId) (o : Nat) (ad : Nat → Nat) (al : Nat → Nat) (CI : Nat → Nat → Int32) (CL : Nat → Nat → Int64) (CR : Nat → Nat → Option Nat) (M : Nat → Msg) (n : Nat) (sz : Nat) (a : Nat) (i : Nat) (mm : Nat) (hm : CI 38 0 = nI mm) (ha : a ≤ mm) (hmm : mm < 24) (hi : i < n) (hok : CRok CR n) : Met l y_LC_insert [Cond.code y_LC_insert b_LC_insert 4 none] { frames := 0, cells := 0, slots := 0, locals := 0 } (va_Pc [.ref o, .int (nI a), .ref (al i)] (CPre D ac (cwm ac o ad al CI CL CR M n) sz)) (va_Qv (fun u => CRok ((f_LC_insert CI CR a i mm).2) n ∧ u = cwm ac o ad al ((f_LC_insert CI CR a i mm).1) CL ((f_LC_insert CI CR a i mm).2) M n) (CPost D (cwm ac o ad al CI CL CR M n) sz) (va_A (cwm ac o ad al CI CL CR M n) sz)) 0 0 (va_A (cwm ac o ad al CI CL CR M n) sz) := by
  refine kofW (by decide) (Nat.le_of_ble_eq_true rfl) ?_
  intro p ev s m args below meth c0 ls X hr hk hnm hex hsz w hl
  have X : Cx b_LC_insert 4 R_LC D ac p m args c0 s := X
  have hx := X.1
  have hb := X.2.1
  have hl : lv_has ls 4 [(0, .ref o), (1, .int (nI a)), (2, .ref (al i))] := hl
  refine lv_aload_n hx hb d_LC_insert_0 rfl (lv_at hl 0 rfl) ?_
  refine cg_LC_51 X w (v := CI 38 0) rfl d_LC_insert_1 ?_
  refine lv_istore_n (lv' := [(3, .int (CI 38 0)), (0, .ref o), (1, .int (nI a)), (2, .ref (al i))]) hx hb d_LC_insert_4 rfl hl (by decide) rfl (fun ls hl => ?_)
  rw [hm, show mm = a + (mm - a) from by omega] at hl
  have hF : f_LC_insert CI CR a i mm = f_LC_insert_5 (mm - a) CI CR a i mm := by rfl
  exact g_LC_insert_5 X hr hk (mm - a) al CI CL CR M n a i mm (by omega) hm (by omega) (by omega) hok w (lv_sub hl [1, 2, 3, 0] rfl) (fun h3 => ⟨by rw [hF]; exact h3, by rw [hF]⟩)
