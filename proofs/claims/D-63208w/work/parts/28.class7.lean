def f_Request_arrive (CI : Nat → Nat → Int32) (CL : Nat → Nat → Int64) (CR : Nat → Nat → Option Nat) (M : Nat → Msg) (n : Nat) (i : Nat) (li : Nat) (mm : Nat) : Int32 × (Nat → Nat → Int32) × (Nat → Nat → Int64) × (Nat → Nat → Option Nat) × (Nat → Msg) × (Nat) :=
  oc ((f_LC_entryOf CI (mline (M i)))) (
    oc ((f_LC_newEntry CI CL CR M n li mm).1) (
      (0, (f_LC_newEntry CI CL CR M n li mm).2.1, (f_LC_newEntry CI CL CR M n li mm).2.2.1, (f_LC_newEntry CI CL CR M n li mm).2.2.2.1, (f_LC_newEntry CI CL CR M n li mm).2.2.2.2.1, (f_LC_newEntry CI CL CR M n li mm).2.2.2.2.2))
      (fun y7 =>
      oc (CR 1 y7) (
        (1, (f_LC_serve ((f_LC_newEntry CI CL CR M n li mm).2.1) ((f_LC_newEntry CI CL CR M n li mm).2.2.1) CR M n y7 i mm).1, (f_LC_serve ((f_LC_newEntry CI CL CR M n li mm).2.1) ((f_LC_newEntry CI CL CR M n li mm).2.2.1) CR M n y7 i mm).2.1, (f_LC_serve ((f_LC_newEntry CI CL CR M n li mm).2.1) ((f_LC_newEntry CI CL CR M n li mm).2.2.1) CR M n y7 i mm).2.2.1, (f_LC_serve ((f_LC_newEntry CI CL CR M n li mm).2.1) ((f_LC_newEntry CI CL CR M n li mm).2.2.1) CR M n y7 i mm).2.2.2.1, (f_LC_serve ((f_LC_newEntry CI CL CR M n li mm).2.1) ((f_LC_newEntry CI CL CR M n li mm).2.2.1) CR M n y7 i mm).2.2.2.2))
        (fun y9 =>
        (1, up2 ((f_LC_newEntry CI CL CR M n li mm).2.1) 22 y7 (nI ((tn (CI 22 y7)) + 1)), (f_LC_newEntry CI CL CR M n li mm).2.2.1, up2 CR (10 + y7) (tn (CI 22 y7)) (some i), M, n))))
    (fun y3 =>
    oc (CR 1 y3) (
      (1, (f_LC_serve CI CL CR M n y3 i mm).1, (f_LC_serve CI CL CR M n y3 i mm).2.1, (f_LC_serve CI CL CR M n y3 i mm).2.2.1, (f_LC_serve CI CL CR M n y3 i mm).2.2.2.1, (f_LC_serve CI CL CR M n y3 i mm).2.2.2.2))
      (fun y12 =>
      (1, up2 CI 22 y3 (nI ((tn (CI 22 y3)) + 1)), CL, up2 CR (10 + y3) (tn (CI 22 y3)) (some i), M, n)))
set_option maxHeartbeats 4000000 in
set_option maxRecDepth 100000 in
theorem c_Request_arrive (l : Launch) (D : va_G) (ac : Nat → ClassId) (o : Nat) (ad : Nat → Nat) (al : Nat → Nat) (CI : Nat → Nat → Int32) (CL : Nat → Nat → Int64) (CR : Nat → Nat → Option Nat) (M : Nat → Msg) (n : Nat) (sz : Nat) (i : Nat) (li : Nat) (mm : Nat) (hi : i < n) (hcl : mcls (M i) = 4) (hli : mline (M i) = nI li) (hl12 : li < 12) (hel : ∀ k, k < 6 → CI 16 k = -1 ∨ (CI 16 k = nI (tn (CI 16 k)) ∧ tn (CI 16 k) < 12)) (hw : ∀ e q, e < 6 → CR 1 e = some q → CI 22 e = nI (tn (CI 22 e)) ∧ tn (CI 22 e) < 2) (hm : CI 38 0 = nI mm) (hmm : mm < 24) (hok : CRok CR n) : Met l y_Request_arrive [Cond.code y_Request_arrive b_Request_arrive 3 (some .boolean)] { frames := 5, cells := 2, slots := 14, locals := 121 } (va_Pc [.ref (al i), .ref o] (CPre D ac (cwm ac o ad al CI CL CR M n) sz)) (va_Qi (fun r u => ∃ a9 : Nat → Nat, (∀ i, i < n → a9 i = al i) ∧ n ≤ (f_Request_arrive CI CL CR M n i li mm).2.2.2.2.2 ∧ CRok ((f_Request_arrive CI CL CR M n i li mm).2.2.2.1) ((f_Request_arrive CI CL CR M n i li mm).2.2.2.2.2) ∧ r = (f_Request_arrive CI CL CR M n i li mm).1 ∧ u = cwm ac o ad a9 ((f_Request_arrive CI CL CR M n i li mm).2.1) ((f_Request_arrive CI CL CR M n i li mm).2.2.1) ((f_Request_arrive CI CL CR M n i li mm).2.2.2.1) ((f_Request_arrive CI CL CR M n i li mm).2.2.2.2.1) ((f_Request_arrive CI CL CR M n i li mm).2.2.2.2.2)) (CPost D (cwm ac o ad al CI CL CR M n) sz) (va_A (cwm ac o ad al CI CL CR M n) sz)) 2 14 (va_A (cwm ac o ad al CI CL CR M n) sz) := by
  refine kofW (by decide) (Nat.le_of_ble_eq_true rfl) ?_
  intro p ev s m args below meth c0 ls X hr hk hnm hex hsz w hl
  have X : Cx b_Request_arrive 3 R_Request D ac p m args c0 s := X
  have hx := X.1
  have hb := X.2.1
  have hl : lv_has ls 3 [(0, .ref (al i)), (1, .ref o)] := hl
  have hal : ∀ i, i < n → al i = al i := fun _ _ => rfl
  have hn : n ≤ n := Nat.le_refl n
  refine lv_aload_n hx hb d_Request_arrive_0 rfl (lv_at hl 1 rfl) ?_
  refine lv_aload_n hx hb d_Request_arrive_1 rfl (lv_at hl 0 rfl) ?_
  refine qg_Request_16 (m9 := (M i)) X w (hs_mem0 (i := i) (by omega)) hcl d_Request_arrive_2 ?_
  refine kcallq (ws0 := []) w (krunVN (ws0 := []) (wc := cwm ac o ad al CI CL CR M n) (n := 1) (As := [.int (mline (M i))]) (rest := []) (C := R_LC) X w (c_LC_entryOf l D ac o ad al CI CL CR M n _ (mline (M i))) wk_LC_entryOf wi_LC wmN_Request_20 wx_LC_entryOf ws_LC_LC_entryOf (by decide +kernel) rfl rfl ⟨(Nat.le_of_ble_eq_true rfl), (Nat.le_of_ble_eq_true rfl)⟩ ⟨(Nat.le_of_ble_eq_true rfl), (Nat.le_of_ble_eq_true rfl)⟩ (crecv X w) rfl hl.1 rfl (Nat.le_of_ble_eq_true rfl) d_Request_arrive_5) (fun r1 u H locs hp w => ?_)
  obtain ⟨rfl, rfl⟩ := hp
  have w : Wo D _ (cwm ac o ad al CI CL CR M n) s.heap _ _ := w
  cases ho2 : (f_LC_entryOf CI (mline (M i))) with
  | none =>
    refine W.eq (g2 := F0 m 8 ls [.null]) (by first | rfl | exact congrArg (fun z => F0 m 8 ls [va_rf (rE ad z)]) ho2) ?_
    refine lv_astore_nN (lv' := [(2, .null), (0, .ref (al i)), (1, .ref o)]) hx hb d_Request_arrive_8 rfl hl (by decide) rfl (fun ls hl => ?_)
    refine lv_aload_nN hx hb d_Request_arrive_9 rfl (lv_at hl 0 rfl) ?_
    refine lv_ifnonnullN hx hb d_Request_arrive_10 ?_
    refine lv_aload_n hx hb d_Request_arrive_13 rfl (lv_at hl 2 rfl) ?_
    refine lv_aload_n hx hb d_Request_arrive_14 rfl (lv_at hl 1 rfl) ?_
    refine qg_Request_16 (m9 := (M i)) X w (hs_mem0 (i := i) (by omega)) hcl d_Request_arrive_15 ?_
    refine W.eq (g2 := F0 m 18 ls [.int (nI li), .ref o]) (by rw [← hli]) ?_
    refine kcallq (ws0 := []) w (krunVN (ws0 := []) (wc := cwm ac o ad al CI CL CR M n) (n := 1) (As := [.int (nI li)]) (rest := []) (C := R_LC) X w (c_LC_newEntry l D ac o ad al CI CL CR M n _ li mm (by omega) hel hm (by omega) hok) wk_LC_newEntry wi_LC wmN_Request_26 wx_LC_newEntry ws_LC_LC_newEntry (by decide +kernel) rfl rfl ⟨(Nat.le_of_ble_eq_true rfl), (Nat.le_of_ble_eq_true rfl)⟩ ⟨(Nat.le_of_ble_eq_true rfl), (Nat.le_of_ble_eq_true rfl)⟩ (crecv X w) rfl hl.1 rfl (Nat.le_of_ble_eq_true rfl) d_Request_arrive_18) (fun r4 u H locs hp w => ?_)
    obtain ⟨al5, hal9, hn9, hok9, rfl, rfl⟩ := hp
    have hok := hok9
    have hal : ∀ i, i < n → al5 i = al i := fun i h => (hal9 i (by omega)).trans (hal i h)
    have hn : n ≤ (f_LC_newEntry CI CL CR M n li mm).2.2.2.2.2 := by omega
    rw [← hal9 i (by omega)] at hl
    have hl : lv_has ls 3 [(2, .null), (0, .ref (al5 i)), (1, .ref o)] := hl
    have w : Wo D _ (cwm ac o ad al5 ((f_LC_newEntry CI CL CR M n li mm).2.1) ((f_LC_newEntry CI CL CR M n li mm).2.2.1) ((f_LC_newEntry CI CL CR M n li mm).2.2.2.1) ((f_LC_newEntry CI CL CR M n li mm).2.2.2.2.1) ((f_LC_newEntry CI CL CR M n li mm).2.2.2.2.2)) s.heap _ _ := w
    cases ho6 : (f_LC_newEntry CI CL CR M n li mm).1 with
    | none =>
      refine W.eq (g2 := F0 m 21 ls [.null]) (by first | rfl | exact congrArg (fun z => F0 m 21 ls [va_rf (rE ad z)]) ho6) ?_
      refine lv_goto (tgt := 25) hx hb d_Request_arrive_21 (by decide) ?_
      refine lv_astore_nN (lv' := [(2, .null), (0, .ref (al5 i)), (1, .ref o)]) hx hb d_Request_arrive_25 rfl hl (by decide) rfl (fun ls hl => ?_)
      refine lv_aload_nN hx hb d_Request_arrive_26 rfl (lv_at hl 0 rfl) ?_
      refine lv_ifnonnullN hx hb d_Request_arrive_27 ?_
      refine lv_iconst (v := 0) hx hb d_Request_arrive_30 (by decide) ?_
      have hF : f_Request_arrive CI CL CR M n i li mm = (0, (f_LC_newEntry CI CL CR M n li mm).2.1, (f_LC_newEntry CI CL CR M n li mm).2.2.1, (f_LC_newEntry CI CL CR M n li mm).2.2.2.1, (f_LC_newEntry CI CL CR M n li mm).2.2.2.2.1, (f_LC_newEntry CI CL CR M n li mm).2.2.2.2.2) := by unfold f_Request_arrive; rw [ho2, oc_none, ho6, oc_none]
      refine W.widen (k := 2) (n := 14) (Nat.le_of_ble_eq_true rfl) (Nat.le_of_ble_eq_true rfl) ?_
      exact kzret X w hr hk (by decide) ⟨al5, hal, by rw [hF]; exact hn, by rw [hF]; exact hok, by rw [hF], by rw [hF]⟩ d_Request_arrive_31
    | some y7 =>
      refine W.eq (g2 := F0 m 21 ls [.ref (ad (22 + y7))]) (by first | rfl | exact congrArg (fun z => F0 m 21 ls [va_rf (rE ad z)]) ho6) ?_
      have hy7 : y7 < 6 := f_LC_newEntry_lt ho6
      have hkp := f_LC_newEntry_keep ho6
      rw [hkp.1, hkp.2.1, hkp.2.2.1] at w
      rw [hkp.1, hkp.2.2.1] at hok
      have hn : n ≤ n := Nat.le_refl n
      refine lv_goto (tgt := 25) hx hb d_Request_arrive_21 (by decide) ?_
      refine lv_astore_n (lv' := [(2, .ref (ad (22 + y7))), (0, .ref (al5 i)), (1, .ref o)]) hx hb d_Request_arrive_25 rfl hl (by decide) rfl (fun ls hl => ?_)
      refine lv_aload_n hx hb d_Request_arrive_26 rfl (lv_at hl 0 rfl) ?_
      refine lv_ifnonnull (tgt := 32) hx hb d_Request_arrive_27 (by decide) ?_
      refine lv_aload_n hx hb d_Request_arrive_32 rfl (lv_at hl 0 rfl) ?_
      refine cg_Request_29 X w y7 (by omega) d_Request_arrive_33 ?_
      cases ho8 : CR 1 y7 with
      | none =>
        refine W.eq (g2 := F0 m 36 ls [.null]) (by first | rfl | exact congrArg (fun z => F0 m 36 ls [va_rf (Option.map al5 z)]) (show CR 1 y7 = _ from ho8)) ?_
        refine lv_ifnullN (tgt := 62) hx hb d_Request_arrive_36 (by decide) ?_
        refine lv_aload_n hx hb d_Request_arrive_62 rfl (lv_at hl 2 rfl) ?_
        refine lv_aload_n hx hb d_Request_arrive_63 rfl (lv_at hl 0 rfl) ?_
        refine lv_aload_n hx hb d_Request_arrive_64 rfl (lv_at hl 1 rfl) ?_
        refine kcallv (ws0 := []) w (krunVN (ws0 := []) (wc := cwm ac o ad al5 ((f_LC_newEntry CI CL CR M n li mm).2.1) ((f_LC_newEntry CI CL CR M n li mm).2.2.1) CR M n) (n := 2) (As := [.ref (ad (22 + y7)), .ref (al5 i)]) (rest := []) (C := R_LC) X w (c_LC_serve l D ac o ad al5 ((f_LC_newEntry CI CL CR M n li mm).2.1) ((f_LC_newEntry CI CL CR M n li mm).2.2.1) CR M n _ y7 i mm (by omega) (by omega) hcl (by rw [hkp.2.2.2.2]; exact hm) (by omega) hok) wk_LC_serve wi_LC wmN_Request_42 wx_LC_serve ws_LC_LC_serve (by decide +kernel) rfl rfl ⟨(Nat.le_of_ble_eq_true rfl), (Nat.le_of_ble_eq_true rfl)⟩ ⟨(Nat.le_of_ble_eq_true rfl), (Nat.le_of_ble_eq_true rfl)⟩ (crecv X w) rfl hl.1 rfl (Nat.le_of_ble_eq_true rfl) d_Request_arrive_65) (fun u H locs hp w => ?_)
        obtain ⟨al10, hal9, hn9, hok9, rfl⟩ := hp
        have hok := hok9
        have hal : ∀ i, i < n → al10 i = al i := fun i h => (hal9 i (by omega)).trans (hal i h)
        have hn : n ≤ (f_LC_serve ((f_LC_newEntry CI CL CR M n li mm).2.1) ((f_LC_newEntry CI CL CR M n li mm).2.2.1) CR M n y7 i mm).2.2.2.2 := by omega
        rw [← hal9 i (by omega)] at hl
        have hl : lv_has ls 3 [(2, .ref (ad (22 + y7))), (0, .ref (al10 i)), (1, .ref o)] := hl
        have w : Wo D _ (cwm ac o ad al10 ((f_LC_serve ((f_LC_newEntry CI CL CR M n li mm).2.1) ((f_LC_newEntry CI CL CR M n li mm).2.2.1) CR M n y7 i mm).1) ((f_LC_serve ((f_LC_newEntry CI CL CR M n li mm).2.1) ((f_LC_newEntry CI CL CR M n li mm).2.2.1) CR M n y7 i mm).2.1) ((f_LC_serve ((f_LC_newEntry CI CL CR M n li mm).2.1) ((f_LC_newEntry CI CL CR M n li mm).2.2.1) CR M n y7 i mm).2.2.1) ((f_LC_serve ((f_LC_newEntry CI CL CR M n li mm).2.1) ((f_LC_newEntry CI CL CR M n li mm).2.2.1) CR M n y7 i mm).2.2.2.1) ((f_LC_serve ((f_LC_newEntry CI CL CR M n li mm).2.1) ((f_LC_newEntry CI CL CR M n li mm).2.2.1) CR M n y7 i mm).2.2.2.2)) s.heap _ _ := w
        refine lv_iconst (v := 1) hx hb d_Request_arrive_68 (by decide) ?_
        have hF : f_Request_arrive CI CL CR M n i li mm = (1, (f_LC_serve ((f_LC_newEntry CI CL CR M n li mm).2.1) ((f_LC_newEntry CI CL CR M n li mm).2.2.1) CR M n y7 i mm).1, (f_LC_serve ((f_LC_newEntry CI CL CR M n li mm).2.1) ((f_LC_newEntry CI CL CR M n li mm).2.2.1) CR M n y7 i mm).2.1, (f_LC_serve ((f_LC_newEntry CI CL CR M n li mm).2.1) ((f_LC_newEntry CI CL CR M n li mm).2.2.1) CR M n y7 i mm).2.2.1, (f_LC_serve ((f_LC_newEntry CI CL CR M n li mm).2.1) ((f_LC_newEntry CI CL CR M n li mm).2.2.1) CR M n y7 i mm).2.2.2.1, (f_LC_serve ((f_LC_newEntry CI CL CR M n li mm).2.1) ((f_LC_newEntry CI CL CR M n li mm).2.2.1) CR M n y7 i mm).2.2.2.2) := by unfold f_Request_arrive; rw [ho2, oc_none, ho6, oc_some, ho8, oc_none]
        refine W.widen (k := 2) (n := 14) (Nat.le_of_ble_eq_true rfl) (Nat.le_of_ble_eq_true rfl) ?_
        exact kzret X w hr hk (by decide) ⟨al10, hal, by rw [hF]; exact hn, by rw [hF]; exact hok, by rw [hF], by rw [hF]⟩ d_Request_arrive_69
      | some y9 =>
        refine W.eq (g2 := F0 m 36 ls [.ref (al5 y9)]) (by first | rfl | exact congrArg (fun z => F0 m 36 ls [va_rf (Option.map al5 z)]) (show CR 1 y7 = _ from ho8)) ?_
        have hny9 : y9 < n := hok 1 y7 y9 (by decide) (ho8)
        have hwt : ((f_LC_newEntry CI CL CR M n li mm).2.1) 22 y7 = nI (tn (CI 22 y7)) ∧ tn (CI 22 y7) < 2 := by rw [hkp.2.2.2.1]; exact hw y7 y9 (by omega) ho8
        refine lv_ifnull hx hb d_Request_arrive_36 ?_
        refine lv_aload_n hx hb d_Request_arrive_39 rfl (lv_at hl 0 rfl) ?_
        refine cg_Request_35 X w y7 (by omega) d_Request_arrive_40 ?_
        refine lv_aload_n hx hb d_Request_arrive_43 rfl (lv_at hl 0 rfl) ?_
        refine cg_Request_39 X w y7 (by omega) (v := ((f_LC_newEntry CI CL CR M n li mm).2.1) 22 y7) rfl d_Request_arrive_44 ?_
        refine lv_aload_n hx hb d_Request_arrive_47 rfl (lv_at hl 1 rfl) ?_
        refine ct_queue X w y7 (by omega) (tn (CI 22 y7)) (x := some i) (fun q h => by cases h; exact ⟨by omega, hcl⟩) (by omega) hwt.1 d_Request_arrive_48 (fun H locs w => ?_)
        have hok := crok_up (k := 10 + y7) (j := tn (CI 22 y7)) (x := some i) hok (Or.inr (fun i h => by cases h; omega))
        refine lv_aload_n hx hb d_Request_arrive_49 rfl (lv_at hl 0 rfl) ?_
        refine lv_dup hx hb d_Request_arrive_50 rfl ?_
        refine cg_Request_39 X w y7 (by omega) (v := ((f_LC_newEntry CI CL CR M n li mm).2.1) 22 y7) rfl d_Request_arrive_51 ?_
        refine lv_iconst (v := 1) hx hb d_Request_arrive_54 (by decide) ?_
        refine kiadd (a := tn (CI 22 y7)) (b := 1) (r := (tn (CI 22 y7)) + 1) hx hb hwt.1 rfl rfl d_Request_arrive_55 ?_
        refine cp_Request_39 X w y7 (by omega) d_Request_arrive_56 (fun H locs w => ?_)
        refine lv_goto (tgt := 68) hx hb d_Request_arrive_59 (by decide) ?_
        refine lv_iconst (v := 1) hx hb d_Request_arrive_68 (by decide) ?_
        have hF : f_Request_arrive CI CL CR M n i li mm = (1, up2 ((f_LC_newEntry CI CL CR M n li mm).2.1) 22 y7 (nI ((tn (CI 22 y7)) + 1)), (f_LC_newEntry CI CL CR M n li mm).2.2.1, up2 CR (10 + y7) (tn (CI 22 y7)) (some i), M, n) := by unfold f_Request_arrive; rw [ho2, oc_none, ho6, oc_some, ho8, oc_some]
        refine W.widen (k := 2) (n := 14) (Nat.le_of_ble_eq_true rfl) (Nat.le_of_ble_eq_true rfl) ?_
        exact kzret X w hr hk (by decide) ⟨al5, hal, by rw [hF]; exact hn, by rw [hF]; exact hok, by rw [hF], by rw [hF]⟩ d_Request_arrive_69
  | some y3 =>
    refine W.eq (g2 := F0 m 8 ls [.ref (ad (22 + y3))]) (by first | rfl | exact congrArg (fun z => F0 m 8 ls [va_rf (rE ad z)]) ho2) ?_
    have hy3 := f_LC_entryOf_lt ho2
    have hy3c := f_LC_entryOf_line ho2
    refine lv_astore_n (lv' := [(2, .ref (ad (22 + y3))), (0, .ref (al i)), (1, .ref o)]) hx hb d_Request_arrive_8 rfl hl (by decide) rfl (fun ls hl => ?_)
    refine lv_aload_n hx hb d_Request_arrive_9 rfl (lv_at hl 0 rfl) ?_
    refine lv_ifnonnull (tgt := 24) hx hb d_Request_arrive_10 (by decide) ?_
    refine lv_aload_n hx hb d_Request_arrive_24 rfl (lv_at hl 0 rfl) ?_
    refine lv_astore_n (lv' := [(2, .ref (ad (22 + y3))), (0, .ref (al i)), (1, .ref o)]) hx hb d_Request_arrive_25 rfl hl (by decide) rfl (fun ls hl => ?_)
    refine lv_aload_n hx hb d_Request_arrive_26 rfl (lv_at hl 0 rfl) ?_
    refine lv_ifnonnull (tgt := 32) hx hb d_Request_arrive_27 (by decide) ?_
    refine lv_aload_n hx hb d_Request_arrive_32 rfl (lv_at hl 0 rfl) ?_
    refine cg_Request_29 X w y3 (by omega) d_Request_arrive_33 ?_
    cases ho11 : CR 1 y3 with
    | none =>
      refine W.eq (g2 := F0 m 36 ls [.null]) (by first | rfl | exact congrArg (fun z => F0 m 36 ls [va_rf (Option.map al z)]) (show CR 1 y3 = _ from ho11)) ?_
      refine lv_ifnullN (tgt := 62) hx hb d_Request_arrive_36 (by decide) ?_
      refine lv_aload_n hx hb d_Request_arrive_62 rfl (lv_at hl 2 rfl) ?_
      refine lv_aload_n hx hb d_Request_arrive_63 rfl (lv_at hl 0 rfl) ?_
      refine lv_aload_n hx hb d_Request_arrive_64 rfl (lv_at hl 1 rfl) ?_
      refine kcallv (ws0 := []) w (krunVN (ws0 := []) (wc := cwm ac o ad al CI CL CR M n) (n := 2) (As := [.ref (ad (22 + y3)), .ref (al i)]) (rest := []) (C := R_LC) X w (c_LC_serve l D ac o ad al CI CL CR M n _ y3 i mm (by omega) (by omega) hcl hm (by omega) hok) wk_LC_serve wi_LC wmN_Request_42 wx_LC_serve ws_LC_LC_serve (by decide +kernel) rfl rfl ⟨(Nat.le_of_ble_eq_true rfl), (Nat.le_of_ble_eq_true rfl)⟩ ⟨(Nat.le_of_ble_eq_true rfl), (Nat.le_of_ble_eq_true rfl)⟩ (crecv X w) rfl hl.1 rfl (Nat.le_of_ble_eq_true rfl) d_Request_arrive_65) (fun u H locs hp w => ?_)
      obtain ⟨al13, hal9, hn9, hok9, rfl⟩ := hp
      have hok := hok9
      have hal : ∀ i, i < n → al13 i = al i := fun i h => (hal9 i (by omega)).trans (hal i h)
      have hn : n ≤ (f_LC_serve CI CL CR M n y3 i mm).2.2.2.2 := by omega
      rw [← hal9 i (by omega)] at hl
      have hl : lv_has ls 3 [(2, .ref (ad (22 + y3))), (0, .ref (al13 i)), (1, .ref o)] := hl
      have w : Wo D _ (cwm ac o ad al13 ((f_LC_serve CI CL CR M n y3 i mm).1) ((f_LC_serve CI CL CR M n y3 i mm).2.1) ((f_LC_serve CI CL CR M n y3 i mm).2.2.1) ((f_LC_serve CI CL CR M n y3 i mm).2.2.2.1) ((f_LC_serve CI CL CR M n y3 i mm).2.2.2.2)) s.heap _ _ := w
      refine lv_iconst (v := 1) hx hb d_Request_arrive_68 (by decide) ?_
      have hF : f_Request_arrive CI CL CR M n i li mm = (1, (f_LC_serve CI CL CR M n y3 i mm).1, (f_LC_serve CI CL CR M n y3 i mm).2.1, (f_LC_serve CI CL CR M n y3 i mm).2.2.1, (f_LC_serve CI CL CR M n y3 i mm).2.2.2.1, (f_LC_serve CI CL CR M n y3 i mm).2.2.2.2) := by unfold f_Request_arrive; rw [ho2, oc_some, ho11, oc_none]
      refine W.widen (k := 2) (n := 14) (Nat.le_of_ble_eq_true rfl) (Nat.le_of_ble_eq_true rfl) ?_
      exact kzret X w hr hk (by decide) ⟨al13, hal, by rw [hF]; exact hn, by rw [hF]; exact hok, by rw [hF], by rw [hF]⟩ d_Request_arrive_69
    | some y12 =>
      refine W.eq (g2 := F0 m 36 ls [.ref (al y12)]) (by first | rfl | exact congrArg (fun z => F0 m 36 ls [va_rf (Option.map al z)]) (show CR 1 y3 = _ from ho11)) ?_
      have hny12 : y12 < n := hok 1 y3 y12 (by decide) (ho11)
      have hwt := hw y3 y12 (by omega) ho11
      refine lv_ifnull hx hb d_Request_arrive_36 ?_
      refine lv_aload_n hx hb d_Request_arrive_39 rfl (lv_at hl 0 rfl) ?_
      refine cg_Request_35 X w y3 (by omega) d_Request_arrive_40 ?_
      refine lv_aload_n hx hb d_Request_arrive_43 rfl (lv_at hl 0 rfl) ?_
      refine cg_Request_39 X w y3 (by omega) (v := CI 22 y3) rfl d_Request_arrive_44 ?_
      refine lv_aload_n hx hb d_Request_arrive_47 rfl (lv_at hl 1 rfl) ?_
      refine ct_queue X w y3 (by omega) (tn (CI 22 y3)) (x := some i) (fun q h => by cases h; exact ⟨by omega, hcl⟩) (by omega) hwt.1 d_Request_arrive_48 (fun H locs w => ?_)
      have hok := crok_up (k := 10 + y3) (j := tn (CI 22 y3)) (x := some i) hok (Or.inr (fun i h => by cases h; omega))
      refine lv_aload_n hx hb d_Request_arrive_49 rfl (lv_at hl 0 rfl) ?_
      refine lv_dup hx hb d_Request_arrive_50 rfl ?_
      refine cg_Request_39 X w y3 (by omega) (v := CI 22 y3) rfl d_Request_arrive_51 ?_
      refine lv_iconst (v := 1) hx hb d_Request_arrive_54 (by decide) ?_
      refine kiadd (a := tn (CI 22 y3)) (b := 1) (r := (tn (CI 22 y3)) + 1) hx hb hwt.1 rfl rfl d_Request_arrive_55 ?_
      refine cp_Request_39 X w y3 (by omega) d_Request_arrive_56 (fun H locs w => ?_)
      refine lv_goto (tgt := 68) hx hb d_Request_arrive_59 (by decide) ?_
      refine lv_iconst (v := 1) hx hb d_Request_arrive_68 (by decide) ?_
      have hF : f_Request_arrive CI CL CR M n i li mm = (1, up2 CI 22 y3 (nI ((tn (CI 22 y3)) + 1)), CL, up2 CR (10 + y3) (tn (CI 22 y3)) (some i), M, n) := by unfold f_Request_arrive; rw [ho2, oc_some, ho11, oc_some]
      refine W.widen (k := 2) (n := 14) (Nat.le_of_ble_eq_true rfl) (Nat.le_of_ble_eq_true rfl) ?_
      exact kzret X w hr hk (by decide) ⟨al, hal, by rw [hF]; exact hn, by rw [hF]; exact hok, by rw [hF], by rw [hF]⟩ d_Request_arrive_69
def f_Answer_arrive (CI : Nat → Nat → Int32) (CL : Nat → Nat → Int64) (CR : Nat → Nat → Option Nat) (M : Nat → Msg) (n : Nat) (i : Nat) (c : Nat) (li : Nat) (mm : Nat) : Int32 × (Nat → Nat → Int32) × (Nat → Nat → Int64) × (Nat → Nat → Option Nat) × (Nat → Msg) × (Nat) :=
  if (mkind (M i)) = 4 then
    (1, (f_Core_perform (up2 (up2 (up2 CI 11 (f_Core_room CI c li) (mown (M i))) 39 0 (((up2 CI 11 (f_Core_room CI c li) (mown (M i))) 39 0) + 1)) 15 (f_Core_room CI c li) (((up2 CI 11 (f_Core_room CI c li) (mown (M i))) 39 0) + 1)) (up2 CL 14 (f_Core_room CI c li) (mtb (M i))) c (f_Core_room CI c li)).1, (f_Core_perform (up2 (up2 (up2 CI 11 (f_Core_room CI c li) (mown (M i))) 39 0 (((up2 CI 11 (f_Core_room CI c li) (mown (M i))) 39 0) + 1)) 15 (f_Core_room CI c li) (((up2 CI 11 (f_Core_room CI c li) (mown (M i))) 39 0) + 1)) (up2 CL 14 (f_Core_room CI c li) (mtb (M i))) c (f_Core_room CI c li)).2, CR, M, n)
  else
    (1, (f_Core_perform (up2 (up2 (up2 (up2 (up2 ((f_LC_leave CI CL CR M n c (f_Core_room CI c li) (mline (M i)) mm).1) 10 (f_Core_room CI c li) (mline (M i))) 12 (f_Core_room CI c li) (mword (M i))) 11 (f_Core_room CI c li) (mown (M i))) 39 0 (((up2 (up2 (up2 ((f_LC_leave CI CL CR M n c (f_Core_room CI c li) (mline (M i)) mm).1) 10 (f_Core_room CI c li) (mline (M i))) 12 (f_Core_room CI c li) (mword (M i))) 11 (f_Core_room CI c li) (mown (M i))) 39 0) + 1)) 15 (f_Core_room CI c li) (((up2 (up2 (up2 ((f_LC_leave CI CL CR M n c (f_Core_room CI c li) (mline (M i)) mm).1) 10 (f_Core_room CI c li) (mline (M i))) 12 (f_Core_room CI c li) (mword (M i))) 11 (f_Core_room CI c li) (mown (M i))) 39 0) + 1)) (up2 (up2 CL 13 (f_Core_room CI c li) (mta (M i))) 14 (f_Core_room CI c li) (mtb (M i))) c (f_Core_room CI c li)).1, (f_Core_perform (up2 (up2 (up2 (up2 (up2 ((f_LC_leave CI CL CR M n c (f_Core_room CI c li) (mline (M i)) mm).1) 10 (f_Core_room CI c li) (mline (M i))) 12 (f_Core_room CI c li) (mword (M i))) 11 (f_Core_room CI c li) (mown (M i))) 39 0 (((up2 (up2 (up2 ((f_LC_leave CI CL CR M n c (f_Core_room CI c li) (mline (M i)) mm).1) 10 (f_Core_room CI c li) (mline (M i))) 12 (f_Core_room CI c li) (mword (M i))) 11 (f_Core_room CI c li) (mown (M i))) 39 0) + 1)) 15 (f_Core_room CI c li) (((up2 (up2 (up2 ((f_LC_leave CI CL CR M n c (f_Core_room CI c li) (mline (M i)) mm).1) 10 (f_Core_room CI c li) (mline (M i))) 12 (f_Core_room CI c li) (mword (M i))) 11 (f_Core_room CI c li) (mown (M i))) 39 0) + 1)) (up2 (up2 CL 13 (f_Core_room CI c li) (mta (M i))) 14 (f_Core_room CI c li) (mtb (M i))) c (f_Core_room CI c li)).2, (f_LC_leave CI CL CR M n c (f_Core_room CI c li) (mline (M i)) mm).2.1, (f_LC_leave CI CL CR M n c (f_Core_room CI c li) (mline (M i)) mm).2.2.1, (f_LC_leave CI CL CR M n c (f_Core_room CI c li) (mline (M i)) mm).2.2.2)
set_option maxHeartbeats 4000000 in
set_option maxRecDepth 100000 in
theorem c_Answer_arrive (l : Launch) (D : va_G) (ac : Nat → ClassId) (o : Nat) (ad : Nat → Nat) (al : Nat → Nat) (CI : Nat → Nat → Int32) (CL : Nat → Nat → Int64) (CR : Nat → Nat → Option Nat) (M : Nat → Msg) (n : Nat) (sz : Nat) (i : Nat) (c : Nat) (li : Nat) (mm : Nat) (hi : i < n) (hcl : mcls (M i) = 5) (hco : mcore (M i) = some c) (hc : c < 3) (hli : mline (M i) = nI li) (hl12 : li < 12) (hown : mown (M i) = 0 ∨ mown (M i) = 1) (hm : CI 38 0 = nI mm) (hmm : mm < 24) (hok : CRok CR n) : Met l y_Answer_arrive [Cond.code y_Answer_arrive b_Answer_arrive 3 (some .boolean)] { frames := 4, cells := 1, slots := 7, locals := 99 } (va_Pc [.ref (al i), .ref o] (CPre D ac (cwm ac o ad al CI CL CR M n) sz)) (va_Qi (fun r u => ∃ a9 : Nat → Nat, (∀ i, i < n → a9 i = al i) ∧ n ≤ (f_Answer_arrive CI CL CR M n i c li mm).2.2.2.2.2 ∧ CRok ((f_Answer_arrive CI CL CR M n i c li mm).2.2.2.1) ((f_Answer_arrive CI CL CR M n i c li mm).2.2.2.2.2) ∧ r = (f_Answer_arrive CI CL CR M n i c li mm).1 ∧ u = cwm ac o ad a9 ((f_Answer_arrive CI CL CR M n i c li mm).2.1) ((f_Answer_arrive CI CL CR M n i c li mm).2.2.1) ((f_Answer_arrive CI CL CR M n i c li mm).2.2.2.1) ((f_Answer_arrive CI CL CR M n i c li mm).2.2.2.2.1) ((f_Answer_arrive CI CL CR M n i c li mm).2.2.2.2.2)) (CPost D (cwm ac o ad al CI CL CR M n) sz) (va_A (cwm ac o ad al CI CL CR M n) sz)) 1 7 (va_A (cwm ac o ad al CI CL CR M n) sz) := by
  refine kofW (by decide) (Nat.le_of_ble_eq_true rfl) ?_
  intro p ev s m args below meth c0 ls X hr hk hnm hex hsz w hl
  have X : Cx b_Answer_arrive 3 R_Answer D ac p m args c0 s := X
  have hx := X.1
  have hb := X.2.1
  have hl : lv_has ls 3 [(0, .ref (al i)), (1, .ref o)] := hl
  have hal : ∀ i, i < n → al i = al i := fun _ _ => rfl
  have hn : n ≤ n := Nat.le_refl n
  refine lv_aload_n hx hb d_Answer_arrive_0 rfl (lv_at hl 0 rfl) ?_
  refine qg_Answer_43 (m9 := (M i)) X w (hs_mem0 (i := i) (by omega)) hcl d_Answer_arrive_1 ?_
  refine W.eq (congrArg (fun z => F0 m 4 ls [va_rf (rC ad z)]) hco) ?_
  refine W.eq (g2 := F0 m 4 ls [.ref (ad (4 + c))]) rfl ?_
  refine lv_aload_n hx hb d_Answer_arrive_4 rfl (lv_at hl 0 rfl) ?_
  refine qg_Answer_44 (m9 := (M i)) X w (hs_mem0 (i := i) (by omega)) hcl d_Answer_arrive_5 ?_
  refine W.eq (g2 := F0 m 8 ls [.int (nI li), .ref (ad (4 + c))]) (by rw [← hli]) ?_
  refine kcallq (ws0 := []) w (krunV (ws0 := []) (wc := cwm ac o ad al CI CL CR M n) (n := 1) (As := [.int (nI li)]) (rest := []) (C := R_Core) X w (c_Core_room l D ac o ad al CI CL CR M n _ c li (by omega) (by omega)) wk_Core_room wi_Core wm_Answer_45 wx_Core_room ws_Core_Core_room (by decide +kernel) rfl rfl ⟨(Nat.le_of_ble_eq_true rfl), (Nat.le_of_ble_eq_true rfl)⟩ ⟨(Nat.le_of_ble_eq_true rfl), (Nat.le_of_ble_eq_true rfl)⟩ (crecv_Core X w c (by omega)) rfl hl.1 rfl (Nat.le_of_ble_eq_true rfl) d_Answer_arrive_8) (fun r1 u H locs hp w => ?_)
  obtain ⟨rfl, rfl⟩ := hp
  have w : Wo D _ (cwm ac o ad al CI CL CR M n) s.heap _ _ := w
  refine W.eq (g2 := F0 m 11 ls (.ref (ad (10 + (f_Core_room CI c li))) :: [])) rfl ?_
  have hrm : (f_Core_room CI c li) < 12 := f_Core_room_lt (by omega)
  refine lv_astore_n (lv' := [(2, .ref (ad (10 + (f_Core_room CI c li)))), (0, .ref (al i)), (1, .ref o)]) hx hb d_Answer_arrive_11 rfl hl (by decide) rfl (fun ls hl => ?_)
  refine lv_aload_n hx hb d_Answer_arrive_12 rfl (lv_at hl 1 rfl) ?_
  refine qg_Answer_51 (m9 := (M i)) X w (hs_mem0 (i := i) (by omega)) hcl d_Answer_arrive_13 ?_
  refine lv_iconst (v := 4) hx hb d_Answer_arrive_16 (by decide) ?_
  refine lv_icmp_ne (tgt := 31) hx hb d_Answer_arrive_17 (by decide) (fun h2 => ?_) (fun h2 => ?_)
  · skip
    refine lv_aload_n hx hb d_Answer_arrive_31 rfl (lv_at hl 2 rfl) ?_
    refine lv_aload_n hx hb d_Answer_arrive_32 rfl (lv_at hl 1 rfl) ?_
    refine qg_Answer_43 (m9 := (M i)) X w (hs_mem0 (i := i) (by omega)) hcl d_Answer_arrive_33 ?_
    refine W.eq (congrArg (fun z => F0 m 36 ls [va_rf (rC ad z), .ref o]) hco) ?_
    refine W.eq (g2 := F0 m 36 ls [.ref (ad (4 + c)), .ref o]) rfl ?_
    refine lv_aload_n hx hb d_Answer_arrive_36 rfl (lv_at hl 0 rfl) ?_
    refine lv_aload_n hx hb d_Answer_arrive_37 rfl (lv_at hl 1 rfl) ?_
    refine qg_Answer_44 (m9 := (M i)) X w (hs_mem0 (i := i) (by omega)) hcl d_Answer_arrive_38 ?_
    refine kcallv (ws0 := []) w (krunVN (ws0 := []) (wc := cwm ac o ad al CI CL CR M n) (n := 3) (As := [.ref (ad (4 + c)), .ref (ad (10 + (f_Core_room CI c li))), .int (mline (M i))]) (rest := []) (C := R_LC) X w (c_LC_leave l D ac o ad al CI CL CR M n _ c (f_Core_room CI c li) (mline (M i)) mm (by omega) (by omega) hm (by omega) hok) wk_LC_leave wi_LC wmN_Answer_55 wx_LC_leave ws_LC_LC_leave (by decide +kernel) rfl rfl ⟨(Nat.le_of_ble_eq_true rfl), (Nat.le_of_ble_eq_true rfl)⟩ ⟨(Nat.le_of_ble_eq_true rfl), (Nat.le_of_ble_eq_true rfl)⟩ (crecv X w) rfl hl.1 rfl (Nat.le_of_ble_eq_true rfl) d_Answer_arrive_41) (fun u H locs hp w => ?_)
    obtain ⟨al3, hal9, hn9, hok9, rfl⟩ := hp
    have hok := hok9
    have hal : ∀ i, i < n → al3 i = al i := fun i h => (hal9 i (by omega)).trans (hal i h)
    have hn : n ≤ (f_LC_leave CI CL CR M n c (f_Core_room CI c li) (mline (M i)) mm).2.2.2 := by omega
    rw [← hal9 i (by omega)] at hl
    have hl : lv_has ls 3 [(2, .ref (ad (10 + (f_Core_room CI c li)))), (0, .ref (al3 i)), (1, .ref o)] := hl
    have w : Wo D _ (cwm ac o ad al3 ((f_LC_leave CI CL CR M n c (f_Core_room CI c li) (mline (M i)) mm).1) CL ((f_LC_leave CI CL CR M n c (f_Core_room CI c li) (mline (M i)) mm).2.1) ((f_LC_leave CI CL CR M n c (f_Core_room CI c li) (mline (M i)) mm).2.2.1) ((f_LC_leave CI CL CR M n c (f_Core_room CI c li) (mline (M i)) mm).2.2.2)) s.heap _ _ := w
    refine lv_aload_n hx hb d_Answer_arrive_44 rfl (lv_at hl 0 rfl) ?_
    refine lv_aload_n hx hb d_Answer_arrive_45 rfl (lv_at hl 1 rfl) ?_
    refine qg_Answer_44 (m9 := (M i)) X w (hs_eq (hs_mem0 (i := i) (by omega)) (f_LC_leave_M hi)) hcl d_Answer_arrive_46 ?_
    refine cp_Answer_59 X w (f_Core_room CI c li) (by omega) d_Answer_arrive_49 (fun H locs w => ?_)
    refine lv_aload_n hx hb d_Answer_arrive_52 rfl (lv_at hl 0 rfl) ?_
    refine lv_aload_n hx hb d_Answer_arrive_53 rfl (lv_at hl 1 rfl) ?_
    refine qg_Answer_24 (m9 := (M i)) X w (hs_eq (hs_mem0 (i := i) (by omega)) (f_LC_leave_M hi)) hcl d_Answer_arrive_54 ?_
    refine lv_aload_n hx hb d_Answer_arrive_57 rfl (lv_at hl 1 rfl) ?_
    refine qg_Answer_31 (m9 := (M i)) X w (hs_eq (hs_mem0 (i := i) (by omega)) (f_LC_leave_M hi)) hcl d_Answer_arrive_58 ?_
    refine lv_aload_n hx hb d_Answer_arrive_61 rfl (lv_at hl 1 rfl) ?_
    refine qg_Answer_35 (m9 := (M i)) X w (hs_eq (hs_mem0 (i := i) (by omega)) (f_LC_leave_M hi)) hcl d_Answer_arrive_62 ?_
    refine kcallv (ws0 := []) w (krunU (owner := R_Version) (ws0 := []) (wc := cwm ac o ad al3 (up2 ((f_LC_leave CI CL CR M n c (f_Core_room CI c li) (mline (M i)) mm).1) 10 (f_Core_room CI c li) (mline (M i))) CL ((f_LC_leave CI CL CR M n c (f_Core_room CI c li) (mline (M i)) mm).2.1) ((f_LC_leave CI CL CR M n c (f_Core_room CI c li) (mline (M i)) mm).2.2.1) ((f_LC_leave CI CL CR M n c (f_Core_room CI c li) (mline (M i)) mm).2.2.2)) (n := 3) (As := [.int (mword (M i)), .long (mta (M i)), .long (mtb (M i))]) (rest := []) (C := R_Place) X w (c_Version_take_Place l D ac o ad al3 (up2 ((f_LC_leave CI CL CR M n c (f_Core_room CI c li) (mline (M i)) mm).1) 10 (f_Core_room CI c li) (mline (M i))) CL ((f_LC_leave CI CL CR M n c (f_Core_room CI c li) (mline (M i)) mm).2.1) ((f_LC_leave CI CL CR M n c (f_Core_room CI c li) (mline (M i)) mm).2.2.1) ((f_LC_leave CI CL CR M n c (f_Core_room CI c li) (mline (M i)) mm).2.2.2) _ (f_Core_room CI c li) (mword (M i)) (mta (M i)) (mtb (M i)) (by omega)) wk_Version_take wi_Version wm_Answer_60 wq_Place_take (va_Decl.of (X.2.2.2.2.1.at (a := #[]) wx_Version_take) (X.2.2.2.2.1.at wk_Version_take)) wx_Version_take ws_Place_Place_take (by decide +kernel) rfl rfl ⟨(Nat.le_of_ble_eq_true rfl), (Nat.le_of_ble_eq_true rfl)⟩ ⟨(Nat.le_of_ble_eq_true rfl), (Nat.le_of_ble_eq_true rfl)⟩ (crecv_Place X w (f_Core_room CI c li) (by omega)) rfl hl.1 rfl (Nat.le_of_ble_eq_true rfl) d_Answer_arrive_65) (fun u H locs hp w => ?_)
    obtain rfl := hp
    have w : Wo D _ (cwm ac o ad al3 (up2 (up2 ((f_LC_leave CI CL CR M n c (f_Core_room CI c li) (mline (M i)) mm).1) 10 (f_Core_room CI c li) (mline (M i))) 12 (f_Core_room CI c li) (mword (M i))) (up2 (up2 CL 13 (f_Core_room CI c li) (mta (M i))) 14 (f_Core_room CI c li) (mtb (M i))) ((f_LC_leave CI CL CR M n c (f_Core_room CI c li) (mline (M i)) mm).2.1) ((f_LC_leave CI CL CR M n c (f_Core_room CI c li) (mline (M i)) mm).2.2.1) ((f_LC_leave CI CL CR M n c (f_Core_room CI c li) (mline (M i)) mm).2.2.2)) s.heap _ _ := w
    refine lv_aload_n hx hb d_Answer_arrive_68 rfl (lv_at hl 0 rfl) ?_
    refine lv_aload_n hx hb d_Answer_arrive_69 rfl (lv_at hl 1 rfl) ?_
    refine qg_Answer_39 (m9 := (M i)) X w (hs_eq (hs_mem0 (i := i) (by omega)) (f_LC_leave_M hi)) hcl d_Answer_arrive_70 ?_
    refine cp_Answer_64 X w (f_Core_room CI c li) (by omega) hown d_Answer_arrive_73 (fun H locs w => ?_)
    refine lv_aload_n hx hb d_Answer_arrive_76 rfl (lv_at hl 2 rfl) ?_
    refine lv_aload_n hx hb d_Answer_arrive_77 rfl (lv_at hl 0 rfl) ?_
    refine kcallv (ws0 := []) w (krunVN (ws0 := []) (wc := cwm ac o ad al3 (up2 (up2 (up2 ((f_LC_leave CI CL CR M n c (f_Core_room CI c li) (mline (M i)) mm).1) 10 (f_Core_room CI c li) (mline (M i))) 12 (f_Core_room CI c li) (mword (M i))) 11 (f_Core_room CI c li) (mown (M i))) (up2 (up2 CL 13 (f_Core_room CI c li) (mta (M i))) 14 (f_Core_room CI c li) (mtb (M i))) ((f_LC_leave CI CL CR M n c (f_Core_room CI c li) (mline (M i)) mm).2.1) ((f_LC_leave CI CL CR M n c (f_Core_room CI c li) (mline (M i)) mm).2.2.1) ((f_LC_leave CI CL CR M n c (f_Core_room CI c li) (mline (M i)) mm).2.2.2)) (n := 1) (As := [.ref (ad (10 + (f_Core_room CI c li)))]) (rest := []) (C := R_LC) X w (c_LC_use l D ac o ad al3 (up2 (up2 (up2 ((f_LC_leave CI CL CR M n c (f_Core_room CI c li) (mline (M i)) mm).1) 10 (f_Core_room CI c li) (mline (M i))) 12 (f_Core_room CI c li) (mword (M i))) 11 (f_Core_room CI c li) (mown (M i))) (up2 (up2 CL 13 (f_Core_room CI c li) (mta (M i))) 14 (f_Core_room CI c li) (mtb (M i))) ((f_LC_leave CI CL CR M n c (f_Core_room CI c li) (mline (M i)) mm).2.1) ((f_LC_leave CI CL CR M n c (f_Core_room CI c li) (mline (M i)) mm).2.2.1) ((f_LC_leave CI CL CR M n c (f_Core_room CI c li) (mline (M i)) mm).2.2.2) _ (f_Core_room CI c li) (by omega)) wk_LC_use wi_LC wmN_Answer_65 wx_LC_use ws_LC_LC_use (by decide +kernel) rfl rfl ⟨(Nat.le_of_ble_eq_true rfl), (Nat.le_of_ble_eq_true rfl)⟩ ⟨(Nat.le_of_ble_eq_true rfl), (Nat.le_of_ble_eq_true rfl)⟩ (crecv X w) rfl hl.1 rfl (Nat.le_of_ble_eq_true rfl) d_Answer_arrive_78) (fun u H locs hp w => ?_)
    obtain rfl := hp
    have w : Wo D _ (cwm ac o ad al3 (up2 (up2 (up2 (up2 (up2 ((f_LC_leave CI CL CR M n c (f_Core_room CI c li) (mline (M i)) mm).1) 10 (f_Core_room CI c li) (mline (M i))) 12 (f_Core_room CI c li) (mword (M i))) 11 (f_Core_room CI c li) (mown (M i))) 39 0 (((up2 (up2 (up2 ((f_LC_leave CI CL CR M n c (f_Core_room CI c li) (mline (M i)) mm).1) 10 (f_Core_room CI c li) (mline (M i))) 12 (f_Core_room CI c li) (mword (M i))) 11 (f_Core_room CI c li) (mown (M i))) 39 0) + 1)) 15 (f_Core_room CI c li) (((up2 (up2 (up2 ((f_LC_leave CI CL CR M n c (f_Core_room CI c li) (mline (M i)) mm).1) 10 (f_Core_room CI c li) (mline (M i))) 12 (f_Core_room CI c li) (mword (M i))) 11 (f_Core_room CI c li) (mown (M i))) 39 0) + 1)) (up2 (up2 CL 13 (f_Core_room CI c li) (mta (M i))) 14 (f_Core_room CI c li) (mtb (M i))) ((f_LC_leave CI CL CR M n c (f_Core_room CI c li) (mline (M i)) mm).2.1) ((f_LC_leave CI CL CR M n c (f_Core_room CI c li) (mline (M i)) mm).2.2.1) ((f_LC_leave CI CL CR M n c (f_Core_room CI c li) (mline (M i)) mm).2.2.2)) s.heap _ _ := w
    refine lv_aload_n hx hb d_Answer_arrive_81 rfl (lv_at hl 1 rfl) ?_
    refine qg_Answer_43 (m9 := (M i)) X w (hs_eq (hs_mem0 (i := i) (by omega)) (f_LC_leave_M hi)) hcl d_Answer_arrive_82 ?_
    refine W.eq (congrArg (fun z => F0 m 85 ls [va_rf (rC ad z)]) hco) ?_
    refine W.eq (g2 := F0 m 85 ls [.ref (ad (4 + c))]) rfl ?_
    refine lv_aload_n hx hb d_Answer_arrive_85 rfl (lv_at hl 0 rfl) ?_
    refine kcallv (ws0 := []) w (krunV (ws0 := []) (wc := cwm ac o ad al3 (up2 (up2 (up2 (up2 (up2 ((f_LC_leave CI CL CR M n c (f_Core_room CI c li) (mline (M i)) mm).1) 10 (f_Core_room CI c li) (mline (M i))) 12 (f_Core_room CI c li) (mword (M i))) 11 (f_Core_room CI c li) (mown (M i))) 39 0 (((up2 (up2 (up2 ((f_LC_leave CI CL CR M n c (f_Core_room CI c li) (mline (M i)) mm).1) 10 (f_Core_room CI c li) (mline (M i))) 12 (f_Core_room CI c li) (mword (M i))) 11 (f_Core_room CI c li) (mown (M i))) 39 0) + 1)) 15 (f_Core_room CI c li) (((up2 (up2 (up2 ((f_LC_leave CI CL CR M n c (f_Core_room CI c li) (mline (M i)) mm).1) 10 (f_Core_room CI c li) (mline (M i))) 12 (f_Core_room CI c li) (mword (M i))) 11 (f_Core_room CI c li) (mown (M i))) 39 0) + 1)) (up2 (up2 CL 13 (f_Core_room CI c li) (mta (M i))) 14 (f_Core_room CI c li) (mtb (M i))) ((f_LC_leave CI CL CR M n c (f_Core_room CI c li) (mline (M i)) mm).2.1) ((f_LC_leave CI CL CR M n c (f_Core_room CI c li) (mline (M i)) mm).2.2.1) ((f_LC_leave CI CL CR M n c (f_Core_room CI c li) (mline (M i)) mm).2.2.2)) (n := 1) (As := [.ref (ad (10 + (f_Core_room CI c li)))]) (rest := []) (C := R_Core) X w (c_Core_perform l D ac o ad al3 (up2 (up2 (up2 (up2 (up2 ((f_LC_leave CI CL CR M n c (f_Core_room CI c li) (mline (M i)) mm).1) 10 (f_Core_room CI c li) (mline (M i))) 12 (f_Core_room CI c li) (mword (M i))) 11 (f_Core_room CI c li) (mown (M i))) 39 0 (((up2 (up2 (up2 ((f_LC_leave CI CL CR M n c (f_Core_room CI c li) (mline (M i)) mm).1) 10 (f_Core_room CI c li) (mline (M i))) 12 (f_Core_room CI c li) (mword (M i))) 11 (f_Core_room CI c li) (mown (M i))) 39 0) + 1)) 15 (f_Core_room CI c li) (((up2 (up2 (up2 ((f_LC_leave CI CL CR M n c (f_Core_room CI c li) (mline (M i)) mm).1) 10 (f_Core_room CI c li) (mline (M i))) 12 (f_Core_room CI c li) (mword (M i))) 11 (f_Core_room CI c li) (mown (M i))) 39 0) + 1)) (up2 (up2 CL 13 (f_Core_room CI c li) (mta (M i))) 14 (f_Core_room CI c li) (mtb (M i))) ((f_LC_leave CI CL CR M n c (f_Core_room CI c li) (mline (M i)) mm).2.1) ((f_LC_leave CI CL CR M n c (f_Core_room CI c li) (mline (M i)) mm).2.2.1) ((f_LC_leave CI CL CR M n c (f_Core_room CI c li) (mline (M i)) mm).2.2.2) _ c (f_Core_room CI c li) (by omega) (by omega)) wk_Core_perform wi_Core wm_Answer_69 wx_Core_perform ws_Core_Core_perform (by decide +kernel) rfl rfl ⟨(Nat.le_of_ble_eq_true rfl), (Nat.le_of_ble_eq_true rfl)⟩ ⟨(Nat.le_of_ble_eq_true rfl), (Nat.le_of_ble_eq_true rfl)⟩ (crecv_Core X w c (by omega)) rfl hl.1 rfl (Nat.le_of_ble_eq_true rfl) d_Answer_arrive_86) (fun u H locs hp w => ?_)
    obtain rfl := hp
    have w : Wo D _ (cwm ac o ad al3 ((f_Core_perform (up2 (up2 (up2 (up2 (up2 ((f_LC_leave CI CL CR M n c (f_Core_room CI c li) (mline (M i)) mm).1) 10 (f_Core_room CI c li) (mline (M i))) 12 (f_Core_room CI c li) (mword (M i))) 11 (f_Core_room CI c li) (mown (M i))) 39 0 (((up2 (up2 (up2 ((f_LC_leave CI CL CR M n c (f_Core_room CI c li) (mline (M i)) mm).1) 10 (f_Core_room CI c li) (mline (M i))) 12 (f_Core_room CI c li) (mword (M i))) 11 (f_Core_room CI c li) (mown (M i))) 39 0) + 1)) 15 (f_Core_room CI c li) (((up2 (up2 (up2 ((f_LC_leave CI CL CR M n c (f_Core_room CI c li) (mline (M i)) mm).1) 10 (f_Core_room CI c li) (mline (M i))) 12 (f_Core_room CI c li) (mword (M i))) 11 (f_Core_room CI c li) (mown (M i))) 39 0) + 1)) (up2 (up2 CL 13 (f_Core_room CI c li) (mta (M i))) 14 (f_Core_room CI c li) (mtb (M i))) c (f_Core_room CI c li)).1) ((f_Core_perform (up2 (up2 (up2 (up2 (up2 ((f_LC_leave CI CL CR M n c (f_Core_room CI c li) (mline (M i)) mm).1) 10 (f_Core_room CI c li) (mline (M i))) 12 (f_Core_room CI c li) (mword (M i))) 11 (f_Core_room CI c li) (mown (M i))) 39 0 (((up2 (up2 (up2 ((f_LC_leave CI CL CR M n c (f_Core_room CI c li) (mline (M i)) mm).1) 10 (f_Core_room CI c li) (mline (M i))) 12 (f_Core_room CI c li) (mword (M i))) 11 (f_Core_room CI c li) (mown (M i))) 39 0) + 1)) 15 (f_Core_room CI c li) (((up2 (up2 (up2 ((f_LC_leave CI CL CR M n c (f_Core_room CI c li) (mline (M i)) mm).1) 10 (f_Core_room CI c li) (mline (M i))) 12 (f_Core_room CI c li) (mword (M i))) 11 (f_Core_room CI c li) (mown (M i))) 39 0) + 1)) (up2 (up2 CL 13 (f_Core_room CI c li) (mta (M i))) 14 (f_Core_room CI c li) (mtb (M i))) c (f_Core_room CI c li)).2) ((f_LC_leave CI CL CR M n c (f_Core_room CI c li) (mline (M i)) mm).2.1) ((f_LC_leave CI CL CR M n c (f_Core_room CI c li) (mline (M i)) mm).2.2.1) ((f_LC_leave CI CL CR M n c (f_Core_room CI c li) (mline (M i)) mm).2.2.2)) s.heap _ _ := w
    refine lv_iconst (v := 1) hx hb d_Answer_arrive_89 (by decide) ?_
    have hF : f_Answer_arrive CI CL CR M n i c li mm = (1, (f_Core_perform (up2 (up2 (up2 (up2 (up2 ((f_LC_leave CI CL CR M n c (f_Core_room CI c li) (mline (M i)) mm).1) 10 (f_Core_room CI c li) (mline (M i))) 12 (f_Core_room CI c li) (mword (M i))) 11 (f_Core_room CI c li) (mown (M i))) 39 0 (((up2 (up2 (up2 ((f_LC_leave CI CL CR M n c (f_Core_room CI c li) (mline (M i)) mm).1) 10 (f_Core_room CI c li) (mline (M i))) 12 (f_Core_room CI c li) (mword (M i))) 11 (f_Core_room CI c li) (mown (M i))) 39 0) + 1)) 15 (f_Core_room CI c li) (((up2 (up2 (up2 ((f_LC_leave CI CL CR M n c (f_Core_room CI c li) (mline (M i)) mm).1) 10 (f_Core_room CI c li) (mline (M i))) 12 (f_Core_room CI c li) (mword (M i))) 11 (f_Core_room CI c li) (mown (M i))) 39 0) + 1)) (up2 (up2 CL 13 (f_Core_room CI c li) (mta (M i))) 14 (f_Core_room CI c li) (mtb (M i))) c (f_Core_room CI c li)).1, (f_Core_perform (up2 (up2 (up2 (up2 (up2 ((f_LC_leave CI CL CR M n c (f_Core_room CI c li) (mline (M i)) mm).1) 10 (f_Core_room CI c li) (mline (M i))) 12 (f_Core_room CI c li) (mword (M i))) 11 (f_Core_room CI c li) (mown (M i))) 39 0 (((up2 (up2 (up2 ((f_LC_leave CI CL CR M n c (f_Core_room CI c li) (mline (M i)) mm).1) 10 (f_Core_room CI c li) (mline (M i))) 12 (f_Core_room CI c li) (mword (M i))) 11 (f_Core_room CI c li) (mown (M i))) 39 0) + 1)) 15 (f_Core_room CI c li) (((up2 (up2 (up2 ((f_LC_leave CI CL CR M n c (f_Core_room CI c li) (mline (M i)) mm).1) 10 (f_Core_room CI c li) (mline (M i))) 12 (f_Core_room CI c li) (mword (M i))) 11 (f_Core_room CI c li) (mown (M i))) 39 0) + 1)) (up2 (up2 CL 13 (f_Core_room CI c li) (mta (M i))) 14 (f_Core_room CI c li) (mtb (M i))) c (f_Core_room CI c li)).2, (f_LC_leave CI CL CR M n c (f_Core_room CI c li) (mline (M i)) mm).2.1, (f_LC_leave CI CL CR M n c (f_Core_room CI c li) (mline (M i)) mm).2.2.1, (f_LC_leave CI CL CR M n c (f_Core_room CI c li) (mline (M i)) mm).2.2.2) := by unfold f_Answer_arrive; rw [if_neg h2]
    refine W.widen (k := 1) (n := 7) (Nat.le_of_ble_eq_true rfl) (Nat.le_of_ble_eq_true rfl) ?_
    exact kzret X w hr hk (by decide) ⟨al3, hal, by rw [hF]; exact hn, by rw [hF]; exact hok, by rw [hF], by rw [hF]⟩ d_Answer_arrive_90
  · skip
    refine lv_aload_n hx hb d_Answer_arrive_20 rfl (lv_at hl 0 rfl) ?_
    refine lv_aload_n hx hb d_Answer_arrive_21 rfl (lv_at hl 1 rfl) ?_
    refine qg_Answer_35 (m9 := (M i)) X w (hs_mem0 (i := i) (by omega)) hcl d_Answer_arrive_22 ?_
    refine cp_Answer_52 X w (f_Core_room CI c li) (by omega) d_Answer_arrive_25 (fun H locs w => ?_)
    refine lv_goto (tgt := 68) hx hb d_Answer_arrive_28 (by decide) ?_
    refine lv_aload_n hx hb d_Answer_arrive_68 rfl (lv_at hl 0 rfl) ?_
    refine lv_aload_n hx hb d_Answer_arrive_69 rfl (lv_at hl 1 rfl) ?_
    refine qg_Answer_39 (m9 := (M i)) X w (hs_mem0 (i := i) (by omega)) hcl d_Answer_arrive_70 ?_
    refine cp_Answer_64 X w (f_Core_room CI c li) (by omega) hown d_Answer_arrive_73 (fun H locs w => ?_)
    refine lv_aload_n hx hb d_Answer_arrive_76 rfl (lv_at hl 2 rfl) ?_
    refine lv_aload_n hx hb d_Answer_arrive_77 rfl (lv_at hl 0 rfl) ?_
    refine kcallv (ws0 := []) w (krunVN (ws0 := []) (wc := cwm ac o ad al (up2 CI 11 (f_Core_room CI c li) (mown (M i))) (up2 CL 14 (f_Core_room CI c li) (mtb (M i))) CR M n) (n := 1) (As := [.ref (ad (10 + (f_Core_room CI c li)))]) (rest := []) (C := R_LC) X w (c_LC_use l D ac o ad al (up2 CI 11 (f_Core_room CI c li) (mown (M i))) (up2 CL 14 (f_Core_room CI c li) (mtb (M i))) CR M n _ (f_Core_room CI c li) (by omega)) wk_LC_use wi_LC wmN_Answer_65 wx_LC_use ws_LC_LC_use (by decide +kernel) rfl rfl ⟨(Nat.le_of_ble_eq_true rfl), (Nat.le_of_ble_eq_true rfl)⟩ ⟨(Nat.le_of_ble_eq_true rfl), (Nat.le_of_ble_eq_true rfl)⟩ (crecv X w) rfl hl.1 rfl (Nat.le_of_ble_eq_true rfl) d_Answer_arrive_78) (fun u H locs hp w => ?_)
    obtain rfl := hp
    have w : Wo D _ (cwm ac o ad al (up2 (up2 (up2 CI 11 (f_Core_room CI c li) (mown (M i))) 39 0 (((up2 CI 11 (f_Core_room CI c li) (mown (M i))) 39 0) + 1)) 15 (f_Core_room CI c li) (((up2 CI 11 (f_Core_room CI c li) (mown (M i))) 39 0) + 1)) (up2 CL 14 (f_Core_room CI c li) (mtb (M i))) CR M n) s.heap _ _ := w
    refine lv_aload_n hx hb d_Answer_arrive_81 rfl (lv_at hl 1 rfl) ?_
    refine qg_Answer_43 (m9 := (M i)) X w (hs_mem0 (i := i) (by omega)) hcl d_Answer_arrive_82 ?_
    refine W.eq (congrArg (fun z => F0 m 85 ls [va_rf (rC ad z)]) hco) ?_
    refine W.eq (g2 := F0 m 85 ls [.ref (ad (4 + c))]) rfl ?_
    refine lv_aload_n hx hb d_Answer_arrive_85 rfl (lv_at hl 0 rfl) ?_
    refine kcallv (ws0 := []) w (krunV (ws0 := []) (wc := cwm ac o ad al (up2 (up2 (up2 CI 11 (f_Core_room CI c li) (mown (M i))) 39 0 (((up2 CI 11 (f_Core_room CI c li) (mown (M i))) 39 0) + 1)) 15 (f_Core_room CI c li) (((up2 CI 11 (f_Core_room CI c li) (mown (M i))) 39 0) + 1)) (up2 CL 14 (f_Core_room CI c li) (mtb (M i))) CR M n) (n := 1) (As := [.ref (ad (10 + (f_Core_room CI c li)))]) (rest := []) (C := R_Core) X w (c_Core_perform l D ac o ad al (up2 (up2 (up2 CI 11 (f_Core_room CI c li) (mown (M i))) 39 0 (((up2 CI 11 (f_Core_room CI c li) (mown (M i))) 39 0) + 1)) 15 (f_Core_room CI c li) (((up2 CI 11 (f_Core_room CI c li) (mown (M i))) 39 0) + 1)) (up2 CL 14 (f_Core_room CI c li) (mtb (M i))) CR M n _ c (f_Core_room CI c li) (by omega) (by omega)) wk_Core_perform wi_Core wm_Answer_69 wx_Core_perform ws_Core_Core_perform (by decide +kernel) rfl rfl ⟨(Nat.le_of_ble_eq_true rfl), (Nat.le_of_ble_eq_true rfl)⟩ ⟨(Nat.le_of_ble_eq_true rfl), (Nat.le_of_ble_eq_true rfl)⟩ (crecv_Core X w c (by omega)) rfl hl.1 rfl (Nat.le_of_ble_eq_true rfl) d_Answer_arrive_86) (fun u H locs hp w => ?_)
    obtain rfl := hp
    have w : Wo D _ (cwm ac o ad al ((f_Core_perform (up2 (up2 (up2 CI 11 (f_Core_room CI c li) (mown (M i))) 39 0 (((up2 CI 11 (f_Core_room CI c li) (mown (M i))) 39 0) + 1)) 15 (f_Core_room CI c li) (((up2 CI 11 (f_Core_room CI c li) (mown (M i))) 39 0) + 1)) (up2 CL 14 (f_Core_room CI c li) (mtb (M i))) c (f_Core_room CI c li)).1) ((f_Core_perform (up2 (up2 (up2 CI 11 (f_Core_room CI c li) (mown (M i))) 39 0 (((up2 CI 11 (f_Core_room CI c li) (mown (M i))) 39 0) + 1)) 15 (f_Core_room CI c li) (((up2 CI 11 (f_Core_room CI c li) (mown (M i))) 39 0) + 1)) (up2 CL 14 (f_Core_room CI c li) (mtb (M i))) c (f_Core_room CI c li)).2) CR M n) s.heap _ _ := w
    refine lv_iconst (v := 1) hx hb d_Answer_arrive_89 (by decide) ?_
    have hF : f_Answer_arrive CI CL CR M n i c li mm = (1, (f_Core_perform (up2 (up2 (up2 CI 11 (f_Core_room CI c li) (mown (M i))) 39 0 (((up2 CI 11 (f_Core_room CI c li) (mown (M i))) 39 0) + 1)) 15 (f_Core_room CI c li) (((up2 CI 11 (f_Core_room CI c li) (mown (M i))) 39 0) + 1)) (up2 CL 14 (f_Core_room CI c li) (mtb (M i))) c (f_Core_room CI c li)).1, (f_Core_perform (up2 (up2 (up2 CI 11 (f_Core_room CI c li) (mown (M i))) 39 0 (((up2 CI 11 (f_Core_room CI c li) (mown (M i))) 39 0) + 1)) 15 (f_Core_room CI c li) (((up2 CI 11 (f_Core_room CI c li) (mown (M i))) 39 0) + 1)) (up2 CL 14 (f_Core_room CI c li) (mtb (M i))) c (f_Core_room CI c li)).2, CR, M, n) := by unfold f_Answer_arrive; rw [if_pos h2]
    refine W.widen (k := 1) (n := 7) (Nat.le_of_ble_eq_true rfl) (Nat.le_of_ble_eq_true rfl) ?_
    exact kzret X w hr hk (by decide) ⟨al, hal, by rw [hF]; exact hn, by rw [hF]; exact hok, by rw [hF], by rw [hF]⟩ d_Answer_arrive_90
def f_Call_arrive (CI : Nat → Nat → Int32) (CL : Nat → Nat → Int64) (CR : Nat → Nat → Option Nat) (M : Nat → Msg) (n : Nat) (i : Nat) (c : Nat) (mm : Nat) : Int32 × (Nat → Nat → Int32) × (Nat → Nat → Int64) × (Nat → Nat → Option Nat) × (Nat → Msg) × (Nat) :=
  oc ((f_Core_find CI c (mline (M i)))) (
    if (CI 1 c) = 0 then
      (1, CI, CL, CR, M, n)
    else
      if (CI 3 c) = (mline (M i)) then
        (0, CI, CL, CR, M, n)
      else
        (1, CI, CL, CR, M, n))
    (fun y3 =>
    if (CI 11 y3) = 0 then
      if (CI 1 c) = 0 then
        (1, CI, CL, CR, M, n)
      else
        if (CI 3 c) = (mline (M i)) then
          (0, CI, CL, CR, M, n)
        else
          (1, CI, CL, CR, M, n)
    else
      if (mkind (M i)) = 5 then
        (1, up2 (up2 CI 11 y3 0) 38 0 (nI (mm + 1)), up2 CL 14 y3 (if (if (mta (M i)) < ((CL 13 y3) + ((CI 36 0).toInt64)) then ((CL 13 y3) + ((CI 36 0).toInt64)) else (mta (M i))) < (CL 14 y3) then (CL 14 y3) else (if (mta (M i)) < ((CL 13 y3) + ((CI 36 0).toInt64)) then ((CL 13 y3) + ((CI 36 0).toInt64)) else (mta (M i)))), up2 CR 3 mm (some n), upM M n (7, 8, (up2 CI 11 y3 0) 10 y3, some c, (up2 CI 11 y3 0) 12 y3, (up2 CL 14 y3 (if (if (mta (M i)) < ((CL 13 y3) + ((CI 36 0).toInt64)) then ((CL 13 y3) + ((CI 36 0).toInt64)) else (mta (M i))) < (CL 14 y3) then (CL 14 y3) else (if (mta (M i)) < ((CL 13 y3) + ((CI 36 0).toInt64)) then ((CL 13 y3) + ((CI 36 0).toInt64)) else (mta (M i))))) 13 y3, (up2 CL 14 y3 (if (if (mta (M i)) < ((CL 13 y3) + ((CI 36 0).toInt64)) then ((CL 13 y3) + ((CI 36 0).toInt64)) else (mta (M i))) < (CL 14 y3) then (CL 14 y3) else (if (mta (M i)) < ((CL 13 y3) + ((CI 36 0).toInt64)) then ((CL 13 y3) + ((CI 36 0).toInt64)) else (mta (M i))))) 14 y3, 0), n + 1)
      else
        (1, up2 (up2 (up2 CI 38 0 (nI (mm + 1))) 10 y3 (-1)) 11 y3 0, CL, up2 CR 3 mm (some n), upM M n (7, 7, CI 10 y3, some c, CI 12 y3, CL 13 y3, CL 14 y3, 0), n + 1))
set_option maxHeartbeats 4000000 in
set_option maxRecDepth 100000 in
theorem c_Call_arrive (l : Launch) (D : va_G) (ac : Nat → ClassId) (o : Nat) (ad : Nat → Nat) (al : Nat → Nat) (CI : Nat → Nat → Int32) (CL : Nat → Nat → Int64) (CR : Nat → Nat → Option Nat) (M : Nat → Msg) (n : Nat) (sz : Nat) (i : Nat) (c : Nat) (mm : Nat) (hi : i < n) (hcl : mcls (M i) = 6) (hco : mcore (M i) = some c) (hc : c < 3) (hm : CI 38 0 = nI mm) (hmm : mm < 24) (hok : CRok CR n) : Met l y_Call_arrive [Cond.code y_Call_arrive b_Call_arrive 4 (some .boolean)] { frames := 3, cells := 1, slots := 7, locals := 76 } (va_Pc [.ref (al i), .ref o] (CPre D ac (cwm ac o ad al CI CL CR M n) sz)) (va_Qi (fun r u => ∃ a9 : Nat → Nat, (∀ i, i < n → a9 i = al i) ∧ n ≤ (f_Call_arrive CI CL CR M n i c mm).2.2.2.2.2 ∧ CRok ((f_Call_arrive CI CL CR M n i c mm).2.2.2.1) ((f_Call_arrive CI CL CR M n i c mm).2.2.2.2.2) ∧ r = (f_Call_arrive CI CL CR M n i c mm).1 ∧ u = cwm ac o ad a9 ((f_Call_arrive CI CL CR M n i c mm).2.1) ((f_Call_arrive CI CL CR M n i c mm).2.2.1) ((f_Call_arrive CI CL CR M n i c mm).2.2.2.1) ((f_Call_arrive CI CL CR M n i c mm).2.2.2.2.1) ((f_Call_arrive CI CL CR M n i c mm).2.2.2.2.2)) (CPost D (cwm ac o ad al CI CL CR M n) sz) (va_A (cwm ac o ad al CI CL CR M n) sz)) 1 7 (va_A (cwm ac o ad al CI CL CR M n) sz) := by
  refine kofW (by decide) (Nat.le_of_ble_eq_true rfl) ?_
  intro p ev s m args below meth c0 ls X hr hk hnm hex hsz w hl
  have X : Cx b_Call_arrive 4 R_Call D ac p m args c0 s := X
  have hx := X.1
  have hb := X.2.1
  have hl : lv_has ls 4 [(0, .ref (al i)), (1, .ref o)] := hl
  have hal : ∀ i, i < n → al i = al i := fun _ _ => rfl
  have hn : n ≤ n := Nat.le_refl n
  refine lv_aload_n hx hb d_Call_arrive_0 rfl (lv_at hl 0 rfl) ?_
  refine qg_Call_25 (m9 := (M i)) X w (hs_mem0 (i := i) (by omega)) hcl d_Call_arrive_1 ?_
  refine W.eq (congrArg (fun z => F0 m 4 ls [va_rf (rC ad z)]) hco) ?_
  refine W.eq (g2 := F0 m 4 ls [.ref (ad (4 + c))]) rfl ?_
  refine lv_aload_n hx hb d_Call_arrive_4 rfl (lv_at hl 0 rfl) ?_
  refine qg_Call_28 (m9 := (M i)) X w (hs_mem0 (i := i) (by omega)) hcl d_Call_arrive_5 ?_
  refine kcallq (ws0 := []) w (krunV (ws0 := []) (wc := cwm ac o ad al CI CL CR M n) (n := 1) (As := [.int (mline (M i))]) (rest := []) (C := R_Core) X w (c_Core_find l D ac o ad al CI CL CR M n _ c (mline (M i)) (by omega)) wk_Core_find wi_Core wm_Call_29 wx_Core_find ws_Core_Core_find (by decide +kernel) rfl rfl ⟨(Nat.le_of_ble_eq_true rfl), (Nat.le_of_ble_eq_true rfl)⟩ ⟨(Nat.le_of_ble_eq_true rfl), (Nat.le_of_ble_eq_true rfl)⟩ (crecv_Core X w c (by omega)) rfl hl.1 rfl (Nat.le_of_ble_eq_true rfl) d_Call_arrive_8) (fun r1 u H locs hp w => ?_)
  obtain ⟨rfl, rfl⟩ := hp
  have w : Wo D _ (cwm ac o ad al CI CL CR M n) s.heap _ _ := w
  cases ho2 : (f_Core_find CI c (mline (M i))) with
  | none =>
    refine W.eq (g2 := F0 m 11 ls [.null]) (by first | rfl | exact congrArg (fun z => F0 m 11 ls [va_rf (rP ad z)]) ho2) ?_
    refine lv_astore_nN (lv' := [(2, .null), (0, .ref (al i)), (1, .ref o)]) hx hb d_Call_arrive_11 rfl hl (by decide) rfl (fun ls hl => ?_)
    refine lv_aload_nN hx hb d_Call_arrive_12 rfl (lv_at hl 0 rfl) ?_
    refine lv_ifnullN (tgt := 27) hx hb d_Call_arrive_13 (by decide) ?_
    refine lv_iconst (v := 0) hx hb d_Call_arrive_27 (by decide) ?_
    refine lv_istore_n (lv' := [(3, .int 0), (2, .null), (0, .ref (al i)), (1, .ref o)]) hx hb d_Call_arrive_28 rfl hl (by decide) rfl (fun ls hl => ?_)
    refine lv_iload_n hx hb d_Call_arrive_29 rfl (lv_at hl 0 rfl) ?_
    refine lv_if_ne (tgt := 63) hx hb d_Call_arrive_30 (by decide) (fun h => absurd h (by decide)) (fun _ => ?_)
    refine lv_aload_n hx hb d_Call_arrive_33 rfl (lv_at hl 2 rfl) ?_
    refine qg_Call_25 (m9 := (M i)) X w (hs_mem0 (i := i) (by omega)) hcl d_Call_arrive_34 ?_
    refine W.eq (congrArg (fun z => F0 m 37 ls [va_rf (rC ad z)]) hco) ?_
    refine W.eq (g2 := F0 m 37 ls [.ref (ad (4 + c))]) rfl ?_
    refine cg_Call_41 X w c (by omega) (v := CI 1 c) rfl d_Call_arrive_37 ?_
    refine lv_if_eq (tgt := 57) hx hb d_Call_arrive_40 (by decide) (fun h4 => ?_) (fun h4 => ?_)
    · skip
      refine lv_iconst (v := 1) hx hb d_Call_arrive_57 (by decide) ?_
      refine lv_goto (tgt := 62) hx hb d_Call_arrive_58 (by decide) ?_
      have hF : f_Call_arrive CI CL CR M n i c mm = (1, CI, CL, CR, M, n) := by unfold f_Call_arrive; rw [ho2, oc_none, if_pos h4]
      refine W.widen (k := 1) (n := 7) (Nat.le_of_ble_eq_true rfl) (Nat.le_of_ble_eq_true rfl) ?_
      exact kzret X w hr hk (by decide) ⟨al, hal, by rw [hF]; exact hn, by rw [hF]; exact hok, by rw [hF], by rw [hF]⟩ d_Call_arrive_62
    · skip
      refine lv_aload_n hx hb d_Call_arrive_43 rfl (lv_at hl 2 rfl) ?_
      refine qg_Call_25 (m9 := (M i)) X w (hs_mem0 (i := i) (by omega)) hcl d_Call_arrive_44 ?_
      refine W.eq (congrArg (fun z => F0 m 47 ls [va_rf (rC ad z)]) hco) ?_
      refine W.eq (g2 := F0 m 47 ls [.ref (ad (4 + c))]) rfl ?_
      refine cg_Call_44 X w c (by omega) (v := CI 3 c) rfl d_Call_arrive_47 ?_
      refine lv_aload_n hx hb d_Call_arrive_50 rfl (lv_at hl 2 rfl) ?_
      refine qg_Call_28 (m9 := (M i)) X w (hs_mem0 (i := i) (by omega)) hcl d_Call_arrive_51 ?_
      refine lv_icmp_eq (tgt := 61) hx hb d_Call_arrive_54 (by decide) (fun h5 => ?_) (fun h5 => ?_)
      · skip
        refine lv_iconst (v := 0) hx hb d_Call_arrive_61 (by decide) ?_
        have hF : f_Call_arrive CI CL CR M n i c mm = (0, CI, CL, CR, M, n) := by unfold f_Call_arrive; rw [ho2, oc_none, if_neg h4, if_pos h5]
        refine W.widen (k := 1) (n := 7) (Nat.le_of_ble_eq_true rfl) (Nat.le_of_ble_eq_true rfl) ?_
        exact kzret X w hr hk (by decide) ⟨al, hal, by rw [hF]; exact hn, by rw [hF]; exact hok, by rw [hF], by rw [hF]⟩ d_Call_arrive_62
      · skip
        refine lv_iconst (v := 1) hx hb d_Call_arrive_57 (by decide) ?_
        refine lv_goto (tgt := 62) hx hb d_Call_arrive_58 (by decide) ?_
        have hF : f_Call_arrive CI CL CR M n i c mm = (1, CI, CL, CR, M, n) := by unfold f_Call_arrive; rw [ho2, oc_none, if_neg h4, if_neg h5]
        refine W.widen (k := 1) (n := 7) (Nat.le_of_ble_eq_true rfl) (Nat.le_of_ble_eq_true rfl) ?_
        exact kzret X w hr hk (by decide) ⟨al, hal, by rw [hF]; exact hn, by rw [hF]; exact hok, by rw [hF], by rw [hF]⟩ d_Call_arrive_62
  | some y3 =>
    refine W.eq (g2 := F0 m 11 ls [.ref (ad (10 + y3))]) (by first | rfl | exact congrArg (fun z => F0 m 11 ls [va_rf (rP ad z)]) ho2) ?_
    have hy3 := f_Core_find_lt ho2
    have hy3c := f_Core_find_line ho2
    refine lv_astore_n (lv' := [(2, .ref (ad (10 + y3))), (0, .ref (al i)), (1, .ref o)]) hx hb d_Call_arrive_11 rfl hl (by decide) rfl (fun ls hl => ?_)
    refine lv_aload_n hx hb d_Call_arrive_12 rfl (lv_at hl 0 rfl) ?_
    refine lv_ifnull hx hb d_Call_arrive_13 ?_
    refine lv_aload_n hx hb d_Call_arrive_16 rfl (lv_at hl 0 rfl) ?_
    refine cg_Call_35 X w y3 (by omega) (v := CI 11 y3) rfl d_Call_arrive_17 ?_
    refine lv_if_eq (tgt := 27) hx hb d_Call_arrive_20 (by decide) (fun h6 => ?_) (fun h6 => ?_)
    · skip
      refine lv_iconst (v := 0) hx hb d_Call_arrive_27 (by decide) ?_
      refine lv_istore_n (lv' := [(3, .int 0), (2, .ref (ad (10 + y3))), (0, .ref (al i)), (1, .ref o)]) hx hb d_Call_arrive_28 rfl hl (by decide) rfl (fun ls hl => ?_)
      refine lv_iload_n hx hb d_Call_arrive_29 rfl (lv_at hl 0 rfl) ?_
      refine lv_if_ne (tgt := 63) hx hb d_Call_arrive_30 (by decide) (fun h => absurd h (by decide)) (fun _ => ?_)
      refine lv_aload_n hx hb d_Call_arrive_33 rfl (lv_at hl 2 rfl) ?_
      refine qg_Call_25 (m9 := (M i)) X w (hs_mem0 (i := i) (by omega)) hcl d_Call_arrive_34 ?_
      refine W.eq (congrArg (fun z => F0 m 37 ls [va_rf (rC ad z)]) hco) ?_
      refine W.eq (g2 := F0 m 37 ls [.ref (ad (4 + c))]) rfl ?_
      refine cg_Call_41 X w c (by omega) (v := CI 1 c) rfl d_Call_arrive_37 ?_
      refine lv_if_eq (tgt := 57) hx hb d_Call_arrive_40 (by decide) (fun h7 => ?_) (fun h7 => ?_)
      · skip
        refine lv_iconst (v := 1) hx hb d_Call_arrive_57 (by decide) ?_
        refine lv_goto (tgt := 62) hx hb d_Call_arrive_58 (by decide) ?_
        have hF : f_Call_arrive CI CL CR M n i c mm = (1, CI, CL, CR, M, n) := by unfold f_Call_arrive; rw [ho2, oc_some, if_pos h6, if_pos h7]
        refine W.widen (k := 1) (n := 7) (Nat.le_of_ble_eq_true rfl) (Nat.le_of_ble_eq_true rfl) ?_
        exact kzret X w hr hk (by decide) ⟨al, hal, by rw [hF]; exact hn, by rw [hF]; exact hok, by rw [hF], by rw [hF]⟩ d_Call_arrive_62
      · skip
        refine lv_aload_n hx hb d_Call_arrive_43 rfl (lv_at hl 2 rfl) ?_
        refine qg_Call_25 (m9 := (M i)) X w (hs_mem0 (i := i) (by omega)) hcl d_Call_arrive_44 ?_
        refine W.eq (congrArg (fun z => F0 m 47 ls [va_rf (rC ad z)]) hco) ?_
        refine W.eq (g2 := F0 m 47 ls [.ref (ad (4 + c))]) rfl ?_
        refine cg_Call_44 X w c (by omega) (v := CI 3 c) rfl d_Call_arrive_47 ?_
        refine lv_aload_n hx hb d_Call_arrive_50 rfl (lv_at hl 2 rfl) ?_
        refine qg_Call_28 (m9 := (M i)) X w (hs_mem0 (i := i) (by omega)) hcl d_Call_arrive_51 ?_
        refine lv_icmp_eq (tgt := 61) hx hb d_Call_arrive_54 (by decide) (fun h8 => ?_) (fun h8 => ?_)
        · skip
          refine lv_iconst (v := 0) hx hb d_Call_arrive_61 (by decide) ?_
          have hF : f_Call_arrive CI CL CR M n i c mm = (0, CI, CL, CR, M, n) := by unfold f_Call_arrive; rw [ho2, oc_some, if_pos h6, if_neg h7, if_pos h8]
          refine W.widen (k := 1) (n := 7) (Nat.le_of_ble_eq_true rfl) (Nat.le_of_ble_eq_true rfl) ?_
          exact kzret X w hr hk (by decide) ⟨al, hal, by rw [hF]; exact hn, by rw [hF]; exact hok, by rw [hF], by rw [hF]⟩ d_Call_arrive_62
        · skip
          refine lv_iconst (v := 1) hx hb d_Call_arrive_57 (by decide) ?_
          refine lv_goto (tgt := 62) hx hb d_Call_arrive_58 (by decide) ?_
          have hF : f_Call_arrive CI CL CR M n i c mm = (1, CI, CL, CR, M, n) := by unfold f_Call_arrive; rw [ho2, oc_some, if_pos h6, if_neg h7, if_neg h8]
          refine W.widen (k := 1) (n := 7) (Nat.le_of_ble_eq_true rfl) (Nat.le_of_ble_eq_true rfl) ?_
          exact kzret X w hr hk (by decide) ⟨al, hal, by rw [hF]; exact hn, by rw [hF]; exact hok, by rw [hF], by rw [hF]⟩ d_Call_arrive_62
    · skip
      refine lv_iconst (v := 1) hx hb d_Call_arrive_23 (by decide) ?_
      refine lv_goto (tgt := 28) hx hb d_Call_arrive_24 (by decide) ?_
      refine lv_istore_n (lv' := [(3, .int 1), (2, .ref (ad (10 + y3))), (0, .ref (al i)), (1, .ref o)]) hx hb d_Call_arrive_28 rfl hl (by decide) rfl (fun ls hl => ?_)
      refine lv_iload_n hx hb d_Call_arrive_29 rfl (lv_at hl 0 rfl) ?_
      refine lv_if_ne (tgt := 63) hx hb d_Call_arrive_30 (by decide) (fun _ => ?_) (fun h => absurd h (by decide))
      refine lv_aload_n hx hb d_Call_arrive_63 rfl (lv_at hl 2 rfl) ?_
      refine qg_Call_45 (m9 := (M i)) X w (hs_mem0 (i := i) (by omega)) hcl d_Call_arrive_64 ?_
      refine lv_iconst (v := 5) hx hb d_Call_arrive_67 (by decide) ?_
      refine lv_icmp_ne (tgt := 125) hx hb d_Call_arrive_68 (by decide) (fun h9 => ?_) (fun h9 => ?_)
      · skip
        refine lv_aload_n hx hb d_Call_arrive_125 rfl (lv_at hl 3 rfl) ?_
        refine knew X w (C := R_Return) (T := F_Return) (N := 6) (ci := 7) rfl i_Return t_Return t_Return_ok wc_Call_63 wn_Return wi_Return (fs := [.int 0, .int 0, .null, .int 0, .long 0, .long 0]) (by decide) (Nat.le_of_ble_eq_true rfl) (Nat.le_of_ble_eq_true rfl) d_Call_arrive_126 (fun q10 H w => ?_)
        have w : Wo D _ (cws ac o ad CI CL (mapR al CR) (mtl ad al M n ++ [(q10, .inr (7, [.int 0, .int 0, .null, .int 0, .long 0, .long 0]))])) s.heap _ _ := w
        refine lv_dup hx hb d_Call_arrive_129 rfl ?_
        refine lv_bipush (v := 7) hx hb d_Call_arrive_130 (by decide) ?_
        refine lv_aload_n hx hb d_Call_arrive_132 rfl (lv_at hl 2 rfl) ?_
        refine qg_Call_25 (m9 := (M i)) X w (hs_mem (i := i) (by omega)) hcl d_Call_arrive_133 ?_
        refine W.eq (congrArg (fun z => F0 m 136 ls [va_rf (rC ad z), .int 7, .ref q10, .ref q10, .ref o]) hco) ?_
        refine W.eq (g2 := F0 m 136 ls [.ref (ad (4 + c)), .int 7, .ref q10, .ref q10, .ref o]) rfl ?_
        refine lv_aload_n hx hb d_Call_arrive_136 rfl (lv_at hl 1 rfl) ?_
        refine kcallv (ws0 := []) w (krunI (ws0 := []) (wc := cws ac o ad CI CL (mapR al CR) (mtl ad al M n ++ [(q10, .inr (7, [.int 0, .int 0, .null, .int 0, .long 0, .long 0]))])) (n := 3) (As := [.int 7, .ref (ad (4 + c)), .ref (ad (10 + y3))]) (rest := [.ref q10, .ref o]) X w (c_Return_init l D ac o ad CI CL (mapR al CR) (mtl ad al M n) q10 _ 7 c y3 (by omega)) wk_Return_init wi_Return wm_Call_65 wx_Return_init rfl (by decide +kernel) rfl rfl ⟨(Nat.le_of_ble_eq_true rfl), (Nat.le_of_ble_eq_true rfl)⟩ ⟨(Nat.le_of_ble_eq_true rfl), (Nat.le_of_ble_eq_true rfl)⟩ rfl hl.1 rfl (Nat.le_of_ble_eq_true rfl) d_Call_arrive_137) (fun u H locs hp w => ?_)
        obtain rfl := hp
        have w : Wo D _ (cws ac o ad CI CL (mapR al CR) (mtl ad al M n ++ [(q10, .inr (7, [.int 7, .int (CI 10 y3), .ref (ad (4 + c)), .int (CI 12 y3), .long (CL 13 y3), .long (CL 14 y3)]))])) s.heap _ _ := w
        obtain ⟨al11, hal9, hq12, w9⟩ := kjoinM (al := al) (CR := CR) (m := (7, 7, CI 10 y3, some c, CI 12 y3, CL 13 y3, CL 14 y3, 0)) w rfl hok
        clear w
        subst hq12
        have w := w9
        clear w9
        have hal : ∀ i, i < n → al11 i = al i := fun i h => (hal9 i (by omega)).trans (hal i h)
        have hok := crok_le hok (Nat.le_succ _)
        have hn : n ≤ n + 1 := by omega
        rw [← hal9 i (by omega)] at hl
        have hl : lv_has ls 4 [(3, .int 1), (2, .ref (ad (10 + y3))), (0, .ref (al11 i)), (1, .ref o)] := hl
        have w : Wo D _ (cwm ac o ad al11 CI CL CR (upM M n (7, 7, CI 10 y3, some c, CI 12 y3, CL 13 y3, CL 14 y3, 0)) (n + 1)) s.heap _ _ := w
        refine kcallv (ws0 := []) w (krunVN (ws0 := []) (wc := cwm ac o ad al11 CI CL CR (upM M n (7, 7, CI 10 y3, some c, CI 12 y3, CL 13 y3, CL 14 y3, 0)) (n + 1)) (n := 1) (As := [.ref (al11 n)]) (rest := []) (C := R_LC) X w (c_LC_send l D ac o ad al11 CI CL CR (upM M n (7, 7, CI 10 y3, some c, CI 12 y3, CL 13 y3, CL 14 y3, 0)) (n + 1) _ n mm hm (by omega) (by omega) hok) wk_LC_send wi_LC wmN_Call_68 wx_LC_send ws_LC_LC_send (by decide +kernel) rfl rfl ⟨(Nat.le_of_ble_eq_true rfl), (Nat.le_of_ble_eq_true rfl)⟩ ⟨(Nat.le_of_ble_eq_true rfl), (Nat.le_of_ble_eq_true rfl)⟩ (crecv X w) rfl hl.1 rfl (Nat.le_of_ble_eq_true rfl) d_Call_arrive_140) (fun u H locs hp w => ?_)
        obtain ⟨hok9, rfl⟩ := hp
        have hok := hok9
        have w : Wo D _ (cwm ac o ad al11 (up2 CI 38 0 (nI (mm + 1))) CL (up2 CR 3 mm (some n)) (upM M n (7, 7, CI 10 y3, some c, CI 12 y3, CL 13 y3, CL 14 y3, 0)) (n + 1)) s.heap _ _ := w
        refine lv_aload_n hx hb d_Call_arrive_143 rfl (lv_at hl 1 rfl) ?_
        refine lv_iconst (v := (-1)) hx hb d_Call_arrive_144 (by decide) ?_
        refine cp_Call_72 X w y3 (by omega) d_Call_arrive_145 (fun H locs w => ?_)
        refine lv_aload_n hx hb d_Call_arrive_148 rfl (lv_at hl 1 rfl) ?_
        refine lv_iconst (v := 0) hx hb d_Call_arrive_149 (by decide) ?_
        refine cp_Call_35 X w y3 (by omega) (by decide) d_Call_arrive_150 (fun H locs w => ?_)
        refine lv_iconst (v := 1) hx hb d_Call_arrive_153 (by decide) ?_
        have hF : f_Call_arrive CI CL CR M n i c mm = (1, up2 (up2 (up2 CI 38 0 (nI (mm + 1))) 10 y3 (-1)) 11 y3 0, CL, up2 CR 3 mm (some n), upM M n (7, 7, CI 10 y3, some c, CI 12 y3, CL 13 y3, CL 14 y3, 0), n + 1) := by unfold f_Call_arrive; rw [ho2, oc_some, if_neg h6, if_neg h9]
        refine W.widen (k := 1) (n := 7) (Nat.le_of_ble_eq_true rfl) (Nat.le_of_ble_eq_true rfl) ?_
        exact kzret X w hr hk (by decide) ⟨al11, hal, by rw [hF]; exact hn, by rw [hF]; exact hok, by rw [hF], by rw [hF]⟩ d_Call_arrive_154
      · skip
        refine lv_aload_n hx hb d_Call_arrive_71 rfl (lv_at hl 1 rfl) ?_
        refine lv_aload_n hx hb d_Call_arrive_72 rfl (lv_at hl 1 rfl) ?_
        refine cg_Call_48 X w y3 (by omega) (v := CL 14 y3) rfl d_Call_arrive_73 ?_
        refine lv_aload_n hx hb d_Call_arrive_76 rfl (lv_at hl 1 rfl) ?_
        refine cg_Call_51 X w y3 (by omega) (v := CL 13 y3) rfl d_Call_arrive_77 ?_
        refine lv_aload_n hx hb d_Call_arrive_80 rfl (lv_at hl 3 rfl) ?_
        refine cg_Call_54 X w (v := CI 36 0) rfl d_Call_arrive_81 ?_
        refine lv_i2l (v := (CI 36 0).toInt64) hx hb d_Call_arrive_84 (rfl) ?_
        refine lv_ladd hx hb d_Call_arrive_85 ?_
        refine lv_aload_n hx hb d_Call_arrive_86 rfl (lv_at hl 2 rfl) ?_
        refine qg_Call_19 (m9 := (M i)) X w (hs_mem0 (i := i) (by omega)) hcl d_Call_arrive_87 ?_
        refine kmaxJ X wm_Call_57 hl.1 (Nat.le_of_ble_eq_true rfl) (Nat.le_of_ble_eq_true rfl) (Nat.le_of_ble_eq_true rfl) (Nat.le_of_ble_eq_true rfl) (v := if (mta (M i)) < ((CL 13 y3) + ((CI 36 0).toInt64)) then ((CL 13 y3) + ((CI 36 0).toInt64)) else (mta (M i))) rfl d_Call_arrive_90 ?_
        refine kmaxJ X wm_Call_57 hl.1 (Nat.le_of_ble_eq_true rfl) (Nat.le_of_ble_eq_true rfl) (Nat.le_of_ble_eq_true rfl) (Nat.le_of_ble_eq_true rfl) (v := if (if (mta (M i)) < ((CL 13 y3) + ((CI 36 0).toInt64)) then ((CL 13 y3) + ((CI 36 0).toInt64)) else (mta (M i))) < (CL 14 y3) then (CL 14 y3) else (if (mta (M i)) < ((CL 13 y3) + ((CI 36 0).toInt64)) then ((CL 13 y3) + ((CI 36 0).toInt64)) else (mta (M i)))) rfl d_Call_arrive_93 ?_
        refine cp_Call_48 X w y3 (by omega) d_Call_arrive_96 (fun H locs w => ?_)
        refine lv_aload_n hx hb d_Call_arrive_99 rfl (lv_at hl 1 rfl) ?_
        refine lv_iconst (v := 0) hx hb d_Call_arrive_100 (by decide) ?_
        refine cp_Call_35 X w y3 (by omega) (by decide) d_Call_arrive_101 (fun H locs w => ?_)
        refine lv_aload_n hx hb d_Call_arrive_104 rfl (lv_at hl 3 rfl) ?_
        refine knew X w (C := R_Return) (T := F_Return) (N := 6) (ci := 7) rfl i_Return t_Return t_Return_ok wc_Call_63 wn_Return wi_Return (fs := [.int 0, .int 0, .null, .int 0, .long 0, .long 0]) (by decide) (Nat.le_of_ble_eq_true rfl) (Nat.le_of_ble_eq_true rfl) d_Call_arrive_105 (fun q13 H w => ?_)
        have w : Wo D _ (cws ac o ad (up2 CI 11 y3 0) (up2 CL 14 y3 (if (if (mta (M i)) < ((CL 13 y3) + ((CI 36 0).toInt64)) then ((CL 13 y3) + ((CI 36 0).toInt64)) else (mta (M i))) < (CL 14 y3) then (CL 14 y3) else (if (mta (M i)) < ((CL 13 y3) + ((CI 36 0).toInt64)) then ((CL 13 y3) + ((CI 36 0).toInt64)) else (mta (M i))))) (mapR al CR) (mtl ad al M n ++ [(q13, .inr (7, [.int 0, .int 0, .null, .int 0, .long 0, .long 0]))])) s.heap _ _ := w
        refine lv_dup hx hb d_Call_arrive_108 rfl ?_
        refine lv_bipush (v := 8) hx hb d_Call_arrive_109 (by decide) ?_
        refine lv_aload_n hx hb d_Call_arrive_111 rfl (lv_at hl 2 rfl) ?_
        refine qg_Call_25 (m9 := (M i)) X w (hs_mem (i := i) (by omega)) hcl d_Call_arrive_112 ?_
        refine W.eq (congrArg (fun z => F0 m 115 ls [va_rf (rC ad z), .int 8, .ref q13, .ref q13, .ref o]) hco) ?_
        refine W.eq (g2 := F0 m 115 ls [.ref (ad (4 + c)), .int 8, .ref q13, .ref q13, .ref o]) rfl ?_
        refine lv_aload_n hx hb d_Call_arrive_115 rfl (lv_at hl 1 rfl) ?_
        refine kcallv (ws0 := []) w (krunI (ws0 := []) (wc := cws ac o ad (up2 CI 11 y3 0) (up2 CL 14 y3 (if (if (mta (M i)) < ((CL 13 y3) + ((CI 36 0).toInt64)) then ((CL 13 y3) + ((CI 36 0).toInt64)) else (mta (M i))) < (CL 14 y3) then (CL 14 y3) else (if (mta (M i)) < ((CL 13 y3) + ((CI 36 0).toInt64)) then ((CL 13 y3) + ((CI 36 0).toInt64)) else (mta (M i))))) (mapR al CR) (mtl ad al M n ++ [(q13, .inr (7, [.int 0, .int 0, .null, .int 0, .long 0, .long 0]))])) (n := 3) (As := [.int 8, .ref (ad (4 + c)), .ref (ad (10 + y3))]) (rest := [.ref q13, .ref o]) X w (c_Return_init l D ac o ad (up2 CI 11 y3 0) (up2 CL 14 y3 (if (if (mta (M i)) < ((CL 13 y3) + ((CI 36 0).toInt64)) then ((CL 13 y3) + ((CI 36 0).toInt64)) else (mta (M i))) < (CL 14 y3) then (CL 14 y3) else (if (mta (M i)) < ((CL 13 y3) + ((CI 36 0).toInt64)) then ((CL 13 y3) + ((CI 36 0).toInt64)) else (mta (M i))))) (mapR al CR) (mtl ad al M n) q13 _ 8 c y3 (by omega)) wk_Return_init wi_Return wm_Call_65 wx_Return_init rfl (by decide +kernel) rfl rfl ⟨(Nat.le_of_ble_eq_true rfl), (Nat.le_of_ble_eq_true rfl)⟩ ⟨(Nat.le_of_ble_eq_true rfl), (Nat.le_of_ble_eq_true rfl)⟩ rfl hl.1 rfl (Nat.le_of_ble_eq_true rfl) d_Call_arrive_116) (fun u H locs hp w => ?_)
        obtain rfl := hp
        have w : Wo D _ (cws ac o ad (up2 CI 11 y3 0) (up2 CL 14 y3 (if (if (mta (M i)) < ((CL 13 y3) + ((CI 36 0).toInt64)) then ((CL 13 y3) + ((CI 36 0).toInt64)) else (mta (M i))) < (CL 14 y3) then (CL 14 y3) else (if (mta (M i)) < ((CL 13 y3) + ((CI 36 0).toInt64)) then ((CL 13 y3) + ((CI 36 0).toInt64)) else (mta (M i))))) (mapR al CR) (mtl ad al M n ++ [(q13, .inr (7, [.int 8, .int ((up2 CI 11 y3 0) 10 y3), .ref (ad (4 + c)), .int ((up2 CI 11 y3 0) 12 y3), .long ((up2 CL 14 y3 (if (if (mta (M i)) < ((CL 13 y3) + ((CI 36 0).toInt64)) then ((CL 13 y3) + ((CI 36 0).toInt64)) else (mta (M i))) < (CL 14 y3) then (CL 14 y3) else (if (mta (M i)) < ((CL 13 y3) + ((CI 36 0).toInt64)) then ((CL 13 y3) + ((CI 36 0).toInt64)) else (mta (M i))))) 13 y3), .long ((up2 CL 14 y3 (if (if (mta (M i)) < ((CL 13 y3) + ((CI 36 0).toInt64)) then ((CL 13 y3) + ((CI 36 0).toInt64)) else (mta (M i))) < (CL 14 y3) then (CL 14 y3) else (if (mta (M i)) < ((CL 13 y3) + ((CI 36 0).toInt64)) then ((CL 13 y3) + ((CI 36 0).toInt64)) else (mta (M i))))) 14 y3)]))])) s.heap _ _ := w
        obtain ⟨al14, hal9, hq15, w9⟩ := kjoinM (al := al) (CR := CR) (m := (7, 8, (up2 CI 11 y3 0) 10 y3, some c, (up2 CI 11 y3 0) 12 y3, (up2 CL 14 y3 (if (if (mta (M i)) < ((CL 13 y3) + ((CI 36 0).toInt64)) then ((CL 13 y3) + ((CI 36 0).toInt64)) else (mta (M i))) < (CL 14 y3) then (CL 14 y3) else (if (mta (M i)) < ((CL 13 y3) + ((CI 36 0).toInt64)) then ((CL 13 y3) + ((CI 36 0).toInt64)) else (mta (M i))))) 13 y3, (up2 CL 14 y3 (if (if (mta (M i)) < ((CL 13 y3) + ((CI 36 0).toInt64)) then ((CL 13 y3) + ((CI 36 0).toInt64)) else (mta (M i))) < (CL 14 y3) then (CL 14 y3) else (if (mta (M i)) < ((CL 13 y3) + ((CI 36 0).toInt64)) then ((CL 13 y3) + ((CI 36 0).toInt64)) else (mta (M i))))) 14 y3, 0)) w rfl hok
        clear w
        subst hq15
        have w := w9
        clear w9
        have hal : ∀ i, i < n → al14 i = al i := fun i h => (hal9 i (by omega)).trans (hal i h)
        have hok := crok_le hok (Nat.le_succ _)
        have hn : n ≤ n + 1 := by omega
        rw [← hal9 i (by omega)] at hl
        have hl : lv_has ls 4 [(3, .int 1), (2, .ref (ad (10 + y3))), (0, .ref (al14 i)), (1, .ref o)] := hl
        have w : Wo D _ (cwm ac o ad al14 (up2 CI 11 y3 0) (up2 CL 14 y3 (if (if (mta (M i)) < ((CL 13 y3) + ((CI 36 0).toInt64)) then ((CL 13 y3) + ((CI 36 0).toInt64)) else (mta (M i))) < (CL 14 y3) then (CL 14 y3) else (if (mta (M i)) < ((CL 13 y3) + ((CI 36 0).toInt64)) then ((CL 13 y3) + ((CI 36 0).toInt64)) else (mta (M i))))) CR (upM M n (7, 8, (up2 CI 11 y3 0) 10 y3, some c, (up2 CI 11 y3 0) 12 y3, (up2 CL 14 y3 (if (if (mta (M i)) < ((CL 13 y3) + ((CI 36 0).toInt64)) then ((CL 13 y3) + ((CI 36 0).toInt64)) else (mta (M i))) < (CL 14 y3) then (CL 14 y3) else (if (mta (M i)) < ((CL 13 y3) + ((CI 36 0).toInt64)) then ((CL 13 y3) + ((CI 36 0).toInt64)) else (mta (M i))))) 13 y3, (up2 CL 14 y3 (if (if (mta (M i)) < ((CL 13 y3) + ((CI 36 0).toInt64)) then ((CL 13 y3) + ((CI 36 0).toInt64)) else (mta (M i))) < (CL 14 y3) then (CL 14 y3) else (if (mta (M i)) < ((CL 13 y3) + ((CI 36 0).toInt64)) then ((CL 13 y3) + ((CI 36 0).toInt64)) else (mta (M i))))) 14 y3, 0)) (n + 1)) s.heap _ _ := w
        refine kcallv (ws0 := []) w (krunVN (ws0 := []) (wc := cwm ac o ad al14 (up2 CI 11 y3 0) (up2 CL 14 y3 (if (if (mta (M i)) < ((CL 13 y3) + ((CI 36 0).toInt64)) then ((CL 13 y3) + ((CI 36 0).toInt64)) else (mta (M i))) < (CL 14 y3) then (CL 14 y3) else (if (mta (M i)) < ((CL 13 y3) + ((CI 36 0).toInt64)) then ((CL 13 y3) + ((CI 36 0).toInt64)) else (mta (M i))))) CR (upM M n (7, 8, (up2 CI 11 y3 0) 10 y3, some c, (up2 CI 11 y3 0) 12 y3, (up2 CL 14 y3 (if (if (mta (M i)) < ((CL 13 y3) + ((CI 36 0).toInt64)) then ((CL 13 y3) + ((CI 36 0).toInt64)) else (mta (M i))) < (CL 14 y3) then (CL 14 y3) else (if (mta (M i)) < ((CL 13 y3) + ((CI 36 0).toInt64)) then ((CL 13 y3) + ((CI 36 0).toInt64)) else (mta (M i))))) 13 y3, (up2 CL 14 y3 (if (if (mta (M i)) < ((CL 13 y3) + ((CI 36 0).toInt64)) then ((CL 13 y3) + ((CI 36 0).toInt64)) else (mta (M i))) < (CL 14 y3) then (CL 14 y3) else (if (mta (M i)) < ((CL 13 y3) + ((CI 36 0).toInt64)) then ((CL 13 y3) + ((CI 36 0).toInt64)) else (mta (M i))))) 14 y3, 0)) (n + 1)) (n := 1) (As := [.ref (al14 n)]) (rest := []) (C := R_LC) X w (c_LC_send l D ac o ad al14 (up2 CI 11 y3 0) (up2 CL 14 y3 (if (if (mta (M i)) < ((CL 13 y3) + ((CI 36 0).toInt64)) then ((CL 13 y3) + ((CI 36 0).toInt64)) else (mta (M i))) < (CL 14 y3) then (CL 14 y3) else (if (mta (M i)) < ((CL 13 y3) + ((CI 36 0).toInt64)) then ((CL 13 y3) + ((CI 36 0).toInt64)) else (mta (M i))))) CR (upM M n (7, 8, (up2 CI 11 y3 0) 10 y3, some c, (up2 CI 11 y3 0) 12 y3, (up2 CL 14 y3 (if (if (mta (M i)) < ((CL 13 y3) + ((CI 36 0).toInt64)) then ((CL 13 y3) + ((CI 36 0).toInt64)) else (mta (M i))) < (CL 14 y3) then (CL 14 y3) else (if (mta (M i)) < ((CL 13 y3) + ((CI 36 0).toInt64)) then ((CL 13 y3) + ((CI 36 0).toInt64)) else (mta (M i))))) 13 y3, (up2 CL 14 y3 (if (if (mta (M i)) < ((CL 13 y3) + ((CI 36 0).toInt64)) then ((CL 13 y3) + ((CI 36 0).toInt64)) else (mta (M i))) < (CL 14 y3) then (CL 14 y3) else (if (mta (M i)) < ((CL 13 y3) + ((CI 36 0).toInt64)) then ((CL 13 y3) + ((CI 36 0).toInt64)) else (mta (M i))))) 14 y3, 0)) (n + 1) _ n mm hm (by omega) (by omega) hok) wk_LC_send wi_LC wmN_Call_68 wx_LC_send ws_LC_LC_send (by decide +kernel) rfl rfl ⟨(Nat.le_of_ble_eq_true rfl), (Nat.le_of_ble_eq_true rfl)⟩ ⟨(Nat.le_of_ble_eq_true rfl), (Nat.le_of_ble_eq_true rfl)⟩ (crecv X w) rfl hl.1 rfl (Nat.le_of_ble_eq_true rfl) d_Call_arrive_119) (fun u H locs hp w => ?_)
        obtain ⟨hok9, rfl⟩ := hp
        have hok := hok9
        have w : Wo D _ (cwm ac o ad al14 (up2 (up2 CI 11 y3 0) 38 0 (nI (mm + 1))) (up2 CL 14 y3 (if (if (mta (M i)) < ((CL 13 y3) + ((CI 36 0).toInt64)) then ((CL 13 y3) + ((CI 36 0).toInt64)) else (mta (M i))) < (CL 14 y3) then (CL 14 y3) else (if (mta (M i)) < ((CL 13 y3) + ((CI 36 0).toInt64)) then ((CL 13 y3) + ((CI 36 0).toInt64)) else (mta (M i))))) (up2 CR 3 mm (some n)) (upM M n (7, 8, (up2 CI 11 y3 0) 10 y3, some c, (up2 CI 11 y3 0) 12 y3, (up2 CL 14 y3 (if (if (mta (M i)) < ((CL 13 y3) + ((CI 36 0).toInt64)) then ((CL 13 y3) + ((CI 36 0).toInt64)) else (mta (M i))) < (CL 14 y3) then (CL 14 y3) else (if (mta (M i)) < ((CL 13 y3) + ((CI 36 0).toInt64)) then ((CL 13 y3) + ((CI 36 0).toInt64)) else (mta (M i))))) 13 y3, (up2 CL 14 y3 (if (if (mta (M i)) < ((CL 13 y3) + ((CI 36 0).toInt64)) then ((CL 13 y3) + ((CI 36 0).toInt64)) else (mta (M i))) < (CL 14 y3) then (CL 14 y3) else (if (mta (M i)) < ((CL 13 y3) + ((CI 36 0).toInt64)) then ((CL 13 y3) + ((CI 36 0).toInt64)) else (mta (M i))))) 14 y3, 0)) (n + 1)) s.heap _ _ := w
        refine lv_goto (tgt := 153) hx hb d_Call_arrive_122 (by decide) ?_
        refine lv_iconst (v := 1) hx hb d_Call_arrive_153 (by decide) ?_
        have hF : f_Call_arrive CI CL CR M n i c mm = (1, up2 (up2 CI 11 y3 0) 38 0 (nI (mm + 1)), up2 CL 14 y3 (if (if (mta (M i)) < ((CL 13 y3) + ((CI 36 0).toInt64)) then ((CL 13 y3) + ((CI 36 0).toInt64)) else (mta (M i))) < (CL 14 y3) then (CL 14 y3) else (if (mta (M i)) < ((CL 13 y3) + ((CI 36 0).toInt64)) then ((CL 13 y3) + ((CI 36 0).toInt64)) else (mta (M i)))), up2 CR 3 mm (some n), upM M n (7, 8, (up2 CI 11 y3 0) 10 y3, some c, (up2 CI 11 y3 0) 12 y3, (up2 CL 14 y3 (if (if (mta (M i)) < ((CL 13 y3) + ((CI 36 0).toInt64)) then ((CL 13 y3) + ((CI 36 0).toInt64)) else (mta (M i))) < (CL 14 y3) then (CL 14 y3) else (if (mta (M i)) < ((CL 13 y3) + ((CI 36 0).toInt64)) then ((CL 13 y3) + ((CI 36 0).toInt64)) else (mta (M i))))) 13 y3, (up2 CL 14 y3 (if (if (mta (M i)) < ((CL 13 y3) + ((CI 36 0).toInt64)) then ((CL 13 y3) + ((CI 36 0).toInt64)) else (mta (M i))) < (CL 14 y3) then (CL 14 y3) else (if (mta (M i)) < ((CL 13 y3) + ((CI 36 0).toInt64)) then ((CL 13 y3) + ((CI 36 0).toInt64)) else (mta (M i))))) 14 y3, 0), n + 1) := by unfold f_Call_arrive; rw [ho2, oc_some, if_neg h6, if_pos h9]
        refine W.widen (k := 1) (n := 7) (Nat.le_of_ble_eq_true rfl) (Nat.le_of_ble_eq_true rfl) ?_
        exact kzret X w hr hk (by decide) ⟨al14, hal, by rw [hF]; exact hn, by rw [hF]; exact hok, by rw [hF], by rw [hF]⟩ d_Call_arrive_154
