theorem f_LC_serve_k {CI : Nat → Nat → Int32} {CL : Nat → Nat → Int64} {CR : Nat → Nat → Option Nat} {M : Nat → Msg} {n : Nat} {e i mm k : Nat} (hk : k ≠ 38) : (f_LC_serve CI CL CR M n e i mm).1 k = CI k := by
  unfold f_LC_serve
  cases CR 0 e <;> simp only [oc_none, oc_some] <;> repeat' split
  all_goals first | rfl | (funext j; simp [up2, hk])
theorem f_LC_serve_hm {CI : Nat → Nat → Int32} {CL : Nat → Nat → Int64} {CR : Nat → Nat → Option Nat} {M : Nat → Msg} {n : Nat} {e i mm : Nat} (hm : CI 38 0 = nI mm) : (f_LC_serve CI CL CR M n e i mm).1 38 0 = nI mm ∨ (f_LC_serve CI CL CR M n e i mm).1 38 0 = nI (mm + 1) := by
  unfold f_LC_serve
  cases CR 0 e <;> simp only [oc_none, oc_some] <;> repeat' split
  all_goals first | exact Or.inl hm | (right; simp [up2])
theorem f_LC_serve_R {CI : Nat → Nat → Int32} {CL : Nat → Nat → Int64} {CR : Nat → Nat → Option Nat} {M : Nat → Msg} {n : Nat} {e i mm k : Nat} (hk : 4 ≤ k) : (f_LC_serve CI CL CR M n e i mm).2.2.1 k = CR k := by
  have h0 : k ≠ 0 := by omega
  have h1 : k ≠ 1 := by omega
  have h3 : k ≠ 3 := by omega
  unfold f_LC_serve
  cases CR 0 e <;> simp only [oc_none, oc_some] <;> repeat' split
  all_goals (funext j; simp [up2, h0, h1, h3])
theorem f_LC_serve_M {CI : Nat → Nat → Int32} {CL : Nat → Nat → Int64} {CR : Nat → Nat → Option Nat} {M : Nat → Msg} {n : Nat} {e i mm q : Nat} (hq : q < n) : (f_LC_serve CI CL CR M n e i mm).2.2.2.1 q = M q := by
  have h0 : q ≠ n := by omega
  unfold f_LC_serve
  cases CR 0 e <;> simp only [oc_none, oc_some] <;> repeat' split
  all_goals first | rfl | simp [upM, h0]
theorem f_LC_leave_M {CI : Nat → Nat → Int32} {CL : Nat → Nat → Int64} {CR : Nat → Nat → Option Nat} {M : Nat → Msg} {n : Nat} {c y mm q : Nat} {li : Int32} (hq : q < n) : (f_LC_leave CI CL CR M n c y li mm).2.2.1 q = M q := by
  have h0 : q ≠ n := by omega
  unfold f_LC_leave
  repeat' split
  all_goals first | rfl | simp [upM, h0]
theorem f_LC_entryOf_none {CI : Nat → Nat → Int32} {a : Int32} (h : f_LC_entryOf CI a = none) : ∀ k, k < 6 → CI 16 k ≠ a := by
  intro k hk
  unfold f_LC_entryOf at h
  repeat' split at h
  all_goals first | (cases h; done) | skip
  match k, hk with
  | 0, _ => assumption
  | 1, _ => assumption
  | 2, _ => assumption
  | 3, _ => assumption
  | 4, _ => assumption
  | 5, _ => assumption
theorem hs_eq {ws : va_W} {q : Nat} {ad : Nat → Nat} {a b : Msg} (h : Hs ws q (mcell ad a)) (e : a = b) : Hs ws q (mcell ad b) := e ▸ h
def f_LC_newEntry (CI : Nat → Nat → Int32) (CL : Nat → Nat → Int64) (CR : Nat → Nat → Option Nat) (M : Nat → Msg) (n : Nat) (li : Nat) (mm : Nat) : Option Nat × (Nat → Nat → Int32) × (Nat → Nat → Int64) × (Nat → Nat → Option Nat) × (Nat → Msg) × (Nat) :=
  oc ((f_LC_entryOf CI (-1))) (
    oc ((f_LC_least CI CL CR 0)) (
      (none, (f_LC_call CI CL CR M n mm).1, CL, (f_LC_call CI CL CR M n mm).2.1, (f_LC_call CI CL CR M n mm).2.2.1, (f_LC_call CI CL CR M n mm).2.2.2))
      (fun y6 =>
      (some y6, up2 (up2 (up2 (up2 CI 27 (tn (CI 16 y6)) (CI 17 y6)) 16 y6 (nI li)) 17 y6 ((up2 CI 27 (tn (CI 16 y6)) (CI 17 y6)) 27 li)) 21 y6 0, up2 (up2 (up2 CL 35 0 (if (CL 19 y6) < (CL 35 0) then (CL 35 0) else (CL 19 y6))) 18 y6 (if (CL 19 y6) < (CL 35 0) then (CL 35 0) else (CL 19 y6))) 19 y6 (if (CL 19 y6) < (CL 35 0) then (CL 35 0) else (CL 19 y6)), CR, M, n)))
    (fun y3 =>
    (some y3, up2 (up2 (up2 CI 16 y3 (nI li)) 17 y3 (CI 27 li)) 21 y3 0, up2 (up2 CL 18 y3 (CL 35 0)) 19 y3 (CL 35 0), CR, M, n))
set_option maxHeartbeats 4000000 in
set_option maxRecDepth 100000 in
theorem c_LC_newEntry (l : Launch) (D : va_G) (ac : Nat → ClassId) (o : Nat) (ad : Nat → Nat) (al : Nat → Nat) (CI : Nat → Nat → Int32) (CL : Nat → Nat → Int64) (CR : Nat → Nat → Option Nat) (M : Nat → Msg) (n : Nat) (sz : Nat) (li : Nat) (mm : Nat) (hli : li < 12) (hel : ∀ k, k < 6 → CI 16 k = -1 ∨ (CI 16 k = nI (tn (CI 16 k)) ∧ tn (CI 16 k) < 12)) (hm : CI 38 0 = nI mm) (hmm : mm < 24) (hok : CRok CR n) : Met l y_LC_newEntry [Cond.code y_LC_newEntry b_LC_newEntry 3 (some (.object "LeaseCores$Entry"))] { frames := 4, cells := 1, slots := 7, locals := 99 } (va_Pc [.ref o, .int (nI li)] (CPre D ac (cwm ac o ad al CI CL CR M n) sz)) (va_Qq (fun r u => ∃ a9 : Nat → Nat, (∀ i, i < n → a9 i = al i) ∧ n ≤ (f_LC_newEntry CI CL CR M n li mm).2.2.2.2.2 ∧ CRok ((f_LC_newEntry CI CL CR M n li mm).2.2.2.1) ((f_LC_newEntry CI CL CR M n li mm).2.2.2.2.2) ∧ r = rE ad ((f_LC_newEntry CI CL CR M n li mm).1) ∧ u = cwm ac o ad a9 ((f_LC_newEntry CI CL CR M n li mm).2.1) ((f_LC_newEntry CI CL CR M n li mm).2.2.1) ((f_LC_newEntry CI CL CR M n li mm).2.2.2.1) ((f_LC_newEntry CI CL CR M n li mm).2.2.2.2.1) ((f_LC_newEntry CI CL CR M n li mm).2.2.2.2.2)) (CPost D (cwm ac o ad al CI CL CR M n) sz) (va_A (cwm ac o ad al CI CL CR M n) sz)) 1 7 (va_A (cwm ac o ad al CI CL CR M n) sz) := by
  refine kofW (by decide) (Nat.le_of_ble_eq_true rfl) ?_
  intro p ev s m args below meth c0 ls X hr hk hnm hex hsz w hl
  have X : Cx b_LC_newEntry 3 R_LC D ac p m args c0 s := X
  have hx := X.1
  have hb := X.2.1
  have hl : lv_has ls 3 [(0, .ref o), (1, .int (nI li))] := hl
  have hal : ∀ i, i < n → al i = al i := fun _ _ => rfl
  have hn : n ≤ n := Nat.le_refl n
  refine lv_aload_n hx hb d_LC_newEntry_0 rfl (lv_at hl 0 rfl) ?_
  refine lv_iconst (v := (-1)) hx hb d_LC_newEntry_1 (by decide) ?_
  refine kcallq (ws0 := []) w (krunV (ws0 := []) (wc := cwm ac o ad al CI CL CR M n) (n := 1) (As := [.int (-1)]) (rest := []) (C := R_LC) X w (c_LC_entryOf l D ac o ad al CI CL CR M n _ (-1)) wk_LC_entryOf wi_LC wm_LC_169 wx_LC_entryOf ws_LC_LC_entryOf (by decide +kernel) rfl rfl ⟨(Nat.le_of_ble_eq_true rfl), (Nat.le_of_ble_eq_true rfl)⟩ ⟨(Nat.le_of_ble_eq_true rfl), (Nat.le_of_ble_eq_true rfl)⟩ (crecv X w) rfl hl.1 rfl (Nat.le_of_ble_eq_true rfl) d_LC_newEntry_2) (fun r1 u H locs hp w => ?_)
  obtain ⟨rfl, rfl⟩ := hp
  have w : Wo D _ (cwm ac o ad al CI CL CR M n) s.heap _ _ := w
  cases ho2 : (f_LC_entryOf CI (-1)) with
  | none =>
    refine W.eq (g2 := F0 m 5 ls [.null]) (by first | rfl | exact congrArg (fun z => F0 m 5 ls [va_rf (rE ad z)]) ho2) ?_
    refine lv_astore_nN (lv' := [(2, .null), (0, .ref o), (1, .int (nI li))]) hx hb d_LC_newEntry_5 rfl hl (by decide) rfl (fun ls hl => ?_)
    refine lv_aload_nN hx hb d_LC_newEntry_6 rfl (lv_at hl 0 rfl) ?_
    refine lv_ifnonnullN hx hb d_LC_newEntry_7 ?_
    refine lv_aload_n hx hb d_LC_newEntry_10 rfl (lv_at hl 1 rfl) ?_
    refine lv_iconst (v := 0) hx hb d_LC_newEntry_11 (by decide) ?_
    refine kcallq (ws0 := []) w (krunV (ws0 := []) (wc := cwm ac o ad al CI CL CR M n) (n := 1) (As := [.int 0]) (rest := []) (C := R_LC) X w (c_LC_least l D ac o ad al CI CL CR M n _ 0) wk_LC_least wi_LC wm_LC_173 wx_LC_least ws_LC_LC_least (by decide +kernel) rfl rfl ⟨(Nat.le_of_ble_eq_true rfl), (Nat.le_of_ble_eq_true rfl)⟩ ⟨(Nat.le_of_ble_eq_true rfl), (Nat.le_of_ble_eq_true rfl)⟩ (crecv X w) rfl hl.1 rfl (Nat.le_of_ble_eq_true rfl) d_LC_newEntry_12) (fun r4 u H locs hp w => ?_)
    obtain ⟨rfl, rfl⟩ := hp
    have w : Wo D _ (cwm ac o ad al CI CL CR M n) s.heap _ _ := w
    cases ho5 : (f_LC_least CI CL CR 0) with
    | none =>
      refine W.eq (g2 := F0 m 15 ls [.null]) (by first | rfl | exact congrArg (fun z => F0 m 15 ls [va_rf (rE ad z)]) ho5) ?_
      refine lv_astore_nN (lv' := [(2, .null), (0, .ref o), (1, .int (nI li))]) hx hb d_LC_newEntry_15 rfl hl (by decide) rfl (fun ls hl => ?_)
      refine lv_aload_nN hx hb d_LC_newEntry_16 rfl (lv_at hl 0 rfl) ?_
      refine lv_ifnullN (tgt := 48) hx hb d_LC_newEntry_17 (by decide) ?_
      refine lv_aload_nN hx hb d_LC_newEntry_48 rfl (lv_at hl 0 rfl) ?_
      refine lv_ifnonnullN hx hb d_LC_newEntry_49 ?_
      refine lv_aload_n hx hb d_LC_newEntry_52 rfl (lv_at hl 1 rfl) ?_
      refine kcallv (ws0 := []) w (krunV (ws0 := []) (wc := cwm ac o ad al CI CL CR M n) (n := 0) (As := []) (rest := []) (C := R_LC) X w (c_LC_call l D ac o ad al CI CL CR M n _ mm hm (by omega) hok) wk_LC_call wi_LC wm_LC_186 wx_LC_call ws_LC_LC_call (by decide +kernel) rfl rfl ⟨(Nat.le_of_ble_eq_true rfl), (Nat.le_of_ble_eq_true rfl)⟩ ⟨(Nat.le_of_ble_eq_true rfl), (Nat.le_of_ble_eq_true rfl)⟩ (crecv X w) rfl hl.1 rfl (Nat.le_of_ble_eq_true rfl) d_LC_newEntry_53) (fun u H locs hp w => ?_)
      obtain ⟨al7, hal9, hn9, hok9, rfl⟩ := hp
      have hok := hok9
      have hal : ∀ i, i < n → al7 i = al i := fun i h => (hal9 i (by omega)).trans (hal i h)
      have hn : n ≤ (f_LC_call CI CL CR M n mm).2.2.2 := by omega
      have w : Wo D _ (cwm ac o ad al7 ((f_LC_call CI CL CR M n mm).1) CL ((f_LC_call CI CL CR M n mm).2.1) ((f_LC_call CI CL CR M n mm).2.2.1) ((f_LC_call CI CL CR M n mm).2.2.2)) s.heap _ _ := w
      refine lv_null hx hb d_LC_newEntry_56 ?_
      have hF : f_LC_newEntry CI CL CR M n li mm = (none, (f_LC_call CI CL CR M n mm).1, CL, (f_LC_call CI CL CR M n mm).2.1, (f_LC_call CI CL CR M n mm).2.2.1, (f_LC_call CI CL CR M n mm).2.2.2) := by unfold f_LC_newEntry; rw [ho2, oc_none, ho5, oc_none]
      refine W.widen (k := 1) (n := 7) (Nat.le_of_ble_eq_true rfl) (Nat.le_of_ble_eq_true rfl) ?_
      exact kqret (r := rE ad none) X w hr hk ⟨al7, hal, by rw [hF]; exact hn, by rw [hF]; exact hok, by rw [hF] <;> rfl, by rw [hF]⟩ d_LC_newEntry_57
    | some y6 =>
      refine W.eq (g2 := F0 m 15 ls [.ref (ad (22 + y6))]) (by first | rfl | exact congrArg (fun z => F0 m 15 ls [va_rf (rE ad z)]) ho5) ?_
      have hy6 : y6 < 6 := f_LC_least_lt ho5
      have hle := (hel y6 hy6).resolve_left (f_LC_entryOf_none ho2 y6 hy6)
      refine lv_astore_n (lv' := [(2, .ref (ad (22 + y6))), (0, .ref o), (1, .int (nI li))]) hx hb d_LC_newEntry_15 rfl hl (by decide) rfl (fun ls hl => ?_)
      refine lv_aload_n hx hb d_LC_newEntry_16 rfl (lv_at hl 0 rfl) ?_
      refine lv_ifnull hx hb d_LC_newEntry_17 ?_
      refine lv_aload_n hx hb d_LC_newEntry_20 rfl (lv_at hl 1 rfl) ?_
      refine cg_LC_21 X w d_LC_newEntry_21 ?_
      refine lv_aload_n hx hb d_LC_newEntry_24 rfl (lv_at hl 0 rfl) ?_
      refine cg_LC_157 X w y6 (by omega) (v := CI 16 y6) rfl d_LC_newEntry_25 ?_
      refine lv_aload_n hx hb d_LC_newEntry_28 rfl (lv_at hl 0 rfl) ?_
      refine cg_LC_177 X w y6 (by omega) (v := CI 17 y6) rfl d_LC_newEntry_29 ?_
      refine ct_memory X w (tn (CI 16 y6)) (by omega) hle.1 d_LC_newEntry_32 (fun H locs w => ?_)
      refine lv_aload_n hx hb d_LC_newEntry_33 rfl (lv_at hl 1 rfl) ?_
      refine lv_aload_n hx hb d_LC_newEntry_34 rfl (lv_at hl 1 rfl) ?_
      refine cg_LC_180 X w (v := CL 35 0) rfl d_LC_newEntry_35 ?_
      refine lv_aload_n hx hb d_LC_newEntry_38 rfl (lv_at hl 0 rfl) ?_
      refine cg_LC_166 X w y6 (by omega) (v := CL 19 y6) rfl d_LC_newEntry_39 ?_
      refine kmaxJ X wm_LC_183 hl.1 (Nat.le_of_ble_eq_true rfl) (Nat.le_of_ble_eq_true rfl) (Nat.le_of_ble_eq_true rfl) (Nat.le_of_ble_eq_true rfl) (v := if (CL 19 y6) < (CL 35 0) then (CL 35 0) else (CL 19 y6)) rfl d_LC_newEntry_42 ?_
      refine cp_LC_180 X w d_LC_newEntry_45 (fun H locs w => ?_)
      refine lv_aload_n hx hb d_LC_newEntry_48 rfl (lv_at hl 0 rfl) ?_
      refine lv_ifnonnull (tgt := 58) hx hb d_LC_newEntry_49 (by decide) ?_
      refine lv_aload_n hx hb d_LC_newEntry_58 rfl (lv_at hl 0 rfl) ?_
      refine lv_iload_n hx hb d_LC_newEntry_59 rfl (lv_at hl 2 rfl) ?_
      refine lv_aload_n hx hb d_LC_newEntry_60 rfl (lv_at hl 1 rfl) ?_
      refine cg_LC_21 X w d_LC_newEntry_61 ?_
      refine lv_iload_n hx hb d_LC_newEntry_64 rfl (lv_at hl 2 rfl) ?_
      refine cl_memory X w li (v := (up2 CI 27 (tn (CI 16 y6)) (CI 17 y6)) 27 li) (by omega) rfl rfl d_LC_newEntry_65 ?_
      refine lv_aload_n hx hb d_LC_newEntry_66 rfl (lv_at hl 1 rfl) ?_
      refine cg_LC_180 X w (v := if (CL 19 y6) < (CL 35 0) then (CL 35 0) else (CL 19 y6)) (by simp [up2]) d_LC_newEntry_67 ?_
      refine kcallv (ws0 := []) w (krunV (ws0 := []) (wc := cwm ac o ad al (up2 CI 27 (tn (CI 16 y6)) (CI 17 y6)) (up2 CL 35 0 (if (CL 19 y6) < (CL 35 0) then (CL 35 0) else (CL 19 y6))) CR M n) (n := 3) (As := [.int (nI li), .int ((up2 CI 27 (tn (CI 16 y6)) (CI 17 y6)) 27 li), .long (if (CL 19 y6) < (CL 35 0) then (CL 35 0) else (CL 19 y6))]) (rest := []) (C := R_Entry) X w (c_Entry_begin l D ac o ad al (up2 CI 27 (tn (CI 16 y6)) (CI 17 y6)) (up2 CL 35 0 (if (CL 19 y6) < (CL 35 0) then (CL 35 0) else (CL 19 y6))) CR M n _ y6 (nI li) ((up2 CI 27 (tn (CI 16 y6)) (CI 17 y6)) 27 li) (if (CL 19 y6) < (CL 35 0) then (CL 35 0) else (CL 19 y6)) (by omega)) wk_Entry_begin wi_Entry wm_LC_189 wx_Entry_begin ws_Entry_Entry_begin (by decide +kernel) rfl rfl ⟨(Nat.le_of_ble_eq_true rfl), (Nat.le_of_ble_eq_true rfl)⟩ ⟨(Nat.le_of_ble_eq_true rfl), (Nat.le_of_ble_eq_true rfl)⟩ (crecv_Entry X w y6 (by omega)) rfl hl.1 rfl (Nat.le_of_ble_eq_true rfl) d_LC_newEntry_70) (fun u H locs hp w => ?_)
      obtain rfl := hp
      have w : Wo D _ (cwm ac o ad al (up2 (up2 (up2 (up2 CI 27 (tn (CI 16 y6)) (CI 17 y6)) 16 y6 (nI li)) 17 y6 ((up2 CI 27 (tn (CI 16 y6)) (CI 17 y6)) 27 li)) 21 y6 0) (up2 (up2 (up2 CL 35 0 (if (CL 19 y6) < (CL 35 0) then (CL 35 0) else (CL 19 y6))) 18 y6 (if (CL 19 y6) < (CL 35 0) then (CL 35 0) else (CL 19 y6))) 19 y6 (if (CL 19 y6) < (CL 35 0) then (CL 35 0) else (CL 19 y6))) CR M n) s.heap _ _ := w
      refine lv_aload_n hx hb d_LC_newEntry_73 rfl (lv_at hl 0 rfl) ?_
      have hF : f_LC_newEntry CI CL CR M n li mm = (some y6, up2 (up2 (up2 (up2 CI 27 (tn (CI 16 y6)) (CI 17 y6)) 16 y6 (nI li)) 17 y6 ((up2 CI 27 (tn (CI 16 y6)) (CI 17 y6)) 27 li)) 21 y6 0, up2 (up2 (up2 CL 35 0 (if (CL 19 y6) < (CL 35 0) then (CL 35 0) else (CL 19 y6))) 18 y6 (if (CL 19 y6) < (CL 35 0) then (CL 35 0) else (CL 19 y6))) 19 y6 (if (CL 19 y6) < (CL 35 0) then (CL 35 0) else (CL 19 y6)), CR, M, n) := by unfold f_LC_newEntry; rw [ho2, oc_none, ho5, oc_some]
      refine W.widen (k := 1) (n := 7) (Nat.le_of_ble_eq_true rfl) (Nat.le_of_ble_eq_true rfl) ?_
      exact kqret (r := rE ad (some y6)) X w hr hk ⟨al, hal, by rw [hF]; exact hn, by rw [hF]; exact hok, by rw [hF] <;> rfl, by rw [hF]⟩ d_LC_newEntry_74
  | some y3 =>
    refine W.eq (g2 := F0 m 5 ls [.ref (ad (22 + y3))]) (by first | rfl | exact congrArg (fun z => F0 m 5 ls [va_rf (rE ad z)]) ho2) ?_
    have hy3 := f_LC_entryOf_lt ho2
    have hy3c := f_LC_entryOf_line ho2
    refine lv_astore_n (lv' := [(2, .ref (ad (22 + y3))), (0, .ref o), (1, .int (nI li))]) hx hb d_LC_newEntry_5 rfl hl (by decide) rfl (fun ls hl => ?_)
    refine lv_aload_n hx hb d_LC_newEntry_6 rfl (lv_at hl 0 rfl) ?_
    refine lv_ifnonnull (tgt := 48) hx hb d_LC_newEntry_7 (by decide) ?_
    refine lv_aload_n hx hb d_LC_newEntry_48 rfl (lv_at hl 0 rfl) ?_
    refine lv_ifnonnull (tgt := 58) hx hb d_LC_newEntry_49 (by decide) ?_
    refine lv_aload_n hx hb d_LC_newEntry_58 rfl (lv_at hl 0 rfl) ?_
    refine lv_iload_n hx hb d_LC_newEntry_59 rfl (lv_at hl 2 rfl) ?_
    refine lv_aload_n hx hb d_LC_newEntry_60 rfl (lv_at hl 1 rfl) ?_
    refine cg_LC_21 X w d_LC_newEntry_61 ?_
    refine lv_iload_n hx hb d_LC_newEntry_64 rfl (lv_at hl 2 rfl) ?_
    refine cl_memory X w li (v := CI 27 li) (by omega) rfl rfl d_LC_newEntry_65 ?_
    refine lv_aload_n hx hb d_LC_newEntry_66 rfl (lv_at hl 1 rfl) ?_
    refine cg_LC_180 X w (v := CL 35 0) rfl d_LC_newEntry_67 ?_
    refine kcallv (ws0 := []) w (krunV (ws0 := []) (wc := cwm ac o ad al CI CL CR M n) (n := 3) (As := [.int (nI li), .int (CI 27 li), .long (CL 35 0)]) (rest := []) (C := R_Entry) X w (c_Entry_begin l D ac o ad al CI CL CR M n _ y3 (nI li) (CI 27 li) (CL 35 0) (by omega)) wk_Entry_begin wi_Entry wm_LC_189 wx_Entry_begin ws_Entry_Entry_begin (by decide +kernel) rfl rfl ⟨(Nat.le_of_ble_eq_true rfl), (Nat.le_of_ble_eq_true rfl)⟩ ⟨(Nat.le_of_ble_eq_true rfl), (Nat.le_of_ble_eq_true rfl)⟩ (crecv_Entry X w y3 (by omega)) rfl hl.1 rfl (Nat.le_of_ble_eq_true rfl) d_LC_newEntry_70) (fun u H locs hp w => ?_)
    obtain rfl := hp
    have w : Wo D _ (cwm ac o ad al (up2 (up2 (up2 CI 16 y3 (nI li)) 17 y3 (CI 27 li)) 21 y3 0) (up2 (up2 CL 18 y3 (CL 35 0)) 19 y3 (CL 35 0)) CR M n) s.heap _ _ := w
    refine lv_aload_n hx hb d_LC_newEntry_73 rfl (lv_at hl 0 rfl) ?_
    have hF : f_LC_newEntry CI CL CR M n li mm = (some y3, up2 (up2 (up2 CI 16 y3 (nI li)) 17 y3 (CI 27 li)) 21 y3 0, up2 (up2 CL 18 y3 (CL 35 0)) 19 y3 (CL 35 0), CR, M, n) := by unfold f_LC_newEntry; rw [ho2, oc_some]
    refine W.widen (k := 1) (n := 7) (Nat.le_of_ble_eq_true rfl) (Nat.le_of_ble_eq_true rfl) ?_
    exact kqret (r := rE ad (some y3)) X w hr hk ⟨al, hal, by rw [hF]; exact hn, by rw [hF]; exact hok, by rw [hF] <;> rfl, by rw [hF]⟩ d_LC_newEntry_74
theorem f_LC_newEntry_lt {CI : Nat → Nat → Int32} {CL : Nat → Nat → Int64} {CR : Nat → Nat → Option Nat} {M : Nat → Msg} {n : Nat} {li mm y : Nat} (h : (f_LC_newEntry CI CL CR M n li mm).1 = some y) : y < 6 := by
  unfold f_LC_newEntry at h
  cases h1 : f_LC_entryOf CI (-1) with
  | none =>
    rw [h1] at h
    cases h2 : f_LC_least CI CL CR 0 with
    | none => rw [h2] at h; cases h
    | some z => rw [h2] at h; cases h; exact f_LC_least_lt h2
  | some z => rw [h1] at h; cases h; exact f_LC_entryOf_lt h1
theorem f_LC_newEntry_keep {CI : Nat → Nat → Int32} {CL : Nat → Nat → Int64} {CR : Nat → Nat → Option Nat} {M : Nat → Msg} {n : Nat} {li mm y : Nat} (h : (f_LC_newEntry CI CL CR M n li mm).1 = some y) : (f_LC_newEntry CI CL CR M n li mm).2.2.2.1 = CR ∧ (f_LC_newEntry CI CL CR M n li mm).2.2.2.2.1 = M ∧ (f_LC_newEntry CI CL CR M n li mm).2.2.2.2.2 = n ∧ (f_LC_newEntry CI CL CR M n li mm).2.1 22 = CI 22 ∧ (f_LC_newEntry CI CL CR M n li mm).2.1 38 = CI 38 := by
  unfold f_LC_newEntry at h ⊢
  cases h1 : f_LC_entryOf CI (-1) with
  | none =>
    rw [h1] at h
    cases h2 : f_LC_least CI CL CR 0 with
    | none => rw [h2] at h; cases h
    | some z => exact ⟨rfl, rfl, rfl, rfl, rfl⟩
  | some z => exact ⟨rfl, rfl, rfl, rfl, rfl⟩
