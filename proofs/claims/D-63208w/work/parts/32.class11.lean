theorem f_LC_call_hm {CI : Nat → Nat → Int32} {CL : Nat → Nat → Int64} {CR : Nat → Nat → Option Nat} {M : Nat → Msg} {n : Nat} {mm : Nat} (hm : CI 38 0 = nI mm) : (f_LC_call CI CL CR M n mm).1 38 0 = nI mm ∨ (f_LC_call CI CL CR M n mm).1 38 0 = nI (mm + 1) := by
  have h38 : ∀ sm, (f_LC_call_38 CI CL CR M n sm mm).1 38 0 = nI mm ∨ (f_LC_call_38 CI CL CR M n sm mm).1 38 0 = nI (mm + 1) := by
    intro sm
    unfold f_LC_call_38
    split
    · cases f_LC_least CI CL CR 1 with
      | none => exact Or.inl hm
      | some y => right; simp [oc_some, up2]
    · exact Or.inl hm
  have h4 : ∀ d sm k, (f_LC_call_4 d CI CL CR M n sm k mm).1 38 0 = nI mm ∨ (f_LC_call_4 d CI CL CR M n sm k mm).1 38 0 = nI (mm + 1) := by
    intro d
    induction d with
    | zero => intro sm k; exact h38 sm
    | succ d ih =>
      intro sm k
      rw [f_LC_call_4_s]
      repeat' split
      all_goals exact ih _ _
  exact h4 6 0 0
theorem f_Answer_arrive_1 {CI : Nat → Nat → Int32} {CL : Nat → Nat → Int64} {CR : Nat → Nat → Option Nat} {M : Nat → Msg} {n : Nat} {i c li mm : Nat} : (f_Answer_arrive CI CL CR M n i c li mm).1 = 1 := by
  unfold f_Answer_arrive
  split <;> rfl
theorem f_Call_arrive_01 {CI : Nat → Nat → Int32} {CL : Nat → Nat → Int64} {CR : Nat → Nat → Option Nat} {M : Nat → Msg} {n : Nat} {i c mm : Nat} : (f_Call_arrive CI CL CR M n i c mm).1 = 1 ∨ (f_Call_arrive CI CL CR M n i c mm) = (0, CI, CL, CR, M, n) := by
  unfold f_Call_arrive
  cases f_Core_find CI c (mline (M i)) <;> simp only [oc_none, oc_some] <;> repeat' split
  all_goals first | exact Or.inl rfl | exact Or.inr rfl
theorem f_Return_arrive_53_1 : ∀ (d : Nat) {CI : Nat → Nat → Int32} {CL : Nat → Nat → Int64} {CR : Nat → Nat → Option Nat} {M : Nat → Msg} {n : Nat} {e mm : Nat} {f : Option Nat}, (f_Return_arrive_53 d CI CL CR M n e f mm).1 = 1 := by
  intro d
  induction d with
  | zero => intro CI CL CR M n e mm f; rw [f_Return_arrive_53_z]; cases f <;> rfl
  | succ d ih =>
    intro CI CL CR M n e mm f
    rw [f_Return_arrive_53_s]
    cases f with
    | none => rfl
    | some q =>
      simp only [oc_some]
      cases (f_LC_serve CI CL CR M n e q mm).2.2.1 1 e with
      | some y => exact ih
      | none =>
        simp only [oc_none]
        split
        · exact ih
        · cases (f_Entry_next (f_LC_serve CI CL CR M n e q mm).1 (f_LC_serve CI CL CR M n e q mm).2.2.1 e).1 with
          | none => exact ih
          | some y => exact ih
theorem oc_1 {α : Type} (x : Option Nat) (A : Int32 × α) (B : Nat → Int32 × α) (ha : A.1 = 1) (hb : ∀ q, (B q).1 = 1) : (oc x A B).1 = 1 := by
  cases x with
  | none => exact ha
  | some q => exact hb q
theorem f_Return_arrive_1 {CI : Nat → Nat → Int32} {CL : Nat → Nat → Int64} {CR : Nat → Nat → Option Nat} {M : Nat → Msg} {n : Nat} {i mm : Nat} : (f_Return_arrive CI CL CR M n i mm).1 = 1 := by
  unfold f_Return_arrive
  exact oc_1 _ _ _ rfl (fun e => oc_1 _ _ _ (f_Return_arrive_53_1 3) (fun q => f_Return_arrive_53_1 3))
theorem f_Request_arrive_01 {CI : Nat → Nat → Int32} {CL : Nat → Nat → Int64} {CR : Nat → Nat → Option Nat} {M : Nat → Msg} {n : Nat} {i li mm : Nat} (hm : CI 38 0 = nI mm) : (f_Request_arrive CI CL CR M n i li mm).1 = 1 ∨ ((f_Request_arrive CI CL CR M n i li mm).1 = 0 ∧ ((f_Request_arrive CI CL CR M n i li mm).2.1 38 0 = nI mm ∨ (f_Request_arrive CI CL CR M n i li mm).2.1 38 0 = nI (mm + 1))) := by
  unfold f_Request_arrive
  cases f_LC_entryOf CI (mline (M i)) with
  | some e =>
    simp only [oc_some]
    cases CR 1 e with
    | none => exact Or.inl rfl
    | some q => exact Or.inl rfl
  | none =>
    simp only [oc_none]
    cases hn : (f_LC_newEntry CI CL CR M n li mm).1 with
    | some e =>
      simp only [oc_some]
      cases CR 1 e with
      | none => exact Or.inl rfl
      | some q => exact Or.inl rfl
    | none =>
      simp only [oc_none]
      refine Or.inr ⟨trivial, ?_⟩
      unfold f_LC_newEntry at hn ⊢
      cases h1 : f_LC_entryOf CI (-1) with
      | some z => rw [h1] at hn; cases hn
      | none =>
        rw [h1] at hn
        simp only [oc_none] at hn ⊢
        cases h2 : f_LC_least CI CL CR 0 with
        | some z => rw [h2] at hn; cases hn
        | none =>
          simp only [oc_none]
          exact f_LC_call_hm hm
theorem rmR_all {CR : Nat → Nat → Option Nat} {a mm : Nat} (ha : a < mm) (h : ∀ j, j < mm → ∃ i, CR 3 j = some i) : ∀ j, j < mm - 1 → ∃ i, rmR CR a (mm - 1) 3 j = some i := by
  intro j hj
  simp only [rmR, if_true]
  by_cases h1 : a ≤ j ∧ j < mm - 1
  · rw [if_pos h1]; exact h (j + 1) (by omega)
  · rw [if_neg h1, if_neg (by omega)]; exact h j (by omega)
def f_LC_deliver_Answer (CI : Nat → Nat → Int32) (CL : Nat → Nat → Int64) (CR : Nat → Nat → Option Nat) (M : Nat → Msg) (n : Nat) (a : Nat) (i : Nat) (c : Nat) (li : Nat) (mm : Nat) : Int32 × (Nat → Nat → Int32) × (Nat → Nat → Int64) × (Nat → Nat → Option Nat) × (Nat → Msg) × (Nat) :=
  ((f_Answer_arrive (up2 CI 38 0 (nI (mm - 1))) CL (rmR CR a (mm - 1)) M n i c li (mm - 1)).1, (f_Answer_arrive (up2 CI 38 0 (nI (mm - 1))) CL (rmR CR a (mm - 1)) M n i c li (mm - 1)).2.1, (f_Answer_arrive (up2 CI 38 0 (nI (mm - 1))) CL (rmR CR a (mm - 1)) M n i c li (mm - 1)).2.2.1, (f_Answer_arrive (up2 CI 38 0 (nI (mm - 1))) CL (rmR CR a (mm - 1)) M n i c li (mm - 1)).2.2.2.1, (f_Answer_arrive (up2 CI 38 0 (nI (mm - 1))) CL (rmR CR a (mm - 1)) M n i c li (mm - 1)).2.2.2.2.1, (f_Answer_arrive (up2 CI 38 0 (nI (mm - 1))) CL (rmR CR a (mm - 1)) M n i c li (mm - 1)).2.2.2.2.2)
set_option maxHeartbeats 4000000 in
set_option maxRecDepth 100000 in
theorem c_LC_deliver_Answer (l : Launch) (D : va_G) (ac : Nat → ClassId) (o : Nat) (ad : Nat → Nat) (al : Nat → Nat) (CI : Nat → Nat → Int32) (CL : Nat → Nat → Int64) (CR : Nat → Nat → Option Nat) (M : Nat → Msg) (n : Nat) (sz : Nat) (a : Nat) (i : Nat) (c : Nat) (li : Nat) (mm : Nat) (hm : CI 38 0 = nI mm) (ha : a < mm) (hmm : mm < 22) (hi : CR 3 a = some i) (hin : i < n) (hcl : mcls (M i) = 5) (hco : mcore (M i) = some c) (hc : c < 3) (hli : mline (M i) = nI li) (hl12 : li < 12) (hown : mown (M i) = 0 ∨ mown (M i) = 1) (hok : CRok CR n) : Met l y_LC_deliver [Cond.code y_LC_deliver b_LC_deliver 4 (some .boolean)] { frames := 5, cells := 1, slots := 7, locals := 121 } (va_Pc [.ref o, .int (nI a)] (CPre D ac (cwm ac o ad al CI CL CR M n) sz)) (va_Qi (fun r u => ∃ a9 : Nat → Nat, (∀ i, i < n → a9 i = al i) ∧ n ≤ (f_LC_deliver_Answer CI CL CR M n a i c li mm).2.2.2.2.2 ∧ CRok ((f_LC_deliver_Answer CI CL CR M n a i c li mm).2.2.2.1) ((f_LC_deliver_Answer CI CL CR M n a i c li mm).2.2.2.2.2) ∧ r = (f_LC_deliver_Answer CI CL CR M n a i c li mm).1 ∧ u = cwm ac o ad a9 ((f_LC_deliver_Answer CI CL CR M n a i c li mm).2.1) ((f_LC_deliver_Answer CI CL CR M n a i c li mm).2.2.1) ((f_LC_deliver_Answer CI CL CR M n a i c li mm).2.2.2.1) ((f_LC_deliver_Answer CI CL CR M n a i c li mm).2.2.2.2.1) ((f_LC_deliver_Answer CI CL CR M n a i c li mm).2.2.2.2.2)) (CPost D (cwm ac o ad al CI CL CR M n) sz) (va_A (cwm ac o ad al CI CL CR M n) sz)) 1 7 (va_A (cwm ac o ad al CI CL CR M n) sz) := by
  refine kofW (by decide) (Nat.le_of_ble_eq_true rfl) ?_
  intro p ev s m args below meth c0 ls X hr hk hnm hex hsz w hl
  have X : Cx b_LC_deliver 4 R_LC D ac p m args c0 s := X
  have hx := X.1
  have hb := X.2.1
  have hl : lv_has ls 4 [(0, .ref o), (1, .int (nI a))] := hl
  have hal : ∀ i, i < n → al i = al i := fun _ _ => rfl
  have hn : n ≤ n := Nat.le_refl n
  refine lv_aload_n hx hb d_LC_deliver_0 rfl (lv_at hl 0 rfl) ?_
  refine lv_iload_n hx hb d_LC_deliver_1 rfl (lv_at hl 1 rfl) ?_
  refine kcallq (ws0 := []) w (krunV (ws0 := []) (wc := cwm ac o ad al CI CL CR M n) (n := 1) (As := [.int (nI a)]) (rest := []) (C := R_LC) X w (c_LC_at l D ac o ad al CI CL CR M n _ a i mm hm (by omega) (by omega) hi) wk_LC_at wi_LC wm_LC_62 wx_LC_at ws_LC_LC_at (by decide +kernel) rfl rfl ⟨(Nat.le_of_ble_eq_true rfl), (Nat.le_of_ble_eq_true rfl)⟩ ⟨(Nat.le_of_ble_eq_true rfl), (Nat.le_of_ble_eq_true rfl)⟩ (crecv X w) rfl hl.1 rfl (Nat.le_of_ble_eq_true rfl) d_LC_deliver_2) (fun r1 u H locs hp w => ?_)
  obtain ⟨rfl, rfl⟩ := hp
  have w : Wo D _ (cwm ac o ad al CI CL CR M n) s.heap _ _ := w
  refine W.eq (g2 := F0 m 5 ls (.ref (al i) :: [])) rfl ?_
  refine lv_astore_n (lv' := [(2, .ref (al i)), (0, .ref o), (1, .int (nI a))]) hx hb d_LC_deliver_5 rfl hl (by decide) rfl (fun ls hl => ?_)
  refine lv_aload_n hx hb d_LC_deliver_6 rfl (lv_at hl 1 rfl) ?_
  refine lv_iload_n hx hb d_LC_deliver_7 rfl (lv_at hl 2 rfl) ?_
  refine kcallv (ws0 := []) w (krunV (ws0 := []) (wc := cwm ac o ad al CI CL CR M n) (n := 1) (As := [.int (nI a)]) (rest := []) (C := R_LC) X w (c_LC_remove l D ac o ad al CI CL CR M n _ a mm hm (by omega) (by omega) hok) wk_LC_remove wi_LC wm_LC_59 wx_LC_remove ws_LC_LC_remove (by decide +kernel) rfl rfl ⟨(Nat.le_of_ble_eq_true rfl), (Nat.le_of_ble_eq_true rfl)⟩ ⟨(Nat.le_of_ble_eq_true rfl), (Nat.le_of_ble_eq_true rfl)⟩ (crecv X w) rfl hl.1 rfl (Nat.le_of_ble_eq_true rfl) d_LC_deliver_8) (fun u H locs hp w => ?_)
  obtain ⟨hok9, rfl⟩ := hp
  have hok := hok9
  have w : Wo D _ (cwm ac o ad al ((f_LC_remove CI CR a mm).1) CL ((f_LC_remove CI CR a mm).2) M n) s.heap _ _ := w
  rw [f_LC_remove_eq (by omega)] at w hok
  have hmr : up2 CI 38 0 (nI (mm - 1)) 38 0 = nI (mm - 1) := by simp [up2]
  have w : Wo D _ (cwm ac o ad al (up2 CI 38 0 (nI (mm - 1))) CL (rmR CR a (mm - 1)) M n) s.heap _ _ := w
  have hok : CRok (rmR CR a (mm - 1)) n := hok
  refine lv_aload_n hx hb d_LC_deliver_11 rfl (lv_at hl 0 rfl) ?_
  refine lv_aload_n hx hb d_LC_deliver_12 rfl (lv_at hl 1 rfl) ?_
  refine kcalli (ws0 := []) w (krunU (owner := R_Message) (ws0 := []) (wc := cwm ac o ad al (up2 CI 38 0 (nI (mm - 1))) CL (rmR CR a (mm - 1)) M n) (n := 1) (As := [.ref o]) (rest := []) (C := R_Answer) X w (c_Answer_arrive l D ac o ad al (up2 CI 38 0 (nI (mm - 1))) CL (rmR CR a (mm - 1)) M n _ i c li (mm - 1) (by omega) hcl hco (by omega) hli (by omega) hown hmr (by omega) hok) wk_Answer_arrive wi_Answer wm_LC_66 wq_Message_arrive (va_Decl.abs (X.2.2.2.2.1.at wd_Message_arrive)) wx_Answer_arrive ws_Answer_Message_arrive (by decide +kernel) rfl rfl ⟨(Nat.le_of_ble_eq_true rfl), (Nat.le_of_ble_eq_true rfl)⟩ ⟨(Nat.le_of_ble_eq_true rfl), (Nat.le_of_ble_eq_true rfl)⟩ (mrecvC X w (q := i) (by omega) (mcell5 hcl) rfl) rfl hl.1 rfl (Nat.le_of_ble_eq_true rfl) d_LC_deliver_13) (fun r2 u H locs hp w => ?_)
  obtain ⟨al3, hal9, hn9, hok9, rfl, rfl⟩ := hp
  have hok := hok9
  have hal : ∀ i, i < n → al3 i = al i := fun i h => (hal9 i (by omega)).trans (hal i h)
  have hn : n ≤ (f_Answer_arrive (up2 CI 38 0 (nI (mm - 1))) CL (rmR CR a (mm - 1)) M n i c li (mm - 1)).2.2.2.2.2 := by omega
  rw [← hal9 i (by omega)] at hl
  have hl : lv_has ls 4 [(2, .ref (al3 i)), (0, .ref o), (1, .int (nI a))] := hl
  have w : Wo D _ (cwm ac o ad al3 ((f_Answer_arrive (up2 CI 38 0 (nI (mm - 1))) CL (rmR CR a (mm - 1)) M n i c li (mm - 1)).2.1) ((f_Answer_arrive (up2 CI 38 0 (nI (mm - 1))) CL (rmR CR a (mm - 1)) M n i c li (mm - 1)).2.2.1) ((f_Answer_arrive (up2 CI 38 0 (nI (mm - 1))) CL (rmR CR a (mm - 1)) M n i c li (mm - 1)).2.2.2.1) ((f_Answer_arrive (up2 CI 38 0 (nI (mm - 1))) CL (rmR CR a (mm - 1)) M n i c li (mm - 1)).2.2.2.2.1) ((f_Answer_arrive (up2 CI 38 0 (nI (mm - 1))) CL (rmR CR a (mm - 1)) M n i c li (mm - 1)).2.2.2.2.2)) s.heap _ _ := w
  refine lv_istore_n (lv' := [(3, .int ((f_Answer_arrive (up2 CI 38 0 (nI (mm - 1))) CL (rmR CR a (mm - 1)) M n i c li (mm - 1)).1)), (2, .ref (al3 i)), (0, .ref o), (1, .int (nI a))]) hx hb d_LC_deliver_16 rfl hl (by decide) rfl (fun ls hl => ?_)
  refine lv_iload_n hx hb d_LC_deliver_17 rfl (lv_at hl 0 rfl) ?_
  refine lv_if_ne (tgt := 27) hx hb d_LC_deliver_18 (by decide) (fun _ => ?_) (fun h => absurd h (by rw [f_Answer_arrive_1]; decide))
  refine lv_iload_n hx hb d_LC_deliver_27 rfl (lv_at hl 0 rfl) ?_
  have hF : f_LC_deliver_Answer CI CL CR M n a i c li mm = ((f_Answer_arrive (up2 CI 38 0 (nI (mm - 1))) CL (rmR CR a (mm - 1)) M n i c li (mm - 1)).1, (f_Answer_arrive (up2 CI 38 0 (nI (mm - 1))) CL (rmR CR a (mm - 1)) M n i c li (mm - 1)).2.1, (f_Answer_arrive (up2 CI 38 0 (nI (mm - 1))) CL (rmR CR a (mm - 1)) M n i c li (mm - 1)).2.2.1, (f_Answer_arrive (up2 CI 38 0 (nI (mm - 1))) CL (rmR CR a (mm - 1)) M n i c li (mm - 1)).2.2.2.1, (f_Answer_arrive (up2 CI 38 0 (nI (mm - 1))) CL (rmR CR a (mm - 1)) M n i c li (mm - 1)).2.2.2.2.1, (f_Answer_arrive (up2 CI 38 0 (nI (mm - 1))) CL (rmR CR a (mm - 1)) M n i c li (mm - 1)).2.2.2.2.2) := by rfl
  refine W.widen (k := 1) (n := 7) (Nat.le_of_ble_eq_true rfl) (Nat.le_of_ble_eq_true rfl) ?_
  exact kzret X w hr hk (Or.inr f_Answer_arrive_1) ⟨al3, hal, by rw [hF]; exact hn, by rw [hF]; exact hok, by rw [hF], by rw [hF]⟩ d_LC_deliver_28
def f_LC_deliver_Return (CI : Nat → Nat → Int32) (CL : Nat → Nat → Int64) (CR : Nat → Nat → Option Nat) (M : Nat → Msg) (n : Nat) (a : Nat) (i : Nat) (mm : Nat) : Int32 × (Nat → Nat → Int32) × (Nat → Nat → Int64) × (Nat → Nat → Option Nat) × (Nat → Msg) × (Nat) :=
  ((f_Return_arrive (up2 CI 38 0 (nI (mm - 1))) CL (rmR CR a (mm - 1)) M n i (mm - 1)).1, (f_Return_arrive (up2 CI 38 0 (nI (mm - 1))) CL (rmR CR a (mm - 1)) M n i (mm - 1)).2.1, (f_Return_arrive (up2 CI 38 0 (nI (mm - 1))) CL (rmR CR a (mm - 1)) M n i (mm - 1)).2.2.1, (f_Return_arrive (up2 CI 38 0 (nI (mm - 1))) CL (rmR CR a (mm - 1)) M n i (mm - 1)).2.2.2.1, (f_Return_arrive (up2 CI 38 0 (nI (mm - 1))) CL (rmR CR a (mm - 1)) M n i (mm - 1)).2.2.2.2.1, (f_Return_arrive (up2 CI 38 0 (nI (mm - 1))) CL (rmR CR a (mm - 1)) M n i (mm - 1)).2.2.2.2.2)
set_option maxHeartbeats 4000000 in
set_option maxRecDepth 100000 in
theorem c_LC_deliver_Return (l : Launch) (D : va_G) (ac : Nat → ClassId) (o : Nat) (ad : Nat → Nat) (al : Nat → Nat) (CI : Nat → Nat → Int32) (CL : Nat → Nat → Int64) (CR : Nat → Nat → Option Nat) (M : Nat → Msg) (n : Nat) (sz : Nat) (a : Nat) (i : Nat) (mm : Nat) (hm : CI 38 0 = nI mm) (ha : a < mm) (hmm : mm < 22) (hi : CR 3 a = some i) (hin : i < n) (hcl : mcls (M i) = 7) (hent : f_LC_entryOf CI (mline (M i)) ≠ none) (hP : ∀ e q, e < 6 → CR 1 e = some q → mcls (M q) = 4) (hQ : ∀ e j q, e < 6 → CR (10 + e) j = some q → mcls (M q) = 4) (hw : ∀ e, e < 6 → CI 22 e = nI (tn (CI 22 e)) ∧ tn (CI 22 e) < 3) (hall : ∀ j, j < mm → ∃ i, CR 3 j = some i) (hok : CRok CR n) : Met l y_LC_deliver [Cond.code y_LC_deliver b_LC_deliver 4 (some .boolean)] { frames := 5, cells := 3, slots := 21, locals := 122 } (va_Pc [.ref o, .int (nI a)] (CPre D ac (cwm ac o ad al CI CL CR M n) sz)) (va_Qi (fun r u => ∃ a9 : Nat → Nat, (∀ i, i < n → a9 i = al i) ∧ n ≤ (f_LC_deliver_Return CI CL CR M n a i mm).2.2.2.2.2 ∧ CRok ((f_LC_deliver_Return CI CL CR M n a i mm).2.2.2.1) ((f_LC_deliver_Return CI CL CR M n a i mm).2.2.2.2.2) ∧ r = (f_LC_deliver_Return CI CL CR M n a i mm).1 ∧ u = cwm ac o ad a9 ((f_LC_deliver_Return CI CL CR M n a i mm).2.1) ((f_LC_deliver_Return CI CL CR M n a i mm).2.2.1) ((f_LC_deliver_Return CI CL CR M n a i mm).2.2.2.1) ((f_LC_deliver_Return CI CL CR M n a i mm).2.2.2.2.1) ((f_LC_deliver_Return CI CL CR M n a i mm).2.2.2.2.2)) (CPost D (cwm ac o ad al CI CL CR M n) sz) (va_A (cwm ac o ad al CI CL CR M n) sz)) 3 21 (va_A (cwm ac o ad al CI CL CR M n) sz) := by
  refine kofW (by decide) (Nat.le_of_ble_eq_true rfl) ?_
  intro p ev s m args below meth c0 ls X hr hk hnm hex hsz w hl
  have X : Cx b_LC_deliver 4 R_LC D ac p m args c0 s := X
  have hx := X.1
  have hb := X.2.1
  have hl : lv_has ls 4 [(0, .ref o), (1, .int (nI a))] := hl
  have hal : ∀ i, i < n → al i = al i := fun _ _ => rfl
  have hn : n ≤ n := Nat.le_refl n
  refine lv_aload_n hx hb d_LC_deliver_0 rfl (lv_at hl 0 rfl) ?_
  refine lv_iload_n hx hb d_LC_deliver_1 rfl (lv_at hl 1 rfl) ?_
  refine kcallq (ws0 := []) w (krunV (ws0 := []) (wc := cwm ac o ad al CI CL CR M n) (n := 1) (As := [.int (nI a)]) (rest := []) (C := R_LC) X w (c_LC_at l D ac o ad al CI CL CR M n _ a i mm hm (by omega) (by omega) hi) wk_LC_at wi_LC wm_LC_62 wx_LC_at ws_LC_LC_at (by decide +kernel) rfl rfl ⟨(Nat.le_of_ble_eq_true rfl), (Nat.le_of_ble_eq_true rfl)⟩ ⟨(Nat.le_of_ble_eq_true rfl), (Nat.le_of_ble_eq_true rfl)⟩ (crecv X w) rfl hl.1 rfl (Nat.le_of_ble_eq_true rfl) d_LC_deliver_2) (fun r1 u H locs hp w => ?_)
  obtain ⟨rfl, rfl⟩ := hp
  have w : Wo D _ (cwm ac o ad al CI CL CR M n) s.heap _ _ := w
  refine W.eq (g2 := F0 m 5 ls (.ref (al i) :: [])) rfl ?_
  refine lv_astore_n (lv' := [(2, .ref (al i)), (0, .ref o), (1, .int (nI a))]) hx hb d_LC_deliver_5 rfl hl (by decide) rfl (fun ls hl => ?_)
  refine lv_aload_n hx hb d_LC_deliver_6 rfl (lv_at hl 1 rfl) ?_
  refine lv_iload_n hx hb d_LC_deliver_7 rfl (lv_at hl 2 rfl) ?_
  refine kcallv (ws0 := []) w (krunV (ws0 := []) (wc := cwm ac o ad al CI CL CR M n) (n := 1) (As := [.int (nI a)]) (rest := []) (C := R_LC) X w (c_LC_remove l D ac o ad al CI CL CR M n _ a mm hm (by omega) (by omega) hok) wk_LC_remove wi_LC wm_LC_59 wx_LC_remove ws_LC_LC_remove (by decide +kernel) rfl rfl ⟨(Nat.le_of_ble_eq_true rfl), (Nat.le_of_ble_eq_true rfl)⟩ ⟨(Nat.le_of_ble_eq_true rfl), (Nat.le_of_ble_eq_true rfl)⟩ (crecv X w) rfl hl.1 rfl (Nat.le_of_ble_eq_true rfl) d_LC_deliver_8) (fun u H locs hp w => ?_)
  obtain ⟨hok9, rfl⟩ := hp
  have hok := hok9
  have w : Wo D _ (cwm ac o ad al ((f_LC_remove CI CR a mm).1) CL ((f_LC_remove CI CR a mm).2) M n) s.heap _ _ := w
  rw [f_LC_remove_eq (by omega)] at w hok
  have hmr : up2 CI 38 0 (nI (mm - 1)) 38 0 = nI (mm - 1) := by simp [up2]
  have w : Wo D _ (cwm ac o ad al (up2 CI 38 0 (nI (mm - 1))) CL (rmR CR a (mm - 1)) M n) s.heap _ _ := w
  have hok : CRok (rmR CR a (mm - 1)) n := hok
  refine lv_aload_n hx hb d_LC_deliver_11 rfl (lv_at hl 0 rfl) ?_
  refine lv_aload_n hx hb d_LC_deliver_12 rfl (lv_at hl 1 rfl) ?_
  refine kcalli (ws0 := []) w (krunU (owner := R_Message) (ws0 := []) (wc := cwm ac o ad al (up2 CI 38 0 (nI (mm - 1))) CL (rmR CR a (mm - 1)) M n) (n := 1) (As := [.ref o]) (rest := []) (C := R_Return) X w (c_Return_arrive l D ac o ad al (up2 CI 38 0 (nI (mm - 1))) CL (rmR CR a (mm - 1)) M n _ i (mm - 1) (by omega) hcl hent hP (fun e j q he h => hQ e j q he (by simp only [rmR, show ¬ 10 + e = 3 by omega, if_false] at h; exact h)) hw (rmR_all ha hall) hmr (by omega) hok) wk_Return_arrive wi_Return wm_LC_66 wq_Message_arrive (va_Decl.abs (X.2.2.2.2.1.at wd_Message_arrive)) wx_Return_arrive ws_Return_Message_arrive (by decide +kernel) rfl rfl ⟨(Nat.le_of_ble_eq_true rfl), (Nat.le_of_ble_eq_true rfl)⟩ ⟨(Nat.le_of_ble_eq_true rfl), (Nat.le_of_ble_eq_true rfl)⟩ (mrecvC X w (q := i) (by omega) (mcell7 hcl) rfl) rfl hl.1 rfl (Nat.le_of_ble_eq_true rfl) d_LC_deliver_13) (fun r2 u H locs hp w => ?_)
  obtain ⟨al3, hal9, hn9, hok9, rfl, rfl⟩ := hp
  have hok := hok9
  have hal : ∀ i, i < n → al3 i = al i := fun i h => (hal9 i (by omega)).trans (hal i h)
  have hn : n ≤ (f_Return_arrive (up2 CI 38 0 (nI (mm - 1))) CL (rmR CR a (mm - 1)) M n i (mm - 1)).2.2.2.2.2 := by omega
  rw [← hal9 i (by omega)] at hl
  have hl : lv_has ls 4 [(2, .ref (al3 i)), (0, .ref o), (1, .int (nI a))] := hl
  have w : Wo D _ (cwm ac o ad al3 ((f_Return_arrive (up2 CI 38 0 (nI (mm - 1))) CL (rmR CR a (mm - 1)) M n i (mm - 1)).2.1) ((f_Return_arrive (up2 CI 38 0 (nI (mm - 1))) CL (rmR CR a (mm - 1)) M n i (mm - 1)).2.2.1) ((f_Return_arrive (up2 CI 38 0 (nI (mm - 1))) CL (rmR CR a (mm - 1)) M n i (mm - 1)).2.2.2.1) ((f_Return_arrive (up2 CI 38 0 (nI (mm - 1))) CL (rmR CR a (mm - 1)) M n i (mm - 1)).2.2.2.2.1) ((f_Return_arrive (up2 CI 38 0 (nI (mm - 1))) CL (rmR CR a (mm - 1)) M n i (mm - 1)).2.2.2.2.2)) s.heap _ _ := w
  refine lv_istore_n (lv' := [(3, .int ((f_Return_arrive (up2 CI 38 0 (nI (mm - 1))) CL (rmR CR a (mm - 1)) M n i (mm - 1)).1)), (2, .ref (al3 i)), (0, .ref o), (1, .int (nI a))]) hx hb d_LC_deliver_16 rfl hl (by decide) rfl (fun ls hl => ?_)
  refine lv_iload_n hx hb d_LC_deliver_17 rfl (lv_at hl 0 rfl) ?_
  refine lv_if_ne (tgt := 27) hx hb d_LC_deliver_18 (by decide) (fun _ => ?_) (fun h => absurd h (by rw [f_Return_arrive_1]; decide))
  refine lv_iload_n hx hb d_LC_deliver_27 rfl (lv_at hl 0 rfl) ?_
  have hF : f_LC_deliver_Return CI CL CR M n a i mm = ((f_Return_arrive (up2 CI 38 0 (nI (mm - 1))) CL (rmR CR a (mm - 1)) M n i (mm - 1)).1, (f_Return_arrive (up2 CI 38 0 (nI (mm - 1))) CL (rmR CR a (mm - 1)) M n i (mm - 1)).2.1, (f_Return_arrive (up2 CI 38 0 (nI (mm - 1))) CL (rmR CR a (mm - 1)) M n i (mm - 1)).2.2.1, (f_Return_arrive (up2 CI 38 0 (nI (mm - 1))) CL (rmR CR a (mm - 1)) M n i (mm - 1)).2.2.2.1, (f_Return_arrive (up2 CI 38 0 (nI (mm - 1))) CL (rmR CR a (mm - 1)) M n i (mm - 1)).2.2.2.2.1, (f_Return_arrive (up2 CI 38 0 (nI (mm - 1))) CL (rmR CR a (mm - 1)) M n i (mm - 1)).2.2.2.2.2) := by rfl
  refine W.widen (k := 3) (n := 21) (Nat.le_of_ble_eq_true rfl) (Nat.le_of_ble_eq_true rfl) ?_
  exact kzret X w hr hk (Or.inr f_Return_arrive_1) ⟨al3, hal, by rw [hF]; exact hn, by rw [hF]; exact hok, by rw [hF], by rw [hF]⟩ d_LC_deliver_28
def f_LC_deliver_Call (CI : Nat → Nat → Int32) (CL : Nat → Nat → Int64) (CR : Nat → Nat → Option Nat) (M : Nat → Msg) (n : Nat) (a : Nat) (i : Nat) (c : Nat) (mm : Nat) : Int32 × (Nat → Nat → Int32) × (Nat → Nat → Int64) × (Nat → Nat → Option Nat) × (Nat → Msg) × (Nat) :=
  if ((f_Call_arrive (up2 CI 38 0 (nI (mm - 1))) CL (rmR CR a (mm - 1)) M n i c (mm - 1)).1) = 0 then
    ((f_Call_arrive (up2 CI 38 0 (nI (mm - 1))) CL (rmR CR a (mm - 1)) M n i c (mm - 1)).1, (f_LC_insert ((f_Call_arrive (up2 CI 38 0 (nI (mm - 1))) CL (rmR CR a (mm - 1)) M n i c (mm - 1)).2.1) ((f_Call_arrive (up2 CI 38 0 (nI (mm - 1))) CL (rmR CR a (mm - 1)) M n i c (mm - 1)).2.2.2.1) a i (mm - 1)).1, (f_Call_arrive (up2 CI 38 0 (nI (mm - 1))) CL (rmR CR a (mm - 1)) M n i c (mm - 1)).2.2.1, (f_LC_insert ((f_Call_arrive (up2 CI 38 0 (nI (mm - 1))) CL (rmR CR a (mm - 1)) M n i c (mm - 1)).2.1) ((f_Call_arrive (up2 CI 38 0 (nI (mm - 1))) CL (rmR CR a (mm - 1)) M n i c (mm - 1)).2.2.2.1) a i (mm - 1)).2, (f_Call_arrive (up2 CI 38 0 (nI (mm - 1))) CL (rmR CR a (mm - 1)) M n i c (mm - 1)).2.2.2.2.1, (f_Call_arrive (up2 CI 38 0 (nI (mm - 1))) CL (rmR CR a (mm - 1)) M n i c (mm - 1)).2.2.2.2.2)
  else
    ((f_Call_arrive (up2 CI 38 0 (nI (mm - 1))) CL (rmR CR a (mm - 1)) M n i c (mm - 1)).1, (f_Call_arrive (up2 CI 38 0 (nI (mm - 1))) CL (rmR CR a (mm - 1)) M n i c (mm - 1)).2.1, (f_Call_arrive (up2 CI 38 0 (nI (mm - 1))) CL (rmR CR a (mm - 1)) M n i c (mm - 1)).2.2.1, (f_Call_arrive (up2 CI 38 0 (nI (mm - 1))) CL (rmR CR a (mm - 1)) M n i c (mm - 1)).2.2.2.1, (f_Call_arrive (up2 CI 38 0 (nI (mm - 1))) CL (rmR CR a (mm - 1)) M n i c (mm - 1)).2.2.2.2.1, (f_Call_arrive (up2 CI 38 0 (nI (mm - 1))) CL (rmR CR a (mm - 1)) M n i c (mm - 1)).2.2.2.2.2)
set_option maxHeartbeats 4000000 in
set_option maxRecDepth 100000 in
theorem c_LC_deliver_Call (l : Launch) (D : va_G) (ac : Nat → ClassId) (o : Nat) (ad : Nat → Nat) (al : Nat → Nat) (CI : Nat → Nat → Int32) (CL : Nat → Nat → Int64) (CR : Nat → Nat → Option Nat) (M : Nat → Msg) (n : Nat) (sz : Nat) (a : Nat) (i : Nat) (c : Nat) (mm : Nat) (hm : CI 38 0 = nI mm) (ha : a < mm) (hmm : mm < 22) (hi : CR 3 a = some i) (hin : i < n) (hcl : mcls (M i) = 6) (hco : mcore (M i) = some c) (hc : c < 3) (hok : CRok CR n) : Met l y_LC_deliver [Cond.code y_LC_deliver b_LC_deliver 4 (some .boolean)] { frames := 4, cells := 1, slots := 7, locals := 99 } (va_Pc [.ref o, .int (nI a)] (CPre D ac (cwm ac o ad al CI CL CR M n) sz)) (va_Qi (fun r u => ∃ a9 : Nat → Nat, (∀ i, i < n → a9 i = al i) ∧ n ≤ (f_LC_deliver_Call CI CL CR M n a i c mm).2.2.2.2.2 ∧ CRok ((f_LC_deliver_Call CI CL CR M n a i c mm).2.2.2.1) ((f_LC_deliver_Call CI CL CR M n a i c mm).2.2.2.2.2) ∧ r = (f_LC_deliver_Call CI CL CR M n a i c mm).1 ∧ u = cwm ac o ad a9 ((f_LC_deliver_Call CI CL CR M n a i c mm).2.1) ((f_LC_deliver_Call CI CL CR M n a i c mm).2.2.1) ((f_LC_deliver_Call CI CL CR M n a i c mm).2.2.2.1) ((f_LC_deliver_Call CI CL CR M n a i c mm).2.2.2.2.1) ((f_LC_deliver_Call CI CL CR M n a i c mm).2.2.2.2.2)) (CPost D (cwm ac o ad al CI CL CR M n) sz) (va_A (cwm ac o ad al CI CL CR M n) sz)) 1 7 (va_A (cwm ac o ad al CI CL CR M n) sz) := by
  refine kofW (by decide) (Nat.le_of_ble_eq_true rfl) ?_
  intro p ev s m args below meth c0 ls X hr hk hnm hex hsz w hl
  have X : Cx b_LC_deliver 4 R_LC D ac p m args c0 s := X
  have hx := X.1
  have hb := X.2.1
  have hl : lv_has ls 4 [(0, .ref o), (1, .int (nI a))] := hl
  have hal : ∀ i, i < n → al i = al i := fun _ _ => rfl
  have hn : n ≤ n := Nat.le_refl n
  refine lv_aload_n hx hb d_LC_deliver_0 rfl (lv_at hl 0 rfl) ?_
  refine lv_iload_n hx hb d_LC_deliver_1 rfl (lv_at hl 1 rfl) ?_
  refine kcallq (ws0 := []) w (krunV (ws0 := []) (wc := cwm ac o ad al CI CL CR M n) (n := 1) (As := [.int (nI a)]) (rest := []) (C := R_LC) X w (c_LC_at l D ac o ad al CI CL CR M n _ a i mm hm (by omega) (by omega) hi) wk_LC_at wi_LC wm_LC_62 wx_LC_at ws_LC_LC_at (by decide +kernel) rfl rfl ⟨(Nat.le_of_ble_eq_true rfl), (Nat.le_of_ble_eq_true rfl)⟩ ⟨(Nat.le_of_ble_eq_true rfl), (Nat.le_of_ble_eq_true rfl)⟩ (crecv X w) rfl hl.1 rfl (Nat.le_of_ble_eq_true rfl) d_LC_deliver_2) (fun r1 u H locs hp w => ?_)
  obtain ⟨rfl, rfl⟩ := hp
  have w : Wo D _ (cwm ac o ad al CI CL CR M n) s.heap _ _ := w
  refine W.eq (g2 := F0 m 5 ls (.ref (al i) :: [])) rfl ?_
  refine lv_astore_n (lv' := [(2, .ref (al i)), (0, .ref o), (1, .int (nI a))]) hx hb d_LC_deliver_5 rfl hl (by decide) rfl (fun ls hl => ?_)
  refine lv_aload_n hx hb d_LC_deliver_6 rfl (lv_at hl 1 rfl) ?_
  refine lv_iload_n hx hb d_LC_deliver_7 rfl (lv_at hl 2 rfl) ?_
  refine kcallv (ws0 := []) w (krunV (ws0 := []) (wc := cwm ac o ad al CI CL CR M n) (n := 1) (As := [.int (nI a)]) (rest := []) (C := R_LC) X w (c_LC_remove l D ac o ad al CI CL CR M n _ a mm hm (by omega) (by omega) hok) wk_LC_remove wi_LC wm_LC_59 wx_LC_remove ws_LC_LC_remove (by decide +kernel) rfl rfl ⟨(Nat.le_of_ble_eq_true rfl), (Nat.le_of_ble_eq_true rfl)⟩ ⟨(Nat.le_of_ble_eq_true rfl), (Nat.le_of_ble_eq_true rfl)⟩ (crecv X w) rfl hl.1 rfl (Nat.le_of_ble_eq_true rfl) d_LC_deliver_8) (fun u H locs hp w => ?_)
  obtain ⟨hok9, rfl⟩ := hp
  have hok := hok9
  have w : Wo D _ (cwm ac o ad al ((f_LC_remove CI CR a mm).1) CL ((f_LC_remove CI CR a mm).2) M n) s.heap _ _ := w
  rw [f_LC_remove_eq (by omega)] at w hok
  have hmr : up2 CI 38 0 (nI (mm - 1)) 38 0 = nI (mm - 1) := by simp [up2]
  have w : Wo D _ (cwm ac o ad al (up2 CI 38 0 (nI (mm - 1))) CL (rmR CR a (mm - 1)) M n) s.heap _ _ := w
  have hok : CRok (rmR CR a (mm - 1)) n := hok
  refine lv_aload_n hx hb d_LC_deliver_11 rfl (lv_at hl 0 rfl) ?_
  refine lv_aload_n hx hb d_LC_deliver_12 rfl (lv_at hl 1 rfl) ?_
  refine kcalli (ws0 := []) w (krunU (owner := R_Message) (ws0 := []) (wc := cwm ac o ad al (up2 CI 38 0 (nI (mm - 1))) CL (rmR CR a (mm - 1)) M n) (n := 1) (As := [.ref o]) (rest := []) (C := R_Call) X w (c_Call_arrive l D ac o ad al (up2 CI 38 0 (nI (mm - 1))) CL (rmR CR a (mm - 1)) M n _ i c (mm - 1) (by omega) hcl hco (by omega) hmr (by omega) hok) wk_Call_arrive wi_Call wm_LC_66 wq_Message_arrive (va_Decl.abs (X.2.2.2.2.1.at wd_Message_arrive)) wx_Call_arrive ws_Call_Message_arrive (by decide +kernel) rfl rfl ⟨(Nat.le_of_ble_eq_true rfl), (Nat.le_of_ble_eq_true rfl)⟩ ⟨(Nat.le_of_ble_eq_true rfl), (Nat.le_of_ble_eq_true rfl)⟩ (mrecvC X w (q := i) (by omega) (mcell6 hcl) rfl) rfl hl.1 rfl (Nat.le_of_ble_eq_true rfl) d_LC_deliver_13) (fun r2 u H locs hp w => ?_)
  obtain ⟨al3, hal9, hn9, hok9, rfl, rfl⟩ := hp
  have hok := hok9
  have hal : ∀ i, i < n → al3 i = al i := fun i h => (hal9 i (by omega)).trans (hal i h)
  have hn : n ≤ (f_Call_arrive (up2 CI 38 0 (nI (mm - 1))) CL (rmR CR a (mm - 1)) M n i c (mm - 1)).2.2.2.2.2 := by omega
  rw [← hal9 i (by omega)] at hl
  have hl : lv_has ls 4 [(2, .ref (al3 i)), (0, .ref o), (1, .int (nI a))] := hl
  have w : Wo D _ (cwm ac o ad al3 ((f_Call_arrive (up2 CI 38 0 (nI (mm - 1))) CL (rmR CR a (mm - 1)) M n i c (mm - 1)).2.1) ((f_Call_arrive (up2 CI 38 0 (nI (mm - 1))) CL (rmR CR a (mm - 1)) M n i c (mm - 1)).2.2.1) ((f_Call_arrive (up2 CI 38 0 (nI (mm - 1))) CL (rmR CR a (mm - 1)) M n i c (mm - 1)).2.2.2.1) ((f_Call_arrive (up2 CI 38 0 (nI (mm - 1))) CL (rmR CR a (mm - 1)) M n i c (mm - 1)).2.2.2.2.1) ((f_Call_arrive (up2 CI 38 0 (nI (mm - 1))) CL (rmR CR a (mm - 1)) M n i c (mm - 1)).2.2.2.2.2)) s.heap _ _ := w
  refine lv_istore_n (lv' := [(3, .int ((f_Call_arrive (up2 CI 38 0 (nI (mm - 1))) CL (rmR CR a (mm - 1)) M n i c (mm - 1)).1)), (2, .ref (al3 i)), (0, .ref o), (1, .int (nI a))]) hx hb d_LC_deliver_16 rfl hl (by decide) rfl (fun ls hl => ?_)
  refine lv_iload_n hx hb d_LC_deliver_17 rfl (lv_at hl 0 rfl) ?_
  refine lv_if_ne (tgt := 27) hx hb d_LC_deliver_18 (by decide) (fun h4 => ?_) (fun h4 => ?_)
  · skip
    refine lv_iload_n hx hb d_LC_deliver_27 rfl (lv_at hl 0 rfl) ?_
    have hF : f_LC_deliver_Call CI CL CR M n a i c mm = ((f_Call_arrive (up2 CI 38 0 (nI (mm - 1))) CL (rmR CR a (mm - 1)) M n i c (mm - 1)).1, (f_Call_arrive (up2 CI 38 0 (nI (mm - 1))) CL (rmR CR a (mm - 1)) M n i c (mm - 1)).2.1, (f_Call_arrive (up2 CI 38 0 (nI (mm - 1))) CL (rmR CR a (mm - 1)) M n i c (mm - 1)).2.2.1, (f_Call_arrive (up2 CI 38 0 (nI (mm - 1))) CL (rmR CR a (mm - 1)) M n i c (mm - 1)).2.2.2.1, (f_Call_arrive (up2 CI 38 0 (nI (mm - 1))) CL (rmR CR a (mm - 1)) M n i c (mm - 1)).2.2.2.2.1, (f_Call_arrive (up2 CI 38 0 (nI (mm - 1))) CL (rmR CR a (mm - 1)) M n i c (mm - 1)).2.2.2.2.2) := by unfold f_LC_deliver_Call; rw [if_neg h4]
    refine W.widen (k := 1) (n := 7) (Nat.le_of_ble_eq_true rfl) (Nat.le_of_ble_eq_true rfl) ?_
    exact kzret X w hr hk (f_Call_arrive_01.elim Or.inr (fun h => Or.inl (by rw [h]))) ⟨al3, hal, by rw [hF]; exact hn, by rw [hF]; exact hok, by rw [hF], by rw [hF]⟩ d_LC_deliver_28
  · skip
    have hmc : ((f_Call_arrive (up2 CI 38 0 (nI (mm - 1))) CL (rmR CR a (mm - 1)) M n i c (mm - 1)).2.1) 38 0 = nI (mm - 1) := f_Call_arrive_01.elim (fun h => absurd (h.symm.trans h4) (by decide)) (fun h => by rw [h]; exact hmr)
    refine lv_aload_n hx hb d_LC_deliver_21 rfl (lv_at hl 2 rfl) ?_
    refine lv_iload_n hx hb d_LC_deliver_22 rfl (lv_at hl 3 rfl) ?_
    refine lv_aload_n hx hb d_LC_deliver_23 rfl (lv_at hl 1 rfl) ?_
    refine kcallv (ws0 := []) w (krunV (ws0 := []) (wc := cwm ac o ad al3 ((f_Call_arrive (up2 CI 38 0 (nI (mm - 1))) CL (rmR CR a (mm - 1)) M n i c (mm - 1)).2.1) ((f_Call_arrive (up2 CI 38 0 (nI (mm - 1))) CL (rmR CR a (mm - 1)) M n i c (mm - 1)).2.2.1) ((f_Call_arrive (up2 CI 38 0 (nI (mm - 1))) CL (rmR CR a (mm - 1)) M n i c (mm - 1)).2.2.2.1) ((f_Call_arrive (up2 CI 38 0 (nI (mm - 1))) CL (rmR CR a (mm - 1)) M n i c (mm - 1)).2.2.2.2.1) ((f_Call_arrive (up2 CI 38 0 (nI (mm - 1))) CL (rmR CR a (mm - 1)) M n i c (mm - 1)).2.2.2.2.2)) (n := 2) (As := [.int (nI a), .ref (al3 i)]) (rest := []) (C := R_LC) X w (c_LC_insert l D ac o ad al3 ((f_Call_arrive (up2 CI 38 0 (nI (mm - 1))) CL (rmR CR a (mm - 1)) M n i c (mm - 1)).2.1) ((f_Call_arrive (up2 CI 38 0 (nI (mm - 1))) CL (rmR CR a (mm - 1)) M n i c (mm - 1)).2.2.1) ((f_Call_arrive (up2 CI 38 0 (nI (mm - 1))) CL (rmR CR a (mm - 1)) M n i c (mm - 1)).2.2.2.1) ((f_Call_arrive (up2 CI 38 0 (nI (mm - 1))) CL (rmR CR a (mm - 1)) M n i c (mm - 1)).2.2.2.2.1) ((f_Call_arrive (up2 CI 38 0 (nI (mm - 1))) CL (rmR CR a (mm - 1)) M n i c (mm - 1)).2.2.2.2.2) _ a i (mm - 1) hmc (by omega) (by omega) (by omega) hok) wk_LC_insert wi_LC wm_LC_70 wx_LC_insert ws_LC_LC_insert (by decide +kernel) rfl rfl ⟨(Nat.le_of_ble_eq_true rfl), (Nat.le_of_ble_eq_true rfl)⟩ ⟨(Nat.le_of_ble_eq_true rfl), (Nat.le_of_ble_eq_true rfl)⟩ (crecv X w) rfl hl.1 rfl (Nat.le_of_ble_eq_true rfl) d_LC_deliver_24) (fun u H locs hp w => ?_)
    obtain ⟨hok9, rfl⟩ := hp
    have hok := hok9
    have w : Wo D _ (cwm ac o ad al3 ((f_LC_insert ((f_Call_arrive (up2 CI 38 0 (nI (mm - 1))) CL (rmR CR a (mm - 1)) M n i c (mm - 1)).2.1) ((f_Call_arrive (up2 CI 38 0 (nI (mm - 1))) CL (rmR CR a (mm - 1)) M n i c (mm - 1)).2.2.2.1) a i (mm - 1)).1) ((f_Call_arrive (up2 CI 38 0 (nI (mm - 1))) CL (rmR CR a (mm - 1)) M n i c (mm - 1)).2.2.1) ((f_LC_insert ((f_Call_arrive (up2 CI 38 0 (nI (mm - 1))) CL (rmR CR a (mm - 1)) M n i c (mm - 1)).2.1) ((f_Call_arrive (up2 CI 38 0 (nI (mm - 1))) CL (rmR CR a (mm - 1)) M n i c (mm - 1)).2.2.2.1) a i (mm - 1)).2) ((f_Call_arrive (up2 CI 38 0 (nI (mm - 1))) CL (rmR CR a (mm - 1)) M n i c (mm - 1)).2.2.2.2.1) ((f_Call_arrive (up2 CI 38 0 (nI (mm - 1))) CL (rmR CR a (mm - 1)) M n i c (mm - 1)).2.2.2.2.2)) s.heap _ _ := w
    refine lv_iload_n hx hb d_LC_deliver_27 rfl (lv_at hl 0 rfl) ?_
    have hF : f_LC_deliver_Call CI CL CR M n a i c mm = ((f_Call_arrive (up2 CI 38 0 (nI (mm - 1))) CL (rmR CR a (mm - 1)) M n i c (mm - 1)).1, (f_LC_insert ((f_Call_arrive (up2 CI 38 0 (nI (mm - 1))) CL (rmR CR a (mm - 1)) M n i c (mm - 1)).2.1) ((f_Call_arrive (up2 CI 38 0 (nI (mm - 1))) CL (rmR CR a (mm - 1)) M n i c (mm - 1)).2.2.2.1) a i (mm - 1)).1, (f_Call_arrive (up2 CI 38 0 (nI (mm - 1))) CL (rmR CR a (mm - 1)) M n i c (mm - 1)).2.2.1, (f_LC_insert ((f_Call_arrive (up2 CI 38 0 (nI (mm - 1))) CL (rmR CR a (mm - 1)) M n i c (mm - 1)).2.1) ((f_Call_arrive (up2 CI 38 0 (nI (mm - 1))) CL (rmR CR a (mm - 1)) M n i c (mm - 1)).2.2.2.1) a i (mm - 1)).2, (f_Call_arrive (up2 CI 38 0 (nI (mm - 1))) CL (rmR CR a (mm - 1)) M n i c (mm - 1)).2.2.2.2.1, (f_Call_arrive (up2 CI 38 0 (nI (mm - 1))) CL (rmR CR a (mm - 1)) M n i c (mm - 1)).2.2.2.2.2) := by unfold f_LC_deliver_Call; rw [if_pos h4]
    refine W.widen (k := 1) (n := 7) (Nat.le_of_ble_eq_true rfl) (Nat.le_of_ble_eq_true rfl) ?_
    exact kzret X w hr hk (f_Call_arrive_01.elim Or.inr (fun h => Or.inl (by rw [h]))) ⟨al3, hal, by rw [hF]; exact hn, by rw [hF]; exact hok, by rw [hF], by rw [hF]⟩ d_LC_deliver_28
def f_LC_deliver_Request (CI : Nat → Nat → Int32) (CL : Nat → Nat → Int64) (CR : Nat → Nat → Option Nat) (M : Nat → Msg) (n : Nat) (a : Nat) (i : Nat) (li : Nat) (mm : Nat) : Int32 × (Nat → Nat → Int32) × (Nat → Nat → Int64) × (Nat → Nat → Option Nat) × (Nat → Msg) × (Nat) :=
  if ((f_Request_arrive (up2 CI 38 0 (nI (mm - 1))) CL (rmR CR a (mm - 1)) M n i li (mm - 1)).1) = 0 then
    ((f_Request_arrive (up2 CI 38 0 (nI (mm - 1))) CL (rmR CR a (mm - 1)) M n i li (mm - 1)).1, (f_LC_insert ((f_Request_arrive (up2 CI 38 0 (nI (mm - 1))) CL (rmR CR a (mm - 1)) M n i li (mm - 1)).2.1) ((f_Request_arrive (up2 CI 38 0 (nI (mm - 1))) CL (rmR CR a (mm - 1)) M n i li (mm - 1)).2.2.2.1) a i (tn (((f_Request_arrive (up2 CI 38 0 (nI (mm - 1))) CL (rmR CR a (mm - 1)) M n i li (mm - 1)).2.1) 38 0))).1, (f_Request_arrive (up2 CI 38 0 (nI (mm - 1))) CL (rmR CR a (mm - 1)) M n i li (mm - 1)).2.2.1, (f_LC_insert ((f_Request_arrive (up2 CI 38 0 (nI (mm - 1))) CL (rmR CR a (mm - 1)) M n i li (mm - 1)).2.1) ((f_Request_arrive (up2 CI 38 0 (nI (mm - 1))) CL (rmR CR a (mm - 1)) M n i li (mm - 1)).2.2.2.1) a i (tn (((f_Request_arrive (up2 CI 38 0 (nI (mm - 1))) CL (rmR CR a (mm - 1)) M n i li (mm - 1)).2.1) 38 0))).2, (f_Request_arrive (up2 CI 38 0 (nI (mm - 1))) CL (rmR CR a (mm - 1)) M n i li (mm - 1)).2.2.2.2.1, (f_Request_arrive (up2 CI 38 0 (nI (mm - 1))) CL (rmR CR a (mm - 1)) M n i li (mm - 1)).2.2.2.2.2)
  else
    ((f_Request_arrive (up2 CI 38 0 (nI (mm - 1))) CL (rmR CR a (mm - 1)) M n i li (mm - 1)).1, (f_Request_arrive (up2 CI 38 0 (nI (mm - 1))) CL (rmR CR a (mm - 1)) M n i li (mm - 1)).2.1, (f_Request_arrive (up2 CI 38 0 (nI (mm - 1))) CL (rmR CR a (mm - 1)) M n i li (mm - 1)).2.2.1, (f_Request_arrive (up2 CI 38 0 (nI (mm - 1))) CL (rmR CR a (mm - 1)) M n i li (mm - 1)).2.2.2.1, (f_Request_arrive (up2 CI 38 0 (nI (mm - 1))) CL (rmR CR a (mm - 1)) M n i li (mm - 1)).2.2.2.2.1, (f_Request_arrive (up2 CI 38 0 (nI (mm - 1))) CL (rmR CR a (mm - 1)) M n i li (mm - 1)).2.2.2.2.2)
set_option maxHeartbeats 4000000 in
set_option maxRecDepth 100000 in
theorem c_LC_deliver_Request (l : Launch) (D : va_G) (ac : Nat → ClassId) (o : Nat) (ad : Nat → Nat) (al : Nat → Nat) (CI : Nat → Nat → Int32) (CL : Nat → Nat → Int64) (CR : Nat → Nat → Option Nat) (M : Nat → Msg) (n : Nat) (sz : Nat) (a : Nat) (i : Nat) (li : Nat) (mm : Nat) (hm : CI 38 0 = nI mm) (ha : a < mm) (hmm : mm < 22) (hi : CR 3 a = some i) (hin : i < n) (hcl : mcls (M i) = 4) (hli : mline (M i) = nI li) (hl12 : li < 12) (hel : ∀ k, k < 6 → CI 16 k = -1 ∨ (CI 16 k = nI (tn (CI 16 k)) ∧ tn (CI 16 k) < 12)) (hw : ∀ e q, e < 6 → CR 1 e = some q → CI 22 e = nI (tn (CI 22 e)) ∧ tn (CI 22 e) < 2) (hok : CRok CR n) : Met l y_LC_deliver [Cond.code y_LC_deliver b_LC_deliver 4 (some .boolean)] { frames := 6, cells := 2, slots := 14, locals := 143 } (va_Pc [.ref o, .int (nI a)] (CPre D ac (cwm ac o ad al CI CL CR M n) sz)) (va_Qi (fun r u => ∃ a9 : Nat → Nat, (∀ i, i < n → a9 i = al i) ∧ n ≤ (f_LC_deliver_Request CI CL CR M n a i li mm).2.2.2.2.2 ∧ CRok ((f_LC_deliver_Request CI CL CR M n a i li mm).2.2.2.1) ((f_LC_deliver_Request CI CL CR M n a i li mm).2.2.2.2.2) ∧ r = (f_LC_deliver_Request CI CL CR M n a i li mm).1 ∧ u = cwm ac o ad a9 ((f_LC_deliver_Request CI CL CR M n a i li mm).2.1) ((f_LC_deliver_Request CI CL CR M n a i li mm).2.2.1) ((f_LC_deliver_Request CI CL CR M n a i li mm).2.2.2.1) ((f_LC_deliver_Request CI CL CR M n a i li mm).2.2.2.2.1) ((f_LC_deliver_Request CI CL CR M n a i li mm).2.2.2.2.2)) (CPost D (cwm ac o ad al CI CL CR M n) sz) (va_A (cwm ac o ad al CI CL CR M n) sz)) 2 14 (va_A (cwm ac o ad al CI CL CR M n) sz) := by
  refine kofW (by decide) (Nat.le_of_ble_eq_true rfl) ?_
  intro p ev s m args below meth c0 ls X hr hk hnm hex hsz w hl
  have X : Cx b_LC_deliver 4 R_LC D ac p m args c0 s := X
  have hx := X.1
  have hb := X.2.1
  have hl : lv_has ls 4 [(0, .ref o), (1, .int (nI a))] := hl
  have hal : ∀ i, i < n → al i = al i := fun _ _ => rfl
  have hn : n ≤ n := Nat.le_refl n
  refine lv_aload_n hx hb d_LC_deliver_0 rfl (lv_at hl 0 rfl) ?_
  refine lv_iload_n hx hb d_LC_deliver_1 rfl (lv_at hl 1 rfl) ?_
  refine kcallq (ws0 := []) w (krunV (ws0 := []) (wc := cwm ac o ad al CI CL CR M n) (n := 1) (As := [.int (nI a)]) (rest := []) (C := R_LC) X w (c_LC_at l D ac o ad al CI CL CR M n _ a i mm hm (by omega) (by omega) hi) wk_LC_at wi_LC wm_LC_62 wx_LC_at ws_LC_LC_at (by decide +kernel) rfl rfl ⟨(Nat.le_of_ble_eq_true rfl), (Nat.le_of_ble_eq_true rfl)⟩ ⟨(Nat.le_of_ble_eq_true rfl), (Nat.le_of_ble_eq_true rfl)⟩ (crecv X w) rfl hl.1 rfl (Nat.le_of_ble_eq_true rfl) d_LC_deliver_2) (fun r1 u H locs hp w => ?_)
  obtain ⟨rfl, rfl⟩ := hp
  have w : Wo D _ (cwm ac o ad al CI CL CR M n) s.heap _ _ := w
  refine W.eq (g2 := F0 m 5 ls (.ref (al i) :: [])) rfl ?_
  refine lv_astore_n (lv' := [(2, .ref (al i)), (0, .ref o), (1, .int (nI a))]) hx hb d_LC_deliver_5 rfl hl (by decide) rfl (fun ls hl => ?_)
  refine lv_aload_n hx hb d_LC_deliver_6 rfl (lv_at hl 1 rfl) ?_
  refine lv_iload_n hx hb d_LC_deliver_7 rfl (lv_at hl 2 rfl) ?_
  refine kcallv (ws0 := []) w (krunV (ws0 := []) (wc := cwm ac o ad al CI CL CR M n) (n := 1) (As := [.int (nI a)]) (rest := []) (C := R_LC) X w (c_LC_remove l D ac o ad al CI CL CR M n _ a mm hm (by omega) (by omega) hok) wk_LC_remove wi_LC wm_LC_59 wx_LC_remove ws_LC_LC_remove (by decide +kernel) rfl rfl ⟨(Nat.le_of_ble_eq_true rfl), (Nat.le_of_ble_eq_true rfl)⟩ ⟨(Nat.le_of_ble_eq_true rfl), (Nat.le_of_ble_eq_true rfl)⟩ (crecv X w) rfl hl.1 rfl (Nat.le_of_ble_eq_true rfl) d_LC_deliver_8) (fun u H locs hp w => ?_)
  obtain ⟨hok9, rfl⟩ := hp
  have hok := hok9
  have w : Wo D _ (cwm ac o ad al ((f_LC_remove CI CR a mm).1) CL ((f_LC_remove CI CR a mm).2) M n) s.heap _ _ := w
  rw [f_LC_remove_eq (by omega)] at w hok
  have hmr : up2 CI 38 0 (nI (mm - 1)) 38 0 = nI (mm - 1) := by simp [up2]
  have w : Wo D _ (cwm ac o ad al (up2 CI 38 0 (nI (mm - 1))) CL (rmR CR a (mm - 1)) M n) s.heap _ _ := w
  have hok : CRok (rmR CR a (mm - 1)) n := hok
  refine lv_aload_n hx hb d_LC_deliver_11 rfl (lv_at hl 0 rfl) ?_
  refine lv_aload_n hx hb d_LC_deliver_12 rfl (lv_at hl 1 rfl) ?_
  refine kcalli (ws0 := []) w (krunU (owner := R_Message) (ws0 := []) (wc := cwm ac o ad al (up2 CI 38 0 (nI (mm - 1))) CL (rmR CR a (mm - 1)) M n) (n := 1) (As := [.ref o]) (rest := []) (C := R_Request) X w (c_Request_arrive l D ac o ad al (up2 CI 38 0 (nI (mm - 1))) CL (rmR CR a (mm - 1)) M n _ i li (mm - 1) (by omega) hcl hli (by omega) hel hw hmr (by omega) hok) wk_Request_arrive wi_Request wm_LC_66 wq_Message_arrive (va_Decl.abs (X.2.2.2.2.1.at wd_Message_arrive)) wx_Request_arrive ws_Request_Message_arrive (by decide +kernel) rfl rfl ⟨(Nat.le_of_ble_eq_true rfl), (Nat.le_of_ble_eq_true rfl)⟩ ⟨(Nat.le_of_ble_eq_true rfl), (Nat.le_of_ble_eq_true rfl)⟩ (mrecvC X w (q := i) (by omega) (mcell4 hcl) rfl) rfl hl.1 rfl (Nat.le_of_ble_eq_true rfl) d_LC_deliver_13) (fun r2 u H locs hp w => ?_)
  obtain ⟨al3, hal9, hn9, hok9, rfl, rfl⟩ := hp
  have hok := hok9
  have hal : ∀ i, i < n → al3 i = al i := fun i h => (hal9 i (by omega)).trans (hal i h)
  have hn : n ≤ (f_Request_arrive (up2 CI 38 0 (nI (mm - 1))) CL (rmR CR a (mm - 1)) M n i li (mm - 1)).2.2.2.2.2 := by omega
  rw [← hal9 i (by omega)] at hl
  have hl : lv_has ls 4 [(2, .ref (al3 i)), (0, .ref o), (1, .int (nI a))] := hl
  have w : Wo D _ (cwm ac o ad al3 ((f_Request_arrive (up2 CI 38 0 (nI (mm - 1))) CL (rmR CR a (mm - 1)) M n i li (mm - 1)).2.1) ((f_Request_arrive (up2 CI 38 0 (nI (mm - 1))) CL (rmR CR a (mm - 1)) M n i li (mm - 1)).2.2.1) ((f_Request_arrive (up2 CI 38 0 (nI (mm - 1))) CL (rmR CR a (mm - 1)) M n i li (mm - 1)).2.2.2.1) ((f_Request_arrive (up2 CI 38 0 (nI (mm - 1))) CL (rmR CR a (mm - 1)) M n i li (mm - 1)).2.2.2.2.1) ((f_Request_arrive (up2 CI 38 0 (nI (mm - 1))) CL (rmR CR a (mm - 1)) M n i li (mm - 1)).2.2.2.2.2)) s.heap _ _ := w
  refine lv_istore_n (lv' := [(3, .int ((f_Request_arrive (up2 CI 38 0 (nI (mm - 1))) CL (rmR CR a (mm - 1)) M n i li (mm - 1)).1)), (2, .ref (al3 i)), (0, .ref o), (1, .int (nI a))]) hx hb d_LC_deliver_16 rfl hl (by decide) rfl (fun ls hl => ?_)
  refine lv_iload_n hx hb d_LC_deliver_17 rfl (lv_at hl 0 rfl) ?_
  refine lv_if_ne (tgt := 27) hx hb d_LC_deliver_18 (by decide) (fun h4 => ?_) (fun h4 => ?_)
  · skip
    refine lv_iload_n hx hb d_LC_deliver_27 rfl (lv_at hl 0 rfl) ?_
    have hF : f_LC_deliver_Request CI CL CR M n a i li mm = ((f_Request_arrive (up2 CI 38 0 (nI (mm - 1))) CL (rmR CR a (mm - 1)) M n i li (mm - 1)).1, (f_Request_arrive (up2 CI 38 0 (nI (mm - 1))) CL (rmR CR a (mm - 1)) M n i li (mm - 1)).2.1, (f_Request_arrive (up2 CI 38 0 (nI (mm - 1))) CL (rmR CR a (mm - 1)) M n i li (mm - 1)).2.2.1, (f_Request_arrive (up2 CI 38 0 (nI (mm - 1))) CL (rmR CR a (mm - 1)) M n i li (mm - 1)).2.2.2.1, (f_Request_arrive (up2 CI 38 0 (nI (mm - 1))) CL (rmR CR a (mm - 1)) M n i li (mm - 1)).2.2.2.2.1, (f_Request_arrive (up2 CI 38 0 (nI (mm - 1))) CL (rmR CR a (mm - 1)) M n i li (mm - 1)).2.2.2.2.2) := by unfold f_LC_deliver_Request; rw [if_neg h4]
    refine W.widen (k := 2) (n := 14) (Nat.le_of_ble_eq_true rfl) (Nat.le_of_ble_eq_true rfl) ?_
    exact kzret X w hr hk ((f_Request_arrive_01 hmr).elim Or.inr (fun h => Or.inl h.1)) ⟨al3, hal, by rw [hF]; exact hn, by rw [hF]; exact hok, by rw [hF], by rw [hF]⟩ d_LC_deliver_28
  · skip
    have hmq : ((f_Request_arrive (up2 CI 38 0 (nI (mm - 1))) CL (rmR CR a (mm - 1)) M n i li (mm - 1)).2.1) 38 0 = nI (tn (((f_Request_arrive (up2 CI 38 0 (nI (mm - 1))) CL (rmR CR a (mm - 1)) M n i li (mm - 1)).2.1) 38 0)) ∧ mm - 1 ≤ tn (((f_Request_arrive (up2 CI 38 0 (nI (mm - 1))) CL (rmR CR a (mm - 1)) M n i li (mm - 1)).2.1) 38 0) ∧ tn (((f_Request_arrive (up2 CI 38 0 (nI (mm - 1))) CL (rmR CR a (mm - 1)) M n i li (mm - 1)).2.1) 38 0) ≤ mm := (f_Request_arrive_01 hmr).elim (fun h => absurd (h.symm.trans h4) (by decide)) (fun h => h.2.elim (fun h => by rw [h, tn_nI (by omega)]; exact ⟨rfl, by omega, by omega⟩) (fun h => by rw [h, tn_nI (by omega)]; exact ⟨rfl, by omega, by omega⟩))
    refine lv_aload_n hx hb d_LC_deliver_21 rfl (lv_at hl 2 rfl) ?_
    refine lv_iload_n hx hb d_LC_deliver_22 rfl (lv_at hl 3 rfl) ?_
    refine lv_aload_n hx hb d_LC_deliver_23 rfl (lv_at hl 1 rfl) ?_
    refine kcallv (ws0 := []) w (krunV (ws0 := []) (wc := cwm ac o ad al3 ((f_Request_arrive (up2 CI 38 0 (nI (mm - 1))) CL (rmR CR a (mm - 1)) M n i li (mm - 1)).2.1) ((f_Request_arrive (up2 CI 38 0 (nI (mm - 1))) CL (rmR CR a (mm - 1)) M n i li (mm - 1)).2.2.1) ((f_Request_arrive (up2 CI 38 0 (nI (mm - 1))) CL (rmR CR a (mm - 1)) M n i li (mm - 1)).2.2.2.1) ((f_Request_arrive (up2 CI 38 0 (nI (mm - 1))) CL (rmR CR a (mm - 1)) M n i li (mm - 1)).2.2.2.2.1) ((f_Request_arrive (up2 CI 38 0 (nI (mm - 1))) CL (rmR CR a (mm - 1)) M n i li (mm - 1)).2.2.2.2.2)) (n := 2) (As := [.int (nI a), .ref (al3 i)]) (rest := []) (C := R_LC) X w (c_LC_insert l D ac o ad al3 ((f_Request_arrive (up2 CI 38 0 (nI (mm - 1))) CL (rmR CR a (mm - 1)) M n i li (mm - 1)).2.1) ((f_Request_arrive (up2 CI 38 0 (nI (mm - 1))) CL (rmR CR a (mm - 1)) M n i li (mm - 1)).2.2.1) ((f_Request_arrive (up2 CI 38 0 (nI (mm - 1))) CL (rmR CR a (mm - 1)) M n i li (mm - 1)).2.2.2.1) ((f_Request_arrive (up2 CI 38 0 (nI (mm - 1))) CL (rmR CR a (mm - 1)) M n i li (mm - 1)).2.2.2.2.1) ((f_Request_arrive (up2 CI 38 0 (nI (mm - 1))) CL (rmR CR a (mm - 1)) M n i li (mm - 1)).2.2.2.2.2) _ a i (tn (((f_Request_arrive (up2 CI 38 0 (nI (mm - 1))) CL (rmR CR a (mm - 1)) M n i li (mm - 1)).2.1) 38 0)) hmq.1 (by omega) (by omega) (by omega) hok) wk_LC_insert wi_LC wm_LC_70 wx_LC_insert ws_LC_LC_insert (by decide +kernel) rfl rfl ⟨(Nat.le_of_ble_eq_true rfl), (Nat.le_of_ble_eq_true rfl)⟩ ⟨(Nat.le_of_ble_eq_true rfl), (Nat.le_of_ble_eq_true rfl)⟩ (crecv X w) rfl hl.1 rfl (Nat.le_of_ble_eq_true rfl) d_LC_deliver_24) (fun u H locs hp w => ?_)
    obtain ⟨hok9, rfl⟩ := hp
    have hok := hok9
    have w : Wo D _ (cwm ac o ad al3 ((f_LC_insert ((f_Request_arrive (up2 CI 38 0 (nI (mm - 1))) CL (rmR CR a (mm - 1)) M n i li (mm - 1)).2.1) ((f_Request_arrive (up2 CI 38 0 (nI (mm - 1))) CL (rmR CR a (mm - 1)) M n i li (mm - 1)).2.2.2.1) a i (tn (((f_Request_arrive (up2 CI 38 0 (nI (mm - 1))) CL (rmR CR a (mm - 1)) M n i li (mm - 1)).2.1) 38 0))).1) ((f_Request_arrive (up2 CI 38 0 (nI (mm - 1))) CL (rmR CR a (mm - 1)) M n i li (mm - 1)).2.2.1) ((f_LC_insert ((f_Request_arrive (up2 CI 38 0 (nI (mm - 1))) CL (rmR CR a (mm - 1)) M n i li (mm - 1)).2.1) ((f_Request_arrive (up2 CI 38 0 (nI (mm - 1))) CL (rmR CR a (mm - 1)) M n i li (mm - 1)).2.2.2.1) a i (tn (((f_Request_arrive (up2 CI 38 0 (nI (mm - 1))) CL (rmR CR a (mm - 1)) M n i li (mm - 1)).2.1) 38 0))).2) ((f_Request_arrive (up2 CI 38 0 (nI (mm - 1))) CL (rmR CR a (mm - 1)) M n i li (mm - 1)).2.2.2.2.1) ((f_Request_arrive (up2 CI 38 0 (nI (mm - 1))) CL (rmR CR a (mm - 1)) M n i li (mm - 1)).2.2.2.2.2)) s.heap _ _ := w
    refine lv_iload_n hx hb d_LC_deliver_27 rfl (lv_at hl 0 rfl) ?_
    have hF : f_LC_deliver_Request CI CL CR M n a i li mm = ((f_Request_arrive (up2 CI 38 0 (nI (mm - 1))) CL (rmR CR a (mm - 1)) M n i li (mm - 1)).1, (f_LC_insert ((f_Request_arrive (up2 CI 38 0 (nI (mm - 1))) CL (rmR CR a (mm - 1)) M n i li (mm - 1)).2.1) ((f_Request_arrive (up2 CI 38 0 (nI (mm - 1))) CL (rmR CR a (mm - 1)) M n i li (mm - 1)).2.2.2.1) a i (tn (((f_Request_arrive (up2 CI 38 0 (nI (mm - 1))) CL (rmR CR a (mm - 1)) M n i li (mm - 1)).2.1) 38 0))).1, (f_Request_arrive (up2 CI 38 0 (nI (mm - 1))) CL (rmR CR a (mm - 1)) M n i li (mm - 1)).2.2.1, (f_LC_insert ((f_Request_arrive (up2 CI 38 0 (nI (mm - 1))) CL (rmR CR a (mm - 1)) M n i li (mm - 1)).2.1) ((f_Request_arrive (up2 CI 38 0 (nI (mm - 1))) CL (rmR CR a (mm - 1)) M n i li (mm - 1)).2.2.2.1) a i (tn (((f_Request_arrive (up2 CI 38 0 (nI (mm - 1))) CL (rmR CR a (mm - 1)) M n i li (mm - 1)).2.1) 38 0))).2, (f_Request_arrive (up2 CI 38 0 (nI (mm - 1))) CL (rmR CR a (mm - 1)) M n i li (mm - 1)).2.2.2.2.1, (f_Request_arrive (up2 CI 38 0 (nI (mm - 1))) CL (rmR CR a (mm - 1)) M n i li (mm - 1)).2.2.2.2.2) := by unfold f_LC_deliver_Request; rw [if_pos h4]
    refine W.widen (k := 2) (n := 14) (Nat.le_of_ble_eq_true rfl) (Nat.le_of_ble_eq_true rfl) ?_
    exact kzret X w hr hk ((f_Request_arrive_01 hmr).elim Or.inr (fun h => Or.inl h.1)) ⟨al3, hal, by rw [hF]; exact hn, by rw [hF]; exact hok, by rw [hF], by rw [hF]⟩ d_LC_deliver_28
