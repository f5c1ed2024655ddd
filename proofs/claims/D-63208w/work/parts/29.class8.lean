theorem f_LC_forgetCalls_7_all {M : Nat → Msg} {li : Int32} : ∀ (d : Nat) (CI : Nat → Nat → Int32) (CR : Nat → Nat → Option Nat) (mm : Nat), CI 38 0 = nI mm → d ≤ mm → (∀ j, j < mm → ∃ i, CR 3 j = some i) → (∃ z, z ≤ mm ∧ (f_LC_forgetCalls_7 d CI CR M li mm).1 38 0 = nI z ∧ ∀ j, j < z → ∃ i, (f_LC_forgetCalls_7 d CI CR M li mm).2 3 j = some i) ∧ (∀ k, k ≠ 38 → (f_LC_forgetCalls_7 d CI CR M li mm).1 k = CI k) ∧ (∀ k, k ≠ 3 → (f_LC_forgetCalls_7 d CI CR M li mm).2 k = CR k) := by
  intro d
  induction d with
  | zero => intro CI CR mm hm _ ha; exact ⟨⟨mm, Nat.le_refl _, hm, ha⟩, fun _ _ => rfl, fun _ _ => rfl⟩
  | succ d ih =>
    intro CI CR mm hm hd ha
    rw [f_LC_forgetCalls_7_s]
    have keep := ih CI CR mm hm (by omega) ha
    have hrem := f_LC_remove_eq (CI := CI) (CR := CR) (a := d) (mm := mm) (by omega)
    obtain ⟨y, hy⟩ := ha d (by omega)
    rw [hy, oc_some]
    by_cases h1 : mcls (M y) = 6
    · rw [if_pos h1]
      by_cases h2 : mline (M y) = li
      · rw [if_pos h2]
        obtain ⟨⟨z, hz1, hz2, hz3⟩, hI, hR⟩ := ih (f_LC_remove CI CR d mm).1 (f_LC_remove CI CR d mm).2 (mm - 1) (f_LC_remove_hm (by omega)) (by omega) (f_LC_remove_all (by omega) ha)
        refine ⟨⟨z, by omega, hz2, hz3⟩, fun k hk => ?_, fun k hk => ?_⟩
        · rw [hI k hk, hrem]; funext j; simp [up2, hk]
        · rw [hR k hk, hrem]; simp [rmR, hk]
      · rw [if_neg h2]; exact keep
    · rw [if_neg h1]; exact keep
theorem f_LC_forgetCalls_R {CI : Nat → Nat → Int32} {CR : Nat → Nat → Option Nat} {M : Nat → Msg} {li : Int32} {mm : Nat} (hm : CI 38 0 = nI mm) (ha : ∀ j, j < mm → ∃ i, CR 3 j = some i) : ∀ k, k ≠ 3 → (f_LC_forgetCalls CI CR M li mm).2 k = CR k := (f_LC_forgetCalls_7_all mm CI CR mm hm (Nat.le_refl _) ha).2.2
theorem f_LC_forgetCalls_I {CI : Nat → Nat → Int32} {CR : Nat → Nat → Option Nat} {M : Nat → Msg} {li : Int32} {mm : Nat} (hm : CI 38 0 = nI mm) (ha : ∀ j, j < mm → ∃ i, CR 3 j = some i) : ∀ k, k ≠ 38 → (f_LC_forgetCalls CI CR M li mm).1 k = CI k := (f_LC_forgetCalls_7_all mm CI CR mm hm (Nat.le_refl _) ha).2.1
theorem f_LC_forgetCalls_hm {CI : Nat → Nat → Int32} {CR : Nat → Nat → Option Nat} {M : Nat → Msg} {li : Int32} {mm : Nat} (hm : CI 38 0 = nI mm) (hb : mm < 1000) (ha : ∀ j, j < mm → ∃ i, CR 3 j = some i) : (f_LC_forgetCalls CI CR M li mm).1 38 0 = nI (tn ((f_LC_forgetCalls CI CR M li mm).1 38 0)) ∧ tn ((f_LC_forgetCalls CI CR M li mm).1 38 0) ≤ mm := by
  obtain ⟨z, h1, h2, -⟩ := (f_LC_forgetCalls_7_all (M := M) (li := li) mm CI CR mm hm (Nat.le_refl _) ha).1
  have h3 : (f_LC_forgetCalls CI CR M li mm).1 38 0 = nI z := h2
  rw [h3, tn_nI (by omega)]
  exact ⟨rfl, h1⟩
theorem f_Entry_next_k {CI : Nat → Nat → Int32} {CR : Nat → Nat → Option Nat} {e k : Nat} (hk : k ≠ 22) : (f_Entry_next CI CR e).2.1 k = CI k := by
  unfold f_Entry_next
  cases CR (10 + e) 0 <;> cases CR (10 + e) 1 <;> (funext j; simp [oc_none, oc_some, up2, hk])
theorem f_Entry_next_w {CI : Nat → Nat → Int32} {CR : Nat → Nat → Option Nat} {e : Nat} : (f_Entry_next CI CR e).2.1 22 e = CI 22 e - 1 := by
  unfold f_Entry_next
  cases CR (10 + e) 0 <;> cases CR (10 + e) 1 <;> simp [oc_none, oc_some, up2]
theorem f_Entry_next_1 {CI : Nat → Nat → Int32} {CR : Nat → Nat → Option Nat} {e : Nat} : (f_Entry_next CI CR e).1 = CR (10 + e) 0 := by
  unfold f_Entry_next
  cases CR (10 + e) 0 <;> cases CR (10 + e) 1 <;> rfl
theorem f_Entry_next_R {CI : Nat → Nat → Int32} {CR : Nat → Nat → Option Nat} {e : Nat} : (f_Entry_next CI CR e).2.2 = up2 (up2 CR (10 + e) 0 (CR (10 + e) 1)) (10 + e) 1 none := by
  unfold f_Entry_next
  cases CR (10 + e) 0 <;> cases CR (10 + e) 1 <;> rfl
theorem f_Entry_next_Q {CI : Nat → Nat → Int32} {CR : Nat → Nat → Option Nat} {M : Nat → Msg} {e : Nat} (h : ∀ j q, CR (10 + e) j = some q → mcls (M q) = 4) : ∀ j q, (f_Entry_next CI CR e).2.2 (10 + e) j = some q → mcls (M q) = 4 := by
  intro j q hj
  rw [f_Entry_next_R] at hj
  by_cases h1 : j = 1
  · subst h1; simp [up2] at hj
  · by_cases h0 : j = 0
    · subst h0; simp [up2] at hj; exact h 1 q hj
    · simp [up2, h1, h0] at hj; exact h j q hj
theorem tn_pred {x : Int32} (h : x = nI (tn x)) (hb : tn x < 1000) (h0 : ¬ x ≤ 0) : x - 1 = nI (tn x - 1) ∧ 0 < tn x := by
  have hp : 0 < tn x := by
    rcases Nat.eq_zero_or_pos (tn x) with e | e
    · rw [e] at h; exact absurd (by rw [h]; decide) h0
    · exact e
  refine ⟨?_, hp⟩
  obtain ⟨d, hd⟩ : ∃ d, tn x = d + 1 := ⟨tn x - 1, by omega⟩
  rw [h, tn_nI (by omega), hd]
  exact kdn_sub (d + 1)
def f_Return_arrive_53 : Nat → (Nat → Nat → Int32) → (Nat → Nat → Int64) → (Nat → Nat → Option Nat) → (Nat → Msg) → (Nat) → Nat → Option Nat → Nat → Int32 × (Nat → Nat → Int32) × (Nat → Nat → Int64) × (Nat → Nat → Option Nat) × (Nat → Msg) × (Nat)
  | 0, CI, CL, CR, M, n, e, f, mm =>
    oc (f) (
      (1, CI, CL, CR, M, n))
      (fun y2 =>
      (1, CI, CL, CR, M, n))
  | d + 1, CI, CL, CR, M, n, e, f, mm =>
    oc (f) (
      (1, CI, CL, CR, M, n))
      (fun y2 =>
      oc (((f_LC_serve CI CL CR M n e y2 mm).2.2.1) 1 e) (
        if (((f_LC_serve CI CL CR M n e y2 mm).1) 22 e) ≤ 0 then
          f_Return_arrive_53 d ((f_LC_serve CI CL CR M n e y2 mm).1) ((f_LC_serve CI CL CR M n e y2 mm).2.1) ((f_LC_serve CI CL CR M n e y2 mm).2.2.1) ((f_LC_serve CI CL CR M n e y2 mm).2.2.2.1) ((f_LC_serve CI CL CR M n e y2 mm).2.2.2.2) e none (tn (((f_LC_serve CI CL CR M n e y2 mm).1) 38 0))
        else
          oc ((f_Entry_next ((f_LC_serve CI CL CR M n e y2 mm).1) ((f_LC_serve CI CL CR M n e y2 mm).2.2.1) e).1) (
            f_Return_arrive_53 d ((f_Entry_next ((f_LC_serve CI CL CR M n e y2 mm).1) ((f_LC_serve CI CL CR M n e y2 mm).2.2.1) e).2.1) ((f_LC_serve CI CL CR M n e y2 mm).2.1) ((f_Entry_next ((f_LC_serve CI CL CR M n e y2 mm).1) ((f_LC_serve CI CL CR M n e y2 mm).2.2.1) e).2.2) ((f_LC_serve CI CL CR M n e y2 mm).2.2.2.1) ((f_LC_serve CI CL CR M n e y2 mm).2.2.2.2) e none (tn (((f_LC_serve CI CL CR M n e y2 mm).1) 38 0)))
            (fun y9 =>
            f_Return_arrive_53 d ((f_Entry_next ((f_LC_serve CI CL CR M n e y2 mm).1) ((f_LC_serve CI CL CR M n e y2 mm).2.2.1) e).2.1) ((f_LC_serve CI CL CR M n e y2 mm).2.1) ((f_Entry_next ((f_LC_serve CI CL CR M n e y2 mm).1) ((f_LC_serve CI CL CR M n e y2 mm).2.2.1) e).2.2) ((f_LC_serve CI CL CR M n e y2 mm).2.2.2.1) ((f_LC_serve CI CL CR M n e y2 mm).2.2.2.2) e (some y9) (tn (((f_LC_serve CI CL CR M n e y2 mm).1) 38 0))))
        (fun y5 =>
        f_Return_arrive_53 d ((f_LC_serve CI CL CR M n e y2 mm).1) ((f_LC_serve CI CL CR M n e y2 mm).2.1) ((f_LC_serve CI CL CR M n e y2 mm).2.2.1) ((f_LC_serve CI CL CR M n e y2 mm).2.2.2.1) ((f_LC_serve CI CL CR M n e y2 mm).2.2.2.2) e none (tn (((f_LC_serve CI CL CR M n e y2 mm).1) 38 0))))
theorem f_Return_arrive_53_z (CI : Nat → Nat → Int32) (CL : Nat → Nat → Int64) (CR : Nat → Nat → Option Nat) (M : Nat → Msg) (n : Nat) (e : Nat) (f : Option Nat) (mm : Nat) : f_Return_arrive_53 0 CI CL CR M n e f mm =
    oc (f) (
      (1, CI, CL, CR, M, n))
      (fun y2 =>
      (1, CI, CL, CR, M, n)) := rfl
theorem f_Return_arrive_53_s (d : Nat) (CI : Nat → Nat → Int32) (CL : Nat → Nat → Int64) (CR : Nat → Nat → Option Nat) (M : Nat → Msg) (n : Nat) (e : Nat) (f : Option Nat) (mm : Nat) : f_Return_arrive_53 (d + 1) CI CL CR M n e f mm =
    oc (f) (
      (1, CI, CL, CR, M, n))
      (fun y2 =>
      oc (((f_LC_serve CI CL CR M n e y2 mm).2.2.1) 1 e) (
        if (((f_LC_serve CI CL CR M n e y2 mm).1) 22 e) ≤ 0 then
          f_Return_arrive_53 d ((f_LC_serve CI CL CR M n e y2 mm).1) ((f_LC_serve CI CL CR M n e y2 mm).2.1) ((f_LC_serve CI CL CR M n e y2 mm).2.2.1) ((f_LC_serve CI CL CR M n e y2 mm).2.2.2.1) ((f_LC_serve CI CL CR M n e y2 mm).2.2.2.2) e none (tn (((f_LC_serve CI CL CR M n e y2 mm).1) 38 0))
        else
          oc ((f_Entry_next ((f_LC_serve CI CL CR M n e y2 mm).1) ((f_LC_serve CI CL CR M n e y2 mm).2.2.1) e).1) (
            f_Return_arrive_53 d ((f_Entry_next ((f_LC_serve CI CL CR M n e y2 mm).1) ((f_LC_serve CI CL CR M n e y2 mm).2.2.1) e).2.1) ((f_LC_serve CI CL CR M n e y2 mm).2.1) ((f_Entry_next ((f_LC_serve CI CL CR M n e y2 mm).1) ((f_LC_serve CI CL CR M n e y2 mm).2.2.1) e).2.2) ((f_LC_serve CI CL CR M n e y2 mm).2.2.2.1) ((f_LC_serve CI CL CR M n e y2 mm).2.2.2.2) e none (tn (((f_LC_serve CI CL CR M n e y2 mm).1) 38 0)))
            (fun y9 =>
            f_Return_arrive_53 d ((f_Entry_next ((f_LC_serve CI CL CR M n e y2 mm).1) ((f_LC_serve CI CL CR M n e y2 mm).2.2.1) e).2.1) ((f_LC_serve CI CL CR M n e y2 mm).2.1) ((f_Entry_next ((f_LC_serve CI CL CR M n e y2 mm).1) ((f_LC_serve CI CL CR M n e y2 mm).2.2.1) e).2.2) ((f_LC_serve CI CL CR M n e y2 mm).2.2.2.1) ((f_LC_serve CI CL CR M n e y2 mm).2.2.2.2) e (some y9) (tn (((f_LC_serve CI CL CR M n e y2 mm).1) 38 0))))
        (fun y5 =>
        f_Return_arrive_53 d ((f_LC_serve CI CL CR M n e y2 mm).1) ((f_LC_serve CI CL CR M n e y2 mm).2.1) ((f_LC_serve CI CL CR M n e y2 mm).2.2.1) ((f_LC_serve CI CL CR M n e y2 mm).2.2.2.1) ((f_LC_serve CI CL CR M n e y2 mm).2.2.2.2) e none (tn (((f_LC_serve CI CL CR M n e y2 mm).1) 38 0)))) := rfl
set_option maxHeartbeats 4000000 in
set_option maxRecDepth 100000 in
theorem g_Return_arrive_53 {p : Program} {l : Launch} {ev : Env} {s : State} {m : MethodId} {args : Array Value} {below : List Frame} {meth : Method} {c0 : Code} {D : va_G} {ac : Nat → ClassId} {o : Nat} {ad : Nat → Nat} {ws0 : va_W} {sz : Nat} {post : Int32 → va_W → Prop} (X : Cx b_Return_arrive 4 R_Return D ac p m args c0 s) (hr : meth.sig.returnType = (some .boolean)) (hk : meth.locks = false) (d : Nat) : ∀ (al : Nat → Nat) (CI : Nat → Nat → Int32) (CL : Nat → Nat → Int64) (CR : Nat → Nat → Option Nat) (M : Nat → Msg) (n : Nat) (e : Nat) (f : Option Nat) (mm : Nat) {cells slots : Nat} (he : e < 6) (hf : ∀ q, f = some q → q < n ∧ mcls (M q) = 4) (hQ : ∀ j q, CR (10 + e) j = some q → mcls (M q) = 4) (hw : CI 22 e = nI (tn (CI 22 e))) (hw2 : tn (CI 22 e) < 3) (hd : ∀ q, f = some q → tn (CI 22 e) < d) (hm : CI 38 0 = nI mm) (hmm : mm + d < 25) (hok : CRok CR n) (hcs : cells + d ≤ 3) (hss : slots + 7 * d ≤ 21) {H : Heap} {locs : List Loc} {ls : Array Slot} (_ : Wo D (va_A ws0 sz) (cwm ac o ad al CI CL CR M n) s.heap H locs) (_ : lv_has ls 4 [(1, .ref o), (2, .ref (ad (22 + e))), (3, va_rf (Option.map al f))]) (_ : ∀ a9 : Nat → Nat, (∀ i, i < n → a9 i = al i) → n ≤ (f_Return_arrive_53 d CI CL CR M n e f mm).2.2.2.2.2 → CRok ((f_Return_arrive_53 d CI CL CR M n e f mm).2.2.2.1) ((f_Return_arrive_53 d CI CL CR M n e f mm).2.2.2.2.2) → post ((f_Return_arrive_53 d CI CL CR M n e f mm).1) (cwm ac o ad a9 ((f_Return_arrive_53 d CI CL CR M n e f mm).2.1) ((f_Return_arrive_53 d CI CL CR M n e f mm).2.2.1) ((f_Return_arrive_53 d CI CL CR M n e f mm).2.2.2.1) ((f_Return_arrive_53 d CI CL CR M n e f mm).2.2.2.2.1) ((f_Return_arrive_53 d CI CL CR M n e f mm).2.2.2.2.2))), W p l ev ({ frames := 4, cells := 3, slots := 21, locals := 99 } : Room) s m args below meth c0 H locs cells slots (MQ below (va_Qi post (CPost D ws0 sz) (va_A ws0 sz)) args s 3 21 (va_A ws0 sz)) (F0 m 53 ls []) := by
  have hx := X.1
  have hb := X.2.1
  induction d with
  | zero =>
    intro al CI CL CR M n e f mm cells slots he hf hQ hw hw2 hd hm hmm hok hcs hss H locs ls w hl hp
    have hl : lv_has ls 4 [(1, .ref o), (2, .ref (ad (22 + e))), (3, va_rf (Option.map al f))] := hl
    have hal : ∀ i, i < n → al i = al i := fun _ _ => rfl
    have hn : n ≤ n := Nat.le_refl n
    have hok0 := hok
    cases ho1 : f with
    | none =>
      rw [ho1] at hl
      have hl : lv_has ls 4 [(1, .ref o), (2, .ref (ad (22 + e))), (3, .null)] := hl
      refine lv_aload_nN hx hb d_Return_arrive_53 rfl (lv_at hl 2 rfl) ?_
      refine lv_ifnullN (tgt := 89) hx hb d_Return_arrive_54 (by decide) ?_
      refine lv_iconst (v := 1) hx hb d_Return_arrive_89 (by decide) ?_
      have hF : f_Return_arrive_53 0 CI CL CR M n e f mm = (1, CI, CL, CR, M, n) := by rw [f_Return_arrive_53_z, ho1, oc_none]
      refine W.widen (k := 3) (n := 21) (by omega) (by omega) ?_
      exact kzret X w hr hk (by decide) (by have hp := hp al hal (by rw [hF]; exact hn) (by rw [hF]; exact hok); rw [hF] at hp; exact hp) d_Return_arrive_90
    | some y2 =>
      rw [ho1] at hl
      have hl : lv_has ls 4 [(1, .ref o), (2, .ref (ad (22 + e))), (3, .ref (al y2))] := hl
      exact absurd (hd y2 ho1) (Nat.not_lt_zero _)
  | succ d ih =>
    intro al CI CL CR M n e f mm cells slots he hf hQ hw hw2 hd hm hmm hok hcs hss H locs ls w hl hp
    have hl : lv_has ls 4 [(1, .ref o), (2, .ref (ad (22 + e))), (3, va_rf (Option.map al f))] := hl
    have hal : ∀ i, i < n → al i = al i := fun _ _ => rfl
    have hn : n ≤ n := Nat.le_refl n
    have hok0 := hok
    cases ho1 : f with
    | none =>
      rw [ho1] at hl
      have hl : lv_has ls 4 [(1, .ref o), (2, .ref (ad (22 + e))), (3, .null)] := hl
      refine lv_aload_nN hx hb d_Return_arrive_53 rfl (lv_at hl 2 rfl) ?_
      refine lv_ifnullN (tgt := 89) hx hb d_Return_arrive_54 (by decide) ?_
      refine lv_iconst (v := 1) hx hb d_Return_arrive_89 (by decide) ?_
      have hF : f_Return_arrive_53 (d + 1) CI CL CR M n e f mm = (1, CI, CL, CR, M, n) := by rw [f_Return_arrive_53_s, ho1, oc_none]
      refine W.widen (k := 3) (n := 21) (by omega) (by omega) ?_
      exact kzret X w hr hk (by decide) (by have hp := hp al hal (by rw [hF]; exact hn) (by rw [hF]; exact hok); rw [hF] at hp; exact hp) d_Return_arrive_90
    | some y2 =>
      rw [ho1] at hl
      have hl : lv_has ls 4 [(1, .ref o), (2, .ref (ad (22 + e))), (3, .ref (al y2))] := hl
      have hfy2 := hf y2 ho1
      refine lv_aload_n hx hb d_Return_arrive_53 rfl (lv_at hl 2 rfl) ?_
      refine lv_ifnull hx hb d_Return_arrive_54 ?_
      refine lv_aload_n hx hb d_Return_arrive_57 rfl (lv_at hl 0 rfl) ?_
      refine lv_aload_n hx hb d_Return_arrive_58 rfl (lv_at hl 1 rfl) ?_
      refine lv_aload_n hx hb d_Return_arrive_59 rfl (lv_at hl 2 rfl) ?_
      refine kcallv (ws0 := []) w (krunVN (ws0 := []) (wc := cwm ac o ad al CI CL CR M n) (n := 2) (As := [.ref (ad (22 + e)), .ref (al y2)]) (rest := []) (C := R_LC) X w (c_LC_serve l D ac o ad al CI CL CR M n _ e y2 mm (by omega) hfy2.1 hfy2.2 hm (by omega) hok) wk_LC_serve wi_LC wmN_Return_57 wx_LC_serve ws_LC_LC_serve (by decide +kernel) rfl rfl ⟨(Nat.le_of_ble_eq_true rfl), (Nat.le_of_ble_eq_true rfl)⟩ ⟨(by show _ ≤ 3; omega), (by show _ ≤ 21; omega)⟩ (crecv X w) rfl hl.1 rfl (Nat.le_of_ble_eq_true rfl) d_Return_arrive_60) (fun u H locs hp w => ?_)
      obtain ⟨al3, hal9, hn9, hok9, rfl⟩ := hp
      have hok := hok9
      have hal : ∀ i, i < n → al3 i = al i := fun i h => (hal9 i (by omega)).trans (hal i h)
      have hn : n ≤ (f_LC_serve CI CL CR M n e y2 mm).2.2.2.2 := by omega
      rw [← hal9 y2 (by omega)] at hl
      have hl : lv_has ls 4 [(1, .ref o), (2, .ref (ad (22 + e))), (3, .ref (al3 y2))] := hl
      have w : Wo D _ (cwm ac o ad al3 ((f_LC_serve CI CL CR M n e y2 mm).1) ((f_LC_serve CI CL CR M n e y2 mm).2.1) ((f_LC_serve CI CL CR M n e y2 mm).2.2.1) ((f_LC_serve CI CL CR M n e y2 mm).2.2.2.1) ((f_LC_serve CI CL CR M n e y2 mm).2.2.2.2)) s.heap _ _ := w
      have hokS := hok
      have hSR : ∀ j, (f_LC_serve CI CL CR M n e y2 mm).2.2.1 (10 + e) j = CR (10 + e) j := fun j => by rw [f_LC_serve_R (by omega)]
      have hQS : ∀ j q, (f_LC_serve CI CL CR M n e y2 mm).2.2.1 (10 + e) j = some q → mcls ((f_LC_serve CI CL CR M n e y2 mm).2.2.2.1 q) = 4 := fun j q h => by have h1 := (hSR j).symm.trans h; rw [f_LC_serve_M (hok0 _ _ _ (by omega) h1)]; exact hQ j q h1
      have hwS : (f_LC_serve CI CL CR M n e y2 mm).1 22 e = CI 22 e := by rw [f_LC_serve_k (by decide)]
      have hmS : (f_LC_serve CI CL CR M n e y2 mm).1 38 0 = nI (tn ((f_LC_serve CI CL CR M n e y2 mm).1 38 0)) ∧ tn ((f_LC_serve CI CL CR M n e y2 mm).1 38 0) ≤ mm + 1 := (f_LC_serve_hm hm).elim (fun h => by rw [h, tn_nI (by omega)]; exact ⟨rfl, by omega⟩) (fun h => by rw [h, tn_nI (by omega)]; exact ⟨rfl, by omega⟩)
      refine lv_aload_n hx hb d_Return_arrive_63 rfl (lv_at hl 1 rfl) ?_
      refine cg_Return_53 X w e (by omega) d_Return_arrive_64 ?_
      cases ho4 : ((f_LC_serve CI CL CR M n e y2 mm).2.2.1) 1 e with
      | none =>
        refine W.eq (g2 := F0 m 67 ls [.null]) (by first | rfl | exact congrArg (fun z => F0 m 67 ls [va_rf (Option.map al3 z)]) (show ((f_LC_serve CI CL CR M n e y2 mm).2.2.1) 1 e = _ from ho4)) ?_
        refine lv_ifnonnullN hx hb d_Return_arrive_67 ?_
        refine lv_aload_n hx hb d_Return_arrive_70 rfl (lv_at hl 1 rfl) ?_
        refine cg_Return_61 X w e (by omega) (v := ((f_LC_serve CI CL CR M n e y2 mm).1) 22 e) rfl d_Return_arrive_71 ?_
        refine lv_if_le (tgt := 84) hx hb d_Return_arrive_74 (by decide) (fun h6 => ?_) (fun h6 => ?_)
        · skip
          refine lv_null hx hb d_Return_arrive_84 ?_
          refine lv_astore_nN (lv' := [(3, .null), (1, .ref o), (2, .ref (ad (22 + e)))]) hx hb d_Return_arrive_85 rfl hl (by decide) rfl (fun ls hl => ?_)
          refine lv_goto (tgt := 53) hx hb d_Return_arrive_86 (by decide) ?_
          have hF : f_Return_arrive_53 (d + 1) CI CL CR M n e f mm = f_Return_arrive_53 d ((f_LC_serve CI CL CR M n e y2 mm).1) ((f_LC_serve CI CL CR M n e y2 mm).2.1) ((f_LC_serve CI CL CR M n e y2 mm).2.2.1) ((f_LC_serve CI CL CR M n e y2 mm).2.2.2.1) ((f_LC_serve CI CL CR M n e y2 mm).2.2.2.2) e none (tn (((f_LC_serve CI CL CR M n e y2 mm).1) 38 0)) := by rw [f_Return_arrive_53_s, ho1, oc_some, ho4, oc_none, if_pos h6]
          exact ih al3 ((f_LC_serve CI CL CR M n e y2 mm).1) ((f_LC_serve CI CL CR M n e y2 mm).2.1) ((f_LC_serve CI CL CR M n e y2 mm).2.2.1) ((f_LC_serve CI CL CR M n e y2 mm).2.2.2.1) ((f_LC_serve CI CL CR M n e y2 mm).2.2.2.2) e none (tn (((f_LC_serve CI CL CR M n e y2 mm).1) 38 0)) (by omega) (fun q h => by cases h) hQS (by rw [hwS]; exact hw) (by rw [hwS]; exact hw2) (fun q h => by cases h) hmS.1 (by have := hmS.2; omega) hok (by omega) (by omega) w (lv_sub hl [1, 2, 0] rfl) (fun a9 h1 h2 h3 => by have hp := hp a9 (fun i h => (h1 i (by omega)).trans (hal i h)) (by rw [hF]; exact Nat.le_trans hn h2) (by rw [hF]; exact h3); rw [hF] at hp; exact hp)
        · skip
          refine lv_aload_n hx hb d_Return_arrive_77 rfl (lv_at hl 1 rfl) ?_
          refine kcallq (ws0 := []) w (krunV (ws0 := []) (wc := cwm ac o ad al3 ((f_LC_serve CI CL CR M n e y2 mm).1) ((f_LC_serve CI CL CR M n e y2 mm).2.1) ((f_LC_serve CI CL CR M n e y2 mm).2.2.1) ((f_LC_serve CI CL CR M n e y2 mm).2.2.2.1) ((f_LC_serve CI CL CR M n e y2 mm).2.2.2.2)) (n := 0) (As := []) (rest := []) (C := R_Entry) X w (c_Entry_next l D ac o ad al3 ((f_LC_serve CI CL CR M n e y2 mm).1) ((f_LC_serve CI CL CR M n e y2 mm).2.1) ((f_LC_serve CI CL CR M n e y2 mm).2.2.1) ((f_LC_serve CI CL CR M n e y2 mm).2.2.2.1) ((f_LC_serve CI CL CR M n e y2 mm).2.2.2.2) _ e (by omega) hok hQS) wk_Entry_next wi_Entry wm_Return_64 wx_Entry_next ws_Entry_Entry_next (by decide +kernel) rfl rfl ⟨(Nat.le_of_ble_eq_true rfl), (Nat.le_of_ble_eq_true rfl)⟩ ⟨(by show _ ≤ 3; omega), (by show _ ≤ 21; omega)⟩ (crecv_Entry X w e (by omega)) rfl hl.1 rfl (Nat.le_of_ble_eq_true rfl) d_Return_arrive_78) (fun r7 u H locs hp w => ?_)
          obtain ⟨hok9, rfl, rfl⟩ := hp
          have hok := hok9
          have w : Wo D _ (cwm ac o ad al3 ((f_Entry_next ((f_LC_serve CI CL CR M n e y2 mm).1) ((f_LC_serve CI CL CR M n e y2 mm).2.2.1) e).2.1) ((f_LC_serve CI CL CR M n e y2 mm).2.1) ((f_Entry_next ((f_LC_serve CI CL CR M n e y2 mm).1) ((f_LC_serve CI CL CR M n e y2 mm).2.2.1) e).2.2) ((f_LC_serve CI CL CR M n e y2 mm).2.2.2.1) ((f_LC_serve CI CL CR M n e y2 mm).2.2.2.2)) s.heap _ _ := w
          have hpr := tn_pred (x := ((f_LC_serve CI CL CR M n e y2 mm).1) 22 e) (by rw [hwS]; exact hw) (by rw [hwS]; omega) h6
          have hwN : (f_Entry_next ((f_LC_serve CI CL CR M n e y2 mm).1) ((f_LC_serve CI CL CR M n e y2 mm).2.2.1) e).2.1 22 e = nI (tn (CI 22 e) - 1) := by rw [f_Entry_next_w, hpr.1, hwS]
          have hp0 : 0 < tn (CI 22 e) := by rw [← hwS]; exact hpr.2
          have htN : tn ((f_Entry_next ((f_LC_serve CI CL CR M n e y2 mm).1) ((f_LC_serve CI CL CR M n e y2 mm).2.2.1) e).2.1 22 e) = tn (CI 22 e) - 1 := by rw [hwN, tn_nI (by omega)]
          have hmN : (f_Entry_next ((f_LC_serve CI CL CR M n e y2 mm).1) ((f_LC_serve CI CL CR M n e y2 mm).2.2.1) e).2.1 38 0 = nI (tn (((f_LC_serve CI CL CR M n e y2 mm).1) 38 0)) := by rw [f_Entry_next_k (by decide)]; exact hmS.1
          cases ho8 : (f_Entry_next ((f_LC_serve CI CL CR M n e y2 mm).1) ((f_LC_serve CI CL CR M n e y2 mm).2.2.1) e).1 with
          | none =>
            refine W.eq (g2 := F0 m 81 ls [.null]) (by first | rfl | exact congrArg (fun z => F0 m 81 ls [va_rf (Option.map al3 z)]) ho8) ?_
            refine lv_goto (tgt := 85) hx hb d_Return_arrive_81 (by decide) ?_
            refine lv_astore_nN (lv' := [(3, .null), (1, .ref o), (2, .ref (ad (22 + e)))]) hx hb d_Return_arrive_85 rfl hl (by decide) rfl (fun ls hl => ?_)
            refine lv_goto (tgt := 53) hx hb d_Return_arrive_86 (by decide) ?_
            have hF : f_Return_arrive_53 (d + 1) CI CL CR M n e f mm = f_Return_arrive_53 d ((f_Entry_next ((f_LC_serve CI CL CR M n e y2 mm).1) ((f_LC_serve CI CL CR M n e y2 mm).2.2.1) e).2.1) ((f_LC_serve CI CL CR M n e y2 mm).2.1) ((f_Entry_next ((f_LC_serve CI CL CR M n e y2 mm).1) ((f_LC_serve CI CL CR M n e y2 mm).2.2.1) e).2.2) ((f_LC_serve CI CL CR M n e y2 mm).2.2.2.1) ((f_LC_serve CI CL CR M n e y2 mm).2.2.2.2) e none (tn (((f_LC_serve CI CL CR M n e y2 mm).1) 38 0)) := by rw [f_Return_arrive_53_s, ho1, oc_some, ho4, oc_none, if_neg h6, ho8, oc_none]
            exact ih al3 ((f_Entry_next ((f_LC_serve CI CL CR M n e y2 mm).1) ((f_LC_serve CI CL CR M n e y2 mm).2.2.1) e).2.1) ((f_LC_serve CI CL CR M n e y2 mm).2.1) ((f_Entry_next ((f_LC_serve CI CL CR M n e y2 mm).1) ((f_LC_serve CI CL CR M n e y2 mm).2.2.1) e).2.2) ((f_LC_serve CI CL CR M n e y2 mm).2.2.2.1) ((f_LC_serve CI CL CR M n e y2 mm).2.2.2.2) e none (tn (((f_LC_serve CI CL CR M n e y2 mm).1) 38 0)) (by omega) (fun q h => by cases h) (f_Entry_next_Q hQS) (by rw [htN]; exact hwN) (by rw [htN]; omega) (fun q h => by cases h) hmN (by have := hmS.2; omega) hok (by omega) (by omega) w (lv_sub hl [1, 2, 0] rfl) (fun a9 h1 h2 h3 => by have hp := hp a9 (fun i h => (h1 i (by omega)).trans (hal i h)) (by rw [hF]; exact Nat.le_trans hn h2) (by rw [hF]; exact h3); rw [hF] at hp; exact hp)
          | some y9 =>
            refine W.eq (g2 := F0 m 81 ls [.ref (al3 y9)]) (by first | rfl | exact congrArg (fun z => F0 m 81 ls [va_rf (Option.map al3 z)]) ho8) ?_
            refine lv_goto (tgt := 85) hx hb d_Return_arrive_81 (by decide) ?_
            refine lv_astore_n (lv' := [(3, .ref (al3 y9)), (1, .ref o), (2, .ref (ad (22 + e)))]) hx hb d_Return_arrive_85 rfl hl (by decide) rfl (fun ls hl => ?_)
            refine lv_goto (tgt := 53) hx hb d_Return_arrive_86 (by decide) ?_
            have hF : f_Return_arrive_53 (d + 1) CI CL CR M n e f mm = f_Return_arrive_53 d ((f_Entry_next ((f_LC_serve CI CL CR M n e y2 mm).1) ((f_LC_serve CI CL CR M n e y2 mm).2.2.1) e).2.1) ((f_LC_serve CI CL CR M n e y2 mm).2.1) ((f_Entry_next ((f_LC_serve CI CL CR M n e y2 mm).1) ((f_LC_serve CI CL CR M n e y2 mm).2.2.1) e).2.2) ((f_LC_serve CI CL CR M n e y2 mm).2.2.2.1) ((f_LC_serve CI CL CR M n e y2 mm).2.2.2.2) e (some y9) (tn (((f_LC_serve CI CL CR M n e y2 mm).1) 38 0)) := by rw [f_Return_arrive_53_s, ho1, oc_some, ho4, oc_none, if_neg h6, ho8, oc_some]
            exact ih al3 ((f_Entry_next ((f_LC_serve CI CL CR M n e y2 mm).1) ((f_LC_serve CI CL CR M n e y2 mm).2.2.1) e).2.1) ((f_LC_serve CI CL CR M n e y2 mm).2.1) ((f_Entry_next ((f_LC_serve CI CL CR M n e y2 mm).1) ((f_LC_serve CI CL CR M n e y2 mm).2.2.1) e).2.2) ((f_LC_serve CI CL CR M n e y2 mm).2.2.2.1) ((f_LC_serve CI CL CR M n e y2 mm).2.2.2.2) e (some y9) (tn (((f_LC_serve CI CL CR M n e y2 mm).1) 38 0)) (by omega) (fun q h => by cases h; exact ⟨hokS (10 + e) 0 _ (by omega) (f_Entry_next_1.symm.trans ho8), hQS 0 _ (f_Entry_next_1.symm.trans ho8)⟩) (f_Entry_next_Q hQS) (by rw [htN]; exact hwN) (by rw [htN]; omega) (fun q h => by rw [htN]; have := hd _ ho1; omega) hmN (by have := hmS.2; omega) hok (by omega) (by omega) w (lv_sub hl [1, 2, 0] rfl) (fun a9 h1 h2 h3 => by have hp := hp a9 (fun i h => (h1 i (by omega)).trans (hal i h)) (by rw [hF]; exact Nat.le_trans hn h2) (by rw [hF]; exact h3); rw [hF] at hp; exact hp)
      | some y5 =>
        refine W.eq (g2 := F0 m 67 ls [.ref (al3 y5)]) (by first | rfl | exact congrArg (fun z => F0 m 67 ls [va_rf (Option.map al3 z)]) (show ((f_LC_serve CI CL CR M n e y2 mm).2.2.1) 1 e = _ from ho4)) ?_
        have hny5 : y5 < (f_LC_serve CI CL CR M n e y2 mm).2.2.2.2 := hok 1 e y5 (by decide) (ho4)
        refine lv_ifnonnull (tgt := 84) hx hb d_Return_arrive_67 (by decide) ?_
        refine lv_null hx hb d_Return_arrive_84 ?_
        refine lv_astore_nN (lv' := [(3, .null), (1, .ref o), (2, .ref (ad (22 + e)))]) hx hb d_Return_arrive_85 rfl hl (by decide) rfl (fun ls hl => ?_)
        refine lv_goto (tgt := 53) hx hb d_Return_arrive_86 (by decide) ?_
        have hF : f_Return_arrive_53 (d + 1) CI CL CR M n e f mm = f_Return_arrive_53 d ((f_LC_serve CI CL CR M n e y2 mm).1) ((f_LC_serve CI CL CR M n e y2 mm).2.1) ((f_LC_serve CI CL CR M n e y2 mm).2.2.1) ((f_LC_serve CI CL CR M n e y2 mm).2.2.2.1) ((f_LC_serve CI CL CR M n e y2 mm).2.2.2.2) e none (tn (((f_LC_serve CI CL CR M n e y2 mm).1) 38 0)) := by rw [f_Return_arrive_53_s, ho1, oc_some, ho4, oc_some]
        exact ih al3 ((f_LC_serve CI CL CR M n e y2 mm).1) ((f_LC_serve CI CL CR M n e y2 mm).2.1) ((f_LC_serve CI CL CR M n e y2 mm).2.2.1) ((f_LC_serve CI CL CR M n e y2 mm).2.2.2.1) ((f_LC_serve CI CL CR M n e y2 mm).2.2.2.2) e none (tn (((f_LC_serve CI CL CR M n e y2 mm).1) 38 0)) (by omega) (fun q h => by cases h) hQS (by rw [hwS]; exact hw) (by rw [hwS]; exact hw2) (fun q h => by cases h) hmS.1 (by have := hmS.2; omega) hok (by omega) (by omega) w (lv_sub hl [1, 2, 0] rfl) (fun a9 h1 h2 h3 => by have hp := hp a9 (fun i h => (h1 i (by omega)).trans (hal i h)) (by rw [hF]; exact Nat.le_trans hn h2) (by rw [hF]; exact h3); rw [hF] at hp; exact hp)
def f_Return_arrive (CI : Nat → Nat → Int32) (CL : Nat → Nat → Int64) (CR : Nat → Nat → Option Nat) (M : Nat → Msg) (n : Nat) (i : Nat) (mm : Nat) : Int32 × (Nat → Nat → Int32) × (Nat → Nat → Int64) × (Nat → Nat → Option Nat) × (Nat → Msg) × (Nat) :=
  oc ((f_LC_entryOf CI (mline (M i)))) (
    (1, CI, CL, CR, M, n))
    (fun y3 =>
    oc (((f_LC_forgetCalls (up2 (up2 CI 17 y3 (mword (M i))) 21 y3 0) (up2 CR 0 y3 none) M (mline (M i)) mm).2) 1 y3) (
      f_Return_arrive_53 3 ((f_LC_forgetCalls (up2 (up2 CI 17 y3 (mword (M i))) 21 y3 0) (up2 CR 0 y3 none) M (mline (M i)) mm).1) (up2 (up2 CL 18 y3 (mta (M i))) 19 y3 (mtb (M i))) (up2 ((f_LC_forgetCalls (up2 (up2 CI 17 y3 (mword (M i))) 21 y3 0) (up2 CR 0 y3 none) M (mline (M i)) mm).2) 1 y3 none) M n y3 none (tn (((f_LC_forgetCalls (up2 (up2 CI 17 y3 (mword (M i))) 21 y3 0) (up2 CR 0 y3 none) M (mline (M i)) mm).1) 38 0)))
      (fun y5 =>
      f_Return_arrive_53 3 ((f_LC_forgetCalls (up2 (up2 CI 17 y3 (mword (M i))) 21 y3 0) (up2 CR 0 y3 none) M (mline (M i)) mm).1) (up2 (up2 CL 18 y3 (mta (M i))) 19 y3 (mtb (M i))) (up2 ((f_LC_forgetCalls (up2 (up2 CI 17 y3 (mword (M i))) 21 y3 0) (up2 CR 0 y3 none) M (mline (M i)) mm).2) 1 y3 none) M n y3 (some y5) (tn (((f_LC_forgetCalls (up2 (up2 CI 17 y3 (mword (M i))) 21 y3 0) (up2 CR 0 y3 none) M (mline (M i)) mm).1) 38 0))))
set_option maxHeartbeats 4000000 in
set_option maxRecDepth 100000 in
theorem c_Return_arrive (l : Launch) (D : va_G) (ac : Nat → ClassId) (o : Nat) (ad : Nat → Nat) (al : Nat → Nat) (CI : Nat → Nat → Int32) (CL : Nat → Nat → Int64) (CR : Nat → Nat → Option Nat) (M : Nat → Msg) (n : Nat) (sz : Nat) (i : Nat) (mm : Nat) (hi : i < n) (hcl : mcls (M i) = 7) (hent : f_LC_entryOf CI (mline (M i)) ≠ none) (hP : ∀ e q, e < 6 → CR 1 e = some q → mcls (M q) = 4) (hQ : ∀ e j q, e < 6 → CR (10 + e) j = some q → mcls (M q) = 4) (hw : ∀ e, e < 6 → CI 22 e = nI (tn (CI 22 e)) ∧ tn (CI 22 e) < 3) (hall : ∀ j, j < mm → ∃ i, CR 3 j = some i) (hm : CI 38 0 = nI mm) (hmm : mm < 22) (hok : CRok CR n) : Met l y_Return_arrive [Cond.code y_Return_arrive b_Return_arrive 4 (some .boolean)] { frames := 4, cells := 3, slots := 21, locals := 99 } (va_Pc [.ref (al i), .ref o] (CPre D ac (cwm ac o ad al CI CL CR M n) sz)) (va_Qi (fun r u => ∃ a9 : Nat → Nat, (∀ i, i < n → a9 i = al i) ∧ n ≤ (f_Return_arrive CI CL CR M n i mm).2.2.2.2.2 ∧ CRok ((f_Return_arrive CI CL CR M n i mm).2.2.2.1) ((f_Return_arrive CI CL CR M n i mm).2.2.2.2.2) ∧ r = (f_Return_arrive CI CL CR M n i mm).1 ∧ u = cwm ac o ad a9 ((f_Return_arrive CI CL CR M n i mm).2.1) ((f_Return_arrive CI CL CR M n i mm).2.2.1) ((f_Return_arrive CI CL CR M n i mm).2.2.2.1) ((f_Return_arrive CI CL CR M n i mm).2.2.2.2.1) ((f_Return_arrive CI CL CR M n i mm).2.2.2.2.2)) (CPost D (cwm ac o ad al CI CL CR M n) sz) (va_A (cwm ac o ad al CI CL CR M n) sz)) 3 21 (va_A (cwm ac o ad al CI CL CR M n) sz) := by
  refine kofW (by decide) (Nat.le_of_ble_eq_true rfl) ?_
  intro p ev s m args below meth c0 ls X hr hk hnm hex hsz w hl
  have X : Cx b_Return_arrive 4 R_Return D ac p m args c0 s := X
  have hx := X.1
  have hb := X.2.1
  have hl : lv_has ls 4 [(0, .ref (al i)), (1, .ref o)] := hl
  have hal : ∀ i, i < n → al i = al i := fun _ _ => rfl
  have hn : n ≤ n := Nat.le_refl n
  refine lv_aload_n hx hb d_Return_arrive_0 rfl (lv_at hl 1 rfl) ?_
  refine lv_aload_n hx hb d_Return_arrive_1 rfl (lv_at hl 0 rfl) ?_
  refine qg_Return_28 (m9 := (M i)) X w (hs_mem0 (i := i) (by omega)) hcl d_Return_arrive_2 ?_
  refine kcallq (ws0 := []) w (krunVN (ws0 := []) (wc := cwm ac o ad al CI CL CR M n) (n := 1) (As := [.int (mline (M i))]) (rest := []) (C := R_LC) X w (c_LC_entryOf l D ac o ad al CI CL CR M n _ (mline (M i))) wk_LC_entryOf wi_LC wmN_Return_29 wx_LC_entryOf ws_LC_LC_entryOf (by decide +kernel) rfl rfl ⟨(Nat.le_of_ble_eq_true rfl), (Nat.le_of_ble_eq_true rfl)⟩ ⟨(Nat.le_of_ble_eq_true rfl), (Nat.le_of_ble_eq_true rfl)⟩ (crecv X w) rfl hl.1 rfl (Nat.le_of_ble_eq_true rfl) d_Return_arrive_5) (fun r1 u H locs hp w => ?_)
  obtain ⟨rfl, rfl⟩ := hp
  have w : Wo D _ (cwm ac o ad al CI CL CR M n) s.heap _ _ := w
  cases ho2 : (f_LC_entryOf CI (mline (M i))) with
  | none =>
    exact absurd ho2 hent
  | some y3 =>
    refine W.eq (g2 := F0 m 8 ls [.ref (ad (22 + y3))]) (by first | rfl | exact congrArg (fun z => F0 m 8 ls [va_rf (rE ad z)]) ho2) ?_
    have hy3 := f_LC_entryOf_lt ho2
    have hy3c := f_LC_entryOf_line ho2
    refine lv_astore_n (lv' := [(2, .ref (ad (22 + y3))), (0, .ref (al i)), (1, .ref o)]) hx hb d_Return_arrive_8 rfl hl (by decide) rfl (fun ls hl => ?_)
    refine lv_aload_n hx hb d_Return_arrive_9 rfl (lv_at hl 0 rfl) ?_
    refine lv_aload_n hx hb d_Return_arrive_10 rfl (lv_at hl 1 rfl) ?_
    refine qg_Return_16 (m9 := (M i)) X w (hs_mem0 (i := i) (by omega)) hcl d_Return_arrive_11 ?_
    refine lv_aload_n hx hb d_Return_arrive_14 rfl (lv_at hl 1 rfl) ?_
    refine qg_Return_23 (m9 := (M i)) X w (hs_mem0 (i := i) (by omega)) hcl d_Return_arrive_15 ?_
    refine lv_aload_n hx hb d_Return_arrive_18 rfl (lv_at hl 1 rfl) ?_
    refine qg_Return_27 (m9 := (M i)) X w (hs_mem0 (i := i) (by omega)) hcl d_Return_arrive_19 ?_
    refine kcallv (ws0 := []) w (krunU (owner := R_Version) (ws0 := []) (wc := cwm ac o ad al CI CL CR M n) (n := 3) (As := [.int (mword (M i)), .long (mta (M i)), .long (mtb (M i))]) (rest := []) (C := R_Entry) X w (c_Version_take_Entry l D ac o ad al CI CL CR M n _ y3 (mword (M i)) (mta (M i)) (mtb (M i)) (by omega)) wk_Version_take wi_Version wm_Return_35 wq_Entry_take (va_Decl.of (X.2.2.2.2.1.at (a := #[]) wx_Version_take) (X.2.2.2.2.1.at wk_Version_take)) wx_Version_take ws_Entry_Entry_take (by decide +kernel) rfl rfl ⟨(Nat.le_of_ble_eq_true rfl), (Nat.le_of_ble_eq_true rfl)⟩ ⟨(Nat.le_of_ble_eq_true rfl), (Nat.le_of_ble_eq_true rfl)⟩ (crecv_Entry X w y3 (by omega)) rfl hl.1 rfl (Nat.le_of_ble_eq_true rfl) d_Return_arrive_22) (fun u H locs hp w => ?_)
    obtain rfl := hp
    have w : Wo D _ (cwm ac o ad al (up2 CI 17 y3 (mword (M i))) (up2 (up2 CL 18 y3 (mta (M i))) 19 y3 (mtb (M i))) CR M n) s.heap _ _ := w
    refine lv_aload_n hx hb d_Return_arrive_25 rfl (lv_at hl 0 rfl) ?_
    refine lv_null hx hb d_Return_arrive_26 ?_
    refine cm_Return_41 X w y3 (by omega) (x := none) d_Return_arrive_27 (fun H locs w => ?_)
    have hok := crok_up (k := 0) (j := y3) (x := none) hok (Or.inl rfl)
    refine lv_aload_n hx hb d_Return_arrive_30 rfl (lv_at hl 0 rfl) ?_
    refine lv_iconst (v := 0) hx hb d_Return_arrive_31 (by decide) ?_
    refine cp_Return_45 X w y3 (by omega) (by decide) d_Return_arrive_32 (fun H locs w => ?_)
    refine lv_aload_n hx hb d_Return_arrive_35 rfl (lv_at hl 2 rfl) ?_
    refine lv_aload_n hx hb d_Return_arrive_36 rfl (lv_at hl 1 rfl) ?_
    refine qg_Return_28 (m9 := (M i)) X w (hs_mem0 (i := i) (by omega)) hcl d_Return_arrive_37 ?_
    refine kcallv (ws0 := []) w (krunVN (ws0 := []) (wc := cwm ac o ad al (up2 (up2 CI 17 y3 (mword (M i))) 21 y3 0) (up2 (up2 CL 18 y3 (mta (M i))) 19 y3 (mtb (M i))) (up2 CR 0 y3 none) M n) (n := 1) (As := [.int (mline (M i))]) (rest := []) (C := R_LC) X w (c_LC_forgetCalls l D ac o ad al (up2 (up2 CI 17 y3 (mword (M i))) 21 y3 0) (up2 (up2 CL 18 y3 (mta (M i))) 19 y3 (mtb (M i))) (up2 CR 0 y3 none) M n _ (mline (M i)) mm hm (by omega) hok hall) wk_LC_forgetCalls wi_LC wmN_Return_49 wx_LC_forgetCalls ws_LC_LC_forgetCalls (by decide +kernel) rfl rfl ⟨(Nat.le_of_ble_eq_true rfl), (Nat.le_of_ble_eq_true rfl)⟩ ⟨(Nat.le_of_ble_eq_true rfl), (Nat.le_of_ble_eq_true rfl)⟩ (crecv X w) rfl hl.1 rfl (Nat.le_of_ble_eq_true rfl) d_Return_arrive_40) (fun u H locs hp w => ?_)
    obtain ⟨hok9, rfl⟩ := hp
    have hok := hok9
    have w : Wo D _ (cwm ac o ad al ((f_LC_forgetCalls (up2 (up2 CI 17 y3 (mword (M i))) 21 y3 0) (up2 CR 0 y3 none) M (mline (M i)) mm).1) (up2 (up2 CL 18 y3 (mta (M i))) 19 y3 (mtb (M i))) ((f_LC_forgetCalls (up2 (up2 CI 17 y3 (mword (M i))) 21 y3 0) (up2 CR 0 y3 none) M (mline (M i)) mm).2) M n) s.heap _ _ := w
    have hFm := f_LC_forgetCalls_hm (CI := up2 (up2 CI 17 y3 (mword (M i))) 21 y3 0) (CR := up2 CR 0 y3 none) (M := M) (li := mline (M i)) hm (by omega) hall
    have hFR := f_LC_forgetCalls_R (CI := up2 (up2 CI 17 y3 (mword (M i))) 21 y3 0) (CR := up2 CR 0 y3 none) (M := M) (li := mline (M i)) hm hall
    have hFI := f_LC_forgetCalls_I (CI := up2 (up2 CI 17 y3 (mword (M i))) 21 y3 0) (CR := up2 CR 0 y3 none) (M := M) (li := mline (M i)) hm hall
    refine lv_aload_n hx hb d_Return_arrive_43 rfl (lv_at hl 0 rfl) ?_
    refine cg_Return_53 X w y3 (by omega) d_Return_arrive_44 ?_
    cases ho4 : ((f_LC_forgetCalls (up2 (up2 CI 17 y3 (mword (M i))) 21 y3 0) (up2 CR 0 y3 none) M (mline (M i)) mm).2) 1 y3 with
    | none =>
      refine W.eq (g2 := F0 m 47 ls [.null]) (by first | rfl | exact congrArg (fun z => F0 m 47 ls [va_rf (Option.map al z)]) (show ((f_LC_forgetCalls (up2 (up2 CI 17 y3 (mword (M i))) 21 y3 0) (up2 CR 0 y3 none) M (mline (M i)) mm).2) 1 y3 = _ from ho4)) ?_
      refine lv_astore_nN (lv' := [(3, .null), (2, .ref (ad (22 + y3))), (0, .ref (al i)), (1, .ref o)]) hx hb d_Return_arrive_47 rfl hl (by decide) rfl (fun ls hl => ?_)
      refine lv_aload_n hx hb d_Return_arrive_48 rfl (lv_at hl 1 rfl) ?_
      refine lv_null hx hb d_Return_arrive_49 ?_
      refine cm_Return_53 X w y3 (by omega) (x := none) d_Return_arrive_50 (fun H locs w => ?_)
      have hok := crok_up (k := 1) (j := y3) (x := none) hok (Or.inr (fun i h => by cases h))
      have hF : f_Return_arrive CI CL CR M n i mm = f_Return_arrive_53 3 ((f_LC_forgetCalls (up2 (up2 CI 17 y3 (mword (M i))) 21 y3 0) (up2 CR 0 y3 none) M (mline (M i)) mm).1) (up2 (up2 CL 18 y3 (mta (M i))) 19 y3 (mtb (M i))) (up2 ((f_LC_forgetCalls (up2 (up2 CI 17 y3 (mword (M i))) 21 y3 0) (up2 CR 0 y3 none) M (mline (M i)) mm).2) 1 y3 none) M n y3 none (tn (((f_LC_forgetCalls (up2 (up2 CI 17 y3 (mword (M i))) 21 y3 0) (up2 CR 0 y3 none) M (mline (M i)) mm).1) 38 0)) := by unfold f_Return_arrive; rw [ho2, oc_some, ho4, oc_none]
      exact g_Return_arrive_53 X hr hk 3 al ((f_LC_forgetCalls (up2 (up2 CI 17 y3 (mword (M i))) 21 y3 0) (up2 CR 0 y3 none) M (mline (M i)) mm).1) (up2 (up2 CL 18 y3 (mta (M i))) 19 y3 (mtb (M i))) (up2 ((f_LC_forgetCalls (up2 (up2 CI 17 y3 (mword (M i))) 21 y3 0) (up2 CR 0 y3 none) M (mline (M i)) mm).2) 1 y3 none) M n y3 none (tn (((f_LC_forgetCalls (up2 (up2 CI 17 y3 (mword (M i))) 21 y3 0) (up2 CR 0 y3 none) M (mline (M i)) mm).1) 38 0)) (by omega) (fun q h => by cases h) (fun j q h => hQ y3 j q (by omega) (by rw [← h, up2_k _ _ _ _ _ (by omega), hFR _ (by omega), up2_k _ _ _ _ _ (by omega)])) (by rw [show ((f_LC_forgetCalls (up2 (up2 CI 17 y3 (mword (M i))) 21 y3 0) (up2 CR 0 y3 none) M (mline (M i)) mm).1) 22 y3 = CI 22 y3 from (by rw [hFI 22 (by decide)]; rfl)]; exact (hw y3 (by omega)).1) (by rw [show ((f_LC_forgetCalls (up2 (up2 CI 17 y3 (mword (M i))) 21 y3 0) (up2 CR 0 y3 none) M (mline (M i)) mm).1) 22 y3 = CI 22 y3 from (by rw [hFI 22 (by decide)]; rfl)]; exact (hw y3 (by omega)).2) (fun q h => by cases h) hFm.1 (by have := hFm.2; omega) hok (by omega) (by omega) w (lv_sub hl [3, 1, 0] rfl) (fun a9 h1 h2 h3 => ⟨a9, fun i h => (h1 i (by omega)).trans (hal i h), by rw [hF]; exact Nat.le_trans hn h2, by rw [hF]; exact h3, by rw [hF] <;> rfl, by rw [hF]⟩)
    | some y5 =>
      refine W.eq (g2 := F0 m 47 ls [.ref (al y5)]) (by first | rfl | exact congrArg (fun z => F0 m 47 ls [va_rf (Option.map al z)]) (show ((f_LC_forgetCalls (up2 (up2 CI 17 y3 (mword (M i))) 21 y3 0) (up2 CR 0 y3 none) M (mline (M i)) mm).2) 1 y3 = _ from ho4)) ?_
      have hny5 : y5 < n := hok 1 y3 y5 (by decide) (ho4)
      refine lv_astore_n (lv' := [(3, .ref (al y5)), (2, .ref (ad (22 + y3))), (0, .ref (al i)), (1, .ref o)]) hx hb d_Return_arrive_47 rfl hl (by decide) rfl (fun ls hl => ?_)
      refine lv_aload_n hx hb d_Return_arrive_48 rfl (lv_at hl 1 rfl) ?_
      refine lv_null hx hb d_Return_arrive_49 ?_
      refine cm_Return_53 X w y3 (by omega) (x := none) d_Return_arrive_50 (fun H locs w => ?_)
      have hok := crok_up (k := 1) (j := y3) (x := none) hok (Or.inr (fun i h => by cases h))
      have hF : f_Return_arrive CI CL CR M n i mm = f_Return_arrive_53 3 ((f_LC_forgetCalls (up2 (up2 CI 17 y3 (mword (M i))) 21 y3 0) (up2 CR 0 y3 none) M (mline (M i)) mm).1) (up2 (up2 CL 18 y3 (mta (M i))) 19 y3 (mtb (M i))) (up2 ((f_LC_forgetCalls (up2 (up2 CI 17 y3 (mword (M i))) 21 y3 0) (up2 CR 0 y3 none) M (mline (M i)) mm).2) 1 y3 none) M n y3 (some y5) (tn (((f_LC_forgetCalls (up2 (up2 CI 17 y3 (mword (M i))) 21 y3 0) (up2 CR 0 y3 none) M (mline (M i)) mm).1) 38 0)) := by unfold f_Return_arrive; rw [ho2, oc_some, ho4, oc_some]
      exact g_Return_arrive_53 X hr hk 3 al ((f_LC_forgetCalls (up2 (up2 CI 17 y3 (mword (M i))) 21 y3 0) (up2 CR 0 y3 none) M (mline (M i)) mm).1) (up2 (up2 CL 18 y3 (mta (M i))) 19 y3 (mtb (M i))) (up2 ((f_LC_forgetCalls (up2 (up2 CI 17 y3 (mword (M i))) 21 y3 0) (up2 CR 0 y3 none) M (mline (M i)) mm).2) 1 y3 none) M n y3 (some y5) (tn (((f_LC_forgetCalls (up2 (up2 CI 17 y3 (mword (M i))) 21 y3 0) (up2 CR 0 y3 none) M (mline (M i)) mm).1) 38 0)) (by omega) (fun q h => by cases h; exact ⟨by omega, hP y3 _ (by omega) (by rw [hFR 1 (by decide)] at ho4; exact ho4)⟩) (fun j q h => hQ y3 j q (by omega) (by rw [← h, up2_k _ _ _ _ _ (by omega), hFR _ (by omega), up2_k _ _ _ _ _ (by omega)])) (by rw [show ((f_LC_forgetCalls (up2 (up2 CI 17 y3 (mword (M i))) 21 y3 0) (up2 CR 0 y3 none) M (mline (M i)) mm).1) 22 y3 = CI 22 y3 from (by rw [hFI 22 (by decide)]; rfl)]; exact (hw y3 (by omega)).1) (by rw [show ((f_LC_forgetCalls (up2 (up2 CI 17 y3 (mword (M i))) 21 y3 0) (up2 CR 0 y3 none) M (mline (M i)) mm).1) 22 y3 = CI 22 y3 from (by rw [hFI 22 (by decide)]; rfl)]; exact (hw y3 (by omega)).2) (fun q h => by rw [show ((f_LC_forgetCalls (up2 (up2 CI 17 y3 (mword (M i))) 21 y3 0) (up2 CR 0 y3 none) M (mline (M i)) mm).1) 22 y3 = CI 22 y3 from (by rw [hFI 22 (by decide)]; rfl)]; exact (hw y3 (by omega)).2) hFm.1 (by have := hFm.2; omega) hok (by omega) (by omega) w (lv_sub hl [3, 1, 0] rfl) (fun a9 h1 h2 h3 => ⟨a9, fun i h => (h1 i (by omega)).trans (hal i h), by rw [hF]; exact Nat.le_trans hn h2, by rw [hF]; exact h3, by rw [hF] <;> rfl, by rw [hF]⟩)
