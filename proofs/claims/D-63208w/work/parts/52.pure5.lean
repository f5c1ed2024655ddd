-- ===== the pure side: the class's forgetCalls as a filter =====
def ckeep (li : Int32) (m : Msg) : Bool := !(mcls m == 6 && mline m == li)
theorem clist_forget_7 {M : Nat → Msg} {li : Int32} : ∀ (d : Nat) (CI : Nat → Nat → Int32) (CR : Nat → Nat → Option Nat) (mm : Nat), CI 38 0 = nI mm → d ≤ mm → (∀ j, j < mm → ∃ i, CR 3 j = some i) → ∃ z, z ≤ mm ∧ (f_LC_forgetCalls_7 d CI CR M li mm).1 38 0 = nI z ∧ (∀ j, j < z → ∃ i, (f_LC_forgetCalls_7 d CI CR M li mm).2 3 j = some i) ∧ clist M (f_LC_forgetCalls_7 d CI CR M li mm).2 z = ((clist M CR mm).take d).filter (ckeep li) ++ (clist M CR mm).drop d := by
  intro d
  induction d with
  | zero => intro CI CR mm hm _ ha; exact ⟨mm, Nat.le_refl _, hm, ha, by simp [f_LC_forgetCalls_7_z]⟩
  | succ d ih =>
    intro CI CR mm hm hd ha
    have hk : d < (clist M CR mm).length := by rw [clist_len]; omega
    obtain ⟨y, hy⟩ := ha d (by omega)
    have hg : (clist M CR mm)[d] = M y := by
      have := clist_get (M := M) (CR := CR) (mm := mm) (j := d) (by omega)
      rw [List.getElem?_eq_getElem hk, hy] at this
      exact Option.some.inj this
    have skip : ckeep li (M y) = true → ∃ z, z ≤ mm ∧ (f_LC_forgetCalls_7 d CI CR M li mm).1 38 0 = nI z ∧ (∀ j, j < z → ∃ i, (f_LC_forgetCalls_7 d CI CR M li mm).2 3 j = some i) ∧ clist M (f_LC_forgetCalls_7 d CI CR M li mm).2 z = ((clist M CR mm).take (d + 1)).filter (ckeep li) ++ (clist M CR mm).drop (d + 1) := by
      intro hf
      obtain ⟨z, h1, h2, h3, h4⟩ := ih CI CR mm hm (by omega) ha
      refine ⟨z, h1, h2, h3, h4.trans ?_⟩
      rw [List.take_succ_eq_append_getElem hk, hg, List.filter_append, List.filter_cons_of_pos hf, List.drop_eq_getElem_cons hk, hg]
      simp
    rw [f_LC_forgetCalls_7_s, hy, oc_some]
    by_cases h1 : mcls (M y) = 6
    · rw [if_pos h1]
      by_cases h2 : mline (M y) = li
      · rw [if_pos h2]
        obtain ⟨z, g1, g2, g3, g4⟩ := ih (f_LC_remove CI CR d mm).1 (f_LC_remove CI CR d mm).2 (mm - 1) (f_LC_remove_hm (by omega)) (by omega) (f_LC_remove_all (by omega) ha)
        refine ⟨z, by omega, g2, g3, g4.trans ?_⟩
        have hlen : ((clist M CR mm).take d).length = d := by rw [List.length_take, clist_len]; omega
        rw [f_LC_remove_eq (by omega), clist_remove (by omega), List.eraseIdx_eq_take_drop_succ, List.take_left' hlen, List.drop_left' hlen, List.take_succ_eq_append_getElem hk, hg, List.filter_append, List.filter_cons_of_neg (by simp [ckeep, h1, h2])]
        simp
      · rw [if_neg h2]; exact skip (by simp [ckeep, h2])
    · rw [if_neg h1]; exact skip (by simp [ckeep, h1])
theorem clist_forget {M : Nat → Msg} {li : Int32} {CI : Nat → Nat → Int32} {CR : Nat → Nat → Option Nat} {mm : Nat} (hm : CI 38 0 = nI mm) (ha : ∀ j, j < mm → ∃ i, CR 3 j = some i) : ∃ z, z ≤ mm ∧ (f_LC_forgetCalls CI CR M li mm).1 38 0 = nI z ∧ (∀ j, j < z → ∃ i, (f_LC_forgetCalls CI CR M li mm).2 3 j = some i) ∧ clist M (f_LC_forgetCalls CI CR M li mm).2 z = (clist M CR mm).filter (ckeep li) := by
  obtain ⟨z, h1, h2, h3, h4⟩ := clist_forget_7 (M := M) (li := li) mm CI CR mm hm (Nat.le_refl _) ha
  refine ⟨z, h1, h2, h3, h4.trans ?_⟩
  rw [List.take_of_length_le (by rw [clist_len]; exact Nat.le_refl _), List.drop_of_length_le (by rw [clist_len]; exact Nat.le_refl _), List.append_nil]
theorem rows_forget {MI : Nat → Nat → Int32} {ML : Nat → Nat → Int64} {li : Int32} {mm : Nat} (hm : MI 38 0 = nI mm) (hb : mm < 26) : ∃ z, z ≤ mm ∧ (f_Model_forget MI ML li).1 38 0 = nI z ∧ rows (f_Model_forget MI ML li).1 (f_Model_forget MI ML li).2 z = (rows MI ML mm).filter (fkeep li) := by
  have ht : tn (MI 38 0) = mm := by rw [hm]; exact tn_nI (by omega)
  obtain ⟨z, h1, h2, h3⟩ := rows_forget_2 (li := li) mm MI ML 0 (by rw [Nat.zero_add]; exact hm) (by omega)
  rw [Nat.zero_add] at h1 h3
  refine ⟨z, h1, ?_, ?_⟩
  · unfold f_Model_forget; rw [ht]; exact h2
  · unfold f_Model_forget; rw [ht]; rw [h3]; simp
theorem keep_eq {li : Int32} {m : Msg} {r : Row} (h : MRow m r) : ckeep li m = fkeep li r := by
  obtain ⟨h1, h2, -, -, h3⟩ := h
  unfold ckeep fkeep
  rw [h2]
  rcases h3 with ⟨a, b, -⟩ | ⟨a, b, -⟩ | ⟨a, b, -⟩ | ⟨a, b, -⟩ <;> rw [a] <;> rcases b with b | b <;> rw [b] <;> simp
