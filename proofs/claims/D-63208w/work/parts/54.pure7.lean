-- ===== the pure side: the questions =====
theorem within0 {v lo hi : Int32} : f_Model_within v lo hi = 0 ↔ ¬ (¬ v < lo ∧ v ≤ hi) := by
  unfold f_Model_within
  by_cases h1 : v < lo
  · rw [if_pos h1]; exact ⟨fun _ h => h.1 h1, fun _ => rfl⟩
  · rw [if_neg h1]
    by_cases h2 : hi < v
    · rw [if_pos h2]; exact ⟨fun _ h => absurd h.2 (Int32.not_le.mpr h2), fun _ => rfl⟩
    · rw [if_neg h2]; exact ⟨fun h => absurd h (by decide), fun h => absurd ⟨h1, Int32.not_lt.mp h2⟩ h⟩
theorem bad_of {v hi hi' : Int32} (hh : hi'.toInt = hi.toInt + 1) (h : f_Model_within v 0 hi = 0) : ¬ (0 ≤ v ∧ v < hi') := by
  intro hb
  refine within0.mp h ⟨Int32.not_lt.mpr hb.1, ?_⟩
  have := Int32.lt_iff_toInt_lt.mp hb.2
  exact Int32.le_iff_toInt_le.mpr (by omega)
theorem good_of {v hi : Int32} {N : Nat} (hh : hi.toInt = N) (h : ¬ f_Model_within v 0 hi = 0) : ∃ j : Nat, j ≤ N ∧ v = nI j := by
  have h2 : ¬ v < 0 ∧ v ≤ hi := Classical.byContradiction fun h3 => h (within0.mpr h3)
  exact nI_of2 hh h2.1 h2.2
/-- the relation of the two states at the step t; Iv: what else holds of the model -/
def Rl0 (Iv : Nat → (Nat → Nat → Int32) → (Nat → Nat → Int64) → Prop) : CRel := fun t CI CL CR M n MI ML => ∃ mm u, u ≤ 4 * t ∧ Rel CI CL CR M n MI ML mm u ∧ Iv t MI ML
theorem vp_updL_0 (f : Nat → Int64) (x : Int64) : vp_updL f 0 x 0 = x := by simp [vp_updL]
def IvOk (Iv : Nat → (Nat → Nat → Int32) → (Nat → Nat → Int64) → Prop) : Prop := ∀ t MI ML x, Iv t MI ML → Iv (t + 1) (up2 MI 35 0 x) ML
section Qs
variable {Iv : Nat → (Nat → Nat → Int32) → (Nat → Nat → Int64) → Prop}
theorem Rl0.next (hIv : IvOk Iv) {t : Nat} {CI : Nat → Nat → Int32} {CL : Nat → Nat → Int64} {CR : Nat → Nat → Option Nat} {M : Nat → Msg} {n : Nat} {MI : Nat → Nat → Int32} {ML : Nat → Nat → Int64} (x : Int32) (h : Rl0 Iv t CI CL CR M n MI ML) : Rl0 Iv (t + 1) CI CL CR M n (up2 MI 35 0 x) ML := by
  obtain ⟨mm, u, h1, h2, h3⟩ := h
  exact ⟨mm, u, by omega, h2.thrown, hIv _ _ _ _ h3⟩
theorem up2_twice {MI : Nat → Nat → Int32} {k j : Nat} {x y : Int32} : up2 (up2 MI k j x) k j y = up2 MI k j y := by
  funext a b
  unfold up2
  by_cases h : a = k
  · by_cases h2 : b = j <;> simp [h, h2]
  · simp [h]
theorem sim_time (hIv : IvOk Iv) (p0 : Int32) : Sim (Rl0 Iv) y_Law_time b_Law_time 4 [(0, 8, 11, 13)] [.int p0] (fun MI ML => f_Model_time MI ML p0) (fun b : Int64 => b) := by
  intro t CI CL CR M n MI ML f ht hR
  have hR0 := hR
  obtain ⟨mm, u, -, hr, -⟩ := hR0
  have hok : CRok CR n := hr.2.2.2.2.2.2.1.2.2.2.1
  by_cases hw : f_Model_within p0 0 2 = 0
  · refine ⟨1, f, CI, CL, CR, M, n, fun l hfl D ac o ad al ou sz => h_time_t l hfl D ac o ad al CI CL CR M n ou f sz p0 (bad_of rfl hw) hok, ?_, fun h => absurd h (by decide), ?_⟩
    · show (f_Model_time MI ML p0).2.1 35 0 = 1
      unfold f_Model_time; rw [if_pos hw]; simp [up2]
    · show Rl0 Iv (t + 1) CI CL CR M n (f_Model_time MI ML p0).2.1 (f_Model_time MI ML p0).2.2
      unfold f_Model_time; rw [if_pos hw, up2_twice]; exact Rl0.next hIv _ hR
  · obtain ⟨c, hc, rfl⟩ := good_of (N := 2) rfl hw
    refine ⟨0, _, CI, CL, CR, M, n, fun l hfl D ac o ad al ou sz => h_time_c l D ac o ad al CI CL CR M n ou f sz c (by omega) hok, ?_, fun _ => ?_, ?_⟩
    · show (f_Model_time MI ML (nI c)).2.1 35 0 = 0
      unfold f_Model_time; rw [if_neg hw]; simp [up2]
    · show _ = (f_Model_time MI ML (nI c)).1
      unfold f_Model_time; rw [if_neg hw, vp_updL_0, tn_nI (by omega)]
      exact (hr.1 c (by omega)).2.symm
    · show Rl0 Iv (t + 1) CI CL CR M n (f_Model_time MI ML (nI c)).2.1 (f_Model_time MI ML (nI c)).2.2
      unfold f_Model_time; rw [if_neg hw]; exact Rl0.next hIv _ hR
end Qs
