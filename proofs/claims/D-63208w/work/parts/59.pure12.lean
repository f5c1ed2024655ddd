-- ===== the pure side: the start =====
def lm (hi x : Int32) : Int32 := if 1 ≤ x then (if x ≤ hi then x else hi) else 1
theorem lim_eq {hi x : Int32} (hh : 1 < hi.toInt) : lim hi x = lm hi x := by
  unfold lim lm
  simp only [Int32.lt_iff_toInt_lt, Int32.le_iff_toInt_le]
  have h1 : (1 : Int32).toInt = 1 := rfl
  have inj : ∀ a b : Int32, a.toInt = b.toInt → a = b := fun a b h => Int32.toInt_inj.mp h
  by_cases a : x.toInt < hi.toInt
  · simp only [if_pos a]
    by_cases b : (1 : Int32).toInt < x.toInt
    · rw [if_pos b, if_pos (by omega), if_pos (by omega)]
    · rw [if_neg b]
      by_cases d : (1 : Int32).toInt ≤ x.toInt
      · rw [if_pos d, if_pos (by omega)]; exact inj _ _ (by omega)
      · rw [if_neg d]
  · simp only [if_neg a]
    rw [if_pos (by omega), if_pos (by omega)]
    by_cases d : x.toInt ≤ hi.toInt
    · rw [if_pos d]; exact inj _ _ (by omega)
    · rw [if_neg d]
theorem init_eq (x1 x2 : Int32) : f_Model_init x1 x2 = f_Model_init_326 (up2 (up2 (fun _ _ => 0) 36 0 (lm 1000 x1)) 37 0 (lm 50 x2)) (fun _ _ => 0) := by
  unfold f_Model_init f_Model_init_274 f_Model_init_301 lm
  by_cases a : 1 ≤ x1 <;> by_cases b : x1 ≤ 1000 <;> by_cases c : 1 ≤ x2 <;> by_cases d : x2 ≤ 50 <;> simp [a, b, c, d]
theorem lm_pos (hi x : Int32) (hh : 1 < hi.toInt) : ¬ lm hi x = 0 := by
  unfold lm
  have h1 : (1 : Int32).toInt = 1 := rfl
  by_cases a : 1 ≤ x
  · rw [if_pos a]
    have a2 := Int32.le_iff_toInt_le.mp a
    by_cases b : x ≤ hi
    · rw [if_pos b]; intro h; rw [h] at a2; exact absurd a2 (by decide)
    · rw [if_neg b]; intro h; rw [h] at hh; exact absurd hh (by decide)
  · rw [if_neg a]; decide
theorem sim_none {Iv : Nat → (Nat → Nat → Int32) → (Nat → Nat → Int64) → Prop} (hmo : ∀ t MI ML, Iv t MI ML → Iv (t + 1) MI ML) : ∀ t CI CL CR M n MI ML, Rl0 Iv t CI CL CR M n MI ML → Rl0 Iv (t + 1) CI CL CR M n MI ML := by
  intro t CI CL CR M n MI ML ⟨mm, u, h1, h2, h3⟩
  exact ⟨mm, u, by omega, h2, hmo _ _ _ h3⟩
