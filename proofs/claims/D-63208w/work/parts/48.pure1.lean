-- ===== the pure side: finding =====
theorem find_eq {CI MI : Nat → Nat → Int32} {ML : Nat → Nat → Int64} {c li : Nat} (hc : c < 3) (hli : li < 12) (hE : ∀ p, p < 12 → MI 10 p = CI 10 p) (hpar : ∀ p l, p < 12 → l < 12 → CI 10 p = nI l → l % 2 = p % 4 / 2) : f_Core_find CI c (nI li) = f_Model_placeOf MI ML c li := by
  unfold f_Core_find f_Model_placeOf
  have q0 := hpar (4 * c) li (by omega) hli
  have q1 := hpar (4 * c + 1) li (by omega) hli
  have q2 := hpar (4 * c + 2) li (by omega) hli
  have q3 := hpar (4 * c + 3) li (by omega) hli
  rcases Nat.mod_two_eq_zero_or_one li with h | h
  · rw [h] at q2 q3 ⊢
    simp only [Nat.mul_zero, Nat.add_zero]
    rw [hE (4 * c) (by omega), hE (4 * c + 1) (by omega)]
    by_cases a0 : CI 10 (4 * c) = nI li
    · rw [if_pos a0, if_pos a0]
    · rw [if_neg a0, if_neg a0]
      by_cases a1 : CI 10 (4 * c + 1) = nI li
      · rw [if_pos a1, if_pos a1]
      · rw [if_neg a1, if_neg a1, if_neg (fun h2 => by have := q2 h2; omega), if_neg (fun h2 => by have := q3 h2; omega)]
  · rw [h] at q0 q1 ⊢
    simp only [Nat.mul_one, Nat.add_zero]
    rw [hE (4 * c + 2) (by omega), show 4 * c + 2 + 1 = 4 * c + 3 from rfl, hE (4 * c + 3) (by omega)]
    rw [if_neg (fun h2 => by have := q0 h2; omega), if_neg (fun h2 => by have := q1 h2; omega)]
theorem m_entryOf_4_none {MI : Nat → Nat → Int32} {ML : Nat → Nat → Int64} {li : Int32} : ∀ (d k : Nat) (f : Option Nat), k + d = 6 → (∀ q, k ≤ q → q < 6 → MI 16 q ≠ li) → f_Model_entryOf_4 d MI ML li f k = f := by
  intro d
  induction d with
  | zero => intro k f _ _; rfl
  | succ d ih =>
    intro k f hk h
    rw [f_Model_entryOf_4_s, if_neg (h k (Nat.le_refl _) (by omega))]
    exact ih (k + 1) f (by omega) (fun q h1 h2 => h q (by omega) h2)
theorem m_entryOf_4_some {MI : Nat → Nat → Int32} {ML : Nat → Nat → Int64} {li : Int32} {e : Nat} (he : e < 6) (hl : MI 16 e = li) (hu : ∀ q, q < 6 → MI 16 q = li → q = e) : ∀ (d k : Nat) (f : Option Nat), k + d = 6 → k ≤ e → f_Model_entryOf_4 d MI ML li f k = some e := by
  intro d
  induction d with
  | zero => intro k f hk h; omega
  | succ d ih =>
    intro k f hk h
    rw [f_Model_entryOf_4_s]
    by_cases hke : k = e
    · subst hke
      rw [if_pos hl]
      exact m_entryOf_4_none d (k + 1) _ (by omega) (fun q h1 h2 h3 => by have := hu q h2 h3; omega)
    · rw [if_neg (fun h2 => hke (hu k (by omega) h2))]
      exact ih (k + 1) f (by omega) (by omega)
theorem m_entryOf_none {MI : Nat → Nat → Int32} {ML : Nat → Nat → Int64} {li : Int32} (h : ∀ q, q < 6 → MI 16 q ≠ li) : f_Model_entryOf MI ML li = none := m_entryOf_4_none 6 0 none rfl (fun q _ h2 => h q h2)
theorem m_entryOf_some {MI : Nat → Nat → Int32} {ML : Nat → Nat → Int64} {li : Int32} {e : Nat} (he : e < 6) (hl : MI 16 e = li) (hu : ∀ q, q < 6 → MI 16 q = li → q = e) : f_Model_entryOf MI ML li = some e := m_entryOf_4_some he hl hu 6 0 none rfl (Nat.zero_le _)
/-- entryOf, of a line that at most one entry has -/
theorem entryOf_eq {CI MI : Nat → Nat → Int32} {ML : Nat → Nat → Int64} {li : Int32} (hE : ∀ e, e < 6 → MI 16 e = CI 16 e) (hu : ∀ a b, a < 6 → b < 6 → CI 16 a = li → CI 16 b = li → a = b) : f_Model_entryOf MI ML li = f_LC_entryOf CI li := by
  cases h : f_LC_entryOf CI li with
  | none => exact m_entryOf_none (fun q hq => by rw [hE q hq]; exact f_LC_entryOf_none h q hq)
  | some e =>
    have he := f_LC_entryOf_lt h
    have hl := f_LC_entryOf_line h
    exact m_entryOf_some he (by rw [hE e he]; exact hl) (fun q hq h2 => hu q e hq he (by rw [← hE q hq]; exact h2) hl)
