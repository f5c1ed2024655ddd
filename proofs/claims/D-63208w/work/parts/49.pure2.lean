-- ===== the pure side: the least entry, and whether one is called =====
theorem least_free_4 {CI MI : Nat → Nat → Int32} {CL ML : Nat → Nat → Int64} {CR : Nat → Nat → Option Nat} (hL : ∀ e, e < 6 → ML 19 e = CL 19 e) (hO : ∀ e, e < 6 → (0 ≤ MI 20 e ↔ CR 0 e ≠ none)) : ∀ (d k : Nat) (f : Option Nat), k + d = 6 → (∀ y, f = some y → y < 6) → f_LC_least_4 d CI CL CR 0 f k = f_Model_least_4 d MI ML 1 f k := by
  intro d
  induction d with
  | zero => intro k f _ _; rfl
  | succ d ih =>
    intro k f hk hf
    have hs : ∀ y, some k = some y → y < 6 := fun y h => by cases h; omega
    rw [f_LC_least_4_s, f_Model_least_4_s, if_pos rfl, if_neg (by decide)]
    cases ho : CR 0 k with
    | none =>
      rw [oc_none, if_neg (fun h => (hO k (by omega)).mp h ho)]
      cases f with
      | none => rw [oc_none, oc_none]; exact ih (k + 1) _ (by omega) hs
      | some y =>
        rw [oc_some, oc_some, hL y (hf y rfl), hL k (by omega)]
        split
        · exact ih (k + 1) _ (by omega) hf
        · exact ih (k + 1) _ (by omega) hs
    | some c =>
      rw [oc_some, if_pos ((hO k (by omega)).mpr (by rw [ho]; exact fun h => by cases h))]
      exact ih (k + 1) f (by omega) hf
theorem least_free {CI MI : Nat → Nat → Int32} {CL ML : Nat → Nat → Int64} {CR : Nat → Nat → Option Nat} (hL : ∀ e, e < 6 → ML 19 e = CL 19 e) (hO : ∀ e, e < 6 → (0 ≤ MI 20 e ↔ CR 0 e ≠ none)) : f_LC_least CI CL CR 0 = f_Model_least MI ML 1 := least_free_4 hL hO 6 0 none rfl (fun y h => by cases h)
theorem least_busy_4 {CI MI : Nat → Nat → Int32} {CL ML : Nat → Nat → Int64} {CR : Nat → Nat → Option Nat} (hL : ∀ e, e < 6 → ML 19 e = CL 19 e) (hO : ∀ e, e < 6 → CR 0 e ≠ none) (hA : ∀ e, e < 6 → (MI 22 e = 0 ↔ CR 1 e = none)) : ∀ (d k : Nat) (f : Option Nat), k + d = 6 → (∀ y, f = some y → y < 6) → f_LC_least_4 d CI CL CR 1 f k = f_Model_least_4 d MI ML 0 f k := by
  intro d
  induction d with
  | zero => intro k f _ _; rfl
  | succ d ih =>
    intro k f hk hf
    have hs : ∀ y, some k = some y → y < 6 := fun y h => by cases h; omega
    rw [f_LC_least_4_s, f_Model_least_4_s, if_neg (by decide), if_pos rfl]
    cases ho : CR 0 k with
    | none => exact absurd ho (hO k (by omega))
    | some c =>
      rw [oc_some]
      cases hp : CR 1 k with
      | none =>
        rw [oc_none, if_pos ((hA k (by omega)).mpr hp)]
        cases f with
        | none => rw [oc_none, oc_none]; exact ih (k + 1) _ (by omega) hs
        | some y =>
          rw [oc_some, oc_some, hL y (hf y rfl), hL k (by omega)]
          split
          · exact ih (k + 1) _ (by omega) hf
          · exact ih (k + 1) _ (by omega) hs
      | some q =>
        rw [oc_some, if_neg (fun h => by rw [(hA k (by omega)).mp h] at hp; cases hp)]
        exact ih (k + 1) f (by omega) hf
theorem least_busy {CI MI : Nat → Nat → Int32} {CL ML : Nat → Nat → Int64} {CR : Nat → Nat → Option Nat} (hL : ∀ e, e < 6 → ML 19 e = CL 19 e) (hO : ∀ e, e < 6 → CR 0 e ≠ none) (hA : ∀ e, e < 6 → (MI 22 e = 0 ↔ CR 1 e = none)) : f_LC_least CI CL CR 1 = f_Model_least MI ML 0 := least_busy_4 hL hO hA 6 0 none rfl (fun y h => by cases h)
def anyv (g : Nat → Int32) : Nat → Nat → Int32 → Int32
  | 0, _, sm => sm
  | d + 1, k, sm => anyv g d (k + 1) (if sm = 0 then (if g k = 0 then 0 else 1) else 1)
theorem anyv_congr {g h : Nat → Int32} : ∀ (d k : Nat) (sm : Int32), (∀ e, k ≤ e → e < k + d → g e = h e) → anyv g d k sm = anyv h d k sm := by
  intro d
  induction d with
  | zero => intro k sm _; rfl
  | succ d ih =>
    intro k sm he
    show anyv g d (k + 1) _ = anyv h d (k + 1) _
    rw [he k (Nat.le_refl _) (by omega)]
    exact ih (k + 1) _ (fun e h1 h2 => he e (by omega) (by omega))
theorem anyv_zero {g : Nat → Int32} : ∀ (d k : Nat) (sm : Int32), anyv g d k sm = 0 → sm = 0 ∧ ∀ e, k ≤ e → e < k + d → g e = 0 := by
  intro d
  induction d with
  | zero => intro k sm h; exact ⟨h, fun e h1 h2 => by omega⟩
  | succ d ih =>
    intro k sm h
    obtain ⟨h1, h2⟩ := ih (k + 1) _ h
    by_cases h3 : sm = 0
    · rw [if_pos h3] at h1
      by_cases h4 : g k = 0
      · refine ⟨h3, fun e h5 h6 => ?_⟩
        by_cases h7 : e = k
        · rw [h7]; exact h4
        · exact h2 e (by omega) (by omega)
      · rw [if_neg h4] at h1; exact absurd h1 (by decide)
    · rw [if_neg h3] at h1; exact absurd h1 (by decide)
theorem c_call_4 {CI : Nat → Nat → Int32} {CL : Nat → Nat → Int64} {CR : Nat → Nat → Option Nat} {M : Nat → Msg} {n mm : Nat} : ∀ (d k : Nat) (sm : Int32), f_LC_call_4 d CI CL CR M n sm k mm = f_LC_call_38 CI CL CR M n (anyv (CI 21) d k sm) mm := by
  intro d
  induction d with
  | zero => intro k sm; rfl
  | succ d ih =>
    intro k sm
    rw [f_LC_call_4_s]
    show _ = f_LC_call_38 CI CL CR M n (anyv (CI 21) d (k + 1) _) mm
    by_cases h : sm = 0
    · rw [if_pos h, if_pos h]
      by_cases h2 : CI 21 k = 0
      · rw [if_pos h2, if_pos h2]; exact ih _ _
      · rw [if_neg h2, if_neg h2]; exact ih _ _
    · rw [if_neg h, if_neg h]; exact ih _ _
theorem m_call_4 {MI : Nat → Nat → Int32} {ML : Nat → Nat → Int64} : ∀ (d k : Nat) (sm : Int32), f_Model_call_4 d MI ML sm k = f_Model_call_35 MI ML (anyv (MI 21) d k sm) := by
  intro d
  induction d with
  | zero => intro k sm; rfl
  | succ d ih =>
    intro k sm
    rw [f_Model_call_4_s]
    show _ = f_Model_call_35 MI ML (anyv (MI 21) d (k + 1) _)
    by_cases h : sm = 0
    · rw [if_pos h, if_pos h]
      by_cases h2 : MI 21 k = 0
      · rw [if_pos h2, if_pos h2]; exact ih _ _
      · rw [if_neg h2, if_neg h2]; exact ih _ _
    · rw [if_neg h, if_neg h]; exact ih _ _
