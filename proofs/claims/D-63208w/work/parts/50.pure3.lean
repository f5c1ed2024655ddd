-- ===== the pure side: the model's messages as a list of rows =====
abbrev Row : Type := Int32 × Int32 × Int32 × Int32 × Int32 × Int64 × Int64
def row (MI : Nat → Nat → Int32) (ML : Nat → Nat → Int64) (j : Nat) : Row := (MI 28 j, MI 29 j, MI 30 j, MI 31 j, MI 32 j, ML 33 j, ML 34 j)
def rows (MI : Nat → Nat → Int32) (ML : Nat → Nat → Int64) (mm : Nat) : List Row := (List.range mm).map (row MI ML)
theorem rows_len (MI : Nat → Nat → Int32) (ML : Nat → Nat → Int64) (mm : Nat) : (rows MI ML mm).length = mm := by rw [rows, List.length_map, List.length_range]
theorem rows_get {MI : Nat → Nat → Int32} {ML : Nat → Nat → Int64} {mm j : Nat} (h : j < mm) : (rows MI ML mm)[j]? = some (row MI ML j) := by
  rw [rows, List.getElem?_map, List.getElem?_range h] <;> rfl
theorem rows_get_none {MI : Nat → Nat → Int32} {ML : Nat → Nat → Int64} {mm j : Nat} (h : ¬ j < mm) : (rows MI ML mm)[j]? = none := List.getElem?_eq_none (by rw [rows_len]; omega)
theorem rows_mem {MI : Nat → Nat → Int32} {ML : Nat → Nat → Int64} {mm : Nat} {r : Row} (h : r ∈ rows MI ML mm) : ∃ j, j < mm ∧ r = row MI ML j := by
  rw [rows, List.mem_map] at h
  obtain ⟨j, hj, rfl⟩ := h
  exact ⟨j, List.mem_range.mp hj, rfl⟩
theorem rows_congr {MI MI' : Nat → Nat → Int32} {ML ML' : Nat → Nat → Int64} {mm : Nat} (h : ∀ j, j < mm → row MI' ML' j = row MI ML j) : rows MI' ML' mm = rows MI ML mm := List.map_congr_left (fun j hj => h j (List.mem_range.mp hj))
theorem rows_succ (MI : Nat → Nat → Int32) (ML : Nat → Nat → Int64) (mm : Nat) : rows MI ML (mm + 1) = rows MI ML mm ++ [row MI ML mm] := by
  rw [rows, List.range_succ, List.map_append]
  rfl
theorem row_rm {MI : Nat → Nat → Int32} {ML : Nat → Nat → Int64} {a z j : Nat} : row (rmI MI a z) (rmL ML a z) j = if a ≤ j ∧ j < z then row MI ML (j + 1) else row MI ML j := by
  unfold row rmI rmL
  by_cases h : a ≤ j ∧ j < z
  · simp [h]
  · simp [h]
theorem rows_remove {MI : Nat → Nat → Int32} {ML : Nat → Nat → Int64} {a mm : Nat} (ha : a < mm) : rows (rmI MI a (mm - 1)) (rmL ML a (mm - 1)) (mm - 1) = (rows MI ML mm).eraseIdx a := by
  refine List.ext_getElem? fun j => ?_
  rw [List.getElem?_eraseIdx]
  by_cases hj : j < mm - 1
  · rw [rows_get hj, row_rm]
    by_cases h : a ≤ j
    · rw [if_pos ⟨h, hj⟩, if_neg (by omega), rows_get (by omega)]
    · rw [if_neg (by omega), if_pos (by omega), rows_get (by omega)]
  · rw [rows_get_none hj, if_neg (by omega), rows_get_none (by omega)]
theorem row_up {MI : Nat → Nat → Int32} {ML : Nat → Nat → Int64} {k i j : Nat} {x : Int32} (hk : k < 28 ∨ 32 < k) : row (up2 MI k i x) ML j = row MI ML j := by
  unfold row
  have h1 : (28 : Nat) ≠ k := by omega
  have h2 : (29 : Nat) ≠ k := by omega
  have h3 : (30 : Nat) ≠ k := by omega
  have h4 : (31 : Nat) ≠ k := by omega
  have h5 : (32 : Nat) ≠ k := by omega
  rw [up2_k _ _ _ _ _ h1, up2_k _ _ _ _ _ h2, up2_k _ _ _ _ _ h3, up2_k _ _ _ _ _ h4, up2_k _ _ _ _ _ h5]
theorem row_upL {MI : Nat → Nat → Int32} {ML : Nat → Nat → Int64} {k i j : Nat} {x : Int64} (hk : k < 33 ∨ 34 < k) : row MI (up2 ML k i x) j = row MI ML j := by
  unfold row
  have h1 : (33 : Nat) ≠ k := by omega
  have h2 : (34 : Nat) ≠ k := by omega
  rw [up2_k _ _ _ _ _ h1, up2_k _ _ _ _ _ h2]
theorem rows_f_remove {MI : Nat → Nat → Int32} {ML : Nat → Nat → Int64} {a mm : Nat} (hm : tn (MI 38 0) = mm) (ha : a < mm) : rows (f_Model_remove MI ML a).1 (f_Model_remove MI ML a).2 (mm - 1) = (rows MI ML mm).eraseIdx a := by
  subst hm
  rw [f_Model_remove_eq ha, rows_remove ha]
  congr 1
def fkeep (li : Int32) (r : Row) : Bool := !(r.2.1 == li && (r.1 == 5 || r.1 == 6))
theorem rows_forget_2 {li : Int32} : ∀ (d : Nat) (MI : Nat → Nat → Int32) (ML : Nat → Nat → Int64) (k : Nat), MI 38 0 = nI (k + d) → k + d < 26 → ∃ mm', mm' ≤ k + d ∧ (f_Model_forget_2 d MI ML li k).1 38 0 = nI mm' ∧ rows (f_Model_forget_2 d MI ML li k).1 (f_Model_forget_2 d MI ML li k).2 mm' = (rows MI ML (k + d)).take k ++ ((rows MI ML (k + d)).drop k).filter (fkeep li) := by
  intro d
  induction d with
  | zero =>
    intro MI ML k hm hb
    refine ⟨k, Nat.le_refl _, hm, ?_⟩
    show rows MI ML k = (rows MI ML k).take k ++ ((rows MI ML k).drop k).filter (fkeep li)
    rw [List.take_of_length_le (by rw [rows_len]; exact Nat.le_refl _), List.drop_of_length_le (by rw [rows_len]; exact Nat.le_refl _)]
    simp
  | succ d ih =>
    intro MI ML k hm hb
    have htn : tn (MI 38 0) = k + (d + 1) := by rw [hm]; exact tn_nI (by omega)
    have hk : k < (rows MI ML (k + (d + 1))).length := by rw [rows_len]; omega
    have hd := List.drop_eq_getElem_cons hk
    have hg : (rows MI ML (k + (d + 1)))[k] = row MI ML k := by
      have := rows_get (MI := MI) (ML := ML) (mm := k + (d + 1)) (j := k) (by omega)
      rw [List.getElem?_eq_getElem hk] at this
      exact Option.some.inj this
    rw [hg] at hd
    have step : fkeep li (row MI ML k) = false → ∃ mm', mm' ≤ k + (d + 1) ∧ (f_Model_forget_2 d (f_Model_remove MI ML k).1 (f_Model_remove MI ML k).2 li k).1 38 0 = nI mm' ∧ rows (f_Model_forget_2 d (f_Model_remove MI ML k).1 (f_Model_remove MI ML k).2 li k).1 (f_Model_forget_2 d (f_Model_remove MI ML k).1 (f_Model_remove MI ML k).2 li k).2 mm' = (rows MI ML (k + (d + 1))).take k ++ ((rows MI ML (k + (d + 1))).drop k).filter (fkeep li) := by
      intro hf
      obtain ⟨mm', h1, h2, h3⟩ := ih (f_Model_remove MI ML k).1 (f_Model_remove MI ML k).2 k (by rw [f_Model_remove_many (by omega), htn]; rfl) (by omega)
      refine ⟨mm', by omega, h2, h3.trans ?_⟩
      have he := rows_f_remove (MI := MI) (ML := ML) htn (a := k) (by omega)
      rw [show k + (d + 1) - 1 = k + d by omega] at he
      rw [he, hd, List.filter_cons_of_neg (by rw [hf]; decide)]
      have hlen : ((rows MI ML (k + (d + 1))).take k).length = k := by rw [List.length_take, rows_len]; omega
      rw [List.eraseIdx_eq_take_drop_succ, List.take_left' hlen, List.drop_left' hlen]
    have skip : fkeep li (row MI ML k) = true → ∃ mm', mm' ≤ k + (d + 1) ∧ (f_Model_forget_2 d MI ML li (k + 1)).1 38 0 = nI mm' ∧ rows (f_Model_forget_2 d MI ML li (k + 1)).1 (f_Model_forget_2 d MI ML li (k + 1)).2 mm' = (rows MI ML (k + (d + 1))).take k ++ ((rows MI ML (k + (d + 1))).drop k).filter (fkeep li) := by
      intro hf
      obtain ⟨mm', h1, h2, h3⟩ := ih MI ML (k + 1) (by rw [hm]; congr 1; omega) (by omega)
      refine ⟨mm', by omega, h2, h3.trans ?_⟩
      rw [show k + 1 + d = k + (d + 1) by omega, hd, List.filter_cons_of_pos hf, List.take_succ_eq_append_getElem hk, hg, List.append_assoc]
      rfl
    rw [f_Model_forget_2_s]
    by_cases h1 : MI 29 k = li
    · rw [if_pos h1]
      by_cases h2 : MI 28 k = 5
      · rw [if_pos h2]
        exact step (by simp [fkeep, row, h1, h2])
      · rw [if_neg h2]
        by_cases h3 : MI 28 k = 6
        · rw [if_pos h3]
          exact step (by simp [fkeep, row, h1, h3])
        · rw [if_neg h3]
          exact skip (by simp [fkeep, row, h2, h3])
    · rw [if_neg h1]
      exact skip (by simp [fkeep, row, h1])
