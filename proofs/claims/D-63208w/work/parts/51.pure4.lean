-- ===== the pure side: the class's messages as a list, and the two lists side by side =====
def clist (M : Nat → Msg) (CR : Nat → Nat → Option Nat) (mm : Nat) : List Msg := (List.range mm).map (fun j => M ((CR 3 j).getD 0))
theorem clist_len (M : Nat → Msg) (CR : Nat → Nat → Option Nat) (mm : Nat) : (clist M CR mm).length = mm := by rw [clist, List.length_map, List.length_range]
theorem clist_get {M : Nat → Msg} {CR : Nat → Nat → Option Nat} {mm j : Nat} (h : j < mm) : (clist M CR mm)[j]? = some (M ((CR 3 j).getD 0)) := by
  rw [clist, List.getElem?_map, List.getElem?_range h] <;> rfl
theorem clist_none {M : Nat → Msg} {CR : Nat → Nat → Option Nat} {mm j : Nat} (h : ¬ j < mm) : (clist M CR mm)[j]? = none := List.getElem?_eq_none (by rw [clist_len]; omega)
theorem clist_congr {M M' : Nat → Msg} {CR CR' : Nat → Nat → Option Nat} {mm : Nat} (h : ∀ j, j < mm → M' ((CR' 3 j).getD 0) = M ((CR 3 j).getD 0)) : clist M' CR' mm = clist M CR mm := List.map_congr_left (fun j hj => h j (List.mem_range.mp hj))
theorem clist_succ (M : Nat → Msg) (CR : Nat → Nat → Option Nat) (mm : Nat) : clist M CR (mm + 1) = clist M CR mm ++ [M ((CR 3 mm).getD 0)] := by
  rw [clist, List.range_succ, List.map_append]
  rfl
theorem clist_remove {M : Nat → Msg} {CR : Nat → Nat → Option Nat} {a mm : Nat} (ha : a < mm) : clist M (rmR CR a (mm - 1)) (mm - 1) = (clist M CR mm).eraseIdx a := by
  refine List.ext_getElem? fun j => ?_
  rw [List.getElem?_eraseIdx]
  by_cases hj : j < mm - 1
  · rw [clist_get hj]
    by_cases h : a ≤ j
    · rw [if_neg (by omega), clist_get (by omega)]
      simp [rmR, h, hj]
    · rw [if_pos (by omega), clist_get (by omega)]
      have h2 : ¬ j = mm - 1 := by omega
      simp [rmR, h, h2]
  · rw [clist_none hj, if_neg (by omega), clist_none (by omega)]
theorem clist_send {M : Nat → Msg} {CR : Nat → Nat → Option Nat} {n mm : Nat} {m : Msg} (hc : ∀ j, j < mm → ∃ i, i < n ∧ CR 3 j = some i) : clist (upM M n m) (up2 CR 3 mm (some n)) (mm + 1) = clist M CR mm ++ [m] := by
  rw [clist_succ]
  congr 1
  · refine clist_congr fun j hj => ?_
    obtain ⟨i, hi, h⟩ := hc j hj
    rw [up2_j _ _ _ _ _ (by omega), h]
    exact upM_j _ _ _ _ (by show i ≠ n; omega)
  · rw [up2_s]
    show [upM M n m n] = [m]
    rw [upM_s]
theorem clist_insert {M : Nat → Msg} {CR : Nat → Nat → Option Nat} {a i mm : Nat} (ha : a ≤ mm) : clist M (insR CR a i mm) (mm + 1) = (clist M CR mm).insertIdx a (M i) := by
  refine List.ext_getElem? fun j => ?_
  rw [List.getElem?_insertIdx]
  by_cases h1 : j < a
  · rw [if_pos h1, clist_get (by omega), clist_get (by omega)]
    have h2 : ¬ j = a := by omega
    have h3 : ¬ (a < j ∧ j ≤ mm) := by omega
    simp [insR, h2, h3]
  · rw [if_neg h1]
    by_cases h2 : j = a
    · subst h2
      rw [if_pos rfl, if_pos (by rw [clist_len]; exact ha), clist_get (by omega)]
      simp [insR]
    · rw [if_neg h2]
      by_cases h3 : j < mm + 1
      · rw [clist_get h3, clist_get (by omega)]
        have h4 : a < j ∧ j ≤ mm := by omega
        simp [insR, h2, h4]
      · rw [clist_none h3, clist_none (by omega)]
/-- a message of the class and a row of the model -/
def MRow (m : Msg) (r : Row) : Prop :=
  mkind m = r.1 ∧ mline m = r.2.1 ∧ (∃ c, c < 3 ∧ mcore m = some c ∧ r.2.2.1 = nI c) ∧ (∃ l, l < 12 ∧ mline m = nI l) ∧
  ((mcls m = 4 ∧ (r.1 = 1 ∨ r.1 = 2) ∧ r.2.2.2.1 = 1 ∧ mta m = r.2.2.2.2.2.1 ∧ mtb m = r.2.2.2.2.2.2) ∨
   (mcls m = 5 ∧ (r.1 = 3 ∨ r.1 = 4) ∧ r.2.2.2.1 = 0 ∧ mword m = r.2.2.2.2.1 ∧ mtb m = r.2.2.2.2.2.1 ∧ mta m = r.2.2.2.2.2.2 ∧ (mown m = 0 ∨ mown m = 1)) ∨
   (mcls m = 6 ∧ (r.1 = 5 ∨ r.1 = 6) ∧ r.2.2.2.1 = 0 ∧ mta m = r.2.2.2.2.2.1) ∨
   (mcls m = 7 ∧ (r.1 = 7 ∨ r.1 = 8) ∧ r.2.2.2.1 = 1 ∧ mword m = r.2.2.2.2.1 ∧ mtb m = r.2.2.2.2.2.1 ∧ mta m = r.2.2.2.2.2.2))
def LRel (P : Msg → Row → Prop) : List Msg → List Row → Prop
  | [], [] => True
  | m :: a, r :: b => P m r ∧ LRel P a b
  | _, _ => False
theorem LRel.get {P : Msg → Row → Prop} : ∀ {a : List Msg} {b : List Row}, LRel P a b → ∀ (j : Nat) (m : Msg) (r : Row), a[j]? = some m → b[j]? = some r → P m r
  | [], [], _, j, m, r, h, _ => by cases h
  | x :: a, y :: b, h, 0, m, r, h1, h2 => by
    cases h1; cases h2; exact h.1
  | x :: a, y :: b, h, j + 1, m, r, h1, h2 => LRel.get h.2 j m r h1 h2
theorem LRel.erase {P : Msg → Row → Prop} : ∀ {a : List Msg} {b : List Row}, LRel P a b → ∀ j, LRel P (a.eraseIdx j) (b.eraseIdx j)
  | [], [], _, _ => trivial
  | _ :: _, _ :: _, h, 0 => h.2
  | _ :: _, _ :: _, h, j + 1 => ⟨h.1, LRel.erase h.2 j⟩
theorem LRel.app {P : Msg → Row → Prop} : ∀ {a : List Msg} {b : List Row} {a2 : List Msg} {b2 : List Row}, LRel P a b → LRel P a2 b2 → LRel P (a ++ a2) (b ++ b2)
  | [], [], _, _, _, h2 => h2
  | _ :: _, _ :: _, _, _, h, h2 => ⟨h.1, LRel.app h.2 h2⟩
theorem LRel.filter {P : Msg → Row → Prop} {f : Msg → Bool} {g : Row → Bool} (hfg : ∀ m r, P m r → f m = g r) : ∀ {a : List Msg} {b : List Row}, LRel P a b → LRel P (a.filter f) (b.filter g)
  | [], [], _ => trivial
  | m :: a, r :: b, h => by
    rw [List.filter_cons, List.filter_cons, hfg m r h.1]
    by_cases hg : g r = true
    · rw [if_pos hg, if_pos hg]; exact ⟨h.1, LRel.filter hfg h.2⟩
    · rw [if_neg hg, if_neg hg]; exact LRel.filter hfg h.2
theorem LRel.len {P : Msg → Row → Prop} : ∀ {a : List Msg} {b : List Row}, LRel P a b → a.length = b.length
  | [], [], _ => rfl
  | _ :: _, _ :: _, h => congrArg (· + 1) (LRel.len h.2)
