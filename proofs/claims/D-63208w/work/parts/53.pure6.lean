-- ===== the pure side: class and model side by side =====
def RCore (CI : Nat → Nat → Int32) (CL : Nat → Nat → Int64) (MI : Nat → Nat → Int32) (ML : Nat → Nat → Int64) : Prop := ∀ c, c < 3 → (∀ r, 1 ≤ r → r ≤ 9 → MI r c = CI r c) ∧ ML 0 c = CL 0 c
def RPlace (CI : Nat → Nat → Int32) (CL : Nat → Nat → Int64) (MI : Nat → Nat → Int32) (ML : Nat → Nat → Int64) : Prop := ∀ p, p < 12 → MI 10 p = CI 10 p ∧ MI 12 p = CI 12 p ∧ ML 13 p = CL 13 p ∧ ML 14 p = CL 14 p ∧ (CI 10 p ≠ -1 → MI 11 p = CI 11 p)
def REnt (CI : Nat → Nat → Int32) (CL : Nat → Nat → Int64) (CR : Nat → Nat → Option Nat) (MI : Nat → Nat → Int32) (ML : Nat → Nat → Int64) : Prop := ∀ e, e < 6 → MI 16 e = CI 16 e ∧ MI 17 e = CI 17 e ∧ MI 21 e = CI 21 e ∧ ML 18 e = CL 18 e ∧ ML 19 e = CL 19 e ∧ MI 20 e = oI (CR 0 e)
def RMisc (CI : Nat → Nat → Int32) (CL : Nat → Nat → Int64) (MI : Nat → Nat → Int32) (ML : Nat → Nat → Int64) : Prop := (∀ j, j < 12 → MI 27 j = CI 27 j) ∧ ML 35 0 = CL 35 0 ∧ MI 36 0 = CI 36 0 ∧ MI 37 0 = CI 37 0
def ARow (MI : Nat → Nat → Int32) (ML : Nat → Nat → Int64) (m : Msg) (k : Nat) : Prop := mcls m = 4 ∧ (∃ c, c < 3 ∧ mcore m = some c ∧ MI 23 k = nI c) ∧ mkind m = MI 24 k ∧ mta m = ML 25 k ∧ mtb m = ML 26 k
def RAsk (CI : Nat → Nat → Int32) (CR : Nat → Nat → Option Nat) (M : Nat → Msg) (n : Nat) (MI : Nat → Nat → Int32) (ML : Nat → Nat → Int64) : Prop := ∀ e, e < 6 →
  (CR 1 e = none ∧ MI 22 e = 0 ∧ CI 22 e = 0) ∨ (∃ q w, CR 1 e = some q ∧ q < n ∧ w ≤ 2 ∧ CI 22 e = nI w ∧ MI 22 e = nI (w + 1) ∧ ARow MI ML (M q) (3 * e) ∧ ∀ j, j < w → ∃ q', CR (10 + e) j = some q' ∧ q' < n ∧ ARow MI ML (M q') (3 * e + 1 + j))
def RLru (CI MI : Nat → Nat → Int32) (u : Nat) : Prop := CI 39 0 = nI u ∧ (∀ p, p < 12 → ∃ v, v ≤ u ∧ CI 15 p = nI v) ∧ ∀ h, h < 6 → (MI 15 h = 0 ∨ MI 15 h = 1) ∧ (CI 10 (2 * h) ≠ -1 → CI 10 (2 * h + 1) ≠ -1 → (MI 15 h = 0 ∧ CI 15 (2 * h + 1) < CI 15 (2 * h)) ∨ (MI 15 h = 1 ∧ CI 15 (2 * h) < CI 15 (2 * h + 1)))
def RMsg (CI : Nat → Nat → Int32) (CR : Nat → Nat → Option Nat) (M : Nat → Msg) (n : Nat) (MI : Nat → Nat → Int32) (ML : Nat → Nat → Int64) (mm : Nat) : Prop := CI 38 0 = nI mm ∧ MI 38 0 = nI mm ∧ mm < 20 ∧ CRok CR n ∧ (∀ j, j < mm → ∃ i, i < n ∧ CR 3 j = some i) ∧ LRel MRow (clist M CR mm) (rows MI ML mm) ∧ (∀ e j q, e < 6 → CR (10 + e) j = some q → mcls (M q) = 4) ∧ ∀ j, MI 31 j = 0 ∨ MI 31 j = 1
/-- lines: of places by parity, of entries apart -/
def RLine (CI : Nat → Nat → Int32) : Prop := (∀ p, p < 12 → CI 10 p = -1 ∨ ∃ l, l < 12 ∧ CI 10 p = nI l ∧ l % 2 = p % 4 / 2) ∧ (∀ e, e < 6 → CI 16 e = -1 ∨ ∃ l, l < 12 ∧ CI 16 e = nI l) ∧ ∀ a b, a < 6 → b < 6 → CI 16 a = CI 16 b → CI 16 a ≠ -1 → a = b
def Rel (CI : Nat → Nat → Int32) (CL : Nat → Nat → Int64) (CR : Nat → Nat → Option Nat) (M : Nat → Msg) (n : Nat) (MI : Nat → Nat → Int32) (ML : Nat → Nat → Int64) (mm u : Nat) : Prop :=
  RCore CI CL MI ML ∧ RPlace CI CL MI ML ∧ REnt CI CL CR MI ML ∧ RMisc CI CL MI ML ∧ RAsk CI CR M n MI ML ∧ RLru CI MI u ∧ RMsg CI CR M n MI ML mm ∧ RLine CI ∧ ¬ CI 37 0 = 0 ∧ (∀ e c, CR 0 e = some c → c < 3)
theorem nI_inj {a b : Nat} (ha : a < 2 ^ 31) (hb : b < 2 ^ 31) (h : nI a = nI b) : a = b := (nI_eq ha hb).mp h
theorem nI_ne_m1 {a : Nat} (ha : a < 2 ^ 31) : nI a ≠ -1 := fun h => by
  have := congrArg Int32.toInt h
  rw [nI_toInt ha] at this
  have h2 : ((-1 : Int32)).toInt = -1 := rfl
  omega
/-- nothing but the register 35 of the model's scalars is other: the relation stays -/
theorem Rel.thrown {CI : Nat → Nat → Int32} {CL : Nat → Nat → Int64} {CR : Nat → Nat → Option Nat} {M : Nat → Msg} {n : Nat} {MI : Nat → Nat → Int32} {ML : Nat → Nat → Int64} {mm u : Nat} {x : Int32} (h : Rel CI CL CR M n MI ML mm u) : Rel CI CL CR M n (up2 MI 35 0 x) ML mm u := by
  have hk : ∀ k, k ≠ 35 → up2 MI 35 0 x k = MI k := fun k hk => up2_k _ _ _ _ _ hk
  obtain ⟨h1, h2, h3, h4, h5, h6, h7, h8, h9, h10⟩ := h
  refine ⟨fun c hc => ⟨fun r a b => by rw [hk r (by omega)]; exact (h1 c hc).1 r a b, (h1 c hc).2⟩, fun p hp => ?_, fun e he => ?_, ?_, fun e he => ?_, ?_, ?_, h8, h9, h10⟩
  · rw [hk 10 (by decide), hk 11 (by decide), hk 12 (by decide)]; exact h2 p hp
  · rw [hk 16 (by decide), hk 17 (by decide), hk 20 (by decide), hk 21 (by decide)]; exact h3 e he
  · obtain ⟨a, b, c, d⟩ := h4
    exact ⟨fun j hj => by rw [hk 27 (by decide)]; exact a j hj, b, by rw [hk 36 (by decide)]; exact c, by rw [hk 37 (by decide)]; exact d⟩
  · have := h5 e he
    unfold ARow at this ⊢
    rw [hk 22 (by decide), hk 23 (by decide), hk 24 (by decide)]
    exact this
  · obtain ⟨a, b, c⟩ := h6
    exact ⟨a, b, fun h hh => by rw [hk 15 (by decide)]; exact c h hh⟩
  · obtain ⟨a, b, c, d, e, f, g, i⟩ := h7
    refine ⟨a, by rw [hk 38 (by decide)]; exact b, c, d, e, ?_, g, fun j => by rw [hk 31 (by decide)]; exact i j⟩
    rw [rows_congr (MI := MI) (MI' := up2 MI 35 0 x) (ML := ML) (ML' := ML) (fun j _ => row_up (Or.inr (by decide)))]
    exact f
