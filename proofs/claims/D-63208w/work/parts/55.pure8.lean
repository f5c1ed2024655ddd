theorem sim_memory {Iv : Nat → (Nat → Nat → Int32) → (Nat → Nat → Int64) → Prop} (hIv : IvOk Iv) (p0 : Int32) : Sim (Rl0 Iv) y_Law_memory b_Law_memory 4 [(0, 9, 12, 13)] [.int p0] (fun MI ML => f_Model_memory MI ML p0) (fun b : Int32 => b.toInt64) := by
  intro t CI CL CR M n MI ML f ht hR
  have hR0 := hR
  obtain ⟨mm, u, -, hr, -⟩ := hR0
  have hok : CRok CR n := hr.2.2.2.2.2.2.1.2.2.2.1
  by_cases hw : f_Model_within p0 0 11 = 0
  · skip
    refine ⟨1, f, CI, CL, CR, M, n, fun l hfl D ac o ad al ou sz => h_memory_t l hfl D ac o ad al CI CL CR M n ou f sz p0 (bad_of rfl hw) hok, ?_, fun h => absurd h (by decide), ?_⟩
    · show (f_Model_memory MI ML p0).2.1 35 0 = 1
      unfold f_Model_memory; rw [if_pos hw]; simp [up2]
    · show Rl0 Iv (t + 1) CI CL CR M n (f_Model_memory MI ML p0).2.1 (f_Model_memory MI ML p0).2.2
      unfold f_Model_memory; rw [if_pos hw]; rw [up2_twice]; exact Rl0.next hIv _ hR
  · obtain ⟨a, ha, rfl⟩ := good_of (N := 11) rfl hw
    refine ⟨0, _, CI, CL, CR, M, n, fun l hfl D ac o ad al ou sz => h_memory_c l D ac o ad al CI CL CR M n ou f sz a (by omega) hok, ?_, fun _ => ?_, ?_⟩
    · show (f_Model_memory MI ML (nI a)).2.1 35 0 = 0
      unfold f_Model_memory; rw [if_neg hw]; simp [up2]
    · rw [vp_updL_0]
      show _ = (f_Model_memory MI ML (nI a)).1.toInt64
      unfold f_Model_memory; rw [if_neg hw, tn_nI (by omega), hr.2.2.2.1.1 a (by omega)]; rfl
    · show Rl0 Iv (t + 1) CI CL CR M n (f_Model_memory MI ML (nI a)).2.1 (f_Model_memory MI ML (nI a)).2.2
      unfold f_Model_memory; rw [if_neg hw]; exact Rl0.next hIv _ hR
theorem tout_of {v hi : Int32} {N : Int} (hh : hi.toInt = N) (h : f_Model_within v 0 hi = 0) : v.toInt < 0 ∨ N < v.toInt := by
  have h2 := within0.mp h
  rcases Int.lt_or_le v.toInt 0 with h3 | h3
  · exact Or.inl h3
  · refine Or.inr (Int.lt_of_not_ge fun h4 => h2 ⟨fun h5 => ?_, Int32.le_iff_toInt_le.mpr (by omega)⟩)
    have := Int32.lt_iff_toInt_lt.mp h5
    rw [show (0 : Int32).toInt = 0 from rfl] at this
    omega
theorem sim_core {Iv : Nat → (Nat → Nat → Int32) → (Nat → Nat → Int64) → Prop} (hIv : IvOk Iv) (p0 p1 : Int32) : Sim (Rl0 Iv) y_Law_core b_Law_core 5 [(0, 10, 13, 13)] [.int p0, .int p1] (fun MI ML => f_Model_core MI ML p0 p1) (fun b : Int32 => b.toInt64) := by
  intro t CI CL CR M n MI ML f ht hR
  have hR0 := hR
  obtain ⟨mm, u, -, hr, -⟩ := hR0
  have hok : CRok CR n := hr.2.2.2.2.2.2.1.2.2.2.1
  by_cases hw : f_Model_within p0 0 2 = 0
  · skip
    refine ⟨1, f, CI, CL, CR, M, n, fun l hfl D ac o ad al ou sz => h_core_t_c l hfl D ac o ad al CI CL CR M n ou f sz p0 p1 (bad_of rfl hw) hok, ?_, fun h => absurd h (by decide), ?_⟩
    · show (f_Model_core MI ML p0 p1).2.1 35 0 = 1
      unfold f_Model_core; rw [if_pos hw]; simp [up2]
    · show Rl0 Iv (t + 1) CI CL CR M n (f_Model_core MI ML p0 p1).2.1 (f_Model_core MI ML p0 p1).2.2
      unfold f_Model_core; rw [if_pos hw]; rw [up2_twice]; exact Rl0.next hIv _ hR
  · obtain ⟨c, hc, rfl⟩ := good_of (N := 2) rfl hw
    by_cases hw2 : f_Model_within p1 0 4 = 0
    · skip
      refine ⟨1, f, CI, CL, CR, M, n, fun l hfl D ac o ad al ou sz => h_core_t_w l hfl D ac o ad al CI CL CR M n ou f sz c p1 (by omega) (tout_of rfl hw2) hok, ?_, fun h => absurd h (by decide), ?_⟩
      · show (f_Model_core MI ML (nI c) p1).2.1 35 0 = 1
        unfold f_Model_core; rw [if_neg hw, if_pos hw2]; simp [up2]
      · show Rl0 Iv (t + 1) CI CL CR M n (f_Model_core MI ML (nI c) p1).2.1 (f_Model_core MI ML (nI c) p1).2.2
        unfold f_Model_core; rw [if_neg hw, if_pos hw2]; rw [up2_twice]; exact Rl0.next hIv _ hR
    · obtain ⟨k, hk, rfl⟩ := good_of (N := 4) rfl hw2
      have hcc := hr.1 c (by omega)
      match k, hk with
      | 0, _ =>
        by_cases hz : MI 1 (tn (nI c)) = 0
        · skip
          refine ⟨0, _, CI, CL, CR, M, n, fun l hfl D ac o ad al ou sz => h_core_c_0 l D ac o ad al CI CL CR M n ou f sz c (by omega) hok, ?_, fun _ => ?_, ?_⟩
          · show (f_Model_core MI ML (nI c) (nI 0)).2.1 35 0 = 0
            unfold f_Model_core; rw [if_neg hw, if_neg hw2, if_neg (by decide), if_pos (by decide)]; rw [if_pos hz]; simp [up2]
          · rw [vp_updL_0]
            show _ = (f_Model_core MI ML (nI c) (nI 0)).1.toInt64
            unfold f_Model_core; rw [if_neg hw, if_neg hw2, if_neg (by decide), if_pos (by decide)]; rw [if_pos hz]; rw [tn_nI (by omega), hcc.1 1 (by omega) (by omega)] at hz; unfold f_LC_core_0; rw [if_pos hz]
          · show Rl0 Iv (t + 1) CI CL CR M n (f_Model_core MI ML (nI c) (nI 0)).2.1 (f_Model_core MI ML (nI c) (nI 0)).2.2
            unfold f_Model_core; rw [if_neg hw, if_neg hw2, if_neg (by decide), if_pos (by decide)]; rw [if_pos hz]; exact Rl0.next hIv _ hR
        · skip
          refine ⟨0, _, CI, CL, CR, M, n, fun l hfl D ac o ad al ou sz => h_core_c_0 l D ac o ad al CI CL CR M n ou f sz c (by omega) hok, ?_, fun _ => ?_, ?_⟩
          · show (f_Model_core MI ML (nI c) (nI 0)).2.1 35 0 = 0
            unfold f_Model_core; rw [if_neg hw, if_neg hw2, if_neg (by decide), if_pos (by decide)]; rw [if_neg hz]; simp [up2]
          · rw [vp_updL_0]
            show _ = (f_Model_core MI ML (nI c) (nI 0)).1.toInt64
            unfold f_Model_core; rw [if_neg hw, if_neg hw2, if_neg (by decide), if_pos (by decide)]; rw [if_neg hz]; rw [tn_nI (by omega), hcc.1 1 (by omega) (by omega)] at hz; unfold f_LC_core_0; rw [if_neg hz]
          · show Rl0 Iv (t + 1) CI CL CR M n (f_Model_core MI ML (nI c) (nI 0)).2.1 (f_Model_core MI ML (nI c) (nI 0)).2.2
            unfold f_Model_core; rw [if_neg hw, if_neg hw2, if_neg (by decide), if_pos (by decide)]; rw [if_neg hz]; exact Rl0.next hIv _ hR
      | 1, _ =>
        refine ⟨0, _, CI, CL, CR, M, n, fun l hfl D ac o ad al ou sz => h_core_c_1 l D ac o ad al CI CL CR M n ou f sz c (by omega) hok, ?_, fun _ => ?_, ?_⟩
        · show (f_Model_core MI ML (nI c) (nI 1)).2.1 35 0 = 0
          unfold f_Model_core; rw [if_neg hw, if_neg hw2, if_neg (by decide), if_neg (by decide), if_pos (by decide)]; simp [up2]
        · rw [vp_updL_0]
          show _ = (f_Model_core MI ML (nI c) (nI 1)).1.toInt64
          unfold f_Model_core; rw [if_neg hw, if_neg hw2, if_neg (by decide), if_neg (by decide), if_pos (by decide)]; rw [tn_nI (by omega), hcc.1 6 (by omega) (by omega)]; rfl
        · show Rl0 Iv (t + 1) CI CL CR M n (f_Model_core MI ML (nI c) (nI 1)).2.1 (f_Model_core MI ML (nI c) (nI 1)).2.2
          unfold f_Model_core; rw [if_neg hw, if_neg hw2, if_neg (by decide), if_neg (by decide), if_pos (by decide)]; exact Rl0.next hIv _ hR
      | 2, _ =>
        refine ⟨0, _, CI, CL, CR, M, n, fun l hfl D ac o ad al ou sz => h_core_c_2 l D ac o ad al CI CL CR M n ou f sz c (by omega) hok, ?_, fun _ => ?_, ?_⟩
        · show (f_Model_core MI ML (nI c) (nI 2)).2.1 35 0 = 0
          unfold f_Model_core; rw [if_neg hw, if_neg hw2, if_neg (by decide), if_neg (by decide), if_neg (by decide)]; simp [up2]
        · rw [vp_updL_0]
          show _ = (f_Model_core MI ML (nI c) (nI 2)).1.toInt64
          unfold f_Model_core; rw [if_neg hw, if_neg hw2, if_neg (by decide), if_neg (by decide), if_neg (by decide)]; rw [tn_nI (by omega), hcc.1 7 (by omega) (by omega)]; rfl
        · show Rl0 Iv (t + 1) CI CL CR M n (f_Model_core MI ML (nI c) (nI 2)).2.1 (f_Model_core MI ML (nI c) (nI 2)).2.2
          unfold f_Model_core; rw [if_neg hw, if_neg hw2, if_neg (by decide), if_neg (by decide), if_neg (by decide)]; exact Rl0.next hIv _ hR
      | 3, _ =>
        refine ⟨0, _, CI, CL, CR, M, n, fun l hfl D ac o ad al ou sz => h_core_c_3 l D ac o ad al CI CL CR M n ou f sz c (by omega) hok, ?_, fun _ => ?_, ?_⟩
        · show (f_Model_core MI ML (nI c) (nI 3)).2.1 35 0 = 0
          unfold f_Model_core; rw [if_neg hw, if_neg hw2, if_pos (by decide), if_pos (by decide)]; simp [up2]
        · rw [vp_updL_0]
          show _ = (f_Model_core MI ML (nI c) (nI 3)).1.toInt64
          unfold f_Model_core; rw [if_neg hw, if_neg hw2, if_pos (by decide), if_pos (by decide)]; rw [tn_nI (by omega), hcc.1 8 (by omega) (by omega)]; rfl
        · show Rl0 Iv (t + 1) CI CL CR M n (f_Model_core MI ML (nI c) (nI 3)).2.1 (f_Model_core MI ML (nI c) (nI 3)).2.2
          unfold f_Model_core; rw [if_neg hw, if_neg hw2, if_pos (by decide), if_pos (by decide)]; exact Rl0.next hIv _ hR
      | 4, _ =>
        refine ⟨0, _, CI, CL, CR, M, n, fun l hfl D ac o ad al ou sz => h_core_c_4 l D ac o ad al CI CL CR M n ou f sz c (by omega) hok, ?_, fun _ => ?_, ?_⟩
        · show (f_Model_core MI ML (nI c) (nI 4)).2.1 35 0 = 0
          unfold f_Model_core; rw [if_neg hw, if_neg hw2, if_pos (by decide), if_neg (by decide)]; simp [up2]
        · rw [vp_updL_0]
          show _ = (f_Model_core MI ML (nI c) (nI 4)).1.toInt64
          unfold f_Model_core; rw [if_neg hw, if_neg hw2, if_pos (by decide), if_neg (by decide)]; rw [tn_nI (by omega), hcc.1 9 (by omega) (by omega)]; rfl
        · show Rl0 Iv (t + 1) CI CL CR M n (f_Model_core MI ML (nI c) (nI 4)).2.1 (f_Model_core MI ML (nI c) (nI 4)).2.2
          unfold f_Model_core; rw [if_neg hw, if_neg hw2, if_pos (by decide), if_neg (by decide)]; exact Rl0.next hIv _ hR
theorem sim_messages {Iv : Nat → (Nat → Nat → Int32) → (Nat → Nat → Int64) → Prop} (hIv : IvOk Iv) : ∀ t CI CL CR M n MI ML, Rl0 Iv t CI CL CR M n MI ML → CI 38 0 = (f_Model_messages MI ML).1 ∧ Rl0 Iv (t + 1) CI CL CR M n (f_Model_messages MI ML).2.1 (f_Model_messages MI ML).2.2 := by
  intro t CI CL CR M n MI ML hR
  refine ⟨?_, Rl0.next hIv 0 hR⟩
  obtain ⟨mm, u, -, hr, -⟩ := hR
  exact hr.2.2.2.2.2.2.1.1.trans hr.2.2.2.2.2.2.1.2.1.symm
theorem sim_stamp {Iv : Nat → (Nat → Nat → Int32) → (Nat → Nat → Int64) → Prop} (hIv : IvOk Iv) : ∀ t CI CL CR M n MI ML, Rl0 Iv t CI CL CR M n MI ML → CL 35 0 = (f_Model_stamp MI ML).1 ∧ Rl0 Iv (t + 1) CI CL CR M n (f_Model_stamp MI ML).2.1 (f_Model_stamp MI ML).2.2 := by
  intro t CI CL CR M n MI ML hR
  refine ⟨?_, Rl0.next hIv 0 hR⟩
  obtain ⟨mm, u, -, hr, -⟩ := hR
  exact hr.2.2.2.1.2.1.symm
