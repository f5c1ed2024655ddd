theorem hpar_of {CI : Nat → Nat → Int32} (h : RLine CI) : ∀ p l, p < 12 → l < 12 → CI 10 p = nI l → l % 2 = p % 4 / 2 := by
  intro p l hp hl he
  rcases h.1 p hp with h1 | ⟨l2, h2, h3, h4⟩
  · rw [h1] at he; exact absurd he.symm (nI_ne_m1 (by omega))
  · have : l = l2 := nI_inj (by omega) (by omega) (he.symm.trans h3)
    rw [this]; exact h4
theorem sim_cached {Iv : Nat → (Nat → Nat → Int32) → (Nat → Nat → Int64) → Prop} (hIv : IvOk Iv) (p0 p1 p2 : Int32) : Sim (Rl0 Iv) y_Law_cached b_Law_cached 6 [(0, 11, 14, 13), (0, 11, 18, 21)] [.int p0, .int p1, .int p2] (fun MI ML => f_Model_cached MI ML p0 p1 p2) (fun b : Int64 => b) := by
  intro t CI CL CR M n MI ML f ht hR
  have hR0 := hR
  obtain ⟨mm, u, -, hr, -⟩ := hR0
  have hok : CRok CR n := hr.2.2.2.2.2.2.1.2.2.2.1
  by_cases hw : f_Model_within p0 0 2 = 0
  · skip
    refine ⟨1, f, CI, CL, CR, M, n, fun l hfl D ac o ad al ou sz => h_cached_t_c l hfl D ac o ad al CI CL CR M n ou f sz p0 p1 p2 (bad_of rfl hw) hok, ?_, fun h => absurd h (by decide), ?_⟩
    · show (f_Model_cached MI ML p0 p1 p2).2.1 35 0 = 1
      unfold f_Model_cached; rw [if_pos hw]; simp [up2]
    · show Rl0 Iv (t + 1) CI CL CR M n (f_Model_cached MI ML p0 p1 p2).2.1 (f_Model_cached MI ML p0 p1 p2).2.2
      unfold f_Model_cached; rw [if_pos hw]; rw [up2_twice]; exact Rl0.next hIv _ hR
  · obtain ⟨c, hc, rfl⟩ := good_of (N := 2) rfl hw
    by_cases hw1 : f_Model_within p1 0 11 = 0
    · skip
      refine ⟨1, f, CI, CL, CR, M, n, fun l hfl D ac o ad al ou sz => h_cached_t_l l hfl D ac o ad al CI CL CR M n ou f sz c p1 p2 (by omega) (bad_of rfl hw1) hok, ?_, fun h => absurd h (by decide), ?_⟩
      · show (f_Model_cached MI ML (nI c) p1 p2).2.1 35 0 = 1
        unfold f_Model_cached; rw [if_neg hw, if_pos hw1]; simp [up2]
      · show Rl0 Iv (t + 1) CI CL CR M n (f_Model_cached MI ML (nI c) p1 p2).2.1 (f_Model_cached MI ML (nI c) p1 p2).2.2
        unfold f_Model_cached; rw [if_neg hw, if_pos hw1]; rw [up2_twice]; exact Rl0.next hIv _ hR
    · obtain ⟨a, ha, rfl⟩ := good_of (N := 11) rfl hw1
      by_cases hw2 : f_Model_within p2 0 3 = 0
      · have hb2 : ¬ (0 ≤ p2 ∧ p2 ≤ 3) := fun h => within0.mp hw2 ⟨Int32.not_lt.mpr h.1, h.2⟩
        refine ⟨1, f, CI, CL, CR, M, n, fun l hfl D ac o ad al ou sz => h_cached_t_w l hfl D ac o ad al CI CL CR M n ou f sz c a p2 (by omega) (by omega) hb2 hok, ?_, fun h => absurd h (by decide), ?_⟩
        · show (f_Model_cached MI ML (nI c) (nI a) p2).2.1 35 0 = 1
          unfold f_Model_cached; rw [if_neg hw, if_neg hw1, if_pos hw2]; simp [up2]
        · show Rl0 Iv (t + 1) CI CL CR M n (f_Model_cached MI ML (nI c) (nI a) p2).2.1 (f_Model_cached MI ML (nI c) (nI a) p2).2.2
          unfold f_Model_cached; rw [if_neg hw, if_neg hw1, if_pos hw2]; rw [up2_twice]; exact Rl0.next hIv _ hR
      · obtain ⟨k, hk, rfl⟩ := good_of (N := 3) rfl hw2
        have hfe : f_Model_placeOf (up2 MI 35 0 0) ML (tn (nI c)) (tn (nI a)) = f_Core_find CI c (nI a) := by
          rw [tn_nI (by omega), tn_nI (by omega)]
          exact (find_eq (by omega) (by omega) (fun p hp => by rw [up2_k _ _ _ _ _ (by decide)]; exact (hr.2.1 p hp).1) (hpar_of hr.2.2.2.2.2.2.2.1)).symm
        cases hf : f_Core_find CI c (nI a) with
        | none =>
          rw [hf] at hfe
          refine ⟨2, f, CI, CL, CR, M, n, fun l hfl D ac o ad al ou sz => h_cached_t_n l hfl D ac o ad al CI CL CR M n ou f sz c a k (by omega) (by omega) (by omega) hf hok, ?_, fun h => absurd h (by decide), ?_⟩
          · show (f_Model_cached MI ML (nI c) (nI a) (nI k)).2.1 35 0 = 2
            unfold f_Model_cached; rw [if_neg hw, if_neg hw1, if_neg hw2, hfe, oc_none]; simp [up2]
          · show Rl0 Iv (t + 1) CI CL CR M n (f_Model_cached MI ML (nI c) (nI a) (nI k)).2.1 (f_Model_cached MI ML (nI c) (nI a) (nI k)).2.2
            unfold f_Model_cached; rw [if_neg hw, if_neg hw1, if_neg hw2, hfe, oc_none]; rw [up2_twice]; exact Rl0.next hIv _ hR
        | some y =>
          rw [hf] at hfe
          have hy := f_Core_find_lt hf
          have hyl := f_Core_find_line hf
          have hpl := hr.2.1 y (by omega)
          have how := hpl.2.2.2.2 (by rw [hyl]; exact nI_ne_m1 (by omega))
          have hne : f_Core_find CI c (nI a) ≠ none := by rw [hf]; exact fun h => by cases h
          match k, hk with
          | 0, _ =>
            by_cases hz : MI 11 y = 0
            · skip
              refine ⟨0, _, CI, CL, CR, M, n, fun l hfl D ac o ad al ou sz => h_cached_c_0 l D ac o ad al CI CL CR M n ou f sz c a (by omega) (by omega) hne hok, ?_, fun _ => ?_, ?_⟩
              · show (f_Model_cached MI ML (nI c) (nI a) (nI 0)).2.1 35 0 = 0
                unfold f_Model_cached; rw [if_neg hw, if_neg hw1, if_neg hw2, hfe, oc_some, if_neg (by decide), if_pos (by decide)]; rw [if_pos hz]; simp [up2]
              · rw [vp_updL_0]
                show _ = (f_Model_cached MI ML (nI c) (nI a) (nI 0)).1
                unfold f_Model_cached; rw [if_neg hw, if_neg hw1, if_neg hw2, hfe, oc_some, if_neg (by decide), if_pos (by decide)]; rw [if_pos hz]; rw [how] at hz; unfold f_LC_cached_0; rw [hf, oc_some, if_pos hz]
              · show Rl0 Iv (t + 1) CI CL CR M n (f_Model_cached MI ML (nI c) (nI a) (nI 0)).2.1 (f_Model_cached MI ML (nI c) (nI a) (nI 0)).2.2
                unfold f_Model_cached; rw [if_neg hw, if_neg hw1, if_neg hw2, hfe, oc_some, if_neg (by decide), if_pos (by decide)]; rw [if_pos hz]; exact Rl0.next hIv _ hR
            · skip
              refine ⟨0, _, CI, CL, CR, M, n, fun l hfl D ac o ad al ou sz => h_cached_c_0 l D ac o ad al CI CL CR M n ou f sz c a (by omega) (by omega) hne hok, ?_, fun _ => ?_, ?_⟩
              · show (f_Model_cached MI ML (nI c) (nI a) (nI 0)).2.1 35 0 = 0
                unfold f_Model_cached; rw [if_neg hw, if_neg hw1, if_neg hw2, hfe, oc_some, if_neg (by decide), if_pos (by decide)]; rw [if_neg hz]; simp [up2]
              · rw [vp_updL_0]
                show _ = (f_Model_cached MI ML (nI c) (nI a) (nI 0)).1
                unfold f_Model_cached; rw [if_neg hw, if_neg hw1, if_neg hw2, hfe, oc_some, if_neg (by decide), if_pos (by decide)]; rw [if_neg hz]; rw [how] at hz; unfold f_LC_cached_0; rw [hf, oc_some, if_neg hz]
              · show Rl0 Iv (t + 1) CI CL CR M n (f_Model_cached MI ML (nI c) (nI a) (nI 0)).2.1 (f_Model_cached MI ML (nI c) (nI a) (nI 0)).2.2
                unfold f_Model_cached; rw [if_neg hw, if_neg hw1, if_neg hw2, hfe, oc_some, if_neg (by decide), if_pos (by decide)]; rw [if_neg hz]; exact Rl0.next hIv _ hR
          | 1, _ =>
            refine ⟨0, _, CI, CL, CR, M, n, fun l hfl D ac o ad al ou sz => h_cached_c_1 l D ac o ad al CI CL CR M n ou f sz c a (by omega) (by omega) hne hok, ?_, fun _ => ?_, ?_⟩
            · show (f_Model_cached MI ML (nI c) (nI a) (nI 1)).2.1 35 0 = 0
              unfold f_Model_cached; rw [if_neg hw, if_neg hw1, if_neg hw2, hfe, oc_some, if_neg (by decide), if_neg (by decide)]; simp [up2]
            · rw [vp_updL_0]
              show _ = (f_Model_cached MI ML (nI c) (nI a) (nI 1)).1
              unfold f_Model_cached; rw [if_neg hw, if_neg hw1, if_neg hw2, hfe, oc_some, if_neg (by decide), if_neg (by decide)]; unfold f_LC_cached_1; rw [hf, oc_some, hpl.2.1]
            · show Rl0 Iv (t + 1) CI CL CR M n (f_Model_cached MI ML (nI c) (nI a) (nI 1)).2.1 (f_Model_cached MI ML (nI c) (nI a) (nI 1)).2.2
              unfold f_Model_cached; rw [if_neg hw, if_neg hw1, if_neg hw2, hfe, oc_some, if_neg (by decide), if_neg (by decide)]; exact Rl0.next hIv _ hR
          | 2, _ =>
            refine ⟨0, _, CI, CL, CR, M, n, fun l hfl D ac o ad al ou sz => h_cached_c_2 l D ac o ad al CI CL CR M n ou f sz c a (by omega) (by omega) hne hok, ?_, fun _ => ?_, ?_⟩
            · show (f_Model_cached MI ML (nI c) (nI a) (nI 2)).2.1 35 0 = 0
              unfold f_Model_cached; rw [if_neg hw, if_neg hw1, if_neg hw2, hfe, oc_some, if_pos (by decide), if_pos (by decide)]; simp [up2]
            · rw [vp_updL_0]
              show _ = (f_Model_cached MI ML (nI c) (nI a) (nI 2)).1
              unfold f_Model_cached; rw [if_neg hw, if_neg hw1, if_neg hw2, hfe, oc_some, if_pos (by decide), if_pos (by decide)]; unfold f_LC_cached_2; rw [hf, oc_some, hpl.2.2.1]
            · show Rl0 Iv (t + 1) CI CL CR M n (f_Model_cached MI ML (nI c) (nI a) (nI 2)).2.1 (f_Model_cached MI ML (nI c) (nI a) (nI 2)).2.2
              unfold f_Model_cached; rw [if_neg hw, if_neg hw1, if_neg hw2, hfe, oc_some, if_pos (by decide), if_pos (by decide)]; exact Rl0.next hIv _ hR
          | 3, _ =>
            refine ⟨0, _, CI, CL, CR, M, n, fun l hfl D ac o ad al ou sz => h_cached_c_3 l D ac o ad al CI CL CR M n ou f sz c a (by omega) (by omega) hne hok, ?_, fun _ => ?_, ?_⟩
            · show (f_Model_cached MI ML (nI c) (nI a) (nI 3)).2.1 35 0 = 0
              unfold f_Model_cached; rw [if_neg hw, if_neg hw1, if_neg hw2, hfe, oc_some, if_pos (by decide), if_neg (by decide)]; simp [up2]
            · rw [vp_updL_0]
              show _ = (f_Model_cached MI ML (nI c) (nI a) (nI 3)).1
              unfold f_Model_cached; rw [if_neg hw, if_neg hw1, if_neg hw2, hfe, oc_some, if_pos (by decide), if_neg (by decide)]; unfold f_LC_cached_3; rw [hf, oc_some, hpl.2.2.2.1]
            · show Rl0 Iv (t + 1) CI CL CR M n (f_Model_cached MI ML (nI c) (nI a) (nI 3)).2.1 (f_Model_cached MI ML (nI c) (nI a) (nI 3)).2.2
              unfold f_Model_cached; rw [if_neg hw, if_neg hw1, if_neg hw2, hfe, oc_some, if_pos (by decide), if_neg (by decide)]; exact Rl0.next hIv _ hR
