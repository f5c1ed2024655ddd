theorem hun_of {CI : Nat → Nat → Int32} (h : RLine CI) {l : Nat} (hl : l < 12) : ∀ a b, a < 6 → b < 6 → CI 16 a = nI l → CI 16 b = nI l → a = b := fun a b ha hb h1 h2 => h.2.2 a b ha hb (h1.trans h2.symm) (by rw [h1]; exact nI_ne_m1 (by omega))
theorem m1_64 : ((-1 : Int32)).toInt64 = -1 := by decide
theorem sim_entry {Iv : Nat → (Nat → Nat → Int32) → (Nat → Nat → Int64) → Prop} (hIv : IvOk Iv) (p0 p1 : Int32) : Sim (Rl0 Iv) y_Law_entry b_Law_entry 5 [(0, 9, 12, 13), (0, 9, 16, 21)] [.int p0, .int p1] (fun MI ML => f_Model_entry MI ML p0 p1) (fun b : Int64 => b) := by
  intro t CI CL CR M n MI ML f ht hR
  have hR0 := hR
  obtain ⟨mm, u, -, hr, -⟩ := hR0
  have hok : CRok CR n := hr.2.2.2.2.2.2.1.2.2.2.1
  by_cases hw : f_Model_within p0 0 11 = 0
  · skip
    refine ⟨1, f, CI, CL, CR, M, n, fun l hfl D ac o ad al ou sz => h_entry_t_l l hfl D ac o ad al CI CL CR M n ou f sz p0 p1 (bad_of rfl hw) hok, ?_, fun h => absurd h (by decide), ?_⟩
    · show (f_Model_entry MI ML p0 p1).2.1 35 0 = 1
      unfold f_Model_entry; rw [if_pos hw]; simp [up2]
    · show Rl0 Iv (t + 1) CI CL CR M n (f_Model_entry MI ML p0 p1).2.1 (f_Model_entry MI ML p0 p1).2.2
      unfold f_Model_entry; rw [if_pos hw]; rw [up2_twice]; exact Rl0.next hIv _ hR
  · obtain ⟨a, ha, rfl⟩ := good_of (N := 11) rfl hw
    by_cases hw2 : f_Model_within p1 0 5 = 0
    · have hb2 : ¬ (0 ≤ p1 ∧ p1 ≤ 5) := fun h => within0.mp hw2 ⟨Int32.not_lt.mpr h.1, h.2⟩
      refine ⟨1, f, CI, CL, CR, M, n, fun l hfl D ac o ad al ou sz => h_entry_t_w l hfl D ac o ad al CI CL CR M n ou f sz a p1 (by omega) hb2 hok, ?_, fun h => absurd h (by decide), ?_⟩
      · show (f_Model_entry MI ML (nI a) p1).2.1 35 0 = 1
        unfold f_Model_entry; rw [if_neg hw, if_pos hw2]; simp [up2]
      · show Rl0 Iv (t + 1) CI CL CR M n (f_Model_entry MI ML (nI a) p1).2.1 (f_Model_entry MI ML (nI a) p1).2.2
        unfold f_Model_entry; rw [if_neg hw, if_pos hw2]; rw [up2_twice]; exact Rl0.next hIv _ hR
    · obtain ⟨k, hk, rfl⟩ := good_of (N := 5) rfl hw2
      have hfe : f_Model_entryOf (up2 MI 35 0 0) ML (nI a) = f_LC_entryOf CI (nI a) := entryOf_eq (fun e he => by rw [up2_k _ _ _ _ _ (by decide)]; exact (hr.2.2.1 e he).1) (hun_of hr.2.2.2.2.2.2.2.1 (by omega))
      cases hf : f_LC_entryOf CI (nI a) with
      | none =>
        rw [hf] at hfe
        refine ⟨2, f, CI, CL, CR, M, n, fun l hfl D ac o ad al ou sz => h_entry_t_n l hfl D ac o ad al CI CL CR M n ou f sz a k (by omega) (by omega) hf hok, ?_, fun h => absurd h (by decide), ?_⟩
        · show (f_Model_entry MI ML (nI a) (nI k)).2.1 35 0 = 2
          unfold f_Model_entry; rw [if_neg hw, if_neg hw2, hfe, oc_none]; simp [up2]
        · show Rl0 Iv (t + 1) CI CL CR M n (f_Model_entry MI ML (nI a) (nI k)).2.1 (f_Model_entry MI ML (nI a) (nI k)).2.2
          unfold f_Model_entry; rw [if_neg hw, if_neg hw2, hfe, oc_none]; rw [up2_twice]; exact Rl0.next hIv _ hR
      | some y =>
        rw [hf] at hfe
        have hy := f_LC_entryOf_lt hf
        have hen := hr.2.2.1 y hy
        have hne : f_LC_entryOf CI (nI a) ≠ none := by rw [hf]; exact fun h => by cases h
        have hown := hr.2.2.2.2.2.2.2.2.2
        match k, hk with
        | 0, _ =>
          refine ⟨0, _, CI, CL, CR, M, n, fun l hfl D ac o ad al ou sz => h_entry_c_0 l D ac o ad al CI CL CR M n ou f sz a (by omega) hne hown hok, ?_, fun _ => ?_, ?_⟩
          · show (f_Model_entry MI ML (nI a) (nI 0)).2.1 35 0 = 0
            unfold f_Model_entry; rw [if_neg hw, if_neg hw2, hfe, oc_some, if_neg (by decide), if_pos (by decide)]; simp [up2]
          · rw [vp_updL_0]
            show _ = (f_Model_entry MI ML (nI a) (nI 0)).1
            unfold f_Model_entry; rw [if_neg hw, if_neg hw2, hfe, oc_some, if_neg (by decide), if_pos (by decide)]; unfold f_LC_entry_0; rw [hf, oc_some, hen.2.1]
          · show Rl0 Iv (t + 1) CI CL CR M n (f_Model_entry MI ML (nI a) (nI 0)).2.1 (f_Model_entry MI ML (nI a) (nI 0)).2.2
            unfold f_Model_entry; rw [if_neg hw, if_neg hw2, hfe, oc_some, if_neg (by decide), if_pos (by decide)]; exact Rl0.next hIv _ hR
        | 1, _ =>
          refine ⟨0, _, CI, CL, CR, M, n, fun l hfl D ac o ad al ou sz => h_entry_c_1 l D ac o ad al CI CL CR M n ou f sz a (by omega) hne hown hok, ?_, fun _ => ?_, ?_⟩
          · show (f_Model_entry MI ML (nI a) (nI 1)).2.1 35 0 = 0
            unfold f_Model_entry; rw [if_neg hw, if_neg hw2, hfe, oc_some, if_neg (by decide), if_neg (by decide), if_pos (by decide)]; simp [up2]
          · rw [vp_updL_0]
            show _ = (f_Model_entry MI ML (nI a) (nI 1)).1
            unfold f_Model_entry; rw [if_neg hw, if_neg hw2, hfe, oc_some, if_neg (by decide), if_neg (by decide), if_pos (by decide)]; unfold f_LC_entry_1; rw [hf, oc_some, hen.2.2.2.1]
          · show Rl0 Iv (t + 1) CI CL CR M n (f_Model_entry MI ML (nI a) (nI 1)).2.1 (f_Model_entry MI ML (nI a) (nI 1)).2.2
            unfold f_Model_entry; rw [if_neg hw, if_neg hw2, hfe, oc_some, if_neg (by decide), if_neg (by decide), if_pos (by decide)]; exact Rl0.next hIv _ hR
        | 2, _ =>
          refine ⟨0, _, CI, CL, CR, M, n, fun l hfl D ac o ad al ou sz => h_entry_c_2 l D ac o ad al CI CL CR M n ou f sz a (by omega) hne hown hok, ?_, fun _ => ?_, ?_⟩
          · show (f_Model_entry MI ML (nI a) (nI 2)).2.1 35 0 = 0
            unfold f_Model_entry; rw [if_neg hw, if_neg hw2, hfe, oc_some, if_neg (by decide), if_neg (by decide), if_neg (by decide)]; simp [up2]
          · rw [vp_updL_0]
            show _ = (f_Model_entry MI ML (nI a) (nI 2)).1
            unfold f_Model_entry; rw [if_neg hw, if_neg hw2, hfe, oc_some, if_neg (by decide), if_neg (by decide), if_neg (by decide)]; unfold f_LC_entry_2; rw [hf, oc_some, hen.2.2.2.2.1]
          · show Rl0 Iv (t + 1) CI CL CR M n (f_Model_entry MI ML (nI a) (nI 2)).2.1 (f_Model_entry MI ML (nI a) (nI 2)).2.2
            unfold f_Model_entry; rw [if_neg hw, if_neg hw2, hfe, oc_some, if_neg (by decide), if_neg (by decide), if_neg (by decide)]; exact Rl0.next hIv _ hR
        | 3, _ =>
          refine ⟨0, _, CI, CL, CR, M, n, fun l hfl D ac o ad al ou sz => h_entry_c_3 l D ac o ad al CI CL CR M n ou f sz a (by omega) hne hown hok, ?_, fun _ => ?_, ?_⟩
          · show (f_Model_entry MI ML (nI a) (nI 3)).2.1 35 0 = 0
            unfold f_Model_entry; rw [if_neg hw, if_neg hw2, hfe, oc_some, if_pos (by decide), if_pos (by decide)]; simp [up2]
          · rw [vp_updL_0]
            show _ = (f_Model_entry MI ML (nI a) (nI 3)).1
            unfold f_Model_entry; rw [if_neg hw, if_neg hw2, hfe, oc_some, if_pos (by decide), if_pos (by decide)]; unfold f_LC_entry_3; rw [hf, oc_some, hen.2.2.2.2.2]; cases CR 0 y <;> rfl
          · show Rl0 Iv (t + 1) CI CL CR M n (f_Model_entry MI ML (nI a) (nI 3)).2.1 (f_Model_entry MI ML (nI a) (nI 3)).2.2
            unfold f_Model_entry; rw [if_neg hw, if_neg hw2, hfe, oc_some, if_pos (by decide), if_pos (by decide)]; exact Rl0.next hIv _ hR
        | 4, _ =>
          rcases hr.2.2.2.2.1 y hy with ⟨q1, q2, q3⟩ | ⟨q, w, q1, -, q2, q3, q4, -⟩
          · have hz : MI 22 y ≤ 0 := by rw [q2]; decide
            refine ⟨0, _, CI, CL, CR, M, n, fun l hfl D ac o ad al ou sz => h_entry_c_4 l D ac o ad al CI CL CR M n ou f sz a (by omega) hne hown hok, ?_, fun _ => ?_, ?_⟩
            · show (f_Model_entry MI ML (nI a) (nI 4)).2.1 35 0 = 0
              unfold f_Model_entry; rw [if_neg hw, if_neg hw2, hfe, oc_some, if_pos (by decide), if_neg (by decide), if_pos (by decide)]; rw [if_pos hz]; simp [up2]
            · rw [vp_updL_0]
              show _ = (f_Model_entry MI ML (nI a) (nI 4)).1
              unfold f_Model_entry; rw [if_neg hw, if_neg hw2, hfe, oc_some, if_pos (by decide), if_neg (by decide), if_pos (by decide)]; rw [if_pos hz]; unfold f_LC_entry_4; rw [hf, oc_some, q1]; rfl
            · show Rl0 Iv (t + 1) CI CL CR M n (f_Model_entry MI ML (nI a) (nI 4)).2.1 (f_Model_entry MI ML (nI a) (nI 4)).2.2
              unfold f_Model_entry; rw [if_neg hw, if_neg hw2, hfe, oc_some, if_pos (by decide), if_neg (by decide), if_pos (by decide)]; rw [if_pos hz]; exact Rl0.next hIv _ hR
          · have hz : ¬ MI 22 y ≤ 0 := by rw [q4]; exact nI_nle (by omega) (by omega)
            refine ⟨0, _, CI, CL, CR, M, n, fun l hfl D ac o ad al ou sz => h_entry_c_4 l D ac o ad al CI CL CR M n ou f sz a (by omega) hne hown hok, ?_, fun _ => ?_, ?_⟩
            · show (f_Model_entry MI ML (nI a) (nI 4)).2.1 35 0 = 0
              unfold f_Model_entry; rw [if_neg hw, if_neg hw2, hfe, oc_some, if_pos (by decide), if_neg (by decide), if_pos (by decide)]; rw [if_neg hz]; simp [up2]
            · rw [vp_updL_0]
              show _ = (f_Model_entry MI ML (nI a) (nI 4)).1
              unfold f_Model_entry; rw [if_neg hw, if_neg hw2, hfe, oc_some, if_pos (by decide), if_neg (by decide), if_pos (by decide)]; rw [if_neg hz]; unfold f_LC_entry_4; rw [hf, oc_some, q1]; rfl
            · show Rl0 Iv (t + 1) CI CL CR M n (f_Model_entry MI ML (nI a) (nI 4)).2.1 (f_Model_entry MI ML (nI a) (nI 4)).2.2
              unfold f_Model_entry; rw [if_neg hw, if_neg hw2, hfe, oc_some, if_pos (by decide), if_neg (by decide), if_pos (by decide)]; rw [if_neg hz]; exact Rl0.next hIv _ hR
        | 5, _ =>
          rcases hr.2.2.2.2.1 y hy with ⟨q1, q2, q3⟩ | ⟨q, w, q1, -, q2, q3, q4, -⟩
          · have hz : MI 22 y ≤ 0 := by rw [q2]; decide
            refine ⟨0, _, CI, CL, CR, M, n, fun l hfl D ac o ad al ou sz => h_entry_c_5 l D ac o ad al CI CL CR M n ou f sz a (by omega) hne hown hok, ?_, fun _ => ?_, ?_⟩
            · show (f_Model_entry MI ML (nI a) (nI 5)).2.1 35 0 = 0
              unfold f_Model_entry; rw [if_neg hw, if_neg hw2, hfe, oc_some, if_pos (by decide), if_neg (by decide), if_neg (by decide)]; rw [if_pos hz]; simp [up2]
            · rw [vp_updL_0]
              show _ = (f_Model_entry MI ML (nI a) (nI 5)).1
              unfold f_Model_entry; rw [if_neg hw, if_neg hw2, hfe, oc_some, if_pos (by decide), if_neg (by decide), if_neg (by decide)]; rw [if_pos hz]; unfold f_LC_entry_5; rw [hf, oc_some, q3]; rfl
            · show Rl0 Iv (t + 1) CI CL CR M n (f_Model_entry MI ML (nI a) (nI 5)).2.1 (f_Model_entry MI ML (nI a) (nI 5)).2.2
              unfold f_Model_entry; rw [if_neg hw, if_neg hw2, hfe, oc_some, if_pos (by decide), if_neg (by decide), if_neg (by decide)]; rw [if_pos hz]; exact Rl0.next hIv _ hR
          · have hz : ¬ MI 22 y ≤ 0 := by rw [q4]; exact nI_nle (by omega) (by omega)
            refine ⟨0, _, CI, CL, CR, M, n, fun l hfl D ac o ad al ou sz => h_entry_c_5 l D ac o ad al CI CL CR M n ou f sz a (by omega) hne hown hok, ?_, fun _ => ?_, ?_⟩
            · show (f_Model_entry MI ML (nI a) (nI 5)).2.1 35 0 = 0
              unfold f_Model_entry; rw [if_neg hw, if_neg hw2, hfe, oc_some, if_pos (by decide), if_neg (by decide), if_neg (by decide)]; rw [if_neg hz]; simp [up2]
            · rw [vp_updL_0]
              show _ = (f_Model_entry MI ML (nI a) (nI 5)).1
              unfold f_Model_entry; rw [if_neg hw, if_neg hw2, hfe, oc_some, if_pos (by decide), if_neg (by decide), if_neg (by decide)]; rw [if_neg hz]; unfold f_LC_entry_5; rw [hf, oc_some, q3, q4, nI_pred]
            · show Rl0 Iv (t + 1) CI CL CR M n (f_Model_entry MI ML (nI a) (nI 5)).2.1 (f_Model_entry MI ML (nI a) (nI 5)).2.2
              unfold f_Model_entry; rw [if_neg hw, if_neg hw2, hfe, oc_some, if_pos (by decide), if_neg (by decide), if_neg (by decide)]; rw [if_neg hz]; exact Rl0.next hIv _ hR
