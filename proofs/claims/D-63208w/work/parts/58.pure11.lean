theorem nIm1_toInt {mm : Nat} (h : mm < 1000) : (nI mm - 1).toInt = (mm : Int) - 1 := by
  rw [Int32.toInt_sub, nI_toInt (by omega), show (1 : Int32).toInt = 1 from rfl, Int.bmod_eq_of_le (by omega) (by omega)]
theorem badk_of {v : Int32} {mm : Nat} (hm : mm < 1000) (h : f_Model_within v 0 (nI mm - 1) = 0) : ¬ (0 ≤ v ∧ v < nI mm) := bad_of (by rw [nIm1_toInt hm, nI_toInt (by omega)]; omega) h
theorem goodk_of {v : Int32} {mm : Nat} (hm : mm < 1000) (h : ¬ f_Model_within v 0 (nI mm - 1) = 0) : ∃ j : Nat, j < mm ∧ v = nI j := by
  have h2 : ¬ v < 0 ∧ v ≤ nI mm - 1 := Classical.byContradiction fun h3 => h (within0.mpr h3)
  obtain ⟨j, h3, h4⟩ := nI_of h2.1
  refine ⟨j, ?_, h4⟩
  have := Int32.le_iff_toInt_le.mp h2.2
  rw [nIm1_toInt hm, h4, nI_toInt h3] at this
  omega
theorem sim_message {Iv : Nat → (Nat → Nat → Int32) → (Nat → Nat → Int64) → Prop} (hIv : IvOk Iv) (p0 p1 : Int32) : Sim (Rl0 Iv) y_Law_message b_Law_message 5 [(0, 10, 13, 21), (0, 10, 17, 13)] [.int p0, .int p1] (fun MI ML => f_Model_message MI ML p0 p1) (fun b : Int32 => b.toInt64) := by
  intro t CI CL CR M n MI ML f ht hR
  have hR0 := hR
  obtain ⟨mm, u, -, hr, -⟩ := hR0
  have hok : CRok CR n := hr.2.2.2.2.2.2.1.2.2.2.1
  obtain ⟨hm1, hm2, hm20, -, hall, hrow, -, -⟩ := hr.2.2.2.2.2.2.1
  by_cases hw : f_Model_within p0 0 (MI 38 0 - 1) = 0
  · have hbd : ¬ (0 ≤ p0 ∧ p0 < CI 38 0) := by rw [hm1]; rw [hm2] at hw; exact badk_of (by omega) hw
    refine ⟨1, f, CI, CL, CR, M, n, fun l hfl D ac o ad al ou sz => h_message_t_k l hfl D ac o ad al CI CL CR M n ou f sz p0 p1 hbd hok, ?_, fun h => absurd h (by decide), ?_⟩
    · show (f_Model_message MI ML p0 p1).2.1 35 0 = 1
      unfold f_Model_message; rw [if_pos hw]; simp [up2]
    · show Rl0 Iv (t + 1) CI CL CR M n (f_Model_message MI ML p0 p1).2.1 (f_Model_message MI ML p0 p1).2.2
      unfold f_Model_message; rw [if_pos hw]; rw [up2_twice]; exact Rl0.next hIv _ hR
  · obtain ⟨a, ha, rfl⟩ : ∃ a, a < mm ∧ p0 = nI a := by rw [hm2] at hw; exact goodk_of (by omega) hw
    obtain ⟨i, hin, hi⟩ := hall a ha
    have hmr : MRow (M i) (row MI ML a) := hrow.get a _ _ (by rw [clist_get ha, hi]; rfl) (rows_get ha)
    obtain ⟨r1, r2, ⟨c, hc, r3, r4⟩, -, r5⟩ := hmr
    have hta : tn (nI a) = a := tn_nI (by omega)
    by_cases hw2 : f_Model_within p1 0 3 = 0
    · skip
      refine ⟨2, f, CI, CL, CR, M, n, fun l hfl D ac o ad al ou sz => h_message_t_w l hfl D ac o ad al CI CL CR M n ou f sz a p1 i mm hm1 ha (by omega) hi (tout_of rfl hw2) hok, ?_, fun h => absurd h (by decide), ?_⟩
      · show (f_Model_message MI ML (nI a) p1).2.1 35 0 = 2
        unfold f_Model_message; rw [if_neg hw, if_pos hw2]; simp [up2]
      · show Rl0 Iv (t + 1) CI CL CR M n (f_Model_message MI ML (nI a) p1).2.1 (f_Model_message MI ML (nI a) p1).2.2
        unfold f_Model_message; rw [if_neg hw, if_pos hw2]; rw [up2_twice]; exact Rl0.next hIv _ hR
    · obtain ⟨k, hk, rfl⟩ := good_of (N := 3) rfl hw2
      match k, hk with
      | 0, _ =>
        refine ⟨0, _, CI, CL, CR, M, n, fun l hfl D ac o ad al ou sz => h_message_c_0 l D ac o ad al CI CL CR M n ou f sz a i mm hm1 ha (by omega) hi hin hok, ?_, fun _ => ?_, ?_⟩
        · show (f_Model_message MI ML (nI a) (nI 0)).2.1 35 0 = 0
          unfold f_Model_message; rw [if_neg hw, if_neg hw2, if_pos (by decide)]; simp [up2]
        · rw [vp_updL_0]
          show _ = (f_Model_message MI ML (nI a) (nI 0)).1.toInt64
          unfold f_Model_message; rw [if_neg hw, if_neg hw2, if_pos (by decide)]; rw [hta]; exact congrArg Int32.toInt64 r1
        · show Rl0 Iv (t + 1) CI CL CR M n (f_Model_message MI ML (nI a) (nI 0)).2.1 (f_Model_message MI ML (nI a) (nI 0)).2.2
          unfold f_Model_message; rw [if_neg hw, if_neg hw2, if_pos (by decide)]; exact Rl0.next hIv _ hR
      | 1, _ =>
        refine ⟨0, _, CI, CL, CR, M, n, fun l hfl D ac o ad al ou sz => h_message_c_1 l D ac o ad al CI CL CR M n ou f sz a i mm hm1 ha (by omega) hi hin hok, ?_, fun _ => ?_, ?_⟩
        · show (f_Model_message MI ML (nI a) (nI 1)).2.1 35 0 = 0
          unfold f_Model_message; rw [if_neg hw, if_neg hw2, if_neg (by decide), if_pos (by decide)]; simp [up2]
        · rw [vp_updL_0]
          show _ = (f_Model_message MI ML (nI a) (nI 1)).1.toInt64
          unfold f_Model_message; rw [if_neg hw, if_neg hw2, if_neg (by decide), if_pos (by decide)]; rw [hta]; exact congrArg Int32.toInt64 r2
        · show Rl0 Iv (t + 1) CI CL CR M n (f_Model_message MI ML (nI a) (nI 1)).2.1 (f_Model_message MI ML (nI a) (nI 1)).2.2
          unfold f_Model_message; rw [if_neg hw, if_neg hw2, if_neg (by decide), if_pos (by decide)]; exact Rl0.next hIv _ hR
      | 2, _ =>
        refine ⟨0, _, CI, CL, CR, M, n, fun l hfl D ac o ad al ou sz => h_message_c_2 l D ac o ad al CI CL CR M n ou f sz a i c mm hm1 ha (by omega) hi hin r3 hc hok, ?_, fun _ => ?_, ?_⟩
        · show (f_Model_message MI ML (nI a) (nI 2)).2.1 35 0 = 0
          unfold f_Model_message; rw [if_neg hw, if_neg hw2, if_neg (by decide), if_neg (by decide), if_pos (by decide)]; simp [up2]
        · rw [vp_updL_0]
          show _ = (f_Model_message MI ML (nI a) (nI 2)).1.toInt64
          unfold f_Model_message; rw [if_neg hw, if_neg hw2, if_neg (by decide), if_neg (by decide), if_pos (by decide)]; rw [hta]; exact congrArg Int32.toInt64 r4.symm
        · show Rl0 Iv (t + 1) CI CL CR M n (f_Model_message MI ML (nI a) (nI 2)).2.1 (f_Model_message MI ML (nI a) (nI 2)).2.2
          unfold f_Model_message; rw [if_neg hw, if_neg hw2, if_neg (by decide), if_neg (by decide), if_pos (by decide)]; exact Rl0.next hIv _ hR
      | 3, _ =>
        rcases r5 with ⟨cl, -, up, -⟩ | ⟨cl, -, up, -⟩ | ⟨cl, -, up, -⟩ | ⟨cl, -, up, -⟩
        · have hz : ¬ MI 31 (tn (nI a)) = 0 := by rw [hta, show MI 31 a = 1 from up]; decide
          refine ⟨0, _, CI, CL, CR, M, n, fun l hfl D ac o ad al ou sz => h_message_c_3Request l D ac o ad al CI CL CR M n ou f sz a i mm hm1 ha (by omega) hi hin cl hok, ?_, fun _ => ?_, ?_⟩
          · show (f_Model_message MI ML (nI a) (nI 3)).2.1 35 0 = 0
            unfold f_Model_message; rw [if_neg hw, if_neg hw2, if_neg (by decide), if_neg (by decide), if_neg (by decide), if_neg hz]; simp [up2]
          · rw [vp_updL_0]
            show _ = (f_Model_message MI ML (nI a) (nI 3)).1.toInt64
            unfold f_Model_message; rw [if_neg hw, if_neg hw2, if_neg (by decide), if_neg (by decide), if_neg (by decide), if_neg hz]; rfl
          · show Rl0 Iv (t + 1) CI CL CR M n (f_Model_message MI ML (nI a) (nI 3)).2.1 (f_Model_message MI ML (nI a) (nI 3)).2.2
            unfold f_Model_message; rw [if_neg hw, if_neg hw2, if_neg (by decide), if_neg (by decide), if_neg (by decide), if_neg hz]; exact Rl0.next hIv _ hR
        · have hz : MI 31 (tn (nI a)) = 0 := by rw [hta, show MI 31 a = 0 from up]
          refine ⟨0, _, CI, CL, CR, M, n, fun l hfl D ac o ad al ou sz => h_message_c_3Answer l D ac o ad al CI CL CR M n ou f sz a i mm hm1 ha (by omega) hi hin cl hok, ?_, fun _ => ?_, ?_⟩
          · show (f_Model_message MI ML (nI a) (nI 3)).2.1 35 0 = 0
            unfold f_Model_message; rw [if_neg hw, if_neg hw2, if_neg (by decide), if_neg (by decide), if_neg (by decide), if_pos hz]; simp [up2]
          · rw [vp_updL_0]
            show _ = (f_Model_message MI ML (nI a) (nI 3)).1.toInt64
            unfold f_Model_message; rw [if_neg hw, if_neg hw2, if_neg (by decide), if_neg (by decide), if_neg (by decide), if_pos hz]; rfl
          · show Rl0 Iv (t + 1) CI CL CR M n (f_Model_message MI ML (nI a) (nI 3)).2.1 (f_Model_message MI ML (nI a) (nI 3)).2.2
            unfold f_Model_message; rw [if_neg hw, if_neg hw2, if_neg (by decide), if_neg (by decide), if_neg (by decide), if_pos hz]; exact Rl0.next hIv _ hR
        · have hz : MI 31 (tn (nI a)) = 0 := by rw [hta, show MI 31 a = 0 from up]
          refine ⟨0, _, CI, CL, CR, M, n, fun l hfl D ac o ad al ou sz => h_message_c_3Call l D ac o ad al CI CL CR M n ou f sz a i mm hm1 ha (by omega) hi hin cl hok, ?_, fun _ => ?_, ?_⟩
          · show (f_Model_message MI ML (nI a) (nI 3)).2.1 35 0 = 0
            unfold f_Model_message; rw [if_neg hw, if_neg hw2, if_neg (by decide), if_neg (by decide), if_neg (by decide), if_pos hz]; simp [up2]
          · rw [vp_updL_0]
            show _ = (f_Model_message MI ML (nI a) (nI 3)).1.toInt64
            unfold f_Model_message; rw [if_neg hw, if_neg hw2, if_neg (by decide), if_neg (by decide), if_neg (by decide), if_pos hz]; rfl
          · show Rl0 Iv (t + 1) CI CL CR M n (f_Model_message MI ML (nI a) (nI 3)).2.1 (f_Model_message MI ML (nI a) (nI 3)).2.2
            unfold f_Model_message; rw [if_neg hw, if_neg hw2, if_neg (by decide), if_neg (by decide), if_neg (by decide), if_pos hz]; exact Rl0.next hIv _ hR
        · have hz : ¬ MI 31 (tn (nI a)) = 0 := by rw [hta, show MI 31 a = 1 from up]; decide
          refine ⟨0, _, CI, CL, CR, M, n, fun l hfl D ac o ad al ou sz => h_message_c_3Return l D ac o ad al CI CL CR M n ou f sz a i mm hm1 ha (by omega) hi hin cl hok, ?_, fun _ => ?_, ?_⟩
          · show (f_Model_message MI ML (nI a) (nI 3)).2.1 35 0 = 0
            unfold f_Model_message; rw [if_neg hw, if_neg hw2, if_neg (by decide), if_neg (by decide), if_neg (by decide), if_neg hz]; simp [up2]
          · rw [vp_updL_0]
            show _ = (f_Model_message MI ML (nI a) (nI 3)).1.toInt64
            unfold f_Model_message; rw [if_neg hw, if_neg hw2, if_neg (by decide), if_neg (by decide), if_neg (by decide), if_neg hz]; rfl
          · show Rl0 Iv (t + 1) CI CL CR M n (f_Model_message MI ML (nI a) (nI 3)).2.1 (f_Model_message MI ML (nI a) (nI 3)).2.2
            unfold f_Model_message; rw [if_neg hw, if_neg hw2, if_neg (by decide), if_neg (by decide), if_neg (by decide), if_neg hz]; exact Rl0.next hIv _ hR
