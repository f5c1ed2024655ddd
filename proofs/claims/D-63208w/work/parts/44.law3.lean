theorem spH {s : State} {D : va_G} {ws : va_W} {H : Heap} {locs : List Loc} (hS : SP (fun q => s.heap.size ≤ q) s s.heap) (w : Wo D (fun q => s.heap.size ≤ q) ws s.heap H locs) : ∀ U : State, U.heap = H → s.WarmedH U.vm → SP (fun _ => False) U U.heap := by
  intro U hU hW
  rw [hU]
  exact ((hS.kept (fun a ha hA => w.2.2.1.2.1 a ha hA)).moved hW.alike).narrow (fun _ h => h.elim)
set_option maxHeartbeats 4000000 in
set_option maxRecDepth 100000 in
theorem gl_operate {p : Program} {l : Launch} {e : Env} {s : State} {m : MethodId} {below : List Frame} {meth : Method} {c : Code} {Q : State → Prop} {D : va_G} {ac : Nat → ClassId} {b L : Nat} {xs : Nat → Int32} (hfl : l.flags = pinnedFlags ++ [noTraceFlag]) (X : Cx code 8 R_Law D ac p m #[Value.ref b] c s) (hS : SP (fun q => s.heap.size ≤ q) s s.heap) (hX : va_X b L xs s s.heap) (hbl : b < s.heap.size) (hL : L ≤ 3074) {o o2 ou : Nat} {ad ad2 : Nat → Nat} {Rl : CRel} (hpre : ∀ t CI CL CR M n MI ML, Rl t CI CL CR M n MI ML → (MI 38 0 = nI (tn (MI 38 0)) ∧ tn (MI 38 0) < 20 ∧ ¬ MI 37 0 = 0) ∧ MOK MI ML) (sims : ∀ p0 p1 p2 p3 p4 : Int32, Sim Rl y_Law_operate b_Law_operate 8 [(0, 23, 26, 13), (0, 23, 30, 15)] [.int p0, .int p1, .int p2, .int p3, .int p4] (fun MI ML => f_Model_operate MI ML p0 p1 p2 p3 p4) (fun b : Int32 => if b = 0 then (0 : Int64) else 1)) {CI : Nat → Nat → Int32} {CL : Nat → Nat → Int64} {CR : Nat → Nat → Option Nat} {M : Nat → Msg} {n : Nat} {MI : Nat → Nat → Int32} {ML : Nat → Nat → Int64} {f : Nat → Int64} {al : Nat → Nat} {t j : Nat} (hj : j = 2 + 6 * t) (ht : t < 512) (hjL : j + 6 ≤ L) (hR : Rl t CI CL CR M n MI ML) {H : Heap} {locs : List Loc} {ls : Array Slot} {cells slots : Nat} (w : Wo D (fun q => s.heap.size ≤ q) (mws ac o2 ad2 MI ML ++ (ouc ac ou f :: cwm ac o ad al CI CL CR M n)) s.heap H locs) (hl : lv_has ls 8 [(0, .ref b), (1, .ref o), (2, .ref o2), (3, .ref ou), (4, .int (nI j))]) (hcl : cells + 3 ≤ 601024) (hsl : slots + 21 ≤ 7293000) (kk : ∀ (CI : Nat → Nat → Int32) (CL : Nat → Nat → Int64) (CR : Nat → Nat → Option Nat) (M : Nat → Msg) (n : Nat) (MI : Nat → Nat → Int32) (ML : Nat → Nat → Int64) (f : Nat → Int64) (al : Nat → Nat) (H : Heap) (locs : List Loc) (ls : Array Slot), Rl (t + 1) CI CL CR M n MI ML → Wo D (fun q => s.heap.size ≤ q) (mws ac o2 ad2 MI ML ++ (ouc ac ou f :: cwm ac o ad al CI CL CR M n)) s.heap H locs → lv_has ls 8 [(0, .ref b), (1, .ref o), (2, .ref o2), (3, .ref ou), (4, .int (nI j))] → W p l e room_1 s m #[Value.ref b] below meth c H locs (cells + 3) (slots + 21) Q (F0 m 710 ls [])) : W p l e room_1 s m #[Value.ref b] below meth c H locs cells slots Q (F0 m 116 ls []) := by
  have sim := sims (xs (j + 1)) (xs (j + 2)) (xs (j + 3)) (xs (j + 4)) (xs (j + 5))
  have hx := X.1
  have hb := X.2.1
  have hbA : ¬ s.heap.size ≤ b := Nat.not_le.mpr hbl
  obtain ⟨k, f1, CI1, CL1, CR1, M1, n1, hH, hth, hval, hR1⟩ := sim t CI CL CR M n MI ML f ht hR
  obtain ⟨⟨hm, hm20, hpace⟩, hmok⟩ := hpre t CI CL CR M n MI ML hR
  refine lv_aload_n hx hb d_Law_law_116 rfl (lv_at hl 1 rfl) ?_
  refine lv_aload_n hx hb d_Law_law_117 rfl (lv_at hl 0 rfl) ?_
  refine lv_iload hx hb d_Law_law_118 (lv_at hl 4 rfl) ?_
  refine lv_iconst (v := 1) hx hb d_Law_law_120 (by decide) ?_
  refine kiadd (a := j) (b := 1) (r := j + 1) hx hb rfl rfl rfl d_Law_law_121 ?_
  refine ksld X hX hbl w hbA (j + 1) (v := xs (j + 1)) (by omega) (by omega) rfl rfl d_Law_law_122 ?_
  refine lv_aload_n hx hb d_Law_law_123 rfl (lv_at hl 0 rfl) ?_
  refine lv_iload hx hb d_Law_law_124 (lv_at hl 4 rfl) ?_
  refine lv_iconst (v := 2) hx hb d_Law_law_126 (by decide) ?_
  refine kiadd (a := j) (b := 2) (r := j + 2) hx hb rfl rfl rfl d_Law_law_127 ?_
  refine ksld X hX hbl w hbA (j + 2) (v := xs (j + 2)) (by omega) (by omega) rfl rfl d_Law_law_128 ?_
  refine lv_aload_n hx hb d_Law_law_129 rfl (lv_at hl 0 rfl) ?_
  refine lv_iload hx hb d_Law_law_130 (lv_at hl 4 rfl) ?_
  refine lv_iconst (v := 3) hx hb d_Law_law_132 (by decide) ?_
  refine kiadd (a := j) (b := 3) (r := j + 3) hx hb rfl rfl rfl d_Law_law_133 ?_
  refine ksld X hX hbl w hbA (j + 3) (v := xs (j + 3)) (by omega) (by omega) rfl rfl d_Law_law_134 ?_
  refine lv_aload_n hx hb d_Law_law_135 rfl (lv_at hl 0 rfl) ?_
  refine lv_iload hx hb d_Law_law_136 (lv_at hl 4 rfl) ?_
  refine lv_iconst (v := 4) hx hb d_Law_law_138 (by decide) ?_
  refine kiadd (a := j) (b := 4) (r := j + 4) hx hb rfl rfl rfl d_Law_law_139 ?_
  refine ksld X hX hbl w hbA (j + 4) (v := xs (j + 4)) (by omega) (by omega) rfl rfl d_Law_law_140 ?_
  refine lv_aload_n hx hb d_Law_law_141 rfl (lv_at hl 0 rfl) ?_
  refine lv_iload hx hb d_Law_law_142 (lv_at hl 4 rfl) ?_
  refine lv_iconst (v := 5) hx hb d_Law_law_144 (by decide) ?_
  refine kiadd (a := j) (b := 5) (r := j + 5) hx hb rfl rfl rfl d_Law_law_145 ?_
  refine ksld X hX hbl w hbA (j + 5) (v := xs (j + 5)) (by omega) (by omega) rfl rfl d_Law_law_146 ?_
  refine lv_aload_n hx hb d_Law_law_147 rfl (lv_at hl 3 rfl) ?_
  refine kcalli (ws0 := mws ac o2 ad2 MI ML) w (krunSW (ws0 := mws ac o2 ad2 MI ML) (wc := ouc ac ou f :: cwm ac o ad al CI CL CR M n) (n := 7) (As := [.ref o, .int (xs (j + 1)), .int (xs (j + 2)), .int (xs (j + 3)), .int (xs (j + 4)), .int (xs (j + 5)), .ref ou]) (rest := []) X w (spH hS w) (hH l hfl D ac o ad al ou _) wkW_Law_operate wi_Law wm_Law_58 wt_Law_operate (by decide +kernel) rfl rfl ⟨(Nat.le_of_ble_eq_true rfl), (Nat.le_of_ble_eq_true rfl)⟩ ⟨by show _ ≤ 601024; omega, by show _ ≤ 7293000; omega⟩ rfl hl.1 rfl (Nat.le_of_ble_eq_true rfl) d_Law_law_148) (fun r u H locs hp w => ?_)
  obtain ⟨al1, hal, hnn, hokk, hrk, rfl⟩ := hp
  rw [hrk]
  have w : Wo D (fun q => s.heap.size ≤ q) (mws ac o2 ad2 MI ML ++ (ouc ac ou f1 :: cwm ac o ad al1 CI1 CL1 CR1 M1 n1)) s.heap H locs := w
  refine lv_istore (lv' := [(5, .int k), (0, .ref b), (1, .ref o), (2, .ref o2), (3, .ref ou), (4, .int (nI j))]) hx hb d_Law_law_151 hl (by decide) rfl (fun ls hl => ?_)
  refine lv_aload_n hx hb d_Law_law_153 rfl (lv_at hl 3 rfl) ?_
  refine lv_aload_n hx hb d_Law_law_154 rfl (lv_at hl 1 rfl) ?_
  refine lv_iload hx hb d_Law_law_155 (lv_at hl 5 rfl) ?_
  refine lv_iconst (v := 1) hx hb d_Law_law_157 (by decide) ?_
  refine kiadd (a := j) (b := 1) (r := j + 1) hx hb rfl rfl rfl d_Law_law_158 ?_
  refine ksld X hX hbl w hbA (j + 1) (v := xs (j + 1)) (by omega) (by omega) rfl rfl d_Law_law_159 ?_
  refine lv_aload_n hx hb d_Law_law_160 rfl (lv_at hl 1 rfl) ?_
  refine lv_iload hx hb d_Law_law_161 (lv_at hl 5 rfl) ?_
  refine lv_iconst (v := 2) hx hb d_Law_law_163 (by decide) ?_
  refine kiadd (a := j) (b := 2) (r := j + 2) hx hb rfl rfl rfl d_Law_law_164 ?_
  refine ksld X hX hbl w hbA (j + 2) (v := xs (j + 2)) (by omega) (by omega) rfl rfl d_Law_law_165 ?_
  refine lv_aload_n hx hb d_Law_law_166 rfl (lv_at hl 1 rfl) ?_
  refine lv_iload hx hb d_Law_law_167 (lv_at hl 5 rfl) ?_
  refine lv_iconst (v := 3) hx hb d_Law_law_169 (by decide) ?_
  refine kiadd (a := j) (b := 3) (r := j + 3) hx hb rfl rfl rfl d_Law_law_170 ?_
  refine ksld X hX hbl w hbA (j + 3) (v := xs (j + 3)) (by omega) (by omega) rfl rfl d_Law_law_171 ?_
  refine lv_aload_n hx hb d_Law_law_172 rfl (lv_at hl 1 rfl) ?_
  refine lv_iload hx hb d_Law_law_173 (lv_at hl 5 rfl) ?_
  refine lv_iconst (v := 4) hx hb d_Law_law_175 (by decide) ?_
  refine kiadd (a := j) (b := 4) (r := j + 4) hx hb rfl rfl rfl d_Law_law_176 ?_
  refine ksld X hX hbl w hbA (j + 4) (v := xs (j + 4)) (by omega) (by omega) rfl rfl d_Law_law_177 ?_
  refine lv_aload_n hx hb d_Law_law_178 rfl (lv_at hl 1 rfl) ?_
  refine lv_iload hx hb d_Law_law_179 (lv_at hl 5 rfl) ?_
  refine lv_iconst (v := 5) hx hb d_Law_law_181 (by decide) ?_
  refine kiadd (a := j) (b := 5) (r := j + 5) hx hb rfl rfl rfl d_Law_law_182 ?_
  refine ksld X hX hbl w hbA (j + 5) (v := xs (j + 5)) (by omega) (by omega) rfl rfl d_Law_law_183 ?_
  have w := wo_swap w
  refine kcalli (ws0 := ouc ac ou f1 :: cwm ac o ad al1 CI1 CL1 CR1 M1 n1) w (krunV (ws0 := ouc ac ou f1 :: cwm ac o ad al1 CI1 CL1 CR1 M1 n1) (wc := mws ac o2 ad2 MI ML) (n := 5) (As := [.int (xs (j + 1)), .int (xs (j + 2)), .int (xs (j + 3)), .int (xs (j + 4)), .int (xs (j + 5))]) (rest := []) (C := R_Model) X w (c_Model_operate l D ac o2 ad2 MI ML _ (xs (j + 1)) (xs (j + 2)) (xs (j + 3)) (xs (j + 4)) (xs (j + 5)) hm hm20 hpace) wk_Model_operate wi_Model wm_Law_61 wx_Model_operate ws_Model_Model_operate (by decide +kernel) rfl rfl ⟨(Nat.le_of_ble_eq_true rfl), (Nat.le_of_ble_eq_true rfl)⟩ ⟨by show _ ≤ 601024; omega, by show _ ≤ 7293000; omega⟩ (krecv (ws0 := ouc ac ou f1 :: cwm ac o ad al1 CI1 CL1 CR1 M1 n1) (wc := mws ac o2 ad2 MI ML) X w 0 rfl rfl) rfl hl.1 rfl (Nat.le_of_ble_eq_true rfl) d_Law_law_184) (fun r u H locs hp w => ?_)
  obtain ⟨rfl, rfl⟩ := hp
  have w := wo_swap w
  have w : Wo D (fun q => s.heap.size ≤ q) (mws ac o2 ad2 ((f_Model_operate MI ML (xs (j + 1)) (xs (j + 2)) (xs (j + 3)) (xs (j + 4)) (xs (j + 5))).2.1) ((f_Model_operate MI ML (xs (j + 1)) (xs (j + 2)) (xs (j + 3)) (xs (j + 4)) (xs (j + 5))).2.2) ++ (ouc ac ou f1 :: cwm ac o ad al1 CI1 CL1 CR1 M1 n1)) s.heap H locs := w
  refine W.widen (k := cells + 3) (n := slots + 21) (Nat.le_refl _) (Nat.le_refl _) ?_
  refine lv_istore (lv' := [(6, .int (f_Model_operate MI ML (xs (j + 1)) (xs (j + 2)) (xs (j + 3)) (xs (j + 4)) (xs (j + 5))).1), (5, .int k), (0, .ref b), (1, .ref o), (2, .ref o2), (3, .ref ou), (4, .int (nI j))]) hx hb d_Law_law_187 hl (by decide) rfl (fun ls hl => ?_)
  refine lv_aload_n hx hb d_Law_law_189 rfl (lv_at hl 4 rfl) ?_
  have w := wo_swap w
  refine kcalli (ws0 := ouc ac ou f1 :: cwm ac o ad al1 CI1 CL1 CR1 M1 n1) w (krunV (ws0 := ouc ac ou f1 :: cwm ac o ad al1 CI1 CL1 CR1 M1 n1) (wc := mws ac o2 ad2 ((f_Model_operate MI ML (xs (j + 1)) (xs (j + 2)) (xs (j + 3)) (xs (j + 4)) (xs (j + 5))).2.1) ((f_Model_operate MI ML (xs (j + 1)) (xs (j + 2)) (xs (j + 3)) (xs (j + 4)) (xs (j + 5))).2.2)) (n := 0) (As := []) (rest := []) (C := R_Model) X w (c_Model_thrown l D ac o2 ad2 ((f_Model_operate MI ML (xs (j + 1)) (xs (j + 2)) (xs (j + 3)) (xs (j + 4)) (xs (j + 5))).2.1) ((f_Model_operate MI ML (xs (j + 1)) (xs (j + 2)) (xs (j + 3)) (xs (j + 4)) (xs (j + 5))).2.2) _  ) wk_Model_thrown wi_Model wm_Law_62 wx_Model_thrown ws_Model_Model_thrown (by decide +kernel) rfl rfl ⟨(Nat.le_of_ble_eq_true rfl), (Nat.le_of_ble_eq_true rfl)⟩ ⟨by show _ ≤ 601024; omega, by show _ ≤ 7293000; omega⟩ (krecv (ws0 := ouc ac ou f1 :: cwm ac o ad al1 CI1 CL1 CR1 M1 n1) (wc := mws ac o2 ad2 ((f_Model_operate MI ML (xs (j + 1)) (xs (j + 2)) (xs (j + 3)) (xs (j + 4)) (xs (j + 5))).2.1) ((f_Model_operate MI ML (xs (j + 1)) (xs (j + 2)) (xs (j + 3)) (xs (j + 4)) (xs (j + 5))).2.2)) X w 0 rfl rfl) rfl hl.1 rfl (Nat.le_of_ble_eq_true rfl) d_Law_law_190) (fun r u H locs hp w => ?_)
  obtain ⟨rfl, rfl⟩ := hp
  have w := wo_swap w
  have w : Wo D (fun q => s.heap.size ≤ q) (mws ac o2 ad2 ((f_Model_operate MI ML (xs (j + 1)) (xs (j + 2)) (xs (j + 3)) (xs (j + 4)) (xs (j + 5))).2.1) ((f_Model_operate MI ML (xs (j + 1)) (xs (j + 2)) (xs (j + 3)) (xs (j + 4)) (xs (j + 5))).2.2) ++ (ouc ac ou f1 :: cwm ac o ad al1 CI1 CL1 CR1 M1 n1)) s.heap H locs := w
  refine W.widen (k := cells + 3) (n := slots + 21) (Nat.le_refl _) (Nat.le_refl _) ?_
  refine lv_iload hx hb d_Law_law_193 (lv_at hl 1 rfl) ?_
  refine lv_icmp_eq (tgt := 200) hx hb d_Law_law_195 (by decide) (fun _ => ?_) (fun h => absurd hth h)
  refine lv_iload hx hb d_Law_law_200 (lv_at hl 1 rfl) ?_
  refine lv_if_ne (tgt := 224) hx hb d_Law_law_202 (by decide) (fun h => ?_) (fun h => ?_)
  · refine lv_goto (tgt := 710) hx hb d_Law_law_224 (by decide) ?_
    exact kk CI1 CL1 CR1 M1 n1 ((f_Model_operate MI ML (xs (j + 1)) (xs (j + 2)) (xs (j + 3)) (xs (j + 4)) (xs (j + 5))).2.1) ((f_Model_operate MI ML (xs (j + 1)) (xs (j + 2)) (xs (j + 3)) (xs (j + 4)) (xs (j + 5))).2.2) f1 al1 H locs ls hR1 w (lv_sub hl [2, 3, 4, 5, 6] rfl)
  · have hv := hval h
    refine lv_aload_n hx hb d_Law_law_205 rfl (lv_at hl 5 rfl) ?_
    refine lv_iconst (v := 0) hx hb d_Law_law_206 (by decide) ?_
    have w8 := wo_swap w
    refine klald X w8 0 (f := f1) rfl 0 (by decide) (by decide) rfl rfl d_Law_law_207 ?_
    clear w8
    refine lv_iload hx hb d_Law_law_208 (lv_at hl 0 rfl) ?_
    refine lv_if_eq (tgt := 217) hx hb d_Law_law_210 (by decide) (fun h9 => ?_) (fun h9 => ?_)
    · refine lv_lconst (v := 0) hx hb d_Law_law_217 (by decide) ?_
      refine klc_eq (tgt := 224) hx hb d_Law_law_218 d_Law_law_219 (by decide) (fun _ => ?_) (fun h => absurd (hv.trans (by rw [h9]; rfl)) h)
      refine lv_goto (tgt := 710) hx hb d_Law_law_224 (by decide) ?_
      exact kk CI1 CL1 CR1 M1 n1 ((f_Model_operate MI ML (xs (j + 1)) (xs (j + 2)) (xs (j + 3)) (xs (j + 4)) (xs (j + 5))).2.1) ((f_Model_operate MI ML (xs (j + 1)) (xs (j + 2)) (xs (j + 3)) (xs (j + 4)) (xs (j + 5))).2.2) f1 al1 H locs ls hR1 w (lv_sub hl [2, 3, 4, 5, 6] rfl)
    · refine lv_lconst (v := 1) hx hb d_Law_law_213 (by decide) ?_
      refine lv_goto (tgt := 218) hx hb d_Law_law_214 (by decide) ?_
      refine klc_eq (tgt := 224) hx hb d_Law_law_218 d_Law_law_219 (by decide) (fun _ => ?_) (fun h => absurd (hv.trans (if_neg h9)) h)
      refine lv_goto (tgt := 710) hx hb d_Law_law_224 (by decide) ?_
      exact kk CI1 CL1 CR1 M1 n1 ((f_Model_operate MI ML (xs (j + 1)) (xs (j + 2)) (xs (j + 3)) (xs (j + 4)) (xs (j + 5))).2.1) ((f_Model_operate MI ML (xs (j + 1)) (xs (j + 2)) (xs (j + 3)) (xs (j + 4)) (xs (j + 5))).2.2) f1 al1 H locs ls hR1 w (lv_sub hl [2, 3, 4, 5, 6] rfl)
set_option maxHeartbeats 4000000 in
set_option maxRecDepth 100000 in
theorem gl_deliver {p : Program} {l : Launch} {e : Env} {s : State} {m : MethodId} {below : List Frame} {meth : Method} {c : Code} {Q : State → Prop} {D : va_G} {ac : Nat → ClassId} {b L : Nat} {xs : Nat → Int32} (hfl : l.flags = pinnedFlags ++ [noTraceFlag]) (X : Cx code 8 R_Law D ac p m #[Value.ref b] c s) (hS : SP (fun q => s.heap.size ≤ q) s s.heap) (hX : va_X b L xs s s.heap) (hbl : b < s.heap.size) (hL : L ≤ 3074) {o o2 ou : Nat} {ad ad2 : Nat → Nat} {Rl : CRel} (hpre : ∀ t CI CL CR M n MI ML, Rl t CI CL CR M n MI ML → (MI 38 0 = nI (tn (MI 38 0)) ∧ tn (MI 38 0) < 20 ∧ ¬ MI 37 0 = 0) ∧ MOK MI ML) (sims : ∀ p0 : Int32, Sim Rl y_Law_deliver b_Law_deliver 4 [(0, 16, 19, 21)] [.int p0] (fun MI ML => f_Model_deliver MI ML p0) (fun b : Int32 => if b = 0 then (0 : Int64) else 1)) {CI : Nat → Nat → Int32} {CL : Nat → Nat → Int64} {CR : Nat → Nat → Option Nat} {M : Nat → Msg} {n : Nat} {MI : Nat → Nat → Int32} {ML : Nat → Nat → Int64} {f : Nat → Int64} {al : Nat → Nat} {t j : Nat} (hj : j = 2 + 6 * t) (ht : t < 512) (hjL : j + 6 ≤ L) (hR : Rl t CI CL CR M n MI ML) {H : Heap} {locs : List Loc} {ls : Array Slot} {cells slots : Nat} (w : Wo D (fun q => s.heap.size ≤ q) (mws ac o2 ad2 MI ML ++ (ouc ac ou f :: cwm ac o ad al CI CL CR M n)) s.heap H locs) (hl : lv_has ls 8 [(0, .ref b), (1, .ref o), (2, .ref o2), (3, .ref ou), (4, .int (nI j))]) (hcl : cells + 3 ≤ 601024) (hsl : slots + 21 ≤ 7293000) (kk : ∀ (CI : Nat → Nat → Int32) (CL : Nat → Nat → Int64) (CR : Nat → Nat → Option Nat) (M : Nat → Msg) (n : Nat) (MI : Nat → Nat → Int32) (ML : Nat → Nat → Int64) (f : Nat → Int64) (al : Nat → Nat) (H : Heap) (locs : List Loc) (ls : Array Slot), Rl (t + 1) CI CL CR M n MI ML → Wo D (fun q => s.heap.size ≤ q) (mws ac o2 ad2 MI ML ++ (ouc ac ou f :: cwm ac o ad al CI CL CR M n)) s.heap H locs → lv_has ls 8 [(0, .ref b), (1, .ref o), (2, .ref o2), (3, .ref ou), (4, .int (nI j))] → W p l e room_1 s m #[Value.ref b] below meth c H locs (cells + 3) (slots + 21) Q (F0 m 710 ls [])) : W p l e room_1 s m #[Value.ref b] below meth c H locs cells slots Q (F0 m 227 ls []) := by
  have sim := sims (xs (j + 1))
  have hx := X.1
  have hb := X.2.1
  have hbA : ¬ s.heap.size ≤ b := Nat.not_le.mpr hbl
  obtain ⟨k, f1, CI1, CL1, CR1, M1, n1, hH, hth, hval, hR1⟩ := sim t CI CL CR M n MI ML f ht hR
  obtain ⟨⟨hm, hm20, hpace⟩, hmok⟩ := hpre t CI CL CR M n MI ML hR
  refine lv_aload_n hx hb d_Law_law_227 rfl (lv_at hl 1 rfl) ?_
  refine lv_aload_n hx hb d_Law_law_228 rfl (lv_at hl 0 rfl) ?_
  refine lv_iload hx hb d_Law_law_229 (lv_at hl 4 rfl) ?_
  refine lv_iconst (v := 1) hx hb d_Law_law_231 (by decide) ?_
  refine kiadd (a := j) (b := 1) (r := j + 1) hx hb rfl rfl rfl d_Law_law_232 ?_
  refine ksld X hX hbl w hbA (j + 1) (v := xs (j + 1)) (by omega) (by omega) rfl rfl d_Law_law_233 ?_
  refine lv_aload_n hx hb d_Law_law_234 rfl (lv_at hl 3 rfl) ?_
  refine kcalli (ws0 := mws ac o2 ad2 MI ML) w (krunSW (ws0 := mws ac o2 ad2 MI ML) (wc := ouc ac ou f :: cwm ac o ad al CI CL CR M n) (n := 3) (As := [.ref o, .int (xs (j + 1)), .ref ou]) (rest := []) X w (spH hS w) (hH l hfl D ac o ad al ou _) wkW_Law_deliver wi_Law wm_Law_66 wt_Law_deliver (by decide +kernel) rfl rfl ⟨(Nat.le_of_ble_eq_true rfl), (Nat.le_of_ble_eq_true rfl)⟩ ⟨by show _ ≤ 601024; omega, by show _ ≤ 7293000; omega⟩ rfl hl.1 rfl (Nat.le_of_ble_eq_true rfl) d_Law_law_235) (fun r u H locs hp w => ?_)
  obtain ⟨al1, hal, hnn, hokk, hrk, rfl⟩ := hp
  rw [hrk]
  have w : Wo D (fun q => s.heap.size ≤ q) (mws ac o2 ad2 MI ML ++ (ouc ac ou f1 :: cwm ac o ad al1 CI1 CL1 CR1 M1 n1)) s.heap H locs := w
  refine lv_istore (lv' := [(5, .int k), (0, .ref b), (1, .ref o), (2, .ref o2), (3, .ref ou), (4, .int (nI j))]) hx hb d_Law_law_238 hl (by decide) rfl (fun ls hl => ?_)
  refine lv_aload_n hx hb d_Law_law_240 rfl (lv_at hl 3 rfl) ?_
  refine lv_aload_n hx hb d_Law_law_241 rfl (lv_at hl 1 rfl) ?_
  refine lv_iload hx hb d_Law_law_242 (lv_at hl 5 rfl) ?_
  refine lv_iconst (v := 1) hx hb d_Law_law_244 (by decide) ?_
  refine kiadd (a := j) (b := 1) (r := j + 1) hx hb rfl rfl rfl d_Law_law_245 ?_
  refine ksld X hX hbl w hbA (j + 1) (v := xs (j + 1)) (by omega) (by omega) rfl rfl d_Law_law_246 ?_
  have w := wo_swap w
  refine kcalli (ws0 := ouc ac ou f1 :: cwm ac o ad al1 CI1 CL1 CR1 M1 n1) w (krunV (ws0 := ouc ac ou f1 :: cwm ac o ad al1 CI1 CL1 CR1 M1 n1) (wc := mws ac o2 ad2 MI ML) (n := 1) (As := [.int (xs (j + 1))]) (rest := []) (C := R_Model) X w (c_Model_deliver l D ac o2 ad2 MI ML _ (xs (j + 1)) hmok) wk_Model_deliver wi_Model wm_Law_69 wx_Model_deliver ws_Model_Model_deliver (by decide +kernel) rfl rfl ⟨(Nat.le_of_ble_eq_true rfl), (Nat.le_of_ble_eq_true rfl)⟩ ⟨by show _ ≤ 601024; omega, by show _ ≤ 7293000; omega⟩ (krecv (ws0 := ouc ac ou f1 :: cwm ac o ad al1 CI1 CL1 CR1 M1 n1) (wc := mws ac o2 ad2 MI ML) X w 0 rfl rfl) rfl hl.1 rfl (Nat.le_of_ble_eq_true rfl) d_Law_law_247) (fun r u H locs hp w => ?_)
  obtain ⟨rfl, rfl⟩ := hp
  have w := wo_swap w
  have w : Wo D (fun q => s.heap.size ≤ q) (mws ac o2 ad2 ((f_Model_deliver MI ML (xs (j + 1))).2.1) ((f_Model_deliver MI ML (xs (j + 1))).2.2) ++ (ouc ac ou f1 :: cwm ac o ad al1 CI1 CL1 CR1 M1 n1)) s.heap H locs := w
  refine W.widen (k := cells + 3) (n := slots + 21) (Nat.le_refl _) (Nat.le_refl _) ?_
  refine lv_istore (lv' := [(6, .int (f_Model_deliver MI ML (xs (j + 1))).1), (5, .int k), (0, .ref b), (1, .ref o), (2, .ref o2), (3, .ref ou), (4, .int (nI j))]) hx hb d_Law_law_250 hl (by decide) rfl (fun ls hl => ?_)
  refine lv_aload_n hx hb d_Law_law_252 rfl (lv_at hl 4 rfl) ?_
  have w := wo_swap w
  refine kcalli (ws0 := ouc ac ou f1 :: cwm ac o ad al1 CI1 CL1 CR1 M1 n1) w (krunV (ws0 := ouc ac ou f1 :: cwm ac o ad al1 CI1 CL1 CR1 M1 n1) (wc := mws ac o2 ad2 ((f_Model_deliver MI ML (xs (j + 1))).2.1) ((f_Model_deliver MI ML (xs (j + 1))).2.2)) (n := 0) (As := []) (rest := []) (C := R_Model) X w (c_Model_thrown l D ac o2 ad2 ((f_Model_deliver MI ML (xs (j + 1))).2.1) ((f_Model_deliver MI ML (xs (j + 1))).2.2) _  ) wk_Model_thrown wi_Model wm_Law_62 wx_Model_thrown ws_Model_Model_thrown (by decide +kernel) rfl rfl ⟨(Nat.le_of_ble_eq_true rfl), (Nat.le_of_ble_eq_true rfl)⟩ ⟨by show _ ≤ 601024; omega, by show _ ≤ 7293000; omega⟩ (krecv (ws0 := ouc ac ou f1 :: cwm ac o ad al1 CI1 CL1 CR1 M1 n1) (wc := mws ac o2 ad2 ((f_Model_deliver MI ML (xs (j + 1))).2.1) ((f_Model_deliver MI ML (xs (j + 1))).2.2)) X w 0 rfl rfl) rfl hl.1 rfl (Nat.le_of_ble_eq_true rfl) d_Law_law_253) (fun r u H locs hp w => ?_)
  obtain ⟨rfl, rfl⟩ := hp
  have w := wo_swap w
  have w : Wo D (fun q => s.heap.size ≤ q) (mws ac o2 ad2 ((f_Model_deliver MI ML (xs (j + 1))).2.1) ((f_Model_deliver MI ML (xs (j + 1))).2.2) ++ (ouc ac ou f1 :: cwm ac o ad al1 CI1 CL1 CR1 M1 n1)) s.heap H locs := w
  refine W.widen (k := cells + 3) (n := slots + 21) (Nat.le_refl _) (Nat.le_refl _) ?_
  refine lv_iload hx hb d_Law_law_256 (lv_at hl 1 rfl) ?_
  refine lv_icmp_eq (tgt := 263) hx hb d_Law_law_258 (by decide) (fun _ => ?_) (fun h => absurd hth h)
  refine lv_iload hx hb d_Law_law_263 (lv_at hl 1 rfl) ?_
  refine lv_if_ne (tgt := 287) hx hb d_Law_law_265 (by decide) (fun h => ?_) (fun h => ?_)
  · refine lv_goto (tgt := 710) hx hb d_Law_law_287 (by decide) ?_
    exact kk CI1 CL1 CR1 M1 n1 ((f_Model_deliver MI ML (xs (j + 1))).2.1) ((f_Model_deliver MI ML (xs (j + 1))).2.2) f1 al1 H locs ls hR1 w (lv_sub hl [2, 3, 4, 5, 6] rfl)
  · have hv := hval h
    refine lv_aload_n hx hb d_Law_law_268 rfl (lv_at hl 5 rfl) ?_
    refine lv_iconst (v := 0) hx hb d_Law_law_269 (by decide) ?_
    have w8 := wo_swap w
    refine klald X w8 0 (f := f1) rfl 0 (by decide) (by decide) rfl rfl d_Law_law_270 ?_
    clear w8
    refine lv_iload hx hb d_Law_law_271 (lv_at hl 0 rfl) ?_
    refine lv_if_eq (tgt := 280) hx hb d_Law_law_273 (by decide) (fun h9 => ?_) (fun h9 => ?_)
    · refine lv_lconst (v := 0) hx hb d_Law_law_280 (by decide) ?_
      refine klc_eq (tgt := 287) hx hb d_Law_law_281 d_Law_law_282 (by decide) (fun _ => ?_) (fun h => absurd (hv.trans (by rw [h9]; rfl)) h)
      refine lv_goto (tgt := 710) hx hb d_Law_law_287 (by decide) ?_
      exact kk CI1 CL1 CR1 M1 n1 ((f_Model_deliver MI ML (xs (j + 1))).2.1) ((f_Model_deliver MI ML (xs (j + 1))).2.2) f1 al1 H locs ls hR1 w (lv_sub hl [2, 3, 4, 5, 6] rfl)
    · refine lv_lconst (v := 1) hx hb d_Law_law_276 (by decide) ?_
      refine lv_goto (tgt := 281) hx hb d_Law_law_277 (by decide) ?_
      refine klc_eq (tgt := 287) hx hb d_Law_law_281 d_Law_law_282 (by decide) (fun _ => ?_) (fun h => absurd (hv.trans (if_neg h9)) h)
      refine lv_goto (tgt := 710) hx hb d_Law_law_287 (by decide) ?_
      exact kk CI1 CL1 CR1 M1 n1 ((f_Model_deliver MI ML (xs (j + 1))).2.1) ((f_Model_deliver MI ML (xs (j + 1))).2.2) f1 al1 H locs ls hR1 w (lv_sub hl [2, 3, 4, 5, 6] rfl)
set_option maxHeartbeats 4000000 in
set_option maxRecDepth 100000 in
theorem gl_message {p : Program} {l : Launch} {e : Env} {s : State} {m : MethodId} {below : List Frame} {meth : Method} {c : Code} {Q : State → Prop} {D : va_G} {ac : Nat → ClassId} {b L : Nat} {xs : Nat → Int32} (hfl : l.flags = pinnedFlags ++ [noTraceFlag]) (X : Cx code 8 R_Law D ac p m #[Value.ref b] c s) (hS : SP (fun q => s.heap.size ≤ q) s s.heap) (hX : va_X b L xs s s.heap) (hbl : b < s.heap.size) (hL : L ≤ 3074) {o o2 ou : Nat} {ad ad2 : Nat → Nat} {Rl : CRel} (hpre : ∀ t CI CL CR M n MI ML, Rl t CI CL CR M n MI ML → (MI 38 0 = nI (tn (MI 38 0)) ∧ tn (MI 38 0) < 20 ∧ ¬ MI 37 0 = 0) ∧ MOK MI ML) (sims : ∀ p0 p1 : Int32, Sim Rl y_Law_message b_Law_message 5 [(0, 10, 13, 21), (0, 10, 17, 13)] [.int p0, .int p1] (fun MI ML => f_Model_message MI ML p0 p1) (fun b : Int32 => b.toInt64)) {CI : Nat → Nat → Int32} {CL : Nat → Nat → Int64} {CR : Nat → Nat → Option Nat} {M : Nat → Msg} {n : Nat} {MI : Nat → Nat → Int32} {ML : Nat → Nat → Int64} {f : Nat → Int64} {al : Nat → Nat} {t j : Nat} (hj : j = 2 + 6 * t) (ht : t < 512) (hjL : j + 6 ≤ L) (hR : Rl t CI CL CR M n MI ML) {H : Heap} {locs : List Loc} {ls : Array Slot} {cells slots : Nat} (w : Wo D (fun q => s.heap.size ≤ q) (mws ac o2 ad2 MI ML ++ (ouc ac ou f :: cwm ac o ad al CI CL CR M n)) s.heap H locs) (hl : lv_has ls 8 [(0, .ref b), (1, .ref o), (2, .ref o2), (3, .ref ou), (4, .int (nI j))]) (hcl : cells + 3 ≤ 601024) (hsl : slots + 21 ≤ 7293000) (kk : ∀ (CI : Nat → Nat → Int32) (CL : Nat → Nat → Int64) (CR : Nat → Nat → Option Nat) (M : Nat → Msg) (n : Nat) (MI : Nat → Nat → Int32) (ML : Nat → Nat → Int64) (f : Nat → Int64) (al : Nat → Nat) (H : Heap) (locs : List Loc) (ls : Array Slot), Rl (t + 1) CI CL CR M n MI ML → Wo D (fun q => s.heap.size ≤ q) (mws ac o2 ad2 MI ML ++ (ouc ac ou f :: cwm ac o ad al CI CL CR M n)) s.heap H locs → lv_has ls 8 [(0, .ref b), (1, .ref o), (2, .ref o2), (3, .ref ou), (4, .int (nI j))] → W p l e room_1 s m #[Value.ref b] below meth c H locs (cells + 3) (slots + 21) Q (F0 m 710 ls [])) : W p l e room_1 s m #[Value.ref b] below meth c H locs cells slots Q (F0 m 303 ls []) := by
  have sim := sims (xs (j + 1)) (xs (j + 2))
  have hx := X.1
  have hb := X.2.1
  have hbA : ¬ s.heap.size ≤ b := Nat.not_le.mpr hbl
  obtain ⟨k, f1, CI1, CL1, CR1, M1, n1, hH, hth, hval, hR1⟩ := sim t CI CL CR M n MI ML f ht hR
  obtain ⟨⟨hm, hm20, hpace⟩, hmok⟩ := hpre t CI CL CR M n MI ML hR
  refine lv_aload_n hx hb d_Law_law_303 rfl (lv_at hl 1 rfl) ?_
  refine lv_aload_n hx hb d_Law_law_304 rfl (lv_at hl 0 rfl) ?_
  refine lv_iload hx hb d_Law_law_305 (lv_at hl 4 rfl) ?_
  refine lv_iconst (v := 1) hx hb d_Law_law_307 (by decide) ?_
  refine kiadd (a := j) (b := 1) (r := j + 1) hx hb rfl rfl rfl d_Law_law_308 ?_
  refine ksld X hX hbl w hbA (j + 1) (v := xs (j + 1)) (by omega) (by omega) rfl rfl d_Law_law_309 ?_
  refine lv_aload_n hx hb d_Law_law_310 rfl (lv_at hl 0 rfl) ?_
  refine lv_iload hx hb d_Law_law_311 (lv_at hl 4 rfl) ?_
  refine lv_iconst (v := 2) hx hb d_Law_law_313 (by decide) ?_
  refine kiadd (a := j) (b := 2) (r := j + 2) hx hb rfl rfl rfl d_Law_law_314 ?_
  refine ksld X hX hbl w hbA (j + 2) (v := xs (j + 2)) (by omega) (by omega) rfl rfl d_Law_law_315 ?_
  refine lv_aload_n hx hb d_Law_law_316 rfl (lv_at hl 3 rfl) ?_
  refine kcalli (ws0 := mws ac o2 ad2 MI ML) w (krunSW (ws0 := mws ac o2 ad2 MI ML) (wc := ouc ac ou f :: cwm ac o ad al CI CL CR M n) (n := 4) (As := [.ref o, .int (xs (j + 1)), .int (xs (j + 2)), .ref ou]) (rest := []) X w (spH hS w) (hH l hfl D ac o ad al ou _) wkW_Law_message wi_Law wm_Law_74 wt_Law_message (by decide +kernel) rfl rfl ⟨(Nat.le_of_ble_eq_true rfl), (Nat.le_of_ble_eq_true rfl)⟩ ⟨by show _ ≤ 601024; omega, by show _ ≤ 7293000; omega⟩ rfl hl.1 rfl (Nat.le_of_ble_eq_true rfl) d_Law_law_317) (fun r u H locs hp w => ?_)
  obtain ⟨al1, hal, hnn, hokk, hrk, rfl⟩ := hp
  rw [hrk]
  have w : Wo D (fun q => s.heap.size ≤ q) (mws ac o2 ad2 MI ML ++ (ouc ac ou f1 :: cwm ac o ad al1 CI1 CL1 CR1 M1 n1)) s.heap H locs := w
  refine lv_istore (lv' := [(5, .int k), (0, .ref b), (1, .ref o), (2, .ref o2), (3, .ref ou), (4, .int (nI j))]) hx hb d_Law_law_320 hl (by decide) rfl (fun ls hl => ?_)
  refine lv_aload_n hx hb d_Law_law_322 rfl (lv_at hl 3 rfl) ?_
  refine lv_aload_n hx hb d_Law_law_323 rfl (lv_at hl 1 rfl) ?_
  refine lv_iload hx hb d_Law_law_324 (lv_at hl 5 rfl) ?_
  refine lv_iconst (v := 1) hx hb d_Law_law_326 (by decide) ?_
  refine kiadd (a := j) (b := 1) (r := j + 1) hx hb rfl rfl rfl d_Law_law_327 ?_
  refine ksld X hX hbl w hbA (j + 1) (v := xs (j + 1)) (by omega) (by omega) rfl rfl d_Law_law_328 ?_
  refine lv_aload_n hx hb d_Law_law_329 rfl (lv_at hl 1 rfl) ?_
  refine lv_iload hx hb d_Law_law_330 (lv_at hl 5 rfl) ?_
  refine lv_iconst (v := 2) hx hb d_Law_law_332 (by decide) ?_
  refine kiadd (a := j) (b := 2) (r := j + 2) hx hb rfl rfl rfl d_Law_law_333 ?_
  refine ksld X hX hbl w hbA (j + 2) (v := xs (j + 2)) (by omega) (by omega) rfl rfl d_Law_law_334 ?_
  have w := wo_swap w
  refine kcalli (ws0 := ouc ac ou f1 :: cwm ac o ad al1 CI1 CL1 CR1 M1 n1) w (krunV (ws0 := ouc ac ou f1 :: cwm ac o ad al1 CI1 CL1 CR1 M1 n1) (wc := mws ac o2 ad2 MI ML) (n := 2) (As := [.int (xs (j + 1)), .int (xs (j + 2))]) (rest := []) (C := R_Model) X w (c_Model_message l D ac o2 ad2 MI ML _ (xs (j + 1)) (xs (j + 2)) hm hm20) wk_Model_message wi_Model wm_Law_77 wx_Model_message ws_Model_Model_message (by decide +kernel) rfl rfl ⟨(Nat.le_of_ble_eq_true rfl), (Nat.le_of_ble_eq_true rfl)⟩ ⟨by show _ ≤ 601024; omega, by show _ ≤ 7293000; omega⟩ (krecv (ws0 := ouc ac ou f1 :: cwm ac o ad al1 CI1 CL1 CR1 M1 n1) (wc := mws ac o2 ad2 MI ML) X w 0 rfl rfl) rfl hl.1 rfl (Nat.le_of_ble_eq_true rfl) d_Law_law_335) (fun r u H locs hp w => ?_)
  obtain ⟨rfl, rfl⟩ := hp
  have w := wo_swap w
  have w : Wo D (fun q => s.heap.size ≤ q) (mws ac o2 ad2 ((f_Model_message MI ML (xs (j + 1)) (xs (j + 2))).2.1) ((f_Model_message MI ML (xs (j + 1)) (xs (j + 2))).2.2) ++ (ouc ac ou f1 :: cwm ac o ad al1 CI1 CL1 CR1 M1 n1)) s.heap H locs := w
  refine W.widen (k := cells + 3) (n := slots + 21) (Nat.le_refl _) (Nat.le_refl _) ?_
  refine lv_istore (lv' := [(6, .int (f_Model_message MI ML (xs (j + 1)) (xs (j + 2))).1), (5, .int k), (0, .ref b), (1, .ref o), (2, .ref o2), (3, .ref ou), (4, .int (nI j))]) hx hb d_Law_law_338 hl (by decide) rfl (fun ls hl => ?_)
  refine lv_aload_n hx hb d_Law_law_340 rfl (lv_at hl 4 rfl) ?_
  have w := wo_swap w
  refine kcalli (ws0 := ouc ac ou f1 :: cwm ac o ad al1 CI1 CL1 CR1 M1 n1) w (krunV (ws0 := ouc ac ou f1 :: cwm ac o ad al1 CI1 CL1 CR1 M1 n1) (wc := mws ac o2 ad2 ((f_Model_message MI ML (xs (j + 1)) (xs (j + 2))).2.1) ((f_Model_message MI ML (xs (j + 1)) (xs (j + 2))).2.2)) (n := 0) (As := []) (rest := []) (C := R_Model) X w (c_Model_thrown l D ac o2 ad2 ((f_Model_message MI ML (xs (j + 1)) (xs (j + 2))).2.1) ((f_Model_message MI ML (xs (j + 1)) (xs (j + 2))).2.2) _  ) wk_Model_thrown wi_Model wm_Law_62 wx_Model_thrown ws_Model_Model_thrown (by decide +kernel) rfl rfl ⟨(Nat.le_of_ble_eq_true rfl), (Nat.le_of_ble_eq_true rfl)⟩ ⟨by show _ ≤ 601024; omega, by show _ ≤ 7293000; omega⟩ (krecv (ws0 := ouc ac ou f1 :: cwm ac o ad al1 CI1 CL1 CR1 M1 n1) (wc := mws ac o2 ad2 ((f_Model_message MI ML (xs (j + 1)) (xs (j + 2))).2.1) ((f_Model_message MI ML (xs (j + 1)) (xs (j + 2))).2.2)) X w 0 rfl rfl) rfl hl.1 rfl (Nat.le_of_ble_eq_true rfl) d_Law_law_341) (fun r u H locs hp w => ?_)
  obtain ⟨rfl, rfl⟩ := hp
  have w := wo_swap w
  have w : Wo D (fun q => s.heap.size ≤ q) (mws ac o2 ad2 ((f_Model_message MI ML (xs (j + 1)) (xs (j + 2))).2.1) ((f_Model_message MI ML (xs (j + 1)) (xs (j + 2))).2.2) ++ (ouc ac ou f1 :: cwm ac o ad al1 CI1 CL1 CR1 M1 n1)) s.heap H locs := w
  refine W.widen (k := cells + 3) (n := slots + 21) (Nat.le_refl _) (Nat.le_refl _) ?_
  refine lv_iload hx hb d_Law_law_344 (lv_at hl 1 rfl) ?_
  refine lv_icmp_eq (tgt := 351) hx hb d_Law_law_346 (by decide) (fun _ => ?_) (fun h => absurd hth h)
  refine lv_iload hx hb d_Law_law_351 (lv_at hl 1 rfl) ?_
  refine lv_if_ne (tgt := 368) hx hb d_Law_law_353 (by decide) (fun h => ?_) (fun h => ?_)
  · refine lv_goto (tgt := 710) hx hb d_Law_law_368 (by decide) ?_
    exact kk CI1 CL1 CR1 M1 n1 ((f_Model_message MI ML (xs (j + 1)) (xs (j + 2))).2.1) ((f_Model_message MI ML (xs (j + 1)) (xs (j + 2))).2.2) f1 al1 H locs ls hR1 w (lv_sub hl [2, 3, 4, 5, 6] rfl)
  · have hv := hval h
    refine lv_aload_n hx hb d_Law_law_356 rfl (lv_at hl 5 rfl) ?_
    refine lv_iconst (v := 0) hx hb d_Law_law_357 (by decide) ?_
    have w8 := wo_swap w
    refine klald X w8 0 (f := f1) rfl 0 (by decide) (by decide) rfl rfl d_Law_law_358 ?_
    clear w8
    refine lv_iload hx hb d_Law_law_359 (lv_at hl 0 rfl) ?_
    refine lv_i2l (v := ((f_Model_message MI ML (xs (j + 1)) (xs (j + 2))).1).toInt64) hx hb d_Law_law_361 rfl ?_
    refine klc_eq (tgt := 368) hx hb d_Law_law_362 d_Law_law_363 (by decide) (fun _ => ?_) (fun h => absurd hv h)
    refine lv_goto (tgt := 710) hx hb d_Law_law_368 (by decide) ?_
    exact kk CI1 CL1 CR1 M1 n1 ((f_Model_message MI ML (xs (j + 1)) (xs (j + 2))).2.1) ((f_Model_message MI ML (xs (j + 1)) (xs (j + 2))).2.2) f1 al1 H locs ls hR1 w (lv_sub hl [2, 3, 4, 5, 6] rfl)
set_option maxHeartbeats 4000000 in
set_option maxRecDepth 100000 in
theorem gl_core {p : Program} {l : Launch} {e : Env} {s : State} {m : MethodId} {below : List Frame} {meth : Method} {c : Code} {Q : State → Prop} {D : va_G} {ac : Nat → ClassId} {b L : Nat} {xs : Nat → Int32} (hfl : l.flags = pinnedFlags ++ [noTraceFlag]) (X : Cx code 8 R_Law D ac p m #[Value.ref b] c s) (hS : SP (fun q => s.heap.size ≤ q) s s.heap) (hX : va_X b L xs s s.heap) (hbl : b < s.heap.size) (hL : L ≤ 3074) {o o2 ou : Nat} {ad ad2 : Nat → Nat} {Rl : CRel} (hpre : ∀ t CI CL CR M n MI ML, Rl t CI CL CR M n MI ML → (MI 38 0 = nI (tn (MI 38 0)) ∧ tn (MI 38 0) < 20 ∧ ¬ MI 37 0 = 0) ∧ MOK MI ML) (sims : ∀ p0 p1 : Int32, Sim Rl y_Law_core b_Law_core 5 [(0, 10, 13, 13)] [.int p0, .int p1] (fun MI ML => f_Model_core MI ML p0 p1) (fun b : Int32 => b.toInt64)) {CI : Nat → Nat → Int32} {CL : Nat → Nat → Int64} {CR : Nat → Nat → Option Nat} {M : Nat → Msg} {n : Nat} {MI : Nat → Nat → Int32} {ML : Nat → Nat → Int64} {f : Nat → Int64} {al : Nat → Nat} {t j : Nat} (hj : j = 2 + 6 * t) (ht : t < 512) (hjL : j + 6 ≤ L) (hR : Rl t CI CL CR M n MI ML) {H : Heap} {locs : List Loc} {ls : Array Slot} {cells slots : Nat} (w : Wo D (fun q => s.heap.size ≤ q) (mws ac o2 ad2 MI ML ++ (ouc ac ou f :: cwm ac o ad al CI CL CR M n)) s.heap H locs) (hl : lv_has ls 8 [(0, .ref b), (1, .ref o), (2, .ref o2), (3, .ref ou), (4, .int (nI j))]) (hcl : cells + 3 ≤ 601024) (hsl : slots + 21 ≤ 7293000) (kk : ∀ (CI : Nat → Nat → Int32) (CL : Nat → Nat → Int64) (CR : Nat → Nat → Option Nat) (M : Nat → Msg) (n : Nat) (MI : Nat → Nat → Int32) (ML : Nat → Nat → Int64) (f : Nat → Int64) (al : Nat → Nat) (H : Heap) (locs : List Loc) (ls : Array Slot), Rl (t + 1) CI CL CR M n MI ML → Wo D (fun q => s.heap.size ≤ q) (mws ac o2 ad2 MI ML ++ (ouc ac ou f :: cwm ac o ad al CI CL CR M n)) s.heap H locs → lv_has ls 8 [(0, .ref b), (1, .ref o), (2, .ref o2), (3, .ref ou), (4, .int (nI j))] → W p l e room_1 s m #[Value.ref b] below meth c H locs (cells + 3) (slots + 21) Q (F0 m 710 ls [])) : W p l e room_1 s m #[Value.ref b] below meth c H locs cells slots Q (F0 m 371 ls []) := by
  have sim := sims (xs (j + 1)) (xs (j + 2))
  have hx := X.1
  have hb := X.2.1
  have hbA : ¬ s.heap.size ≤ b := Nat.not_le.mpr hbl
  obtain ⟨k, f1, CI1, CL1, CR1, M1, n1, hH, hth, hval, hR1⟩ := sim t CI CL CR M n MI ML f ht hR
  obtain ⟨⟨hm, hm20, hpace⟩, hmok⟩ := hpre t CI CL CR M n MI ML hR
  refine lv_aload_n hx hb d_Law_law_371 rfl (lv_at hl 1 rfl) ?_
  refine lv_aload_n hx hb d_Law_law_372 rfl (lv_at hl 0 rfl) ?_
  refine lv_iload hx hb d_Law_law_373 (lv_at hl 4 rfl) ?_
  refine lv_iconst (v := 1) hx hb d_Law_law_375 (by decide) ?_
  refine kiadd (a := j) (b := 1) (r := j + 1) hx hb rfl rfl rfl d_Law_law_376 ?_
  refine ksld X hX hbl w hbA (j + 1) (v := xs (j + 1)) (by omega) (by omega) rfl rfl d_Law_law_377 ?_
  refine lv_aload_n hx hb d_Law_law_378 rfl (lv_at hl 0 rfl) ?_
  refine lv_iload hx hb d_Law_law_379 (lv_at hl 4 rfl) ?_
  refine lv_iconst (v := 2) hx hb d_Law_law_381 (by decide) ?_
  refine kiadd (a := j) (b := 2) (r := j + 2) hx hb rfl rfl rfl d_Law_law_382 ?_
  refine ksld X hX hbl w hbA (j + 2) (v := xs (j + 2)) (by omega) (by omega) rfl rfl d_Law_law_383 ?_
  refine lv_aload_n hx hb d_Law_law_384 rfl (lv_at hl 3 rfl) ?_
  refine kcalli (ws0 := mws ac o2 ad2 MI ML) w (krunSW (ws0 := mws ac o2 ad2 MI ML) (wc := ouc ac ou f :: cwm ac o ad al CI CL CR M n) (n := 4) (As := [.ref o, .int (xs (j + 1)), .int (xs (j + 2)), .ref ou]) (rest := []) X w (spH hS w) (hH l hfl D ac o ad al ou _) wkW_Law_core wi_Law wm_Law_78 wt_Law_core (by decide +kernel) rfl rfl ⟨(Nat.le_of_ble_eq_true rfl), (Nat.le_of_ble_eq_true rfl)⟩ ⟨by show _ ≤ 601024; omega, by show _ ≤ 7293000; omega⟩ rfl hl.1 rfl (Nat.le_of_ble_eq_true rfl) d_Law_law_385) (fun r u H locs hp w => ?_)
  obtain ⟨al1, hal, hnn, hokk, hrk, rfl⟩ := hp
  rw [hrk]
  have w : Wo D (fun q => s.heap.size ≤ q) (mws ac o2 ad2 MI ML ++ (ouc ac ou f1 :: cwm ac o ad al1 CI1 CL1 CR1 M1 n1)) s.heap H locs := w
  refine lv_istore (lv' := [(5, .int k), (0, .ref b), (1, .ref o), (2, .ref o2), (3, .ref ou), (4, .int (nI j))]) hx hb d_Law_law_388 hl (by decide) rfl (fun ls hl => ?_)
  refine lv_aload_n hx hb d_Law_law_390 rfl (lv_at hl 3 rfl) ?_
  refine lv_aload_n hx hb d_Law_law_391 rfl (lv_at hl 1 rfl) ?_
  refine lv_iload hx hb d_Law_law_392 (lv_at hl 5 rfl) ?_
  refine lv_iconst (v := 1) hx hb d_Law_law_394 (by decide) ?_
  refine kiadd (a := j) (b := 1) (r := j + 1) hx hb rfl rfl rfl d_Law_law_395 ?_
  refine ksld X hX hbl w hbA (j + 1) (v := xs (j + 1)) (by omega) (by omega) rfl rfl d_Law_law_396 ?_
  refine lv_aload_n hx hb d_Law_law_397 rfl (lv_at hl 1 rfl) ?_
  refine lv_iload hx hb d_Law_law_398 (lv_at hl 5 rfl) ?_
  refine lv_iconst (v := 2) hx hb d_Law_law_400 (by decide) ?_
  refine kiadd (a := j) (b := 2) (r := j + 2) hx hb rfl rfl rfl d_Law_law_401 ?_
  refine ksld X hX hbl w hbA (j + 2) (v := xs (j + 2)) (by omega) (by omega) rfl rfl d_Law_law_402 ?_
  have w := wo_swap w
  refine kcalli (ws0 := ouc ac ou f1 :: cwm ac o ad al1 CI1 CL1 CR1 M1 n1) w (krunV (ws0 := ouc ac ou f1 :: cwm ac o ad al1 CI1 CL1 CR1 M1 n1) (wc := mws ac o2 ad2 MI ML) (n := 2) (As := [.int (xs (j + 1)), .int (xs (j + 2))]) (rest := []) (C := R_Model) X w (c_Model_core l D ac o2 ad2 MI ML _ (xs (j + 1)) (xs (j + 2)) ) wk_Model_core wi_Model wm_Law_80 wx_Model_core ws_Model_Model_core (by decide +kernel) rfl rfl ⟨(Nat.le_of_ble_eq_true rfl), (Nat.le_of_ble_eq_true rfl)⟩ ⟨by show _ ≤ 601024; omega, by show _ ≤ 7293000; omega⟩ (krecv (ws0 := ouc ac ou f1 :: cwm ac o ad al1 CI1 CL1 CR1 M1 n1) (wc := mws ac o2 ad2 MI ML) X w 0 rfl rfl) rfl hl.1 rfl (Nat.le_of_ble_eq_true rfl) d_Law_law_403) (fun r u H locs hp w => ?_)
  obtain ⟨rfl, rfl⟩ := hp
  have w := wo_swap w
  have w : Wo D (fun q => s.heap.size ≤ q) (mws ac o2 ad2 ((f_Model_core MI ML (xs (j + 1)) (xs (j + 2))).2.1) ((f_Model_core MI ML (xs (j + 1)) (xs (j + 2))).2.2) ++ (ouc ac ou f1 :: cwm ac o ad al1 CI1 CL1 CR1 M1 n1)) s.heap H locs := w
  refine W.widen (k := cells + 3) (n := slots + 21) (Nat.le_refl _) (Nat.le_refl _) ?_
  refine lv_istore (lv' := [(6, .int (f_Model_core MI ML (xs (j + 1)) (xs (j + 2))).1), (5, .int k), (0, .ref b), (1, .ref o), (2, .ref o2), (3, .ref ou), (4, .int (nI j))]) hx hb d_Law_law_406 hl (by decide) rfl (fun ls hl => ?_)
  refine lv_aload_n hx hb d_Law_law_408 rfl (lv_at hl 4 rfl) ?_
  have w := wo_swap w
  refine kcalli (ws0 := ouc ac ou f1 :: cwm ac o ad al1 CI1 CL1 CR1 M1 n1) w (krunV (ws0 := ouc ac ou f1 :: cwm ac o ad al1 CI1 CL1 CR1 M1 n1) (wc := mws ac o2 ad2 ((f_Model_core MI ML (xs (j + 1)) (xs (j + 2))).2.1) ((f_Model_core MI ML (xs (j + 1)) (xs (j + 2))).2.2)) (n := 0) (As := []) (rest := []) (C := R_Model) X w (c_Model_thrown l D ac o2 ad2 ((f_Model_core MI ML (xs (j + 1)) (xs (j + 2))).2.1) ((f_Model_core MI ML (xs (j + 1)) (xs (j + 2))).2.2) _  ) wk_Model_thrown wi_Model wm_Law_62 wx_Model_thrown ws_Model_Model_thrown (by decide +kernel) rfl rfl ⟨(Nat.le_of_ble_eq_true rfl), (Nat.le_of_ble_eq_true rfl)⟩ ⟨by show _ ≤ 601024; omega, by show _ ≤ 7293000; omega⟩ (krecv (ws0 := ouc ac ou f1 :: cwm ac o ad al1 CI1 CL1 CR1 M1 n1) (wc := mws ac o2 ad2 ((f_Model_core MI ML (xs (j + 1)) (xs (j + 2))).2.1) ((f_Model_core MI ML (xs (j + 1)) (xs (j + 2))).2.2)) X w 0 rfl rfl) rfl hl.1 rfl (Nat.le_of_ble_eq_true rfl) d_Law_law_409) (fun r u H locs hp w => ?_)
  obtain ⟨rfl, rfl⟩ := hp
  have w := wo_swap w
  have w : Wo D (fun q => s.heap.size ≤ q) (mws ac o2 ad2 ((f_Model_core MI ML (xs (j + 1)) (xs (j + 2))).2.1) ((f_Model_core MI ML (xs (j + 1)) (xs (j + 2))).2.2) ++ (ouc ac ou f1 :: cwm ac o ad al1 CI1 CL1 CR1 M1 n1)) s.heap H locs := w
  refine W.widen (k := cells + 3) (n := slots + 21) (Nat.le_refl _) (Nat.le_refl _) ?_
  refine lv_iload hx hb d_Law_law_412 (lv_at hl 1 rfl) ?_
  refine lv_icmp_eq (tgt := 419) hx hb d_Law_law_414 (by decide) (fun _ => ?_) (fun h => absurd hth h)
  refine lv_iload hx hb d_Law_law_419 (lv_at hl 1 rfl) ?_
  refine lv_if_ne (tgt := 436) hx hb d_Law_law_421 (by decide) (fun h => ?_) (fun h => ?_)
  · refine lv_goto (tgt := 710) hx hb d_Law_law_436 (by decide) ?_
    exact kk CI1 CL1 CR1 M1 n1 ((f_Model_core MI ML (xs (j + 1)) (xs (j + 2))).2.1) ((f_Model_core MI ML (xs (j + 1)) (xs (j + 2))).2.2) f1 al1 H locs ls hR1 w (lv_sub hl [2, 3, 4, 5, 6] rfl)
  · have hv := hval h
    refine lv_aload_n hx hb d_Law_law_424 rfl (lv_at hl 5 rfl) ?_
    refine lv_iconst (v := 0) hx hb d_Law_law_425 (by decide) ?_
    have w8 := wo_swap w
    refine klald X w8 0 (f := f1) rfl 0 (by decide) (by decide) rfl rfl d_Law_law_426 ?_
    clear w8
    refine lv_iload hx hb d_Law_law_427 (lv_at hl 0 rfl) ?_
    refine lv_i2l (v := ((f_Model_core MI ML (xs (j + 1)) (xs (j + 2))).1).toInt64) hx hb d_Law_law_429 rfl ?_
    refine klc_eq (tgt := 436) hx hb d_Law_law_430 d_Law_law_431 (by decide) (fun _ => ?_) (fun h => absurd hv h)
    refine lv_goto (tgt := 710) hx hb d_Law_law_436 (by decide) ?_
    exact kk CI1 CL1 CR1 M1 n1 ((f_Model_core MI ML (xs (j + 1)) (xs (j + 2))).2.1) ((f_Model_core MI ML (xs (j + 1)) (xs (j + 2))).2.2) f1 al1 H locs ls hR1 w (lv_sub hl [2, 3, 4, 5, 6] rfl)
set_option maxHeartbeats 4000000 in
set_option maxRecDepth 100000 in
theorem gl_time {p : Program} {l : Launch} {e : Env} {s : State} {m : MethodId} {below : List Frame} {meth : Method} {c : Code} {Q : State → Prop} {D : va_G} {ac : Nat → ClassId} {b L : Nat} {xs : Nat → Int32} (hfl : l.flags = pinnedFlags ++ [noTraceFlag]) (X : Cx code 8 R_Law D ac p m #[Value.ref b] c s) (hS : SP (fun q => s.heap.size ≤ q) s s.heap) (hX : va_X b L xs s s.heap) (hbl : b < s.heap.size) (hL : L ≤ 3074) {o o2 ou : Nat} {ad ad2 : Nat → Nat} {Rl : CRel} (hpre : ∀ t CI CL CR M n MI ML, Rl t CI CL CR M n MI ML → (MI 38 0 = nI (tn (MI 38 0)) ∧ tn (MI 38 0) < 20 ∧ ¬ MI 37 0 = 0) ∧ MOK MI ML) (sims : ∀ p0 : Int32, Sim Rl y_Law_time b_Law_time 4 [(0, 8, 11, 13)] [.int p0] (fun MI ML => f_Model_time MI ML p0) (fun b : Int64 => b)) {CI : Nat → Nat → Int32} {CL : Nat → Nat → Int64} {CR : Nat → Nat → Option Nat} {M : Nat → Msg} {n : Nat} {MI : Nat → Nat → Int32} {ML : Nat → Nat → Int64} {f : Nat → Int64} {al : Nat → Nat} {t j : Nat} (hj : j = 2 + 6 * t) (ht : t < 512) (hjL : j + 6 ≤ L) (hR : Rl t CI CL CR M n MI ML) {H : Heap} {locs : List Loc} {ls : Array Slot} {cells slots : Nat} (w : Wo D (fun q => s.heap.size ≤ q) (mws ac o2 ad2 MI ML ++ (ouc ac ou f :: cwm ac o ad al CI CL CR M n)) s.heap H locs) (hl : lv_has ls 8 [(0, .ref b), (1, .ref o), (2, .ref o2), (3, .ref ou), (4, .int (nI j))]) (hcl : cells + 3 ≤ 601024) (hsl : slots + 21 ≤ 7293000) (kk : ∀ (CI : Nat → Nat → Int32) (CL : Nat → Nat → Int64) (CR : Nat → Nat → Option Nat) (M : Nat → Msg) (n : Nat) (MI : Nat → Nat → Int32) (ML : Nat → Nat → Int64) (f : Nat → Int64) (al : Nat → Nat) (H : Heap) (locs : List Loc) (ls : Array Slot), Rl (t + 1) CI CL CR M n MI ML → Wo D (fun q => s.heap.size ≤ q) (mws ac o2 ad2 MI ML ++ (ouc ac ou f :: cwm ac o ad al CI CL CR M n)) s.heap H locs → lv_has ls 8 [(0, .ref b), (1, .ref o), (2, .ref o2), (3, .ref ou), (4, .int (nI j))] → W p l e room_1 s m #[Value.ref b] below meth c H locs (cells + 3) (slots + 21) Q (F0 m 710 ls [])) : W p l e room_1 s m #[Value.ref b] below meth c H locs cells slots Q (F0 m 439 ls []) := by
  have sim := sims (xs (j + 1))
  have hx := X.1
  have hb := X.2.1
  have hbA : ¬ s.heap.size ≤ b := Nat.not_le.mpr hbl
  obtain ⟨k, f1, CI1, CL1, CR1, M1, n1, hH, hth, hval, hR1⟩ := sim t CI CL CR M n MI ML f ht hR
  obtain ⟨⟨hm, hm20, hpace⟩, hmok⟩ := hpre t CI CL CR M n MI ML hR
  refine lv_aload_n hx hb d_Law_law_439 rfl (lv_at hl 1 rfl) ?_
  refine lv_aload_n hx hb d_Law_law_440 rfl (lv_at hl 0 rfl) ?_
  refine lv_iload hx hb d_Law_law_441 (lv_at hl 4 rfl) ?_
  refine lv_iconst (v := 1) hx hb d_Law_law_443 (by decide) ?_
  refine kiadd (a := j) (b := 1) (r := j + 1) hx hb rfl rfl rfl d_Law_law_444 ?_
  refine ksld X hX hbl w hbA (j + 1) (v := xs (j + 1)) (by omega) (by omega) rfl rfl d_Law_law_445 ?_
  refine lv_aload_n hx hb d_Law_law_446 rfl (lv_at hl 3 rfl) ?_
  refine kcalli (ws0 := mws ac o2 ad2 MI ML) w (krunSW (ws0 := mws ac o2 ad2 MI ML) (wc := ouc ac ou f :: cwm ac o ad al CI CL CR M n) (n := 3) (As := [.ref o, .int (xs (j + 1)), .ref ou]) (rest := []) X w (spH hS w) (hH l hfl D ac o ad al ou _) wkW_Law_time wi_Law wm_Law_81 wt_Law_time (by decide +kernel) rfl rfl ⟨(Nat.le_of_ble_eq_true rfl), (Nat.le_of_ble_eq_true rfl)⟩ ⟨by show _ ≤ 601024; omega, by show _ ≤ 7293000; omega⟩ rfl hl.1 rfl (Nat.le_of_ble_eq_true rfl) d_Law_law_447) (fun r u H locs hp w => ?_)
  obtain ⟨al1, hal, hnn, hokk, hrk, rfl⟩ := hp
  rw [hrk]
  have w : Wo D (fun q => s.heap.size ≤ q) (mws ac o2 ad2 MI ML ++ (ouc ac ou f1 :: cwm ac o ad al1 CI1 CL1 CR1 M1 n1)) s.heap H locs := w
  refine lv_istore (lv' := [(5, .int k), (0, .ref b), (1, .ref o), (2, .ref o2), (3, .ref ou), (4, .int (nI j))]) hx hb d_Law_law_450 hl (by decide) rfl (fun ls hl => ?_)
  refine lv_aload_n hx hb d_Law_law_452 rfl (lv_at hl 3 rfl) ?_
  refine lv_aload_n hx hb d_Law_law_453 rfl (lv_at hl 1 rfl) ?_
  refine lv_iload hx hb d_Law_law_454 (lv_at hl 5 rfl) ?_
  refine lv_iconst (v := 1) hx hb d_Law_law_456 (by decide) ?_
  refine kiadd (a := j) (b := 1) (r := j + 1) hx hb rfl rfl rfl d_Law_law_457 ?_
  refine ksld X hX hbl w hbA (j + 1) (v := xs (j + 1)) (by omega) (by omega) rfl rfl d_Law_law_458 ?_
  have w := wo_swap w
  refine kcalll (ws0 := ouc ac ou f1 :: cwm ac o ad al1 CI1 CL1 CR1 M1 n1) w (krunV (ws0 := ouc ac ou f1 :: cwm ac o ad al1 CI1 CL1 CR1 M1 n1) (wc := mws ac o2 ad2 MI ML) (n := 1) (As := [.int (xs (j + 1))]) (rest := []) (C := R_Model) X w (c_Model_time l D ac o2 ad2 MI ML _ (xs (j + 1)) ) wk_Model_time wi_Model wm_Law_83 wx_Model_time ws_Model_Model_time (by decide +kernel) rfl rfl ⟨(Nat.le_of_ble_eq_true rfl), (Nat.le_of_ble_eq_true rfl)⟩ ⟨by show _ ≤ 601024; omega, by show _ ≤ 7293000; omega⟩ (krecv (ws0 := ouc ac ou f1 :: cwm ac o ad al1 CI1 CL1 CR1 M1 n1) (wc := mws ac o2 ad2 MI ML) X w 0 rfl rfl) rfl hl.1 rfl (Nat.le_of_ble_eq_true rfl) d_Law_law_459) (fun r u H locs hp w => ?_)
  obtain ⟨rfl, rfl⟩ := hp
  have w := wo_swap w
  have w : Wo D (fun q => s.heap.size ≤ q) (mws ac o2 ad2 ((f_Model_time MI ML (xs (j + 1))).2.1) ((f_Model_time MI ML (xs (j + 1))).2.2) ++ (ouc ac ou f1 :: cwm ac o ad al1 CI1 CL1 CR1 M1 n1)) s.heap H locs := w
  refine W.widen (k := cells + 3) (n := slots + 21) (Nat.le_refl _) (Nat.le_refl _) ?_
  refine lv_lstore (lv' := [(6, .long (f_Model_time MI ML (xs (j + 1))).1), (5, .int k), (0, .ref b), (1, .ref o), (2, .ref o2), (3, .ref ou), (4, .int (nI j))]) hx hb d_Law_law_462 hl (by decide) rfl (fun ls hl => ?_)
  refine lv_aload_n hx hb d_Law_law_464 rfl (lv_at hl 4 rfl) ?_
  have w := wo_swap w
  refine kcalli (ws0 := ouc ac ou f1 :: cwm ac o ad al1 CI1 CL1 CR1 M1 n1) w (krunV (ws0 := ouc ac ou f1 :: cwm ac o ad al1 CI1 CL1 CR1 M1 n1) (wc := mws ac o2 ad2 ((f_Model_time MI ML (xs (j + 1))).2.1) ((f_Model_time MI ML (xs (j + 1))).2.2)) (n := 0) (As := []) (rest := []) (C := R_Model) X w (c_Model_thrown l D ac o2 ad2 ((f_Model_time MI ML (xs (j + 1))).2.1) ((f_Model_time MI ML (xs (j + 1))).2.2) _  ) wk_Model_thrown wi_Model wm_Law_62 wx_Model_thrown ws_Model_Model_thrown (by decide +kernel) rfl rfl ⟨(Nat.le_of_ble_eq_true rfl), (Nat.le_of_ble_eq_true rfl)⟩ ⟨by show _ ≤ 601024; omega, by show _ ≤ 7293000; omega⟩ (krecv (ws0 := ouc ac ou f1 :: cwm ac o ad al1 CI1 CL1 CR1 M1 n1) (wc := mws ac o2 ad2 ((f_Model_time MI ML (xs (j + 1))).2.1) ((f_Model_time MI ML (xs (j + 1))).2.2)) X w 0 rfl rfl) rfl hl.1 rfl (Nat.le_of_ble_eq_true rfl) d_Law_law_465) (fun r u H locs hp w => ?_)
  obtain ⟨rfl, rfl⟩ := hp
  have w := wo_swap w
  have w : Wo D (fun q => s.heap.size ≤ q) (mws ac o2 ad2 ((f_Model_time MI ML (xs (j + 1))).2.1) ((f_Model_time MI ML (xs (j + 1))).2.2) ++ (ouc ac ou f1 :: cwm ac o ad al1 CI1 CL1 CR1 M1 n1)) s.heap H locs := w
  refine W.widen (k := cells + 3) (n := slots + 21) (Nat.le_refl _) (Nat.le_refl _) ?_
  refine lv_iload hx hb d_Law_law_468 (lv_at hl 1 rfl) ?_
  refine lv_icmp_eq (tgt := 475) hx hb d_Law_law_470 (by decide) (fun _ => ?_) (fun h => absurd hth h)
  refine lv_iload hx hb d_Law_law_475 (lv_at hl 1 rfl) ?_
  refine lv_if_ne (tgt := 491) hx hb d_Law_law_477 (by decide) (fun h => ?_) (fun h => ?_)
  · refine lv_goto (tgt := 710) hx hb d_Law_law_491 (by decide) ?_
    exact kk CI1 CL1 CR1 M1 n1 ((f_Model_time MI ML (xs (j + 1))).2.1) ((f_Model_time MI ML (xs (j + 1))).2.2) f1 al1 H locs ls hR1 w (lv_sub hl [2, 3, 4, 5, 6] rfl)
  · have hv := hval h
    refine lv_aload_n hx hb d_Law_law_480 rfl (lv_at hl 5 rfl) ?_
    refine lv_iconst (v := 0) hx hb d_Law_law_481 (by decide) ?_
    have w8 := wo_swap w
    refine klald X w8 0 (f := f1) rfl 0 (by decide) (by decide) rfl rfl d_Law_law_482 ?_
    clear w8
    refine lv_lload hx hb d_Law_law_483 (lv_at hl 0 rfl) ?_
    refine klc_eq (tgt := 491) hx hb d_Law_law_485 d_Law_law_486 (by decide) (fun _ => ?_) (fun h => absurd hv h)
    refine lv_goto (tgt := 710) hx hb d_Law_law_491 (by decide) ?_
    exact kk CI1 CL1 CR1 M1 n1 ((f_Model_time MI ML (xs (j + 1))).2.1) ((f_Model_time MI ML (xs (j + 1))).2.2) f1 al1 H locs ls hR1 w (lv_sub hl [2, 3, 4, 5, 6] rfl)
set_option maxHeartbeats 4000000 in
set_option maxRecDepth 100000 in
theorem gl_cached {p : Program} {l : Launch} {e : Env} {s : State} {m : MethodId} {below : List Frame} {meth : Method} {c : Code} {Q : State → Prop} {D : va_G} {ac : Nat → ClassId} {b L : Nat} {xs : Nat → Int32} (hfl : l.flags = pinnedFlags ++ [noTraceFlag]) (X : Cx code 8 R_Law D ac p m #[Value.ref b] c s) (hS : SP (fun q => s.heap.size ≤ q) s s.heap) (hX : va_X b L xs s s.heap) (hbl : b < s.heap.size) (hL : L ≤ 3074) {o o2 ou : Nat} {ad ad2 : Nat → Nat} {Rl : CRel} (hpre : ∀ t CI CL CR M n MI ML, Rl t CI CL CR M n MI ML → (MI 38 0 = nI (tn (MI 38 0)) ∧ tn (MI 38 0) < 20 ∧ ¬ MI 37 0 = 0) ∧ MOK MI ML) (sims : ∀ p0 p1 p2 : Int32, Sim Rl y_Law_cached b_Law_cached 6 [(0, 11, 14, 13), (0, 11, 18, 21)] [.int p0, .int p1, .int p2] (fun MI ML => f_Model_cached MI ML p0 p1 p2) (fun b : Int64 => b)) {CI : Nat → Nat → Int32} {CL : Nat → Nat → Int64} {CR : Nat → Nat → Option Nat} {M : Nat → Msg} {n : Nat} {MI : Nat → Nat → Int32} {ML : Nat → Nat → Int64} {f : Nat → Int64} {al : Nat → Nat} {t j : Nat} (hj : j = 2 + 6 * t) (ht : t < 512) (hjL : j + 6 ≤ L) (hR : Rl t CI CL CR M n MI ML) {H : Heap} {locs : List Loc} {ls : Array Slot} {cells slots : Nat} (w : Wo D (fun q => s.heap.size ≤ q) (mws ac o2 ad2 MI ML ++ (ouc ac ou f :: cwm ac o ad al CI CL CR M n)) s.heap H locs) (hl : lv_has ls 8 [(0, .ref b), (1, .ref o), (2, .ref o2), (3, .ref ou), (4, .int (nI j))]) (hcl : cells + 3 ≤ 601024) (hsl : slots + 21 ≤ 7293000) (kk : ∀ (CI : Nat → Nat → Int32) (CL : Nat → Nat → Int64) (CR : Nat → Nat → Option Nat) (M : Nat → Msg) (n : Nat) (MI : Nat → Nat → Int32) (ML : Nat → Nat → Int64) (f : Nat → Int64) (al : Nat → Nat) (H : Heap) (locs : List Loc) (ls : Array Slot), Rl (t + 1) CI CL CR M n MI ML → Wo D (fun q => s.heap.size ≤ q) (mws ac o2 ad2 MI ML ++ (ouc ac ou f :: cwm ac o ad al CI CL CR M n)) s.heap H locs → lv_has ls 8 [(0, .ref b), (1, .ref o), (2, .ref o2), (3, .ref ou), (4, .int (nI j))] → W p l e room_1 s m #[Value.ref b] below meth c H locs (cells + 3) (slots + 21) Q (F0 m 710 ls [])) : W p l e room_1 s m #[Value.ref b] below meth c H locs cells slots Q (F0 m 494 ls []) := by
  have sim := sims (xs (j + 1)) (xs (j + 2)) (xs (j + 3))
  have hx := X.1
  have hb := X.2.1
  have hbA : ¬ s.heap.size ≤ b := Nat.not_le.mpr hbl
  obtain ⟨k, f1, CI1, CL1, CR1, M1, n1, hH, hth, hval, hR1⟩ := sim t CI CL CR M n MI ML f ht hR
  obtain ⟨⟨hm, hm20, hpace⟩, hmok⟩ := hpre t CI CL CR M n MI ML hR
  refine lv_aload_n hx hb d_Law_law_494 rfl (lv_at hl 1 rfl) ?_
  refine lv_aload_n hx hb d_Law_law_495 rfl (lv_at hl 0 rfl) ?_
  refine lv_iload hx hb d_Law_law_496 (lv_at hl 4 rfl) ?_
  refine lv_iconst (v := 1) hx hb d_Law_law_498 (by decide) ?_
  refine kiadd (a := j) (b := 1) (r := j + 1) hx hb rfl rfl rfl d_Law_law_499 ?_
  refine ksld X hX hbl w hbA (j + 1) (v := xs (j + 1)) (by omega) (by omega) rfl rfl d_Law_law_500 ?_
  refine lv_aload_n hx hb d_Law_law_501 rfl (lv_at hl 0 rfl) ?_
  refine lv_iload hx hb d_Law_law_502 (lv_at hl 4 rfl) ?_
  refine lv_iconst (v := 2) hx hb d_Law_law_504 (by decide) ?_
  refine kiadd (a := j) (b := 2) (r := j + 2) hx hb rfl rfl rfl d_Law_law_505 ?_
  refine ksld X hX hbl w hbA (j + 2) (v := xs (j + 2)) (by omega) (by omega) rfl rfl d_Law_law_506 ?_
  refine lv_aload_n hx hb d_Law_law_507 rfl (lv_at hl 0 rfl) ?_
  refine lv_iload hx hb d_Law_law_508 (lv_at hl 4 rfl) ?_
  refine lv_iconst (v := 3) hx hb d_Law_law_510 (by decide) ?_
  refine kiadd (a := j) (b := 3) (r := j + 3) hx hb rfl rfl rfl d_Law_law_511 ?_
  refine ksld X hX hbl w hbA (j + 3) (v := xs (j + 3)) (by omega) (by omega) rfl rfl d_Law_law_512 ?_
  refine lv_aload_n hx hb d_Law_law_513 rfl (lv_at hl 3 rfl) ?_
  refine kcalli (ws0 := mws ac o2 ad2 MI ML) w (krunSW (ws0 := mws ac o2 ad2 MI ML) (wc := ouc ac ou f :: cwm ac o ad al CI CL CR M n) (n := 5) (As := [.ref o, .int (xs (j + 1)), .int (xs (j + 2)), .int (xs (j + 3)), .ref ou]) (rest := []) X w (spH hS w) (hH l hfl D ac o ad al ou _) wkW_Law_cached wi_Law wm_Law_84 wt_Law_cached (by decide +kernel) rfl rfl ⟨(Nat.le_of_ble_eq_true rfl), (Nat.le_of_ble_eq_true rfl)⟩ ⟨by show _ ≤ 601024; omega, by show _ ≤ 7293000; omega⟩ rfl hl.1 rfl (Nat.le_of_ble_eq_true rfl) d_Law_law_514) (fun r u H locs hp w => ?_)
  obtain ⟨al1, hal, hnn, hokk, hrk, rfl⟩ := hp
  rw [hrk]
  have w : Wo D (fun q => s.heap.size ≤ q) (mws ac o2 ad2 MI ML ++ (ouc ac ou f1 :: cwm ac o ad al1 CI1 CL1 CR1 M1 n1)) s.heap H locs := w
  refine lv_istore (lv' := [(5, .int k), (0, .ref b), (1, .ref o), (2, .ref o2), (3, .ref ou), (4, .int (nI j))]) hx hb d_Law_law_517 hl (by decide) rfl (fun ls hl => ?_)
  refine lv_aload_n hx hb d_Law_law_519 rfl (lv_at hl 3 rfl) ?_
  refine lv_aload_n hx hb d_Law_law_520 rfl (lv_at hl 1 rfl) ?_
  refine lv_iload hx hb d_Law_law_521 (lv_at hl 5 rfl) ?_
  refine lv_iconst (v := 1) hx hb d_Law_law_523 (by decide) ?_
  refine kiadd (a := j) (b := 1) (r := j + 1) hx hb rfl rfl rfl d_Law_law_524 ?_
  refine ksld X hX hbl w hbA (j + 1) (v := xs (j + 1)) (by omega) (by omega) rfl rfl d_Law_law_525 ?_
  refine lv_aload_n hx hb d_Law_law_526 rfl (lv_at hl 1 rfl) ?_
  refine lv_iload hx hb d_Law_law_527 (lv_at hl 5 rfl) ?_
  refine lv_iconst (v := 2) hx hb d_Law_law_529 (by decide) ?_
  refine kiadd (a := j) (b := 2) (r := j + 2) hx hb rfl rfl rfl d_Law_law_530 ?_
  refine ksld X hX hbl w hbA (j + 2) (v := xs (j + 2)) (by omega) (by omega) rfl rfl d_Law_law_531 ?_
  refine lv_aload_n hx hb d_Law_law_532 rfl (lv_at hl 1 rfl) ?_
  refine lv_iload hx hb d_Law_law_533 (lv_at hl 5 rfl) ?_
  refine lv_iconst (v := 3) hx hb d_Law_law_535 (by decide) ?_
  refine kiadd (a := j) (b := 3) (r := j + 3) hx hb rfl rfl rfl d_Law_law_536 ?_
  refine ksld X hX hbl w hbA (j + 3) (v := xs (j + 3)) (by omega) (by omega) rfl rfl d_Law_law_537 ?_
  have w := wo_swap w
  refine kcalll (ws0 := ouc ac ou f1 :: cwm ac o ad al1 CI1 CL1 CR1 M1 n1) w (krunV (ws0 := ouc ac ou f1 :: cwm ac o ad al1 CI1 CL1 CR1 M1 n1) (wc := mws ac o2 ad2 MI ML) (n := 3) (As := [.int (xs (j + 1)), .int (xs (j + 2)), .int (xs (j + 3))]) (rest := []) (C := R_Model) X w (c_Model_cached l D ac o2 ad2 MI ML _ (xs (j + 1)) (xs (j + 2)) (xs (j + 3)) ) wk_Model_cached wi_Model wm_Law_87 wx_Model_cached ws_Model_Model_cached (by decide +kernel) rfl rfl ⟨(Nat.le_of_ble_eq_true rfl), (Nat.le_of_ble_eq_true rfl)⟩ ⟨by show _ ≤ 601024; omega, by show _ ≤ 7293000; omega⟩ (krecv (ws0 := ouc ac ou f1 :: cwm ac o ad al1 CI1 CL1 CR1 M1 n1) (wc := mws ac o2 ad2 MI ML) X w 0 rfl rfl) rfl hl.1 rfl (Nat.le_of_ble_eq_true rfl) d_Law_law_538) (fun r u H locs hp w => ?_)
  obtain ⟨rfl, rfl⟩ := hp
  have w := wo_swap w
  have w : Wo D (fun q => s.heap.size ≤ q) (mws ac o2 ad2 ((f_Model_cached MI ML (xs (j + 1)) (xs (j + 2)) (xs (j + 3))).2.1) ((f_Model_cached MI ML (xs (j + 1)) (xs (j + 2)) (xs (j + 3))).2.2) ++ (ouc ac ou f1 :: cwm ac o ad al1 CI1 CL1 CR1 M1 n1)) s.heap H locs := w
  refine W.widen (k := cells + 3) (n := slots + 21) (Nat.le_refl _) (Nat.le_refl _) ?_
  refine lv_lstore (lv' := [(6, .long (f_Model_cached MI ML (xs (j + 1)) (xs (j + 2)) (xs (j + 3))).1), (5, .int k), (0, .ref b), (1, .ref o), (2, .ref o2), (3, .ref ou), (4, .int (nI j))]) hx hb d_Law_law_541 hl (by decide) rfl (fun ls hl => ?_)
  refine lv_aload_n hx hb d_Law_law_543 rfl (lv_at hl 4 rfl) ?_
  have w := wo_swap w
  refine kcalli (ws0 := ouc ac ou f1 :: cwm ac o ad al1 CI1 CL1 CR1 M1 n1) w (krunV (ws0 := ouc ac ou f1 :: cwm ac o ad al1 CI1 CL1 CR1 M1 n1) (wc := mws ac o2 ad2 ((f_Model_cached MI ML (xs (j + 1)) (xs (j + 2)) (xs (j + 3))).2.1) ((f_Model_cached MI ML (xs (j + 1)) (xs (j + 2)) (xs (j + 3))).2.2)) (n := 0) (As := []) (rest := []) (C := R_Model) X w (c_Model_thrown l D ac o2 ad2 ((f_Model_cached MI ML (xs (j + 1)) (xs (j + 2)) (xs (j + 3))).2.1) ((f_Model_cached MI ML (xs (j + 1)) (xs (j + 2)) (xs (j + 3))).2.2) _  ) wk_Model_thrown wi_Model wm_Law_62 wx_Model_thrown ws_Model_Model_thrown (by decide +kernel) rfl rfl ⟨(Nat.le_of_ble_eq_true rfl), (Nat.le_of_ble_eq_true rfl)⟩ ⟨by show _ ≤ 601024; omega, by show _ ≤ 7293000; omega⟩ (krecv (ws0 := ouc ac ou f1 :: cwm ac o ad al1 CI1 CL1 CR1 M1 n1) (wc := mws ac o2 ad2 ((f_Model_cached MI ML (xs (j + 1)) (xs (j + 2)) (xs (j + 3))).2.1) ((f_Model_cached MI ML (xs (j + 1)) (xs (j + 2)) (xs (j + 3))).2.2)) X w 0 rfl rfl) rfl hl.1 rfl (Nat.le_of_ble_eq_true rfl) d_Law_law_544) (fun r u H locs hp w => ?_)
  obtain ⟨rfl, rfl⟩ := hp
  have w := wo_swap w
  have w : Wo D (fun q => s.heap.size ≤ q) (mws ac o2 ad2 ((f_Model_cached MI ML (xs (j + 1)) (xs (j + 2)) (xs (j + 3))).2.1) ((f_Model_cached MI ML (xs (j + 1)) (xs (j + 2)) (xs (j + 3))).2.2) ++ (ouc ac ou f1 :: cwm ac o ad al1 CI1 CL1 CR1 M1 n1)) s.heap H locs := w
  refine W.widen (k := cells + 3) (n := slots + 21) (Nat.le_refl _) (Nat.le_refl _) ?_
  refine lv_iload hx hb d_Law_law_547 (lv_at hl 1 rfl) ?_
  refine lv_icmp_eq (tgt := 554) hx hb d_Law_law_549 (by decide) (fun _ => ?_) (fun h => absurd hth h)
  refine lv_iload hx hb d_Law_law_554 (lv_at hl 1 rfl) ?_
  refine lv_if_ne (tgt := 570) hx hb d_Law_law_556 (by decide) (fun h => ?_) (fun h => ?_)
  · refine lv_goto (tgt := 710) hx hb d_Law_law_570 (by decide) ?_
    exact kk CI1 CL1 CR1 M1 n1 ((f_Model_cached MI ML (xs (j + 1)) (xs (j + 2)) (xs (j + 3))).2.1) ((f_Model_cached MI ML (xs (j + 1)) (xs (j + 2)) (xs (j + 3))).2.2) f1 al1 H locs ls hR1 w (lv_sub hl [2, 3, 4, 5, 6] rfl)
  · have hv := hval h
    refine lv_aload_n hx hb d_Law_law_559 rfl (lv_at hl 5 rfl) ?_
    refine lv_iconst (v := 0) hx hb d_Law_law_560 (by decide) ?_
    have w8 := wo_swap w
    refine klald X w8 0 (f := f1) rfl 0 (by decide) (by decide) rfl rfl d_Law_law_561 ?_
    clear w8
    refine lv_lload hx hb d_Law_law_562 (lv_at hl 0 rfl) ?_
    refine klc_eq (tgt := 570) hx hb d_Law_law_564 d_Law_law_565 (by decide) (fun _ => ?_) (fun h => absurd hv h)
    refine lv_goto (tgt := 710) hx hb d_Law_law_570 (by decide) ?_
    exact kk CI1 CL1 CR1 M1 n1 ((f_Model_cached MI ML (xs (j + 1)) (xs (j + 2)) (xs (j + 3))).2.1) ((f_Model_cached MI ML (xs (j + 1)) (xs (j + 2)) (xs (j + 3))).2.2) f1 al1 H locs ls hR1 w (lv_sub hl [2, 3, 4, 5, 6] rfl)
set_option maxHeartbeats 4000000 in
set_option maxRecDepth 100000 in
theorem gl_entry {p : Program} {l : Launch} {e : Env} {s : State} {m : MethodId} {below : List Frame} {meth : Method} {c : Code} {Q : State → Prop} {D : va_G} {ac : Nat → ClassId} {b L : Nat} {xs : Nat → Int32} (hfl : l.flags = pinnedFlags ++ [noTraceFlag]) (X : Cx code 8 R_Law D ac p m #[Value.ref b] c s) (hS : SP (fun q => s.heap.size ≤ q) s s.heap) (hX : va_X b L xs s s.heap) (hbl : b < s.heap.size) (hL : L ≤ 3074) {o o2 ou : Nat} {ad ad2 : Nat → Nat} {Rl : CRel} (hpre : ∀ t CI CL CR M n MI ML, Rl t CI CL CR M n MI ML → (MI 38 0 = nI (tn (MI 38 0)) ∧ tn (MI 38 0) < 20 ∧ ¬ MI 37 0 = 0) ∧ MOK MI ML) (sims : ∀ p0 p1 : Int32, Sim Rl y_Law_entry b_Law_entry 5 [(0, 9, 12, 13), (0, 9, 16, 21)] [.int p0, .int p1] (fun MI ML => f_Model_entry MI ML p0 p1) (fun b : Int64 => b)) {CI : Nat → Nat → Int32} {CL : Nat → Nat → Int64} {CR : Nat → Nat → Option Nat} {M : Nat → Msg} {n : Nat} {MI : Nat → Nat → Int32} {ML : Nat → Nat → Int64} {f : Nat → Int64} {al : Nat → Nat} {t j : Nat} (hj : j = 2 + 6 * t) (ht : t < 512) (hjL : j + 6 ≤ L) (hR : Rl t CI CL CR M n MI ML) {H : Heap} {locs : List Loc} {ls : Array Slot} {cells slots : Nat} (w : Wo D (fun q => s.heap.size ≤ q) (mws ac o2 ad2 MI ML ++ (ouc ac ou f :: cwm ac o ad al CI CL CR M n)) s.heap H locs) (hl : lv_has ls 8 [(0, .ref b), (1, .ref o), (2, .ref o2), (3, .ref ou), (4, .int (nI j))]) (hcl : cells + 3 ≤ 601024) (hsl : slots + 21 ≤ 7293000) (kk : ∀ (CI : Nat → Nat → Int32) (CL : Nat → Nat → Int64) (CR : Nat → Nat → Option Nat) (M : Nat → Msg) (n : Nat) (MI : Nat → Nat → Int32) (ML : Nat → Nat → Int64) (f : Nat → Int64) (al : Nat → Nat) (H : Heap) (locs : List Loc) (ls : Array Slot), Rl (t + 1) CI CL CR M n MI ML → Wo D (fun q => s.heap.size ≤ q) (mws ac o2 ad2 MI ML ++ (ouc ac ou f :: cwm ac o ad al CI CL CR M n)) s.heap H locs → lv_has ls 8 [(0, .ref b), (1, .ref o), (2, .ref o2), (3, .ref ou), (4, .int (nI j))] → W p l e room_1 s m #[Value.ref b] below meth c H locs (cells + 3) (slots + 21) Q (F0 m 710 ls [])) : W p l e room_1 s m #[Value.ref b] below meth c H locs cells slots Q (F0 m 573 ls []) := by
  have sim := sims (xs (j + 1)) (xs (j + 2))
  have hx := X.1
  have hb := X.2.1
  have hbA : ¬ s.heap.size ≤ b := Nat.not_le.mpr hbl
  obtain ⟨k, f1, CI1, CL1, CR1, M1, n1, hH, hth, hval, hR1⟩ := sim t CI CL CR M n MI ML f ht hR
  obtain ⟨⟨hm, hm20, hpace⟩, hmok⟩ := hpre t CI CL CR M n MI ML hR
  refine lv_aload_n hx hb d_Law_law_573 rfl (lv_at hl 1 rfl) ?_
  refine lv_aload_n hx hb d_Law_law_574 rfl (lv_at hl 0 rfl) ?_
  refine lv_iload hx hb d_Law_law_575 (lv_at hl 4 rfl) ?_
  refine lv_iconst (v := 1) hx hb d_Law_law_577 (by decide) ?_
  refine kiadd (a := j) (b := 1) (r := j + 1) hx hb rfl rfl rfl d_Law_law_578 ?_
  refine ksld X hX hbl w hbA (j + 1) (v := xs (j + 1)) (by omega) (by omega) rfl rfl d_Law_law_579 ?_
  refine lv_aload_n hx hb d_Law_law_580 rfl (lv_at hl 0 rfl) ?_
  refine lv_iload hx hb d_Law_law_581 (lv_at hl 4 rfl) ?_
  refine lv_iconst (v := 2) hx hb d_Law_law_583 (by decide) ?_
  refine kiadd (a := j) (b := 2) (r := j + 2) hx hb rfl rfl rfl d_Law_law_584 ?_
  refine ksld X hX hbl w hbA (j + 2) (v := xs (j + 2)) (by omega) (by omega) rfl rfl d_Law_law_585 ?_
  refine lv_aload_n hx hb d_Law_law_586 rfl (lv_at hl 3 rfl) ?_
  refine kcalli (ws0 := mws ac o2 ad2 MI ML) w (krunSW (ws0 := mws ac o2 ad2 MI ML) (wc := ouc ac ou f :: cwm ac o ad al CI CL CR M n) (n := 4) (As := [.ref o, .int (xs (j + 1)), .int (xs (j + 2)), .ref ou]) (rest := []) X w (spH hS w) (hH l hfl D ac o ad al ou _) wkW_Law_entry wi_Law wm_Law_88 wt_Law_entry (by decide +kernel) rfl rfl ⟨(Nat.le_of_ble_eq_true rfl), (Nat.le_of_ble_eq_true rfl)⟩ ⟨by show _ ≤ 601024; omega, by show _ ≤ 7293000; omega⟩ rfl hl.1 rfl (Nat.le_of_ble_eq_true rfl) d_Law_law_587) (fun r u H locs hp w => ?_)
  obtain ⟨al1, hal, hnn, hokk, hrk, rfl⟩ := hp
  rw [hrk]
  have w : Wo D (fun q => s.heap.size ≤ q) (mws ac o2 ad2 MI ML ++ (ouc ac ou f1 :: cwm ac o ad al1 CI1 CL1 CR1 M1 n1)) s.heap H locs := w
  refine lv_istore (lv' := [(5, .int k), (0, .ref b), (1, .ref o), (2, .ref o2), (3, .ref ou), (4, .int (nI j))]) hx hb d_Law_law_590 hl (by decide) rfl (fun ls hl => ?_)
  refine lv_aload_n hx hb d_Law_law_592 rfl (lv_at hl 3 rfl) ?_
  refine lv_aload_n hx hb d_Law_law_593 rfl (lv_at hl 1 rfl) ?_
  refine lv_iload hx hb d_Law_law_594 (lv_at hl 5 rfl) ?_
  refine lv_iconst (v := 1) hx hb d_Law_law_596 (by decide) ?_
  refine kiadd (a := j) (b := 1) (r := j + 1) hx hb rfl rfl rfl d_Law_law_597 ?_
  refine ksld X hX hbl w hbA (j + 1) (v := xs (j + 1)) (by omega) (by omega) rfl rfl d_Law_law_598 ?_
  refine lv_aload_n hx hb d_Law_law_599 rfl (lv_at hl 1 rfl) ?_
  refine lv_iload hx hb d_Law_law_600 (lv_at hl 5 rfl) ?_
  refine lv_iconst (v := 2) hx hb d_Law_law_602 (by decide) ?_
  refine kiadd (a := j) (b := 2) (r := j + 2) hx hb rfl rfl rfl d_Law_law_603 ?_
  refine ksld X hX hbl w hbA (j + 2) (v := xs (j + 2)) (by omega) (by omega) rfl rfl d_Law_law_604 ?_
  have w := wo_swap w
  refine kcalll (ws0 := ouc ac ou f1 :: cwm ac o ad al1 CI1 CL1 CR1 M1 n1) w (krunV (ws0 := ouc ac ou f1 :: cwm ac o ad al1 CI1 CL1 CR1 M1 n1) (wc := mws ac o2 ad2 MI ML) (n := 2) (As := [.int (xs (j + 1)), .int (xs (j + 2))]) (rest := []) (C := R_Model) X w (c_Model_entry l D ac o2 ad2 MI ML _ (xs (j + 1)) (xs (j + 2)) ) wk_Model_entry wi_Model wm_Law_90 wx_Model_entry ws_Model_Model_entry (by decide +kernel) rfl rfl ⟨(Nat.le_of_ble_eq_true rfl), (Nat.le_of_ble_eq_true rfl)⟩ ⟨by show _ ≤ 601024; omega, by show _ ≤ 7293000; omega⟩ (krecv (ws0 := ouc ac ou f1 :: cwm ac o ad al1 CI1 CL1 CR1 M1 n1) (wc := mws ac o2 ad2 MI ML) X w 0 rfl rfl) rfl hl.1 rfl (Nat.le_of_ble_eq_true rfl) d_Law_law_605) (fun r u H locs hp w => ?_)
  obtain ⟨rfl, rfl⟩ := hp
  have w := wo_swap w
  have w : Wo D (fun q => s.heap.size ≤ q) (mws ac o2 ad2 ((f_Model_entry MI ML (xs (j + 1)) (xs (j + 2))).2.1) ((f_Model_entry MI ML (xs (j + 1)) (xs (j + 2))).2.2) ++ (ouc ac ou f1 :: cwm ac o ad al1 CI1 CL1 CR1 M1 n1)) s.heap H locs := w
  refine W.widen (k := cells + 3) (n := slots + 21) (Nat.le_refl _) (Nat.le_refl _) ?_
  refine lv_lstore (lv' := [(6, .long (f_Model_entry MI ML (xs (j + 1)) (xs (j + 2))).1), (5, .int k), (0, .ref b), (1, .ref o), (2, .ref o2), (3, .ref ou), (4, .int (nI j))]) hx hb d_Law_law_608 hl (by decide) rfl (fun ls hl => ?_)
  refine lv_aload_n hx hb d_Law_law_610 rfl (lv_at hl 4 rfl) ?_
  have w := wo_swap w
  refine kcalli (ws0 := ouc ac ou f1 :: cwm ac o ad al1 CI1 CL1 CR1 M1 n1) w (krunV (ws0 := ouc ac ou f1 :: cwm ac o ad al1 CI1 CL1 CR1 M1 n1) (wc := mws ac o2 ad2 ((f_Model_entry MI ML (xs (j + 1)) (xs (j + 2))).2.1) ((f_Model_entry MI ML (xs (j + 1)) (xs (j + 2))).2.2)) (n := 0) (As := []) (rest := []) (C := R_Model) X w (c_Model_thrown l D ac o2 ad2 ((f_Model_entry MI ML (xs (j + 1)) (xs (j + 2))).2.1) ((f_Model_entry MI ML (xs (j + 1)) (xs (j + 2))).2.2) _  ) wk_Model_thrown wi_Model wm_Law_62 wx_Model_thrown ws_Model_Model_thrown (by decide +kernel) rfl rfl ⟨(Nat.le_of_ble_eq_true rfl), (Nat.le_of_ble_eq_true rfl)⟩ ⟨by show _ ≤ 601024; omega, by show _ ≤ 7293000; omega⟩ (krecv (ws0 := ouc ac ou f1 :: cwm ac o ad al1 CI1 CL1 CR1 M1 n1) (wc := mws ac o2 ad2 ((f_Model_entry MI ML (xs (j + 1)) (xs (j + 2))).2.1) ((f_Model_entry MI ML (xs (j + 1)) (xs (j + 2))).2.2)) X w 0 rfl rfl) rfl hl.1 rfl (Nat.le_of_ble_eq_true rfl) d_Law_law_611) (fun r u H locs hp w => ?_)
  obtain ⟨rfl, rfl⟩ := hp
  have w := wo_swap w
  have w : Wo D (fun q => s.heap.size ≤ q) (mws ac o2 ad2 ((f_Model_entry MI ML (xs (j + 1)) (xs (j + 2))).2.1) ((f_Model_entry MI ML (xs (j + 1)) (xs (j + 2))).2.2) ++ (ouc ac ou f1 :: cwm ac o ad al1 CI1 CL1 CR1 M1 n1)) s.heap H locs := w
  refine W.widen (k := cells + 3) (n := slots + 21) (Nat.le_refl _) (Nat.le_refl _) ?_
  refine lv_iload hx hb d_Law_law_614 (lv_at hl 1 rfl) ?_
  refine lv_icmp_eq (tgt := 621) hx hb d_Law_law_616 (by decide) (fun _ => ?_) (fun h => absurd hth h)
  refine lv_iload hx hb d_Law_law_621 (lv_at hl 1 rfl) ?_
  refine lv_if_ne (tgt := 637) hx hb d_Law_law_623 (by decide) (fun h => ?_) (fun h => ?_)
  · refine lv_goto (tgt := 710) hx hb d_Law_law_637 (by decide) ?_
    exact kk CI1 CL1 CR1 M1 n1 ((f_Model_entry MI ML (xs (j + 1)) (xs (j + 2))).2.1) ((f_Model_entry MI ML (xs (j + 1)) (xs (j + 2))).2.2) f1 al1 H locs ls hR1 w (lv_sub hl [2, 3, 4, 5, 6] rfl)
  · have hv := hval h
    refine lv_aload_n hx hb d_Law_law_626 rfl (lv_at hl 5 rfl) ?_
    refine lv_iconst (v := 0) hx hb d_Law_law_627 (by decide) ?_
    have w8 := wo_swap w
    refine klald X w8 0 (f := f1) rfl 0 (by decide) (by decide) rfl rfl d_Law_law_628 ?_
    clear w8
    refine lv_lload hx hb d_Law_law_629 (lv_at hl 0 rfl) ?_
    refine klc_eq (tgt := 637) hx hb d_Law_law_631 d_Law_law_632 (by decide) (fun _ => ?_) (fun h => absurd hv h)
    refine lv_goto (tgt := 710) hx hb d_Law_law_637 (by decide) ?_
    exact kk CI1 CL1 CR1 M1 n1 ((f_Model_entry MI ML (xs (j + 1)) (xs (j + 2))).2.1) ((f_Model_entry MI ML (xs (j + 1)) (xs (j + 2))).2.2) f1 al1 H locs ls hR1 w (lv_sub hl [2, 3, 4, 5, 6] rfl)
set_option maxHeartbeats 4000000 in
set_option maxRecDepth 100000 in
theorem gl_memory {p : Program} {l : Launch} {e : Env} {s : State} {m : MethodId} {below : List Frame} {meth : Method} {c : Code} {Q : State → Prop} {D : va_G} {ac : Nat → ClassId} {b L : Nat} {xs : Nat → Int32} (hfl : l.flags = pinnedFlags ++ [noTraceFlag]) (X : Cx code 8 R_Law D ac p m #[Value.ref b] c s) (hS : SP (fun q => s.heap.size ≤ q) s s.heap) (hX : va_X b L xs s s.heap) (hbl : b < s.heap.size) (hL : L ≤ 3074) {o o2 ou : Nat} {ad ad2 : Nat → Nat} {Rl : CRel} (hpre : ∀ t CI CL CR M n MI ML, Rl t CI CL CR M n MI ML → (MI 38 0 = nI (tn (MI 38 0)) ∧ tn (MI 38 0) < 20 ∧ ¬ MI 37 0 = 0) ∧ MOK MI ML) (sims : ∀ p0 : Int32, Sim Rl y_Law_memory b_Law_memory 4 [(0, 9, 12, 13)] [.int p0] (fun MI ML => f_Model_memory MI ML p0) (fun b : Int32 => b.toInt64)) {CI : Nat → Nat → Int32} {CL : Nat → Nat → Int64} {CR : Nat → Nat → Option Nat} {M : Nat → Msg} {n : Nat} {MI : Nat → Nat → Int32} {ML : Nat → Nat → Int64} {f : Nat → Int64} {al : Nat → Nat} {t j : Nat} (hj : j = 2 + 6 * t) (ht : t < 512) (hjL : j + 6 ≤ L) (hR : Rl t CI CL CR M n MI ML) {H : Heap} {locs : List Loc} {ls : Array Slot} {cells slots : Nat} (w : Wo D (fun q => s.heap.size ≤ q) (mws ac o2 ad2 MI ML ++ (ouc ac ou f :: cwm ac o ad al CI CL CR M n)) s.heap H locs) (hl : lv_has ls 8 [(0, .ref b), (1, .ref o), (2, .ref o2), (3, .ref ou), (4, .int (nI j))]) (hcl : cells + 3 ≤ 601024) (hsl : slots + 21 ≤ 7293000) (kk : ∀ (CI : Nat → Nat → Int32) (CL : Nat → Nat → Int64) (CR : Nat → Nat → Option Nat) (M : Nat → Msg) (n : Nat) (MI : Nat → Nat → Int32) (ML : Nat → Nat → Int64) (f : Nat → Int64) (al : Nat → Nat) (H : Heap) (locs : List Loc) (ls : Array Slot), Rl (t + 1) CI CL CR M n MI ML → Wo D (fun q => s.heap.size ≤ q) (mws ac o2 ad2 MI ML ++ (ouc ac ou f :: cwm ac o ad al CI CL CR M n)) s.heap H locs → lv_has ls 8 [(0, .ref b), (1, .ref o), (2, .ref o2), (3, .ref ou), (4, .int (nI j))] → W p l e room_1 s m #[Value.ref b] below meth c H locs (cells + 3) (slots + 21) Q (F0 m 710 ls [])) : W p l e room_1 s m #[Value.ref b] below meth c H locs cells slots Q (F0 m 640 ls []) := by
  have sim := sims (xs (j + 1))
  have hx := X.1
  have hb := X.2.1
  have hbA : ¬ s.heap.size ≤ b := Nat.not_le.mpr hbl
  obtain ⟨k, f1, CI1, CL1, CR1, M1, n1, hH, hth, hval, hR1⟩ := sim t CI CL CR M n MI ML f ht hR
  obtain ⟨⟨hm, hm20, hpace⟩, hmok⟩ := hpre t CI CL CR M n MI ML hR
  refine lv_aload_n hx hb d_Law_law_640 rfl (lv_at hl 1 rfl) ?_
  refine lv_aload_n hx hb d_Law_law_641 rfl (lv_at hl 0 rfl) ?_
  refine lv_iload hx hb d_Law_law_642 (lv_at hl 4 rfl) ?_
  refine lv_iconst (v := 1) hx hb d_Law_law_644 (by decide) ?_
  refine kiadd (a := j) (b := 1) (r := j + 1) hx hb rfl rfl rfl d_Law_law_645 ?_
  refine ksld X hX hbl w hbA (j + 1) (v := xs (j + 1)) (by omega) (by omega) rfl rfl d_Law_law_646 ?_
  refine lv_aload_n hx hb d_Law_law_647 rfl (lv_at hl 3 rfl) ?_
  refine kcalli (ws0 := mws ac o2 ad2 MI ML) w (krunSW (ws0 := mws ac o2 ad2 MI ML) (wc := ouc ac ou f :: cwm ac o ad al CI CL CR M n) (n := 3) (As := [.ref o, .int (xs (j + 1)), .ref ou]) (rest := []) X w (spH hS w) (hH l hfl D ac o ad al ou _) wkW_Law_memory wi_Law wm_Law_91 wt_Law_memory (by decide +kernel) rfl rfl ⟨(Nat.le_of_ble_eq_true rfl), (Nat.le_of_ble_eq_true rfl)⟩ ⟨by show _ ≤ 601024; omega, by show _ ≤ 7293000; omega⟩ rfl hl.1 rfl (Nat.le_of_ble_eq_true rfl) d_Law_law_648) (fun r u H locs hp w => ?_)
  obtain ⟨al1, hal, hnn, hokk, hrk, rfl⟩ := hp
  rw [hrk]
  have w : Wo D (fun q => s.heap.size ≤ q) (mws ac o2 ad2 MI ML ++ (ouc ac ou f1 :: cwm ac o ad al1 CI1 CL1 CR1 M1 n1)) s.heap H locs := w
  refine lv_istore (lv' := [(5, .int k), (0, .ref b), (1, .ref o), (2, .ref o2), (3, .ref ou), (4, .int (nI j))]) hx hb d_Law_law_651 hl (by decide) rfl (fun ls hl => ?_)
  refine lv_aload_n hx hb d_Law_law_653 rfl (lv_at hl 3 rfl) ?_
  refine lv_aload_n hx hb d_Law_law_654 rfl (lv_at hl 1 rfl) ?_
  refine lv_iload hx hb d_Law_law_655 (lv_at hl 5 rfl) ?_
  refine lv_iconst (v := 1) hx hb d_Law_law_657 (by decide) ?_
  refine kiadd (a := j) (b := 1) (r := j + 1) hx hb rfl rfl rfl d_Law_law_658 ?_
  refine ksld X hX hbl w hbA (j + 1) (v := xs (j + 1)) (by omega) (by omega) rfl rfl d_Law_law_659 ?_
  have w := wo_swap w
  refine kcalli (ws0 := ouc ac ou f1 :: cwm ac o ad al1 CI1 CL1 CR1 M1 n1) w (krunV (ws0 := ouc ac ou f1 :: cwm ac o ad al1 CI1 CL1 CR1 M1 n1) (wc := mws ac o2 ad2 MI ML) (n := 1) (As := [.int (xs (j + 1))]) (rest := []) (C := R_Model) X w (c_Model_memory l D ac o2 ad2 MI ML _ (xs (j + 1)) ) wk_Model_memory wi_Model wm_Law_93 wx_Model_memory ws_Model_Model_memory (by decide +kernel) rfl rfl ⟨(Nat.le_of_ble_eq_true rfl), (Nat.le_of_ble_eq_true rfl)⟩ ⟨by show _ ≤ 601024; omega, by show _ ≤ 7293000; omega⟩ (krecv (ws0 := ouc ac ou f1 :: cwm ac o ad al1 CI1 CL1 CR1 M1 n1) (wc := mws ac o2 ad2 MI ML) X w 0 rfl rfl) rfl hl.1 rfl (Nat.le_of_ble_eq_true rfl) d_Law_law_660) (fun r u H locs hp w => ?_)
  obtain ⟨rfl, rfl⟩ := hp
  have w := wo_swap w
  have w : Wo D (fun q => s.heap.size ≤ q) (mws ac o2 ad2 ((f_Model_memory MI ML (xs (j + 1))).2.1) ((f_Model_memory MI ML (xs (j + 1))).2.2) ++ (ouc ac ou f1 :: cwm ac o ad al1 CI1 CL1 CR1 M1 n1)) s.heap H locs := w
  refine W.widen (k := cells + 3) (n := slots + 21) (Nat.le_refl _) (Nat.le_refl _) ?_
  refine lv_istore (lv' := [(6, .int (f_Model_memory MI ML (xs (j + 1))).1), (5, .int k), (0, .ref b), (1, .ref o), (2, .ref o2), (3, .ref ou), (4, .int (nI j))]) hx hb d_Law_law_663 hl (by decide) rfl (fun ls hl => ?_)
  refine lv_aload_n hx hb d_Law_law_665 rfl (lv_at hl 4 rfl) ?_
  have w := wo_swap w
  refine kcalli (ws0 := ouc ac ou f1 :: cwm ac o ad al1 CI1 CL1 CR1 M1 n1) w (krunV (ws0 := ouc ac ou f1 :: cwm ac o ad al1 CI1 CL1 CR1 M1 n1) (wc := mws ac o2 ad2 ((f_Model_memory MI ML (xs (j + 1))).2.1) ((f_Model_memory MI ML (xs (j + 1))).2.2)) (n := 0) (As := []) (rest := []) (C := R_Model) X w (c_Model_thrown l D ac o2 ad2 ((f_Model_memory MI ML (xs (j + 1))).2.1) ((f_Model_memory MI ML (xs (j + 1))).2.2) _  ) wk_Model_thrown wi_Model wm_Law_62 wx_Model_thrown ws_Model_Model_thrown (by decide +kernel) rfl rfl ⟨(Nat.le_of_ble_eq_true rfl), (Nat.le_of_ble_eq_true rfl)⟩ ⟨by show _ ≤ 601024; omega, by show _ ≤ 7293000; omega⟩ (krecv (ws0 := ouc ac ou f1 :: cwm ac o ad al1 CI1 CL1 CR1 M1 n1) (wc := mws ac o2 ad2 ((f_Model_memory MI ML (xs (j + 1))).2.1) ((f_Model_memory MI ML (xs (j + 1))).2.2)) X w 0 rfl rfl) rfl hl.1 rfl (Nat.le_of_ble_eq_true rfl) d_Law_law_666) (fun r u H locs hp w => ?_)
  obtain ⟨rfl, rfl⟩ := hp
  have w := wo_swap w
  have w : Wo D (fun q => s.heap.size ≤ q) (mws ac o2 ad2 ((f_Model_memory MI ML (xs (j + 1))).2.1) ((f_Model_memory MI ML (xs (j + 1))).2.2) ++ (ouc ac ou f1 :: cwm ac o ad al1 CI1 CL1 CR1 M1 n1)) s.heap H locs := w
  refine W.widen (k := cells + 3) (n := slots + 21) (Nat.le_refl _) (Nat.le_refl _) ?_
  refine lv_iload hx hb d_Law_law_669 (lv_at hl 1 rfl) ?_
  refine lv_icmp_eq (tgt := 676) hx hb d_Law_law_671 (by decide) (fun _ => ?_) (fun h => absurd hth h)
  refine lv_iload hx hb d_Law_law_676 (lv_at hl 1 rfl) ?_
  refine lv_if_ne (tgt := 693) hx hb d_Law_law_678 (by decide) (fun h => ?_) (fun h => ?_)
  · refine lv_goto (tgt := 710) hx hb d_Law_law_693 (by decide) ?_
    exact kk CI1 CL1 CR1 M1 n1 ((f_Model_memory MI ML (xs (j + 1))).2.1) ((f_Model_memory MI ML (xs (j + 1))).2.2) f1 al1 H locs ls hR1 w (lv_sub hl [2, 3, 4, 5, 6] rfl)
  · have hv := hval h
    refine lv_aload_n hx hb d_Law_law_681 rfl (lv_at hl 5 rfl) ?_
    refine lv_iconst (v := 0) hx hb d_Law_law_682 (by decide) ?_
    have w8 := wo_swap w
    refine klald X w8 0 (f := f1) rfl 0 (by decide) (by decide) rfl rfl d_Law_law_683 ?_
    clear w8
    refine lv_iload hx hb d_Law_law_684 (lv_at hl 0 rfl) ?_
    refine lv_i2l (v := ((f_Model_memory MI ML (xs (j + 1))).1).toInt64) hx hb d_Law_law_686 rfl ?_
    refine klc_eq (tgt := 693) hx hb d_Law_law_687 d_Law_law_688 (by decide) (fun _ => ?_) (fun h => absurd hv h)
    refine lv_goto (tgt := 710) hx hb d_Law_law_693 (by decide) ?_
    exact kk CI1 CL1 CR1 M1 n1 ((f_Model_memory MI ML (xs (j + 1))).2.1) ((f_Model_memory MI ML (xs (j + 1))).2.2) f1 al1 H locs ls hR1 w (lv_sub hl [2, 3, 4, 5, 6] rfl)
set_option maxHeartbeats 4000000 in
set_option maxRecDepth 100000 in
theorem gl_messages {p : Program} {l : Launch} {e : Env} {s : State} {m : MethodId} {below : List Frame} {meth : Method} {c : Code} {Q : State → Prop} {D : va_G} {ac : Nat → ClassId} {b L : Nat} {xs : Nat → Int32} (hfl : l.flags = pinnedFlags ++ [noTraceFlag]) (X : Cx code 8 R_Law D ac p m #[Value.ref b] c s) (hS : SP (fun q => s.heap.size ≤ q) s s.heap) (hX : va_X b L xs s s.heap) (hbl : b < s.heap.size) (hL : L ≤ 3074) {o o2 ou : Nat} {ad ad2 : Nat → Nat} {Rl : CRel} (hpre : ∀ t CI CL CR M n MI ML, Rl t CI CL CR M n MI ML → (MI 38 0 = nI (tn (MI 38 0)) ∧ tn (MI 38 0) < 20 ∧ ¬ MI 37 0 = 0) ∧ MOK MI ML) (sims : ∀ t CI CL CR M n MI ML, Rl t CI CL CR M n MI ML → CI 38 0 = (f_Model_messages MI ML).1 ∧ Rl (t + 1) CI CL CR M n (f_Model_messages MI ML).2.1 (f_Model_messages MI ML).2.2) {CI : Nat → Nat → Int32} {CL : Nat → Nat → Int64} {CR : Nat → Nat → Option Nat} {M : Nat → Msg} {n : Nat} {MI : Nat → Nat → Int32} {ML : Nat → Nat → Int64} {f : Nat → Int64} {al : Nat → Nat} {t j : Nat} (hj : j = 2 + 6 * t) (ht : t < 512) (hjL : j + 6 ≤ L) (hR : Rl t CI CL CR M n MI ML) {H : Heap} {locs : List Loc} {ls : Array Slot} {cells slots : Nat} (w : Wo D (fun q => s.heap.size ≤ q) (mws ac o2 ad2 MI ML ++ (ouc ac ou f :: cwm ac o ad al CI CL CR M n)) s.heap H locs) (hl : lv_has ls 8 [(0, .ref b), (1, .ref o), (2, .ref o2), (3, .ref ou), (4, .int (nI j))]) (hcl : cells + 3 ≤ 601024) (hsl : slots + 21 ≤ 7293000) (kk : ∀ (CI : Nat → Nat → Int32) (CL : Nat → Nat → Int64) (CR : Nat → Nat → Option Nat) (M : Nat → Msg) (n : Nat) (MI : Nat → Nat → Int32) (ML : Nat → Nat → Int64) (f : Nat → Int64) (al : Nat → Nat) (H : Heap) (locs : List Loc) (ls : Array Slot), Rl (t + 1) CI CL CR M n MI ML → Wo D (fun q => s.heap.size ≤ q) (mws ac o2 ad2 MI ML ++ (ouc ac ou f :: cwm ac o ad al CI CL CR M n)) s.heap H locs → lv_has ls 8 [(0, .ref b), (1, .ref o), (2, .ref o2), (3, .ref ou), (4, .int (nI j))] → W p l e room_1 s m #[Value.ref b] below meth c H locs (cells + 3) (slots + 21) Q (F0 m 710 ls [])) : W p l e room_1 s m #[Value.ref b] below meth c H locs cells slots Q (F0 m 290 ls []) := by
  obtain ⟨heq, hR1⟩ := sims t CI CL CR M n MI ML hR
  have hx := X.1
  have hb := X.2.1
  have hbA : ¬ s.heap.size ≤ b := Nat.not_le.mpr hbl
  obtain ⟨⟨hm, hm20, hpace⟩, hmok⟩ := hpre t CI CL CR M n MI ML hR
  refine lv_aload_n hx hb d_Law_law_290 rfl (lv_at hl 1 rfl) ?_
  refine kcalli (ws0 := mws ac o2 ad2 MI ML ++ [ouc ac ou f]) (wc := cwm ac o ad al CI CL CR M n) (by rw [List.append_assoc]; exact w) (krunV (ws0 := mws ac o2 ad2 MI ML ++ [ouc ac ou f]) (wc := cwm ac o ad al CI CL CR M n) (n := 0) (As := []) (rest := []) (C := R_LC) X (by rw [List.append_assoc]; exact w) (c_LC_messages l D ac o ad al CI CL CR M n _) wk_LC_messages wi_LC wm_Law_70 wx_LC_messages ws_LC_LC_messages (by decide +kernel) rfl rfl ⟨(Nat.le_of_ble_eq_true rfl), (Nat.le_of_ble_eq_true rfl)⟩ ⟨by show _ ≤ 601024; omega, by show _ ≤ 7293000; omega⟩ (krecv (ws0 := mws ac o2 ad2 MI ML ++ [ouc ac ou f]) (wc := cwm ac o ad al CI CL CR M n) X (by rw [List.append_assoc]; exact w) 0 rfl rfl) rfl hl.1 rfl (Nat.le_of_ble_eq_true rfl) d_Law_law_291) (fun r u H locs hp w => ?_)
  obtain ⟨rfl, rfl⟩ := hp
  have w : Wo D (fun q => s.heap.size ≤ q) (mws ac o2 ad2 MI ML ++ (ouc ac ou f :: cwm ac o ad al CI CL CR M n)) s.heap H locs := by rw [List.append_assoc] at w; exact w
  refine W.widen (k := cells) (n := slots) (Nat.le_refl _) (Nat.le_refl _) ?_
  refine lv_aload_n hx hb d_Law_law_294 rfl (lv_at hl 2 rfl) ?_
  have w := wo_swap w
  refine kcalli (ws0 := ouc ac ou f :: cwm ac o ad al CI CL CR M n) w (krunV (ws0 := ouc ac ou f :: cwm ac o ad al CI CL CR M n) (wc := mws ac o2 ad2 MI ML) (n := 0) (As := []) (rest := [.int (f_LC_messages CI)]) (C := R_Model) X w (c_Model_messages l D ac o2 ad2 MI ML _  ) wk_Model_messages wi_Model wm_Law_73 wx_Model_messages ws_Model_Model_messages (by decide +kernel) rfl rfl ⟨(Nat.le_of_ble_eq_true rfl), (Nat.le_of_ble_eq_true rfl)⟩ ⟨by show _ ≤ 601024; omega, by show _ ≤ 7293000; omega⟩ (krecv (ws0 := ouc ac ou f :: cwm ac o ad al CI CL CR M n) (wc := mws ac o2 ad2 MI ML) X w 0 rfl rfl) rfl hl.1 rfl (Nat.le_of_ble_eq_true rfl) d_Law_law_295) (fun r u H locs hp w => ?_)
  obtain ⟨rfl, rfl⟩ := hp
  have w := wo_swap w
  have w : Wo D (fun q => s.heap.size ≤ q) (mws ac o2 ad2 ((f_Model_messages MI ML).2.1) ((f_Model_messages MI ML).2.2) ++ (ouc ac ou f :: cwm ac o ad al CI CL CR M n)) s.heap H locs := w
  refine W.widen (k := cells) (n := slots) (Nat.le_refl _) (Nat.le_refl _) ?_
  refine lv_icmp_eq (tgt := 710) hx hb d_Law_law_298 (by decide) (fun _ => ?_) (fun h => absurd heq h)
  refine W.widen (k := cells + 3) (n := slots + 21) (by omega) (by omega) ?_
  exact kk CI CL CR M n ((f_Model_messages MI ML).2.1) ((f_Model_messages MI ML).2.2) f al H locs ls hR1 w (lv_sub hl [0, 1, 2, 3, 4] rfl)
set_option maxHeartbeats 4000000 in
set_option maxRecDepth 100000 in
theorem gl_stamp {p : Program} {l : Launch} {e : Env} {s : State} {m : MethodId} {below : List Frame} {meth : Method} {c : Code} {Q : State → Prop} {D : va_G} {ac : Nat → ClassId} {b L : Nat} {xs : Nat → Int32} (hfl : l.flags = pinnedFlags ++ [noTraceFlag]) (X : Cx code 8 R_Law D ac p m #[Value.ref b] c s) (hS : SP (fun q => s.heap.size ≤ q) s s.heap) (hX : va_X b L xs s s.heap) (hbl : b < s.heap.size) (hL : L ≤ 3074) {o o2 ou : Nat} {ad ad2 : Nat → Nat} {Rl : CRel} (hpre : ∀ t CI CL CR M n MI ML, Rl t CI CL CR M n MI ML → (MI 38 0 = nI (tn (MI 38 0)) ∧ tn (MI 38 0) < 20 ∧ ¬ MI 37 0 = 0) ∧ MOK MI ML) (sims : ∀ t CI CL CR M n MI ML, Rl t CI CL CR M n MI ML → CL 35 0 = (f_Model_stamp MI ML).1 ∧ Rl (t + 1) CI CL CR M n (f_Model_stamp MI ML).2.1 (f_Model_stamp MI ML).2.2) {CI : Nat → Nat → Int32} {CL : Nat → Nat → Int64} {CR : Nat → Nat → Option Nat} {M : Nat → Msg} {n : Nat} {MI : Nat → Nat → Int32} {ML : Nat → Nat → Int64} {f : Nat → Int64} {al : Nat → Nat} {t j : Nat} (hj : j = 2 + 6 * t) (ht : t < 512) (hjL : j + 6 ≤ L) (hR : Rl t CI CL CR M n MI ML) {H : Heap} {locs : List Loc} {ls : Array Slot} {cells slots : Nat} (w : Wo D (fun q => s.heap.size ≤ q) (mws ac o2 ad2 MI ML ++ (ouc ac ou f :: cwm ac o ad al CI CL CR M n)) s.heap H locs) (hl : lv_has ls 8 [(0, .ref b), (1, .ref o), (2, .ref o2), (3, .ref ou), (4, .int (nI j))]) (hcl : cells + 3 ≤ 601024) (hsl : slots + 21 ≤ 7293000) (kk : ∀ (CI : Nat → Nat → Int32) (CL : Nat → Nat → Int64) (CR : Nat → Nat → Option Nat) (M : Nat → Msg) (n : Nat) (MI : Nat → Nat → Int32) (ML : Nat → Nat → Int64) (f : Nat → Int64) (al : Nat → Nat) (H : Heap) (locs : List Loc) (ls : Array Slot), Rl (t + 1) CI CL CR M n MI ML → Wo D (fun q => s.heap.size ≤ q) (mws ac o2 ad2 MI ML ++ (ouc ac ou f :: cwm ac o ad al CI CL CR M n)) s.heap H locs → lv_has ls 8 [(0, .ref b), (1, .ref o), (2, .ref o2), (3, .ref ou), (4, .int (nI j))] → W p l e room_1 s m #[Value.ref b] below meth c H locs (cells + 3) (slots + 21) Q (F0 m 710 ls [])) : W p l e room_1 s m #[Value.ref b] below meth c H locs cells slots Q (F0 m 696 ls []) := by
  obtain ⟨heq, hR1⟩ := sims t CI CL CR M n MI ML hR
  have hx := X.1
  have hb := X.2.1
  have hbA : ¬ s.heap.size ≤ b := Nat.not_le.mpr hbl
  obtain ⟨⟨hm, hm20, hpace⟩, hmok⟩ := hpre t CI CL CR M n MI ML hR
  refine lv_aload_n hx hb d_Law_law_696 rfl (lv_at hl 1 rfl) ?_
  refine kcalll (ws0 := mws ac o2 ad2 MI ML ++ [ouc ac ou f]) (wc := cwm ac o ad al CI CL CR M n) (by rw [List.append_assoc]; exact w) (krunV (ws0 := mws ac o2 ad2 MI ML ++ [ouc ac ou f]) (wc := cwm ac o ad al CI CL CR M n) (n := 0) (As := []) (rest := []) (C := R_LC) X (by rw [List.append_assoc]; exact w) (c_LC_stamp l D ac o ad al CI CL CR M n _) wk_LC_stamp wi_LC wm_Law_94 wx_LC_stamp ws_LC_LC_stamp (by decide +kernel) rfl rfl ⟨(Nat.le_of_ble_eq_true rfl), (Nat.le_of_ble_eq_true rfl)⟩ ⟨by show _ ≤ 601024; omega, by show _ ≤ 7293000; omega⟩ (krecv (ws0 := mws ac o2 ad2 MI ML ++ [ouc ac ou f]) (wc := cwm ac o ad al CI CL CR M n) X (by rw [List.append_assoc]; exact w) 0 rfl rfl) rfl hl.1 rfl (Nat.le_of_ble_eq_true rfl) d_Law_law_697) (fun r u H locs hp w => ?_)
  obtain ⟨rfl, rfl⟩ := hp
  have w : Wo D (fun q => s.heap.size ≤ q) (mws ac o2 ad2 MI ML ++ (ouc ac ou f :: cwm ac o ad al CI CL CR M n)) s.heap H locs := by rw [List.append_assoc] at w; exact w
  refine W.widen (k := cells) (n := slots) (Nat.le_refl _) (Nat.le_refl _) ?_
  refine lv_aload_n hx hb d_Law_law_700 rfl (lv_at hl 2 rfl) ?_
  have w := wo_swap w
  refine kcalll (ws0 := ouc ac ou f :: cwm ac o ad al CI CL CR M n) w (krunV (ws0 := ouc ac ou f :: cwm ac o ad al CI CL CR M n) (wc := mws ac o2 ad2 MI ML) (n := 0) (As := []) (rest := [.long (f_LC_stamp CL)]) (C := R_Model) X w (c_Model_stamp l D ac o2 ad2 MI ML _  ) wk_Model_stamp wi_Model wm_Law_98 wx_Model_stamp ws_Model_Model_stamp (by decide +kernel) rfl rfl ⟨(Nat.le_of_ble_eq_true rfl), (Nat.le_of_ble_eq_true rfl)⟩ ⟨by show _ ≤ 601024; omega, by show _ ≤ 7293000; omega⟩ (krecv (ws0 := ouc ac ou f :: cwm ac o ad al CI CL CR M n) (wc := mws ac o2 ad2 MI ML) X w 0 rfl rfl) rfl hl.1 rfl (Nat.le_of_ble_eq_true rfl) d_Law_law_701) (fun r u H locs hp w => ?_)
  obtain ⟨rfl, rfl⟩ := hp
  have w := wo_swap w
  have w : Wo D (fun q => s.heap.size ≤ q) (mws ac o2 ad2 ((f_Model_stamp MI ML).2.1) ((f_Model_stamp MI ML).2.2) ++ (ouc ac ou f :: cwm ac o ad al CI CL CR M n)) s.heap H locs := w
  refine W.widen (k := cells) (n := slots) (Nat.le_refl _) (Nat.le_refl _) ?_
  refine klc_eq (tgt := 710) hx hb d_Law_law_704 d_Law_law_705 (by decide) (fun _ => ?_) (fun h => absurd heq h)
  refine W.widen (k := cells + 3) (n := slots + 21) (by omega) (by omega) ?_
  exact kk CI CL CR M n ((f_Model_stamp MI ML).2.1) ((f_Model_stamp MI ML).2.2) f al H locs ls hR1 w (lv_sub hl [0, 1, 2, 3, 4] rfl)
