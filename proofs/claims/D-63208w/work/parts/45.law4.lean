def R_law : String := "LeaseCoresLaw"
def lw_P (b : Addr) (xs : List Int32) (args : Array Value) (s : State) : Prop := args = #[.ref b] ∧ s.IntsAt b xs ∧ xs.length ≤ 3074 ∧ (Jvm.Cond.and given_1 narrow_1).before args s = true
def lw_Q (_ : Array Value) (s : State) (o : Outcome) (t : State) : Prop := o = .returned (some (.int 1)) ∧ Framed s o t [] 601024 7293000
def lw_Z (below : List Frame) (a : Array Value) (s : State) : State → Prop := fun t => ∃ o, t.status = .running ∧ Ended t below o ∧ lw_Q a s o t
/-- the law's own end, with 1 on the stack, nothing written that was there before, its room as the claim has it -/
theorem lw_ret {p : Program} {l : Launch} {e : Env} {s : State} {m : MethodId} {below : List Frame} {meth : Method} {c : Code} {b : Nat} (hx : p.tables.exec = Jvm.exec) (hb : c.code = code) (hr : meth.sig.returnType = ret) (hlocks : meth.locks = false) {pc : Nat} {H : Heap} {ls : Array Slot} (hdg : decode code pc = .ok (.ireturn, 1)) : W p l e room_1 s m #[Value.ref b] below meth c H [] 601024 7293000 (lw_Z below #[Value.ref b] s) (F0 m pc ls [.int 1]) := by
  intro T hT X
  obtain ⟨fs, hret, hrun, hended, hW, hframe⟩ := X.leave (v := some (.int 1)) (hlocks := hlocks) (fun h => by rw [hr] at h; cases h)
  have hmeth' : T.vm.method? m = some meth := X.method'
  refine ⟨T.setFrames fs, ?_, .returned (some (.int 1)), hrun, hended, rfl, ⟨_, rfl⟩, hW, hframe⟩
  jvm_step X.here [X.here.top, hx, hb, hdg, hmeth', hr, ret, narrow_b1]
  (try refine ⟨rfl, ?_⟩); (try refine ⟨rfl, ?_⟩)
  first | (intro acts; rw [hret _ acts rfl rfl rfl]) | rw [hret _ _ rfl rfl rfl]
  exact Steps.refl _
/-- what holds at the law's entry: the machine, the code, the tables' words (any of lw_tbl by 'hts w (by decide +kernel)'), the script of L ints xs at the cell b, what the Statement gives of the start (any of its parts by flat_of_before) -/
def lw_At (p : Program) (s : State) (m : MethodId) (meth : Method) (c : Code) (b L : Nat) (xs : Nat → Int32) : Prop :=
  p.tables.exec = Jvm.exec ∧ c.code = code ∧ meth.sig.returnType = ret ∧ c.maxLocals = 8 ∧ s.vm.findClass R_law = some m.cls ∧ (∀ w ∈ lw_tbl, w.before #[Value.ref b] s = true) ∧ va_X b L xs s s.heap ∧ b < s.heap.size ∧ meth.locks = false ∧ (Jvm.Cond.and given_1 narrow_1).before #[Value.ref b] s = true
theorem tsw {x : Int32} (h0 : ¬ x = 0) (h1 : ¬ x = 1) (h2 : ¬ x = 2) (h3 : ¬ x = 3) (h4 : ¬ x = 4) (h5 : ¬ x = 5) (h6 : ¬ x = 6) (h7 : ¬ x = 7) (h8 : ¬ x = 8) (h9 : ¬ x = 9) : x.toInt < 0 ∨ 9 < x.toInt := by
  have k : ∀ y : Int32, x.toInt = y.toInt → x = y := fun y h => Int32.toInt_inj.mp h
  have e0 : ¬ x.toInt = 0 := fun h => h0 (k 0 (h.trans (show (0 : Int) = (0 : Int32).toInt from rfl)))
  have e1 : ¬ x.toInt = 1 := fun h => h1 (k 1 (h.trans (show (1 : Int) = (1 : Int32).toInt from rfl)))
  have e2 : ¬ x.toInt = 2 := fun h => h2 (k 2 (h.trans (show (2 : Int) = (2 : Int32).toInt from rfl)))
  have e3 : ¬ x.toInt = 3 := fun h => h3 (k 3 (h.trans (show (3 : Int) = (3 : Int32).toInt from rfl)))
  have e4 : ¬ x.toInt = 4 := fun h => h4 (k 4 (h.trans (show (4 : Int) = (4 : Int32).toInt from rfl)))
  have e5 : ¬ x.toInt = 5 := fun h => h5 (k 5 (h.trans (show (5 : Int) = (5 : Int32).toInt from rfl)))
  have e6 : ¬ x.toInt = 6 := fun h => h6 (k 6 (h.trans (show (6 : Int) = (6 : Int32).toInt from rfl)))
  have e7 : ¬ x.toInt = 7 := fun h => h7 (k 7 (h.trans (show (7 : Int) = (7 : Int32).toInt from rfl)))
  have e8 : ¬ x.toInt = 8 := fun h => h8 (k 8 (h.trans (show (8 : Int) = (8 : Int32).toInt from rfl)))
  have e9 : ¬ x.toInt = 9 := fun h => h9 (k 9 (h.trans (show (9 : Int) = (9 : Int32).toInt from rfl)))
  omega
set_option maxHeartbeats 4000000 in
set_option maxRecDepth 100000 in
theorem law_loop {p : Program} {l : Launch} {e : Env} {s : State} {m : MethodId} {below : List Frame} {meth : Method} {c : Code} {D : va_G} {ac : Nat → ClassId} {b L : Nat} {xs : Nat → Int32} (hfl : l.flags = pinnedFlags ++ [noTraceFlag]) (X : Cx code 8 R_Law D ac p m #[Value.ref b] c s) (hS : SP (fun q => s.heap.size ≤ q) s s.heap) (hX : va_X b L xs s s.heap) (hbl : b < s.heap.size) (hL : L ≤ 3074) {o o2 ou : Nat} {ad ad2 : Nat → Nat} {Rl : CRel} (hr : meth.sig.returnType = ret) (hlocks : meth.locks = false) (hpre : ∀ t CI CL CR M n MI ML, Rl t CI CL CR M n MI ML → (MI 38 0 = nI (tn (MI 38 0)) ∧ tn (MI 38 0) < 20 ∧ ¬ MI 37 0 = 0) ∧ MOK MI ML) (s_operate : ∀ p0 p1 p2 p3 p4 : Int32, Sim Rl y_Law_operate b_Law_operate 8 [(0, 23, 26, 13), (0, 23, 30, 15)] [.int p0, .int p1, .int p2, .int p3, .int p4] (fun MI ML => f_Model_operate MI ML p0 p1 p2 p3 p4) (fun b : Int32 => if b = 0 then (0 : Int64) else 1)) (s_deliver : ∀ p0 : Int32, Sim Rl y_Law_deliver b_Law_deliver 4 [(0, 16, 19, 21)] [.int p0] (fun MI ML => f_Model_deliver MI ML p0) (fun b : Int32 => if b = 0 then (0 : Int64) else 1)) (s_message : ∀ p0 p1 : Int32, Sim Rl y_Law_message b_Law_message 5 [(0, 10, 13, 21), (0, 10, 17, 13)] [.int p0, .int p1] (fun MI ML => f_Model_message MI ML p0 p1) (fun b : Int32 => b.toInt64)) (s_core : ∀ p0 p1 : Int32, Sim Rl y_Law_core b_Law_core 5 [(0, 10, 13, 13)] [.int p0, .int p1] (fun MI ML => f_Model_core MI ML p0 p1) (fun b : Int32 => b.toInt64)) (s_time : ∀ p0 : Int32, Sim Rl y_Law_time b_Law_time 4 [(0, 8, 11, 13)] [.int p0] (fun MI ML => f_Model_time MI ML p0) (fun b : Int64 => b)) (s_cached : ∀ p0 p1 p2 : Int32, Sim Rl y_Law_cached b_Law_cached 6 [(0, 11, 14, 13), (0, 11, 18, 21)] [.int p0, .int p1, .int p2] (fun MI ML => f_Model_cached MI ML p0 p1 p2) (fun b : Int64 => b)) (s_entry : ∀ p0 p1 : Int32, Sim Rl y_Law_entry b_Law_entry 5 [(0, 9, 12, 13), (0, 9, 16, 21)] [.int p0, .int p1] (fun MI ML => f_Model_entry MI ML p0 p1) (fun b : Int64 => b)) (s_memory : ∀ p0 : Int32, Sim Rl y_Law_memory b_Law_memory 4 [(0, 9, 12, 13)] [.int p0] (fun MI ML => f_Model_memory MI ML p0) (fun b : Int32 => b.toInt64)) (s_messages : ∀ t CI CL CR M n MI ML, Rl t CI CL CR M n MI ML → CI 38 0 = (f_Model_messages MI ML).1 ∧ Rl (t + 1) CI CL CR M n (f_Model_messages MI ML).2.1 (f_Model_messages MI ML).2.2) (s_stamp : ∀ t CI CL CR M n MI ML, Rl t CI CL CR M n MI ML → CL 35 0 = (f_Model_stamp MI ML).1 ∧ Rl (t + 1) CI CL CR M n (f_Model_stamp MI ML).2.1 (f_Model_stamp MI ML).2.2) (s_none : ∀ t CI CL CR M n MI ML, Rl t CI CL CR M n MI ML → Rl (t + 1) CI CL CR M n MI ML) (d : Nat) : ∀ (t j : Nat) (hj : j = 2 + 6 * t) (hd : 512 ≤ t + d) (CI : Nat → Nat → Int32) (CL : Nat → Nat → Int64) (CR : Nat → Nat → Option Nat) (M : Nat → Msg) (n : Nat) (MI : Nat → Nat → Int32) (ML : Nat → Nat → Int64) (f : Nat → Int64) (al : Nat → Nat) (H : Heap) (locs : List Loc) (ls : Array Slot) (cells slots : Nat), Rl t CI CL CR M n MI ML → Wo D (fun q => s.heap.size ≤ q) (mws ac o2 ad2 MI ML ++ (ouc ac ou f :: cwm ac o ad al CI CL CR M n)) s.heap H locs → lv_has ls 8 [(0, .ref b), (1, .ref o), (2, .ref o2), (3, .ref ou), (4, .int (nI j))] → t ≤ 512 → cells + 3 * (512 - t) ≤ 601024 → slots + 21 * (512 - t) ≤ 7293000 →
    W p l e room_1 s m #[Value.ref b] below meth c H locs cells slots (lw_Z below #[Value.ref b] s) (F0 m 43 ls []) := by
  have hx := X.1
  have hb := X.2.1
  have hbA : ¬ s.heap.size ≤ b := Nat.not_le.mpr hbl
  have exit : ∀ (j : Nat) (H : Heap) (locs : List Loc) (ls : Array Slot) (cells slots : Nat), (∀ q ∈ locs, s.heap.size ≤ q.base) → cells ≤ 601024 → slots ≤ 7293000 → W p l e room_1 s m #[Value.ref b] below meth c H locs cells slots (lw_Z below #[Value.ref b] s) (F0 m 716 ls []) := by
    intro j H locs ls cells slots hq h1 h2
    refine lv_iconst (v := 1) hx hb d_Law_law_716 (by decide) ?_
    refine W.widen (k := 601024) (n := 7293000) h1 h2 ?_
    exact W.forget (locs := []) (L := locs) hq (lw_ret hx hb hr hlocks d_Law_law_717)
  induction d with
  | zero =>
    intro t j hj hd CI CL CR M n MI ML f al H locs ls cells slots hR w hl ht hc1 hs1
    refine lv_iload hx hb d_Law_law_43 (lv_at hl 4 rfl) ?_
    refine lv_aload_n hx hb d_Law_law_45 rfl (lv_at hl 0 rfl) ?_
    refine va_slen hx hb hX hbl hbA w.2.2.1 d_Law_law_46 ?_
    refine lv_bipush (v := 6) hx hb d_Law_law_47 (by decide) ?_
    refine lv_isub hx hb d_Law_law_49 ?_
    refine lv_icmp_gt (tgt := 716) hx hb d_Law_law_50 (by decide) (fun h => ?_) (fun h => absurd ((lawtest hL (by omega)).mpr (by omega)) h)
    exact exit j H locs ls cells slots (fun q hq => w.2.2.1.2.2 q hq) (by omega) (by omega)
  | succ d ih =>
    intro t j hj hd CI CL CR M n MI ML f al H locs ls cells slots hR w hl ht hc1 hs1
    refine lv_iload hx hb d_Law_law_43 (lv_at hl 4 rfl) ?_
    refine lv_aload_n hx hb d_Law_law_45 rfl (lv_at hl 0 rfl) ?_
    refine va_slen hx hb hX hbl hbA w.2.2.1 d_Law_law_46 ?_
    refine lv_bipush (v := 6) hx hb d_Law_law_47 (by decide) ?_
    refine lv_isub hx hb d_Law_law_49 ?_
    refine lv_icmp_gt (tgt := 716) hx hb d_Law_law_50 (by decide) (fun h => ?_) (fun h => ?_)
    · exact exit j H locs ls cells slots (fun q hq => w.2.2.1.2.2 q hq) (by omega) (by omega)
    have hjL : j + 6 ≤ L := Nat.le_of_not_lt fun h2 => h ((lawtest hL (by omega)).mpr h2)
    have ht' : t < 512 := by omega
    have kk : ∀ (CI : Nat → Nat → Int32) (CL : Nat → Nat → Int64) (CR : Nat → Nat → Option Nat) (M : Nat → Msg) (n : Nat) (MI : Nat → Nat → Int32) (ML : Nat → Nat → Int64) (f : Nat → Int64) (al : Nat → Nat) (H : Heap) (locs : List Loc) (ls : Array Slot), Rl (t + 1) CI CL CR M n MI ML → Wo D (fun q => s.heap.size ≤ q) (mws ac o2 ad2 MI ML ++ (ouc ac ou f :: cwm ac o ad al CI CL CR M n)) s.heap H locs → lv_has ls 8 [(0, .ref b), (1, .ref o), (2, .ref o2), (3, .ref ou), (4, .int (nI j))] → W p l e room_1 s m #[Value.ref b] below meth c H locs (cells + 3) (slots + 21) (lw_Z below #[Value.ref b] s) (F0 m 710 ls []) := by
      intro CI CL CR M n MI ML f al H locs ls hR w hl
      refine lv_iinc (v := nI (j + 6)) (lv' := [(4, .int (nI (j + 6))), (0, .ref b), (1, .ref o), (2, .ref o2), (3, .ref ou)]) hx hb d_Law_law_710 hl (k := 4) rfl (nI_add j 6) (by decide) rfl (fun ls hl => ?_)
      refine lv_goto (tgt := 43) hx hb d_Law_law_713 (by decide) ?_
      exact ih (t + 1) (j + 6) (by omega) (by omega) CI CL CR M n MI ML f al H locs ls _ _ hR w (lv_sub hl [1, 2, 3, 4, 0] rfl) (by omega) (by omega) (by omega)
    refine lv_aload_n hx hb d_Law_law_53 rfl (lv_at hl 0 rfl) ?_
    refine lv_iload hx hb d_Law_law_54 (lv_at hl 4 rfl) ?_
    refine ksld X hX hbl w hbA j (v := xs j) (by omega) (by omega) rfl rfl d_Law_law_56 ?_
    refine lv_bipush (v := 15) hx hb d_Law_law_57 (by decide) ?_
    refine lv_iand hx hb d_Law_law_59 ?_
    generalize hsel : xs j &&& 15 = x
    by_cases c0 : x = 0
    · refine lv_tableIn (off := 56) (tgt := 116) hx hb d_Law_law_60 (by rw [c0]; decide) (by rw [c0]; decide) (by rw [c0]; decide) (by decide) ?_
      exact gl_operate hfl X hS hX hbl hL hpre s_operate hj ht' hjL hR w hl (by omega) (by omega) kk
    by_cases c1 : x = 1
    · refine lv_tableIn (off := 167) (tgt := 227) hx hb d_Law_law_60 (by rw [c1]; decide) (by rw [c1]; decide) (by rw [c1]; decide) (by decide) ?_
      exact gl_deliver hfl X hS hX hbl hL hpre s_deliver hj ht' hjL hR w hl (by omega) (by omega) kk
    by_cases c2 : x = 2
    · refine lv_tableIn (off := 230) (tgt := 290) hx hb d_Law_law_60 (by rw [c2]; decide) (by rw [c2]; decide) (by rw [c2]; decide) (by decide) ?_
      exact gl_messages hfl X hS hX hbl hL hpre s_messages hj ht' hjL hR w hl (by omega) (by omega) kk
    by_cases c3 : x = 3
    · refine lv_tableIn (off := 243) (tgt := 303) hx hb d_Law_law_60 (by rw [c3]; decide) (by rw [c3]; decide) (by rw [c3]; decide) (by decide) ?_
      exact gl_message hfl X hS hX hbl hL hpre s_message hj ht' hjL hR w hl (by omega) (by omega) kk
    by_cases c4 : x = 4
    · refine lv_tableIn (off := 311) (tgt := 371) hx hb d_Law_law_60 (by rw [c4]; decide) (by rw [c4]; decide) (by rw [c4]; decide) (by decide) ?_
      exact gl_core hfl X hS hX hbl hL hpre s_core hj ht' hjL hR w hl (by omega) (by omega) kk
    by_cases c5 : x = 5
    · refine lv_tableIn (off := 379) (tgt := 439) hx hb d_Law_law_60 (by rw [c5]; decide) (by rw [c5]; decide) (by rw [c5]; decide) (by decide) ?_
      exact gl_time hfl X hS hX hbl hL hpre s_time hj ht' hjL hR w hl (by omega) (by omega) kk
    by_cases c6 : x = 6
    · refine lv_tableIn (off := 434) (tgt := 494) hx hb d_Law_law_60 (by rw [c6]; decide) (by rw [c6]; decide) (by rw [c6]; decide) (by decide) ?_
      exact gl_cached hfl X hS hX hbl hL hpre s_cached hj ht' hjL hR w hl (by omega) (by omega) kk
    by_cases c7 : x = 7
    · refine lv_tableIn (off := 513) (tgt := 573) hx hb d_Law_law_60 (by rw [c7]; decide) (by rw [c7]; decide) (by rw [c7]; decide) (by decide) ?_
      exact gl_entry hfl X hS hX hbl hL hpre s_entry hj ht' hjL hR w hl (by omega) (by omega) kk
    by_cases c8 : x = 8
    · refine lv_tableIn (off := 580) (tgt := 640) hx hb d_Law_law_60 (by rw [c8]; decide) (by rw [c8]; decide) (by rw [c8]; decide) (by decide) ?_
      exact gl_memory hfl X hS hX hbl hL hpre s_memory hj ht' hjL hR w hl (by omega) (by omega) kk
    by_cases c9 : x = 9
    · refine lv_tableIn (off := 636) (tgt := 696) hx hb d_Law_law_60 (by rw [c9]; decide) (by rw [c9]; decide) (by rw [c9]; decide) (by decide) ?_
      exact gl_stamp hfl X hS hX hbl hL hpre s_stamp hj ht' hjL hR w hl (by omega) (by omega) kk
    refine lv_tableOut (tgt := 710) hx hb d_Law_law_60 (tsw c0 c1 c2 c3 c4 c5 c6 c7 c8 c9) (by decide) ?_
    refine W.widen (k := cells + 3) (n := slots + 21) (by omega) (by omega) ?_
    exact kk CI CL CR M n MI ML f al H locs ls (s_none t CI CL CR M n MI ML hR) w hl
