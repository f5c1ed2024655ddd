-- ===== arithmetic on places, compares of longs =====
section KA
variable {p : Program} {l : Launch} {e : Env} {R : Room} {s : State} {m : MethodId} {args : Array Value} {below : List Frame} {meth : Method} {c : Code} {H : Heap} {locs : List Loc} {cells slots : Nat} {Q : State → Prop}
variable {cc : ByteArray} {pc : Nat} {ls : Array Slot} {rest : List Value}
theorem kiadd (hx : p.tables.exec = Jvm.exec) (hb : c.code = cc) {x y : Int32} {a b r : Nat} (h1 : x = nI a) (h2 : y = nI b) (hr : a + b = r) (hdg : decode cc pc = .ok (.iadd, 1)) (k : W p l e R s m args below meth c H locs cells slots Q (F0 m (pc + 1) ls (.int (nI r) :: rest))) : W p l e R s m args below meth c H locs cells slots Q (F0 m pc ls (.int y :: .int x :: rest)) := by
  subst h1; subst h2; subst hr
  refine lv_iadd hx hb hdg ?_
  rw [nI_add]
  exact k
theorem kimul (hx : p.tables.exec = Jvm.exec) (hb : c.code = cc) {x y : Int32} {a b r : Nat} (h1 : x = nI a) (h2 : y = nI b) (hr : a * b = r) (hdg : decode cc pc = .ok (.imul, 1)) (k : W p l e R s m args below meth c H locs cells slots Q (F0 m (pc + 1) ls (.int (nI r) :: rest))) : W p l e R s m args below meth c H locs cells slots Q (F0 m pc ls (.int y :: .int x :: rest)) := by
  subst h1; subst h2; subst hr
  refine lv_imul hx hb hdg ?_
  rw [pk_mul]
  exact k
theorem kisub (hx : p.tables.exec = Jvm.exec) (hb : c.code = cc) {x y : Int32} {a b r : Nat} (h1 : x = nI a) (h2 : y = nI b) (hle : b ≤ a) (hr : a - b = r) (hdg : decode cc pc = .ok (.isub, 1)) (k : W p l e R s m args below meth c H locs cells slots Q (F0 m (pc + 1) ls (.int (nI r) :: rest))) : W p l e R s m args below meth c H locs cells slots Q (F0 m pc ls (.int y :: .int x :: rest)) := by
  subst h1; subst h2; subst hr
  refine lv_isub hx hb hdg ?_
  rw [pk_sub hle]
  exact k
theorem kirem (hx : p.tables.exec = Jvm.exec) (hb : c.code = cc) {x y : Int32} {a b r : Nat} (h1 : x = nI a) (h2 : y = nI b) (ha : a < 2 ^ 31) (hb0 : 0 < b) (hb1 : b < 2 ^ 31) (hr : a % b = r) (hdg : decode cc pc = .ok (.irem, 1)) (k : W p l e R s m args below meth c H locs cells slots Q (F0 m (pc + 1) ls (.int (nI r) :: rest))) : W p l e R s m args below meth c H locs cells slots Q (F0 m pc ls (.int y :: .int x :: rest)) := by
  subst h1; subst h2; subst hr
  refine lv_irem hx hb hdg (nI_ne0 hb0 hb1) ?_
  rw [pk_rem ha hb0 hb1]
  exact k
theorem kidiv (hx : p.tables.exec = Jvm.exec) (hb : c.code = cc) {x y : Int32} {a b r : Nat} (h1 : x = nI a) (h2 : y = nI b) (ha : a < 2 ^ 31) (hb0 : 0 < b) (hb1 : b < 2 ^ 31) (hr : a / b = r) (hdg : decode cc pc = .ok (.idiv, 1)) (k : W p l e R s m args below meth c H locs cells slots Q (F0 m (pc + 1) ls (.int (nI r) :: rest))) : W p l e R s m args below meth c H locs cells slots Q (F0 m pc ls (.int y :: .int x :: rest)) := by
  subst h1; subst h2; subst hr
  refine lv_idiv hx hb hdg (nI_ne0 hb0 hb1) ?_
  rw [pk_div ha hb0 hb1]
  exact k
-- lcmp and the branch behind it
theorem klc_le (hx : p.tables.exec = Jvm.exec) (hb : c.code = cc) {x y : Int64} {off : Int} {tgt : Nat} (hd1 : decode cc pc = .ok (.lcmp, 1)) (hd2 : decode cc (pc + 1) = .ok (.ifCond .le off, 3)) (ht : ((pc + 1 : Nat) : Int) + off = (tgt : Int)) (kt : x ≤ y → W p l e R s m args below meth c H locs cells slots Q (F0 m tgt ls rest)) (kf : ¬ x ≤ y → W p l e R s m args below meth c H locs cells slots Q (F0 m (pc + 4) ls rest)) : W p l e R s m args below meth c H locs cells slots Q (F0 m pc ls (.long y :: .long x :: rest)) :=
  W.lcmp hx hb hd1 (lv_if_le hx hb hd2 ht (fun h => kt ((lg_cmp_le x y).mp h)) (fun h => kf (fun z => h ((lg_cmp_le x y).mpr z))))
theorem klc_lt (hx : p.tables.exec = Jvm.exec) (hb : c.code = cc) {x y : Int64} {off : Int} {tgt : Nat} (hd1 : decode cc pc = .ok (.lcmp, 1)) (hd2 : decode cc (pc + 1) = .ok (.ifCond .lt off, 3)) (ht : ((pc + 1 : Nat) : Int) + off = (tgt : Int)) (kt : x < y → W p l e R s m args below meth c H locs cells slots Q (F0 m tgt ls rest)) (kf : ¬ x < y → W p l e R s m args below meth c H locs cells slots Q (F0 m (pc + 4) ls rest)) : W p l e R s m args below meth c H locs cells slots Q (F0 m pc ls (.long y :: .long x :: rest)) :=
  W.lcmp hx hb hd1 (lv_if_lt hx hb hd2 ht (fun h => kt ((lg_cmp_lt x y).mp h)) (fun h => kf (fun z => h ((lg_cmp_lt x y).mpr z))))
theorem klc_ge (hx : p.tables.exec = Jvm.exec) (hb : c.code = cc) {x y : Int64} {off : Int} {tgt : Nat} (hd1 : decode cc pc = .ok (.lcmp, 1)) (hd2 : decode cc (pc + 1) = .ok (.ifCond .ge off, 3)) (ht : ((pc + 1 : Nat) : Int) + off = (tgt : Int)) (kt : y ≤ x → W p l e R s m args below meth c H locs cells slots Q (F0 m tgt ls rest)) (kf : ¬ y ≤ x → W p l e R s m args below meth c H locs cells slots Q (F0 m (pc + 4) ls rest)) : W p l e R s m args below meth c H locs cells slots Q (F0 m pc ls (.long y :: .long x :: rest)) :=
  W.lcmp hx hb hd1 (lv_if_ge hx hb hd2 ht (fun h => kt ((lg_cmp_ge x y).mp h)) (fun h => kf (fun z => h ((lg_cmp_ge x y).mpr z))))
theorem klc_gt (hx : p.tables.exec = Jvm.exec) (hb : c.code = cc) {x y : Int64} {off : Int} {tgt : Nat} (hd1 : decode cc pc = .ok (.lcmp, 1)) (hd2 : decode cc (pc + 1) = .ok (.ifCond .gt off, 3)) (ht : ((pc + 1 : Nat) : Int) + off = (tgt : Int)) (kt : y < x → W p l e R s m args below meth c H locs cells slots Q (F0 m tgt ls rest)) (kf : ¬ y < x → W p l e R s m args below meth c H locs cells slots Q (F0 m (pc + 4) ls rest)) : W p l e R s m args below meth c H locs cells slots Q (F0 m pc ls (.long y :: .long x :: rest)) :=
  W.lcmp hx hb hd1 (lv_if_gt hx hb hd2 ht (fun h => kt ((lg_cmp_gt x y).mp h)) (fun h => kf (fun z => h ((lg_cmp_gt x y).mpr z))))
theorem klc_eq (hx : p.tables.exec = Jvm.exec) (hb : c.code = cc) {x y : Int64} {off : Int} {tgt : Nat} (hd1 : decode cc pc = .ok (.lcmp, 1)) (hd2 : decode cc (pc + 1) = .ok (.ifCond .eq off, 3)) (ht : ((pc + 1 : Nat) : Int) + off = (tgt : Int)) (kt : x = y → W p l e R s m args below meth c H locs cells slots Q (F0 m tgt ls rest)) (kf : ¬ x = y → W p l e R s m args below meth c H locs cells slots Q (F0 m (pc + 4) ls rest)) : W p l e R s m args below meth c H locs cells slots Q (F0 m pc ls (.long y :: .long x :: rest)) :=
  W.lcmp hx hb hd1 (lv_if_eq hx hb hd2 ht (fun h => kt ((lg_cmp_eq x y).mp h)) (fun h => kf (fun z => h ((lg_cmp_eq x y).mpr z))))
theorem klc_ne (hx : p.tables.exec = Jvm.exec) (hb : c.code = cc) {x y : Int64} {off : Int} {tgt : Nat} (hd1 : decode cc pc = .ok (.lcmp, 1)) (hd2 : decode cc (pc + 1) = .ok (.ifCond .ne off, 3)) (ht : ((pc + 1 : Nat) : Int) + off = (tgt : Int)) (kt : ¬ x = y → W p l e R s m args below meth c H locs cells slots Q (F0 m tgt ls rest)) (kf : x = y → W p l e R s m args below meth c H locs cells slots Q (F0 m (pc + 4) ls rest)) : W p l e R s m args below meth c H locs cells slots Q (F0 m pc ls (.long y :: .long x :: rest)) :=
  W.lcmp hx hb hd1 (lv_if_ne hx hb hd2 ht (fun h => kt (fun z => h ((lg_cmp_eq x y).mpr z))) (fun h => kf ((lg_cmp_eq x y).mp h)))
theorem z01 : ∀ b : Bool, (if b then (1 : Int32) else 0) = 0 ∨ (if b then (1 : Int32) else 0) = 1 := by decide
end KA
