def pref (qs : List Nat) (k : Nat) : Value := match qs[k]? with
  | none => .null
  | some q => .ref q
def pfs (qs : List Nat) : List Value := [.int 0, .int 0, .int 0, pref qs 0, pref qs 1, pref qs 2, pref qs 3, pref qs 4, pref qs 5, pref qs 6, pref qs 7, pref qs 8, pref qs 9, pref qs 10, pref qs 11, pref qs 12, pref qs 13, pref qs 14, pref qs 15, pref qs 16, pref qs 17, pref qs 18, pref qs 19, pref qs 20, pref qs 21, pref qs 22, pref qs 23, pref qs 24, pref qs 25, pref qs 26, pref qs 27, .long 0, .int 0, pref qs 28, pref qs 29, pref qs 30, pref qs 31, pref qs 32, pref qs 33, pref qs 34]
def pE (ac : Nat → ClassId) (k : Nat) : va_E := match k with
  | 0 => .inl (ac 1, 3, .inr (.inl (fun _ => 0)))
  | 1 => .inl (ac 2, 3, .inl (fun _ => 0))
  | 2 => .inl (ac 0, 3, .inl (fun _ => 0))
  | 3 => .inl (ac 0, 3, .inl (fun _ => 0))
  | 4 => .inl (ac 0, 3, .inl (fun _ => 0))
  | 5 => .inl (ac 0, 3, .inl (fun _ => 0))
  | 6 => .inl (ac 0, 3, .inl (fun _ => 0))
  | 7 => .inl (ac 0, 3, .inl (fun _ => 0))
  | 8 => .inl (ac 0, 3, .inl (fun _ => 0))
  | 9 => .inl (ac 0, 3, .inl (fun _ => 0))
  | 10 => .inl (ac 0, 12, .inl (fun _ => 0))
  | 11 => .inl (ac 2, 12, .inl (fun _ => 0))
  | 12 => .inl (ac 0, 12, .inl (fun _ => 0))
  | 13 => .inl (ac 1, 12, .inr (.inl (fun _ => 0)))
  | 14 => .inl (ac 1, 12, .inr (.inl (fun _ => 0)))
  | 15 => .inl (ac 0, 6, .inl (fun _ => 0))
  | 16 => .inl (ac 0, 6, .inl (fun _ => 0))
  | 17 => .inl (ac 0, 6, .inl (fun _ => 0))
  | 18 => .inl (ac 1, 6, .inr (.inl (fun _ => 0)))
  | 19 => .inl (ac 1, 6, .inr (.inl (fun _ => 0)))
  | 20 => .inl (ac 0, 6, .inl (fun _ => 0))
  | 21 => .inl (ac 2, 6, .inl (fun _ => 0))
  | 22 => .inl (ac 0, 6, .inl (fun _ => 0))
  | 23 => .inl (ac 0, 18, .inl (fun _ => 0))
  | 24 => .inl (ac 0, 18, .inl (fun _ => 0))
  | 25 => .inl (ac 1, 18, .inr (.inl (fun _ => 0)))
  | 26 => .inl (ac 1, 18, .inr (.inl (fun _ => 0)))
  | 27 => .inl (ac 0, 12, .inl (fun _ => 0))
  | 28 => .inl (ac 0, 25, .inl (fun _ => 0))
  | 29 => .inl (ac 0, 25, .inl (fun _ => 0))
  | 30 => .inl (ac 0, 25, .inl (fun _ => 0))
  | 31 => .inl (ac 2, 25, .inl (fun _ => 0))
  | 32 => .inl (ac 0, 25, .inl (fun _ => 0))
  | 33 => .inl (ac 1, 25, .inr (.inl (fun _ => 0)))
  | _ => .inl (ac 1, 25, .inr (.inl (fun _ => 0)))
def pws (ac : Nat → ClassId) (o : Nat) (qs : List Nat) : va_W := (o, .inr (8, pfs qs)) :: (List.range qs.length).map (fun k => (qs.getD k 0, pE ac k))
def mblank : List Value := [.int 0, .int 0, .int 0, .null, .null, .null, .null, .null, .null, .null, .null, .null, .null, .null, .null, .null, .null, .null, .null, .null, .null, .null, .null, .null, .null, .null, .null, .null, .null, .null, .null, .long 0, .int 0, .null, .null, .null, .null, .null, .null, .null]
section MI2
variable {p : Program} {l : Launch} {e : Env} {R : Room} {s : State} {m : MethodId} {args : Array Value} {below : List Frame} {meth : Method} {c : Code} {H : Heap} {locs : List Loc} {cells slots : Nat} {Q : State → Prop} {cc : ByteArray} {nL pc : Nat} {ls : Array Slot} {rest : List Value} {D : va_G} {ac : Nat → ClassId} {A : Nat → Prop} {H0 : Heap} {o : Nat} {ad : Nat → Nat} {MI : Nat → Nat → Int32} {ML : Nat → Nat → Int64}
theorem mpF_117 (X : Cx cc nL R_Model D ac p m args c s) (w : Wo D A (mws ac o ad MI ML) H0 H locs) (hin : meth.name = "<init>") {x : Int32} (hdg : decode cc pc = .ok (.putfield 117, 3)) (kk : ∀ (H1 : Heap) (locs1 : List Loc), Wo D A (mws ac o ad (up2 MI 36 0 x) ML) H0 H1 locs1 → W p l e R s m args below meth c H1 locs1 cells slots Q (F0 m (pc + 3) ls rest)) : W p l e R s m args below meth c H locs cells slots Q (F0 m pc ls (.int x :: .ref o :: rest)) :=
  pf_Model_117 X w hin 0 rfl rfl (Nat.le_of_ble_eq_true rfl) hdg kk
theorem mpF_121 (X : Cx cc nL R_Model D ac p m args c s) (w : Wo D A (mws ac o ad MI ML) H0 H locs) (hin : meth.name = "<init>") {x : Int32} (hdg : decode cc pc = .ok (.putfield 121, 3)) (kk : ∀ (H1 : Heap) (locs1 : List Loc), Wo D A (mws ac o ad (up2 MI 37 0 x) ML) H0 H1 locs1 → W p l e R s m args below meth c H1 locs1 cells slots Q (F0 m (pc + 3) ls rest)) : W p l e R s m args below meth c H locs cells slots Q (F0 m pc ls (.int x :: .ref o :: rest)) :=
  pf_Model_121 X w hin 0 rfl rfl (Nat.le_of_ble_eq_true rfl) hdg kk
end MI2
def f_Model_init_326 (MI : Nat → Nat → Int32) (ML : Nat → Nat → Int64)  : (Nat → Nat → Int32) × (Nat → Nat → Int64) :=
  (up2 (up2 (up2 (up2 (up2 (up2 (up2 (up2 (up2 (up2 (up2 (up2 (up2 (up2 (up2 (up2 (up2 (up2 (up2 (up2 (up2 (up2 (up2 (up2 (up2 (up2 (up2 MI 10 0 (-1)) 10 1 (-1)) 10 2 (-1)) 10 3 (-1)) 10 4 (-1)) 10 5 (-1)) 10 6 (-1)) 10 7 (-1)) 10 8 (-1)) 10 9 (-1)) 10 10 (-1)) 10 11 (-1)) 16 0 (-1)) 20 0 (-1)) 16 1 (-1)) 20 1 (-1)) 16 2 (-1)) 20 2 (-1)) 16 3 (-1)) 20 3 (-1)) 16 4 (-1)) 20 4 (-1)) 16 5 (-1)) 20 5 (-1)) 9 0 (-1)) 9 1 (-1)) 9 2 (-1), ML)
set_option maxHeartbeats 4000000 in
set_option maxRecDepth 100000 in
theorem g_Model_init_326 {p : Program} {l : Launch} {ev : Env} {s : State} {m : MethodId} {args : Array Value} {below : List Frame} {meth : Method} {c0 : Code} {D : va_G} {ac : Nat → ClassId} {o : Nat} {ad : Nat → Nat} {ws0 : va_W} {sz : Nat} {post : va_W → Prop} (X : Cx b_Model_init 4 R_Model D ac p m args c0 s) (hr : meth.sig.returnType = none) (hk : meth.locks = false) (hin : meth.name = "<init>") (MI : Nat → Nat → Int32) (ML : Nat → Nat → Int64)  {H : Heap} {locs : List Loc} {ls : Array Slot} (w : Wo D (va_A ws0 sz) (mws ac o ad MI ML) s.heap H locs) (hl : lv_has ls 4 [(0, .ref o)]) (hp : post (mws ac o ad (f_Model_init_326 MI ML).1 (f_Model_init_326 MI ML).2)) : W p l ev ({ frames := 1, cells := 35, slots := 397, locals := 12 } : Room) s m args below meth c0 H locs 35 397 (MQ below (va_Qv post (CPost D ws0 sz) (va_A ws0 sz)) args s 35 397 (va_A ws0 sz)) (F0 m 326 ls []) := by
  have hx := X.1
  have hb := X.2.1
  refine lv_iconst (v := 0) hx hb d_Model_init_326 (by decide) ?_
  refine lv_istore_n (lv' := [(3, .int 0), (0, .ref o)]) hx hb d_Model_init_327 rfl hl (by decide) rfl (fun ls hl => ?_)
  refine lv_iload_n hx hb d_Model_init_328 rfl (lv_at hl 0 rfl) ?_
  refine lv_bipush (v := 12) hx hb d_Model_init_329 (by decide) ?_
  refine lv_icmp_ge (tgt := 347) hx hb d_Model_init_331 (by decide) (fun h => absurd h (by decide)) (fun _ => ?_)
  refine lv_aload_n hx hb d_Model_init_334 rfl (lv_at hl 1 rfl) ?_
  refine mg_42 X w d_Model_init_335 ?_
  refine lv_iload_n hx hb d_Model_init_338 rfl (lv_at hl 0 rfl) ?_
  refine lv_iconst (v := (-1)) hx hb d_Model_init_339 (by decide) ?_
  refine ast_10 X w 0 (by omega) rfl d_Model_init_340 (fun H locs w => ?_)
  refine lv_iinc (v := 1) (lv' := [(3, .int 1), (0, .ref o)]) hx hb d_Model_init_341 hl (k := 0) rfl (by decide) (by decide) rfl (fun ls hl => ?_)
  refine lv_goto (tgt := 328) hx hb d_Model_init_344 (by decide) ?_
  refine lv_iload_n hx hb d_Model_init_328 rfl (lv_at hl 0 rfl) ?_
  refine lv_bipush (v := 12) hx hb d_Model_init_329 (by decide) ?_
  refine lv_icmp_ge (tgt := 347) hx hb d_Model_init_331 (by decide) (fun h => absurd h (by decide)) (fun _ => ?_)
  refine lv_aload_n hx hb d_Model_init_334 rfl (lv_at hl 1 rfl) ?_
  refine mg_42 X w d_Model_init_335 ?_
  refine lv_iload_n hx hb d_Model_init_338 rfl (lv_at hl 0 rfl) ?_
  refine lv_iconst (v := (-1)) hx hb d_Model_init_339 (by decide) ?_
  refine ast_10 X w 1 (by omega) rfl d_Model_init_340 (fun H locs w => ?_)
  refine lv_iinc (v := 2) (lv' := [(3, .int 2), (0, .ref o)]) hx hb d_Model_init_341 hl (k := 0) rfl (by decide) (by decide) rfl (fun ls hl => ?_)
  refine lv_goto (tgt := 328) hx hb d_Model_init_344 (by decide) ?_
  refine lv_iload_n hx hb d_Model_init_328 rfl (lv_at hl 0 rfl) ?_
  refine lv_bipush (v := 12) hx hb d_Model_init_329 (by decide) ?_
  refine lv_icmp_ge (tgt := 347) hx hb d_Model_init_331 (by decide) (fun h => absurd h (by decide)) (fun _ => ?_)
  refine lv_aload_n hx hb d_Model_init_334 rfl (lv_at hl 1 rfl) ?_
  refine mg_42 X w d_Model_init_335 ?_
  refine lv_iload_n hx hb d_Model_init_338 rfl (lv_at hl 0 rfl) ?_
  refine lv_iconst (v := (-1)) hx hb d_Model_init_339 (by decide) ?_
  refine ast_10 X w 2 (by omega) rfl d_Model_init_340 (fun H locs w => ?_)
  refine lv_iinc (v := 3) (lv' := [(3, .int 3), (0, .ref o)]) hx hb d_Model_init_341 hl (k := 0) rfl (by decide) (by decide) rfl (fun ls hl => ?_)
  refine lv_goto (tgt := 328) hx hb d_Model_init_344 (by decide) ?_
  refine lv_iload_n hx hb d_Model_init_328 rfl (lv_at hl 0 rfl) ?_
  refine lv_bipush (v := 12) hx hb d_Model_init_329 (by decide) ?_
  refine lv_icmp_ge (tgt := 347) hx hb d_Model_init_331 (by decide) (fun h => absurd h (by decide)) (fun _ => ?_)
  refine lv_aload_n hx hb d_Model_init_334 rfl (lv_at hl 1 rfl) ?_
  refine mg_42 X w d_Model_init_335 ?_
  refine lv_iload_n hx hb d_Model_init_338 rfl (lv_at hl 0 rfl) ?_
  refine lv_iconst (v := (-1)) hx hb d_Model_init_339 (by decide) ?_
  refine ast_10 X w 3 (by omega) rfl d_Model_init_340 (fun H locs w => ?_)
  refine lv_iinc (v := 4) (lv' := [(3, .int 4), (0, .ref o)]) hx hb d_Model_init_341 hl (k := 0) rfl (by decide) (by decide) rfl (fun ls hl => ?_)
  refine lv_goto (tgt := 328) hx hb d_Model_init_344 (by decide) ?_
  refine lv_iload_n hx hb d_Model_init_328 rfl (lv_at hl 0 rfl) ?_
  refine lv_bipush (v := 12) hx hb d_Model_init_329 (by decide) ?_
  refine lv_icmp_ge (tgt := 347) hx hb d_Model_init_331 (by decide) (fun h => absurd h (by decide)) (fun _ => ?_)
  refine lv_aload_n hx hb d_Model_init_334 rfl (lv_at hl 1 rfl) ?_
  refine mg_42 X w d_Model_init_335 ?_
  refine lv_iload_n hx hb d_Model_init_338 rfl (lv_at hl 0 rfl) ?_
  refine lv_iconst (v := (-1)) hx hb d_Model_init_339 (by decide) ?_
  refine ast_10 X w 4 (by omega) rfl d_Model_init_340 (fun H locs w => ?_)
  refine lv_iinc (v := 5) (lv' := [(3, .int 5), (0, .ref o)]) hx hb d_Model_init_341 hl (k := 0) rfl (by decide) (by decide) rfl (fun ls hl => ?_)
  refine lv_goto (tgt := 328) hx hb d_Model_init_344 (by decide) ?_
  refine lv_iload_n hx hb d_Model_init_328 rfl (lv_at hl 0 rfl) ?_
  refine lv_bipush (v := 12) hx hb d_Model_init_329 (by decide) ?_
  refine lv_icmp_ge (tgt := 347) hx hb d_Model_init_331 (by decide) (fun h => absurd h (by decide)) (fun _ => ?_)
  refine lv_aload_n hx hb d_Model_init_334 rfl (lv_at hl 1 rfl) ?_
  refine mg_42 X w d_Model_init_335 ?_
  refine lv_iload_n hx hb d_Model_init_338 rfl (lv_at hl 0 rfl) ?_
  refine lv_iconst (v := (-1)) hx hb d_Model_init_339 (by decide) ?_
  refine ast_10 X w 5 (by omega) rfl d_Model_init_340 (fun H locs w => ?_)
  refine lv_iinc (v := 6) (lv' := [(3, .int 6), (0, .ref o)]) hx hb d_Model_init_341 hl (k := 0) rfl (by decide) (by decide) rfl (fun ls hl => ?_)
  refine lv_goto (tgt := 328) hx hb d_Model_init_344 (by decide) ?_
  refine lv_iload_n hx hb d_Model_init_328 rfl (lv_at hl 0 rfl) ?_
  refine lv_bipush (v := 12) hx hb d_Model_init_329 (by decide) ?_
  refine lv_icmp_ge (tgt := 347) hx hb d_Model_init_331 (by decide) (fun h => absurd h (by decide)) (fun _ => ?_)
  refine lv_aload_n hx hb d_Model_init_334 rfl (lv_at hl 1 rfl) ?_
  refine mg_42 X w d_Model_init_335 ?_
  refine lv_iload_n hx hb d_Model_init_338 rfl (lv_at hl 0 rfl) ?_
  refine lv_iconst (v := (-1)) hx hb d_Model_init_339 (by decide) ?_
  refine ast_10 X w 6 (by omega) rfl d_Model_init_340 (fun H locs w => ?_)
  refine lv_iinc (v := 7) (lv' := [(3, .int 7), (0, .ref o)]) hx hb d_Model_init_341 hl (k := 0) rfl (by decide) (by decide) rfl (fun ls hl => ?_)
  refine lv_goto (tgt := 328) hx hb d_Model_init_344 (by decide) ?_
  refine lv_iload_n hx hb d_Model_init_328 rfl (lv_at hl 0 rfl) ?_
  refine lv_bipush (v := 12) hx hb d_Model_init_329 (by decide) ?_
  refine lv_icmp_ge (tgt := 347) hx hb d_Model_init_331 (by decide) (fun h => absurd h (by decide)) (fun _ => ?_)
  refine lv_aload_n hx hb d_Model_init_334 rfl (lv_at hl 1 rfl) ?_
  refine mg_42 X w d_Model_init_335 ?_
  refine lv_iload_n hx hb d_Model_init_338 rfl (lv_at hl 0 rfl) ?_
  refine lv_iconst (v := (-1)) hx hb d_Model_init_339 (by decide) ?_
  refine ast_10 X w 7 (by omega) rfl d_Model_init_340 (fun H locs w => ?_)
  refine lv_iinc (v := 8) (lv' := [(3, .int 8), (0, .ref o)]) hx hb d_Model_init_341 hl (k := 0) rfl (by decide) (by decide) rfl (fun ls hl => ?_)
  refine lv_goto (tgt := 328) hx hb d_Model_init_344 (by decide) ?_
  refine lv_iload_n hx hb d_Model_init_328 rfl (lv_at hl 0 rfl) ?_
  refine lv_bipush (v := 12) hx hb d_Model_init_329 (by decide) ?_
  refine lv_icmp_ge (tgt := 347) hx hb d_Model_init_331 (by decide) (fun h => absurd h (by decide)) (fun _ => ?_)
  refine lv_aload_n hx hb d_Model_init_334 rfl (lv_at hl 1 rfl) ?_
  refine mg_42 X w d_Model_init_335 ?_
  refine lv_iload_n hx hb d_Model_init_338 rfl (lv_at hl 0 rfl) ?_
  refine lv_iconst (v := (-1)) hx hb d_Model_init_339 (by decide) ?_
  refine ast_10 X w 8 (by omega) rfl d_Model_init_340 (fun H locs w => ?_)
  refine lv_iinc (v := 9) (lv' := [(3, .int 9), (0, .ref o)]) hx hb d_Model_init_341 hl (k := 0) rfl (by decide) (by decide) rfl (fun ls hl => ?_)
  refine lv_goto (tgt := 328) hx hb d_Model_init_344 (by decide) ?_
  refine lv_iload_n hx hb d_Model_init_328 rfl (lv_at hl 0 rfl) ?_
  refine lv_bipush (v := 12) hx hb d_Model_init_329 (by decide) ?_
  refine lv_icmp_ge (tgt := 347) hx hb d_Model_init_331 (by decide) (fun h => absurd h (by decide)) (fun _ => ?_)
  refine lv_aload_n hx hb d_Model_init_334 rfl (lv_at hl 1 rfl) ?_
  refine mg_42 X w d_Model_init_335 ?_
  refine lv_iload_n hx hb d_Model_init_338 rfl (lv_at hl 0 rfl) ?_
  refine lv_iconst (v := (-1)) hx hb d_Model_init_339 (by decide) ?_
  refine ast_10 X w 9 (by omega) rfl d_Model_init_340 (fun H locs w => ?_)
  refine lv_iinc (v := 10) (lv' := [(3, .int 10), (0, .ref o)]) hx hb d_Model_init_341 hl (k := 0) rfl (by decide) (by decide) rfl (fun ls hl => ?_)
  refine lv_goto (tgt := 328) hx hb d_Model_init_344 (by decide) ?_
  refine lv_iload_n hx hb d_Model_init_328 rfl (lv_at hl 0 rfl) ?_
  refine lv_bipush (v := 12) hx hb d_Model_init_329 (by decide) ?_
  refine lv_icmp_ge (tgt := 347) hx hb d_Model_init_331 (by decide) (fun h => absurd h (by decide)) (fun _ => ?_)
  refine lv_aload_n hx hb d_Model_init_334 rfl (lv_at hl 1 rfl) ?_
  refine mg_42 X w d_Model_init_335 ?_
  refine lv_iload_n hx hb d_Model_init_338 rfl (lv_at hl 0 rfl) ?_
  refine lv_iconst (v := (-1)) hx hb d_Model_init_339 (by decide) ?_
  refine ast_10 X w 10 (by omega) rfl d_Model_init_340 (fun H locs w => ?_)
  refine lv_iinc (v := 11) (lv' := [(3, .int 11), (0, .ref o)]) hx hb d_Model_init_341 hl (k := 0) rfl (by decide) (by decide) rfl (fun ls hl => ?_)
  refine lv_goto (tgt := 328) hx hb d_Model_init_344 (by decide) ?_
  refine lv_iload_n hx hb d_Model_init_328 rfl (lv_at hl 0 rfl) ?_
  refine lv_bipush (v := 12) hx hb d_Model_init_329 (by decide) ?_
  refine lv_icmp_ge (tgt := 347) hx hb d_Model_init_331 (by decide) (fun h => absurd h (by decide)) (fun _ => ?_)
  refine lv_aload_n hx hb d_Model_init_334 rfl (lv_at hl 1 rfl) ?_
  refine mg_42 X w d_Model_init_335 ?_
  refine lv_iload_n hx hb d_Model_init_338 rfl (lv_at hl 0 rfl) ?_
  refine lv_iconst (v := (-1)) hx hb d_Model_init_339 (by decide) ?_
  refine ast_10 X w 11 (by omega) rfl d_Model_init_340 (fun H locs w => ?_)
  refine lv_iinc (v := 12) (lv' := [(3, .int 12), (0, .ref o)]) hx hb d_Model_init_341 hl (k := 0) rfl (by decide) (by decide) rfl (fun ls hl => ?_)
  refine lv_goto (tgt := 328) hx hb d_Model_init_344 (by decide) ?_
  refine lv_iload_n hx hb d_Model_init_328 rfl (lv_at hl 0 rfl) ?_
  refine lv_bipush (v := 12) hx hb d_Model_init_329 (by decide) ?_
  refine lv_icmp_ge (tgt := 347) hx hb d_Model_init_331 (by decide) (fun _ => ?_) (fun h => absurd h (by decide))
  refine lv_iconst (v := 0) hx hb d_Model_init_347 (by decide) ?_
  refine lv_istore_n (lv' := [(3, .int 0), (0, .ref o)]) hx hb d_Model_init_348 rfl hl (by decide) rfl (fun ls hl => ?_)
  refine lv_iload_n hx hb d_Model_init_349 rfl (lv_at hl 0 rfl) ?_
  refine lv_bipush (v := 6) hx hb d_Model_init_350 (by decide) ?_
  refine lv_icmp_ge (tgt := 375) hx hb d_Model_init_352 (by decide) (fun h => absurd h (by decide)) (fun _ => ?_)
  refine lv_aload_n hx hb d_Model_init_355 rfl (lv_at hl 1 rfl) ?_
  refine mg_60 X w d_Model_init_356 ?_
  refine lv_iload_n hx hb d_Model_init_359 rfl (lv_at hl 0 rfl) ?_
  refine lv_iconst (v := (-1)) hx hb d_Model_init_360 (by decide) ?_
  refine ast_16 X w 0 (by omega) rfl d_Model_init_361 (fun H locs w => ?_)
  refine lv_aload_n hx hb d_Model_init_362 rfl (lv_at hl 1 rfl) ?_
  refine mg_72 X w d_Model_init_363 ?_
  refine lv_iload_n hx hb d_Model_init_366 rfl (lv_at hl 0 rfl) ?_
  refine lv_iconst (v := (-1)) hx hb d_Model_init_367 (by decide) ?_
  refine ast_20 X w 0 (by omega) rfl d_Model_init_368 (fun H locs w => ?_)
  refine lv_iinc (v := 1) (lv' := [(3, .int 1), (0, .ref o)]) hx hb d_Model_init_369 hl (k := 0) rfl (by decide) (by decide) rfl (fun ls hl => ?_)
  refine lv_goto (tgt := 349) hx hb d_Model_init_372 (by decide) ?_
  refine lv_iload_n hx hb d_Model_init_349 rfl (lv_at hl 0 rfl) ?_
  refine lv_bipush (v := 6) hx hb d_Model_init_350 (by decide) ?_
  refine lv_icmp_ge (tgt := 375) hx hb d_Model_init_352 (by decide) (fun h => absurd h (by decide)) (fun _ => ?_)
  refine lv_aload_n hx hb d_Model_init_355 rfl (lv_at hl 1 rfl) ?_
  refine mg_60 X w d_Model_init_356 ?_
  refine lv_iload_n hx hb d_Model_init_359 rfl (lv_at hl 0 rfl) ?_
  refine lv_iconst (v := (-1)) hx hb d_Model_init_360 (by decide) ?_
  refine ast_16 X w 1 (by omega) rfl d_Model_init_361 (fun H locs w => ?_)
  refine lv_aload_n hx hb d_Model_init_362 rfl (lv_at hl 1 rfl) ?_
  refine mg_72 X w d_Model_init_363 ?_
  refine lv_iload_n hx hb d_Model_init_366 rfl (lv_at hl 0 rfl) ?_
  refine lv_iconst (v := (-1)) hx hb d_Model_init_367 (by decide) ?_
  refine ast_20 X w 1 (by omega) rfl d_Model_init_368 (fun H locs w => ?_)
  refine lv_iinc (v := 2) (lv' := [(3, .int 2), (0, .ref o)]) hx hb d_Model_init_369 hl (k := 0) rfl (by decide) (by decide) rfl (fun ls hl => ?_)
  refine lv_goto (tgt := 349) hx hb d_Model_init_372 (by decide) ?_
  refine lv_iload_n hx hb d_Model_init_349 rfl (lv_at hl 0 rfl) ?_
  refine lv_bipush (v := 6) hx hb d_Model_init_350 (by decide) ?_
  refine lv_icmp_ge (tgt := 375) hx hb d_Model_init_352 (by decide) (fun h => absurd h (by decide)) (fun _ => ?_)
  refine lv_aload_n hx hb d_Model_init_355 rfl (lv_at hl 1 rfl) ?_
  refine mg_60 X w d_Model_init_356 ?_
  refine lv_iload_n hx hb d_Model_init_359 rfl (lv_at hl 0 rfl) ?_
  refine lv_iconst (v := (-1)) hx hb d_Model_init_360 (by decide) ?_
  refine ast_16 X w 2 (by omega) rfl d_Model_init_361 (fun H locs w => ?_)
  refine lv_aload_n hx hb d_Model_init_362 rfl (lv_at hl 1 rfl) ?_
  refine mg_72 X w d_Model_init_363 ?_
  refine lv_iload_n hx hb d_Model_init_366 rfl (lv_at hl 0 rfl) ?_
  refine lv_iconst (v := (-1)) hx hb d_Model_init_367 (by decide) ?_
  refine ast_20 X w 2 (by omega) rfl d_Model_init_368 (fun H locs w => ?_)
  refine lv_iinc (v := 3) (lv' := [(3, .int 3), (0, .ref o)]) hx hb d_Model_init_369 hl (k := 0) rfl (by decide) (by decide) rfl (fun ls hl => ?_)
  refine lv_goto (tgt := 349) hx hb d_Model_init_372 (by decide) ?_
  refine lv_iload_n hx hb d_Model_init_349 rfl (lv_at hl 0 rfl) ?_
  refine lv_bipush (v := 6) hx hb d_Model_init_350 (by decide) ?_
  refine lv_icmp_ge (tgt := 375) hx hb d_Model_init_352 (by decide) (fun h => absurd h (by decide)) (fun _ => ?_)
  refine lv_aload_n hx hb d_Model_init_355 rfl (lv_at hl 1 rfl) ?_
  refine mg_60 X w d_Model_init_356 ?_
  refine lv_iload_n hx hb d_Model_init_359 rfl (lv_at hl 0 rfl) ?_
  refine lv_iconst (v := (-1)) hx hb d_Model_init_360 (by decide) ?_
  refine ast_16 X w 3 (by omega) rfl d_Model_init_361 (fun H locs w => ?_)
  refine lv_aload_n hx hb d_Model_init_362 rfl (lv_at hl 1 rfl) ?_
  refine mg_72 X w d_Model_init_363 ?_
  refine lv_iload_n hx hb d_Model_init_366 rfl (lv_at hl 0 rfl) ?_
  refine lv_iconst (v := (-1)) hx hb d_Model_init_367 (by decide) ?_
  refine ast_20 X w 3 (by omega) rfl d_Model_init_368 (fun H locs w => ?_)
  refine lv_iinc (v := 4) (lv' := [(3, .int 4), (0, .ref o)]) hx hb d_Model_init_369 hl (k := 0) rfl (by decide) (by decide) rfl (fun ls hl => ?_)
  refine lv_goto (tgt := 349) hx hb d_Model_init_372 (by decide) ?_
  refine lv_iload_n hx hb d_Model_init_349 rfl (lv_at hl 0 rfl) ?_
  refine lv_bipush (v := 6) hx hb d_Model_init_350 (by decide) ?_
  refine lv_icmp_ge (tgt := 375) hx hb d_Model_init_352 (by decide) (fun h => absurd h (by decide)) (fun _ => ?_)
  refine lv_aload_n hx hb d_Model_init_355 rfl (lv_at hl 1 rfl) ?_
  refine mg_60 X w d_Model_init_356 ?_
  refine lv_iload_n hx hb d_Model_init_359 rfl (lv_at hl 0 rfl) ?_
  refine lv_iconst (v := (-1)) hx hb d_Model_init_360 (by decide) ?_
  refine ast_16 X w 4 (by omega) rfl d_Model_init_361 (fun H locs w => ?_)
  refine lv_aload_n hx hb d_Model_init_362 rfl (lv_at hl 1 rfl) ?_
  refine mg_72 X w d_Model_init_363 ?_
  refine lv_iload_n hx hb d_Model_init_366 rfl (lv_at hl 0 rfl) ?_
  refine lv_iconst (v := (-1)) hx hb d_Model_init_367 (by decide) ?_
  refine ast_20 X w 4 (by omega) rfl d_Model_init_368 (fun H locs w => ?_)
  refine lv_iinc (v := 5) (lv' := [(3, .int 5), (0, .ref o)]) hx hb d_Model_init_369 hl (k := 0) rfl (by decide) (by decide) rfl (fun ls hl => ?_)
  refine lv_goto (tgt := 349) hx hb d_Model_init_372 (by decide) ?_
  refine lv_iload_n hx hb d_Model_init_349 rfl (lv_at hl 0 rfl) ?_
  refine lv_bipush (v := 6) hx hb d_Model_init_350 (by decide) ?_
  refine lv_icmp_ge (tgt := 375) hx hb d_Model_init_352 (by decide) (fun h => absurd h (by decide)) (fun _ => ?_)
  refine lv_aload_n hx hb d_Model_init_355 rfl (lv_at hl 1 rfl) ?_
  refine mg_60 X w d_Model_init_356 ?_
  refine lv_iload_n hx hb d_Model_init_359 rfl (lv_at hl 0 rfl) ?_
  refine lv_iconst (v := (-1)) hx hb d_Model_init_360 (by decide) ?_
  refine ast_16 X w 5 (by omega) rfl d_Model_init_361 (fun H locs w => ?_)
  refine lv_aload_n hx hb d_Model_init_362 rfl (lv_at hl 1 rfl) ?_
  refine mg_72 X w d_Model_init_363 ?_
  refine lv_iload_n hx hb d_Model_init_366 rfl (lv_at hl 0 rfl) ?_
  refine lv_iconst (v := (-1)) hx hb d_Model_init_367 (by decide) ?_
  refine ast_20 X w 5 (by omega) rfl d_Model_init_368 (fun H locs w => ?_)
  refine lv_iinc (v := 6) (lv' := [(3, .int 6), (0, .ref o)]) hx hb d_Model_init_369 hl (k := 0) rfl (by decide) (by decide) rfl (fun ls hl => ?_)
  refine lv_goto (tgt := 349) hx hb d_Model_init_372 (by decide) ?_
  refine lv_iload_n hx hb d_Model_init_349 rfl (lv_at hl 0 rfl) ?_
  refine lv_bipush (v := 6) hx hb d_Model_init_350 (by decide) ?_
  refine lv_icmp_ge (tgt := 375) hx hb d_Model_init_352 (by decide) (fun _ => ?_) (fun h => absurd h (by decide))
  refine lv_iconst (v := 0) hx hb d_Model_init_375 (by decide) ?_
  refine lv_istore_n (lv' := [(3, .int 0), (0, .ref o)]) hx hb d_Model_init_376 rfl hl (by decide) rfl (fun ls hl => ?_)
  refine lv_iload_n hx hb d_Model_init_377 rfl (lv_at hl 0 rfl) ?_
  refine lv_iconst (v := 3) hx hb d_Model_init_378 (by decide) ?_
  refine lv_icmp_ge (tgt := 395) hx hb d_Model_init_379 (by decide) (fun h => absurd h (by decide)) (fun _ => ?_)
  refine lv_aload_n hx hb d_Model_init_382 rfl (lv_at hl 1 rfl) ?_
  refine mg_39 X w d_Model_init_383 ?_
  refine lv_iload_n hx hb d_Model_init_386 rfl (lv_at hl 0 rfl) ?_
  refine lv_iconst (v := (-1)) hx hb d_Model_init_387 (by decide) ?_
  refine ast_9 X w 0 (by omega) rfl d_Model_init_388 (fun H locs w => ?_)
  refine lv_iinc (v := 1) (lv' := [(3, .int 1), (0, .ref o)]) hx hb d_Model_init_389 hl (k := 0) rfl (by decide) (by decide) rfl (fun ls hl => ?_)
  refine lv_goto (tgt := 377) hx hb d_Model_init_392 (by decide) ?_
  refine lv_iload_n hx hb d_Model_init_377 rfl (lv_at hl 0 rfl) ?_
  refine lv_iconst (v := 3) hx hb d_Model_init_378 (by decide) ?_
  refine lv_icmp_ge (tgt := 395) hx hb d_Model_init_379 (by decide) (fun h => absurd h (by decide)) (fun _ => ?_)
  refine lv_aload_n hx hb d_Model_init_382 rfl (lv_at hl 1 rfl) ?_
  refine mg_39 X w d_Model_init_383 ?_
  refine lv_iload_n hx hb d_Model_init_386 rfl (lv_at hl 0 rfl) ?_
  refine lv_iconst (v := (-1)) hx hb d_Model_init_387 (by decide) ?_
  refine ast_9 X w 1 (by omega) rfl d_Model_init_388 (fun H locs w => ?_)
  refine lv_iinc (v := 2) (lv' := [(3, .int 2), (0, .ref o)]) hx hb d_Model_init_389 hl (k := 0) rfl (by decide) (by decide) rfl (fun ls hl => ?_)
  refine lv_goto (tgt := 377) hx hb d_Model_init_392 (by decide) ?_
  refine lv_iload_n hx hb d_Model_init_377 rfl (lv_at hl 0 rfl) ?_
  refine lv_iconst (v := 3) hx hb d_Model_init_378 (by decide) ?_
  refine lv_icmp_ge (tgt := 395) hx hb d_Model_init_379 (by decide) (fun h => absurd h (by decide)) (fun _ => ?_)
  refine lv_aload_n hx hb d_Model_init_382 rfl (lv_at hl 1 rfl) ?_
  refine mg_39 X w d_Model_init_383 ?_
  refine lv_iload_n hx hb d_Model_init_386 rfl (lv_at hl 0 rfl) ?_
  refine lv_iconst (v := (-1)) hx hb d_Model_init_387 (by decide) ?_
  refine ast_9 X w 2 (by omega) rfl d_Model_init_388 (fun H locs w => ?_)
  refine lv_iinc (v := 3) (lv' := [(3, .int 3), (0, .ref o)]) hx hb d_Model_init_389 hl (k := 0) rfl (by decide) (by decide) rfl (fun ls hl => ?_)
  refine lv_goto (tgt := 377) hx hb d_Model_init_392 (by decide) ?_
  refine lv_iload_n hx hb d_Model_init_377 rfl (lv_at hl 0 rfl) ?_
  refine lv_iconst (v := 3) hx hb d_Model_init_378 (by decide) ?_
  refine lv_icmp_ge (tgt := 395) hx hb d_Model_init_379 (by decide) (fun _ => ?_) (fun h => absurd h (by decide))
  have hF : f_Model_init_326 MI ML = (up2 (up2 (up2 (up2 (up2 (up2 (up2 (up2 (up2 (up2 (up2 (up2 (up2 (up2 (up2 (up2 (up2 (up2 (up2 (up2 (up2 (up2 (up2 (up2 (up2 (up2 (up2 MI 10 0 (-1)) 10 1 (-1)) 10 2 (-1)) 10 3 (-1)) 10 4 (-1)) 10 5 (-1)) 10 6 (-1)) 10 7 (-1)) 10 8 (-1)) 10 9 (-1)) 10 10 (-1)) 10 11 (-1)) 16 0 (-1)) 20 0 (-1)) 16 1 (-1)) 20 1 (-1)) 16 2 (-1)) 20 2 (-1)) 16 3 (-1)) 20 3 (-1)) 16 4 (-1)) 20 4 (-1)) 16 5 (-1)) 20 5 (-1)) 9 0 (-1)) 9 1 (-1)) 9 2 (-1), ML) := by rfl
  exact kvret (Qc := fun _ _ _ _ => True) X w hr hk (by rw [hF] at hp; exact hp) d_Model_init_395
def f_Model_init_301 (MI : Nat → Nat → Int32) (ML : Nat → Nat → Int64) (x2 : Int32) : (Nat → Nat → Int32) × (Nat → Nat → Int64) :=
  if 1 ≤ x2 then
    if x2 ≤ 50 then
      f_Model_init_326 (up2 MI 37 0 x2) ML
    else
      f_Model_init_326 (up2 MI 37 0 50) ML
  else
    f_Model_init_326 (up2 MI 37 0 1) ML
set_option maxHeartbeats 4000000 in
set_option maxRecDepth 100000 in
theorem g_Model_init_301 {p : Program} {l : Launch} {ev : Env} {s : State} {m : MethodId} {args : Array Value} {below : List Frame} {meth : Method} {c0 : Code} {D : va_G} {ac : Nat → ClassId} {o : Nat} {ad : Nat → Nat} {ws0 : va_W} {sz : Nat} {post : va_W → Prop} (X : Cx b_Model_init 4 R_Model D ac p m args c0 s) (hr : meth.sig.returnType = none) (hk : meth.locks = false) (hin : meth.name = "<init>") (MI : Nat → Nat → Int32) (ML : Nat → Nat → Int64) (x2 : Int32) {H : Heap} {locs : List Loc} {ls : Array Slot} (w : Wo D (va_A ws0 sz) (mws ac o ad MI ML) s.heap H locs) (hl : lv_has ls 4 [(0, .ref o), (2, .int x2)]) (hp : post (mws ac o ad (f_Model_init_301 MI ML x2).1 (f_Model_init_301 MI ML x2).2)) : W p l ev ({ frames := 1, cells := 35, slots := 397, locals := 12 } : Room) s m args below meth c0 H locs 35 397 (MQ below (va_Qv post (CPost D ws0 sz) (va_A ws0 sz)) args s 35 397 (va_A ws0 sz)) (F0 m 301 ls []) := by
  have hx := X.1
  have hb := X.2.1
  refine lv_aload_n hx hb d_Model_init_301 rfl (lv_at hl 0 rfl) ?_
  refine lv_iload_n hx hb d_Model_init_302 rfl (lv_at hl 1 rfl) ?_
  refine lv_iconst (v := 1) hx hb d_Model_init_303 (by decide) ?_
  refine lv_icmp_ge (tgt := 311) hx hb d_Model_init_304 (by decide) (fun h1 => ?_) (fun h1 => ?_)
  · skip
    refine lv_iload_n hx hb d_Model_init_311 rfl (lv_at hl 1 rfl) ?_
    refine lv_bipush (v := 50) hx hb d_Model_init_312 (by decide) ?_
    refine lv_icmp_le (tgt := 322) hx hb d_Model_init_314 (by decide) (fun h2 => ?_) (fun h2 => ?_)
    · skip
      refine lv_iload_n hx hb d_Model_init_322 rfl (lv_at hl 1 rfl) ?_
      refine mpF_121 X w hin d_Model_init_323 (fun H locs w => ?_)
      have hF : f_Model_init_301 MI ML x2 = f_Model_init_326 (up2 MI 37 0 x2) ML := by unfold f_Model_init_301; rw [if_pos h1, if_pos h2]
      exact g_Model_init_326 X hr hk hin (up2 MI 37 0 x2) ML  w (lv_sub hl [0] rfl) (by rw [hF] at hp; exact hp)
    · skip
      refine lv_bipush (v := 50) hx hb d_Model_init_317 (by decide) ?_
      refine lv_goto (tgt := 323) hx hb d_Model_init_319 (by decide) ?_
      refine mpF_121 X w hin d_Model_init_323 (fun H locs w => ?_)
      have hF : f_Model_init_301 MI ML x2 = f_Model_init_326 (up2 MI 37 0 50) ML := by unfold f_Model_init_301; rw [if_pos h1, if_neg h2]
      exact g_Model_init_326 X hr hk hin (up2 MI 37 0 50) ML  w (lv_sub hl [0] rfl) (by rw [hF] at hp; exact hp)
  · skip
    refine lv_iconst (v := 1) hx hb d_Model_init_307 (by decide) ?_
    refine lv_goto (tgt := 323) hx hb d_Model_init_308 (by decide) ?_
    refine mpF_121 X w hin d_Model_init_323 (fun H locs w => ?_)
    have hF : f_Model_init_301 MI ML x2 = f_Model_init_326 (up2 MI 37 0 1) ML := by unfold f_Model_init_301; rw [if_neg h1]
    exact g_Model_init_326 X hr hk hin (up2 MI 37 0 1) ML  w (lv_sub hl [0] rfl) (by rw [hF] at hp; exact hp)
def f_Model_init_274 (MI : Nat → Nat → Int32) (ML : Nat → Nat → Int64) (x1 : Int32) (x2 : Int32) : (Nat → Nat → Int32) × (Nat → Nat → Int64) :=
  if 1 ≤ x1 then
    if x1 ≤ 1000 then
      f_Model_init_301 (up2 MI 36 0 x1) ML x2
    else
      f_Model_init_301 (up2 MI 36 0 1000) ML x2
  else
    f_Model_init_301 (up2 MI 36 0 1) ML x2
set_option maxHeartbeats 4000000 in
set_option maxRecDepth 100000 in
theorem g_Model_init_274 {p : Program} {l : Launch} {ev : Env} {s : State} {m : MethodId} {args : Array Value} {below : List Frame} {meth : Method} {c0 : Code} {D : va_G} {ac : Nat → ClassId} {o : Nat} {ad : Nat → Nat} {ws0 : va_W} {sz : Nat} {post : va_W → Prop} (X : Cx b_Model_init 4 R_Model D ac p m args c0 s) (hr : meth.sig.returnType = none) (hk : meth.locks = false) (hin : meth.name = "<init>") (MI : Nat → Nat → Int32) (ML : Nat → Nat → Int64) (x1 : Int32) (x2 : Int32) {H : Heap} {locs : List Loc} {ls : Array Slot} (w : Wo D (va_A ws0 sz) (mws ac o ad MI ML) s.heap H locs) (hl : lv_has ls 4 [(0, .ref o), (1, .int x1), (2, .int x2)]) (hp : post (mws ac o ad (f_Model_init_274 MI ML x1 x2).1 (f_Model_init_274 MI ML x1 x2).2)) : W p l ev ({ frames := 1, cells := 35, slots := 397, locals := 12 } : Room) s m args below meth c0 H locs 35 397 (MQ below (va_Qv post (CPost D ws0 sz) (va_A ws0 sz)) args s 35 397 (va_A ws0 sz)) (F0 m 274 ls []) := by
  have hx := X.1
  have hb := X.2.1
  refine lv_aload_n hx hb d_Model_init_274 rfl (lv_at hl 0 rfl) ?_
  refine lv_iload_n hx hb d_Model_init_275 rfl (lv_at hl 1 rfl) ?_
  refine lv_iconst (v := 1) hx hb d_Model_init_276 (by decide) ?_
  refine lv_icmp_ge (tgt := 284) hx hb d_Model_init_277 (by decide) (fun h1 => ?_) (fun h1 => ?_)
  · skip
    refine lv_iload_n hx hb d_Model_init_284 rfl (lv_at hl 1 rfl) ?_
    refine lv_sipush (v := 1000) hx hb d_Model_init_285 (by decide) ?_
    refine lv_icmp_le (tgt := 297) hx hb d_Model_init_288 (by decide) (fun h2 => ?_) (fun h2 => ?_)
    · skip
      refine lv_iload_n hx hb d_Model_init_297 rfl (lv_at hl 1 rfl) ?_
      refine mpF_117 X w hin d_Model_init_298 (fun H locs w => ?_)
      have hF : f_Model_init_274 MI ML x1 x2 = f_Model_init_301 (up2 MI 36 0 x1) ML x2 := by unfold f_Model_init_274; rw [if_pos h1, if_pos h2]
      exact g_Model_init_301 X hr hk hin (up2 MI 36 0 x1) ML x2 w (lv_sub hl [0, 2] rfl) (by rw [hF] at hp; exact hp)
    · skip
      refine lv_sipush (v := 1000) hx hb d_Model_init_291 (by decide) ?_
      refine lv_goto (tgt := 298) hx hb d_Model_init_294 (by decide) ?_
      refine mpF_117 X w hin d_Model_init_298 (fun H locs w => ?_)
      have hF : f_Model_init_274 MI ML x1 x2 = f_Model_init_301 (up2 MI 36 0 1000) ML x2 := by unfold f_Model_init_274; rw [if_pos h1, if_neg h2]
      exact g_Model_init_301 X hr hk hin (up2 MI 36 0 1000) ML x2 w (lv_sub hl [0, 2] rfl) (by rw [hF] at hp; exact hp)
  · skip
    refine lv_iconst (v := 1) hx hb d_Model_init_280 (by decide) ?_
    refine lv_goto (tgt := 298) hx hb d_Model_init_281 (by decide) ?_
    refine mpF_117 X w hin d_Model_init_298 (fun H locs w => ?_)
    have hF : f_Model_init_274 MI ML x1 x2 = f_Model_init_301 (up2 MI 36 0 1) ML x2 := by unfold f_Model_init_274; rw [if_neg h1]
    exact g_Model_init_301 X hr hk hin (up2 MI 36 0 1) ML x2 w (lv_sub hl [0, 2] rfl) (by rw [hF] at hp; exact hp)
def f_Model_init (x1 x2 : Int32) : (Nat → Nat → Int32) × (Nat → Nat → Int64) := f_Model_init_274 (fun _ _ => 0) (fun _ _ => 0) x1 x2
set_option maxHeartbeats 4000000 in
set_option maxRecDepth 100000 in
theorem c_Model_init (l : Launch) (D : va_G) (ac : Nat → ClassId) (o : Nat) (sz : Nat) (x1 x2 : Int32) : Met l y_Model_init [Cond.code y_Model_init b_Model_init 4 none] { frames := 1, cells := 35, slots := 397, locals := 12 } (va_Pc [.ref o, .int x1, .int x2] (CPre D ac [(o, .inr (8, mblank))] sz)) (va_Qv (fun u => ∃ ad : Nat → Nat, u = mws ac o ad (f_Model_init x1 x2).1 (f_Model_init x1 x2).2) (CPost D [(o, .inr (8, mblank))] sz) (va_A [(o, .inr (8, mblank))] sz)) 35 397 (va_A [(o, .inr (8, mblank))] sz) := by
  refine kofW (by decide) (Nat.le_of_ble_eq_true rfl) ?_
  intro p ev s m args below meth c0 ls X hr hk hin hex hsz w hl
  have X : Cx b_Model_init 4 R_Model D ac p m args c0 s := X
  have hx := X.1
  have hb := X.2.1
  have hl : lv_has ls 4 [(0, .ref o), (1, .int x1), (2, .int x2)] := hl
  have w : Wo D _ (pws ac o []) s.heap s.heap [] := w
  refine lv_aload_n hx hb d_Model_init_0 rfl (lv_at hl 0 rfl) ?_
  refine kobj X wm_Model_1 hl.1 (by decide) (by decide) d_Model_init_1 ?_
  refine lv_aload_n hx hb d_Model_init_4 rfl (lv_at hl 0 rfl) ?_
  refine lv_iconst (v := 3) hx hb d_Model_init_5 (by decide) ?_
  refine knewa (atype := .long) (a0 := (3, .inr (.inl (fun _ => 0)))) (N' := 3) X w wa_long rfl 1 rfl (fun _ => rfl) (by decide) (by decide) (by decide) (Nat.le_of_ble_eq_true rfl) (Nat.le_of_ble_eq_true rfl) d_Model_init_6 (fun q0 H w => ?_)
  refine W.widen (k := 1) (n := 3) (Nat.le_refl _) (Nat.le_refl _) ?_
  refine pf_Model_7 X w hin 0 (x := some q0) (ws' := pws ac o [q0]) rfl rfl (Nat.le_of_ble_eq_true rfl) d_Model_init_8 (fun H locs w => ?_)
  refine lv_aload_n hx hb d_Model_init_11 rfl (lv_at hl 0 rfl) ?_
  refine lv_iconst (v := 3) hx hb d_Model_init_12 (by decide) ?_
  refine knewa (atype := .boolean) (a0 := (3, .inl (fun _ => 0))) (N' := 3) X w wa_boolean rfl 2 rfl (fun _ => rfl) (by decide) (by decide) (by decide) (Nat.le_of_ble_eq_true rfl) (Nat.le_of_ble_eq_true rfl) d_Model_init_13 (fun q1 H w => ?_)
  refine W.widen (k := 2) (n := 6) (Nat.le_refl _) (Nat.le_refl _) ?_
  refine pf_Model_13 X w hin 0 (x := some q1) (ws' := pws ac o [q0, q1]) rfl rfl (Nat.le_of_ble_eq_true rfl) d_Model_init_15 (fun H locs w => ?_)
  refine lv_aload_n hx hb d_Model_init_18 rfl (lv_at hl 0 rfl) ?_
  refine lv_iconst (v := 3) hx hb d_Model_init_19 (by decide) ?_
  refine knewa (atype := .int) (a0 := (3, .inl (fun _ => 0))) (N' := 3) X w wa_int rfl 0 rfl (fun _ => rfl) (by decide) (by decide) (by decide) (Nat.le_of_ble_eq_true rfl) (Nat.le_of_ble_eq_true rfl) d_Model_init_20 (fun q2 H w => ?_)
  refine W.widen (k := 3) (n := 9) (Nat.le_refl _) (Nat.le_refl _) ?_
  refine pf_Model_17 X w hin 0 (x := some q2) (ws' := pws ac o [q0, q1, q2]) rfl rfl (Nat.le_of_ble_eq_true rfl) d_Model_init_22 (fun H locs w => ?_)
  refine lv_aload_n hx hb d_Model_init_25 rfl (lv_at hl 0 rfl) ?_
  refine lv_iconst (v := 3) hx hb d_Model_init_26 (by decide) ?_
  refine knewa (atype := .int) (a0 := (3, .inl (fun _ => 0))) (N' := 3) X w wa_int rfl 0 rfl (fun _ => rfl) (by decide) (by decide) (by decide) (Nat.le_of_ble_eq_true rfl) (Nat.le_of_ble_eq_true rfl) d_Model_init_27 (fun q3 H w => ?_)
  refine W.widen (k := 4) (n := 12) (Nat.le_refl _) (Nat.le_refl _) ?_
  refine pf_Model_21 X w hin 0 (x := some q3) (ws' := pws ac o [q0, q1, q2, q3]) rfl rfl (Nat.le_of_ble_eq_true rfl) d_Model_init_29 (fun H locs w => ?_)
  refine lv_aload_n hx hb d_Model_init_32 rfl (lv_at hl 0 rfl) ?_
  refine lv_iconst (v := 3) hx hb d_Model_init_33 (by decide) ?_
  refine knewa (atype := .int) (a0 := (3, .inl (fun _ => 0))) (N' := 3) X w wa_int rfl 0 rfl (fun _ => rfl) (by decide) (by decide) (by decide) (Nat.le_of_ble_eq_true rfl) (Nat.le_of_ble_eq_true rfl) d_Model_init_34 (fun q4 H w => ?_)
  refine W.widen (k := 5) (n := 15) (Nat.le_refl _) (Nat.le_refl _) ?_
  refine pf_Model_24 X w hin 0 (x := some q4) (ws' := pws ac o [q0, q1, q2, q3, q4]) rfl rfl (Nat.le_of_ble_eq_true rfl) d_Model_init_36 (fun H locs w => ?_)
  refine lv_aload_n hx hb d_Model_init_39 rfl (lv_at hl 0 rfl) ?_
  refine lv_iconst (v := 3) hx hb d_Model_init_40 (by decide) ?_
  refine knewa (atype := .int) (a0 := (3, .inl (fun _ => 0))) (N' := 3) X w wa_int rfl 0 rfl (fun _ => rfl) (by decide) (by decide) (by decide) (Nat.le_of_ble_eq_true rfl) (Nat.le_of_ble_eq_true rfl) d_Model_init_41 (fun q5 H w => ?_)
  refine W.widen (k := 6) (n := 18) (Nat.le_refl _) (Nat.le_refl _) ?_
  refine pf_Model_27 X w hin 0 (x := some q5) (ws' := pws ac o [q0, q1, q2, q3, q4, q5]) rfl rfl (Nat.le_of_ble_eq_true rfl) d_Model_init_43 (fun H locs w => ?_)
  refine lv_aload_n hx hb d_Model_init_46 rfl (lv_at hl 0 rfl) ?_
  refine lv_iconst (v := 3) hx hb d_Model_init_47 (by decide) ?_
  refine knewa (atype := .int) (a0 := (3, .inl (fun _ => 0))) (N' := 3) X w wa_int rfl 0 rfl (fun _ => rfl) (by decide) (by decide) (by decide) (Nat.le_of_ble_eq_true rfl) (Nat.le_of_ble_eq_true rfl) d_Model_init_48 (fun q6 H w => ?_)
  refine W.widen (k := 7) (n := 21) (Nat.le_refl _) (Nat.le_refl _) ?_
  refine pf_Model_30 X w hin 0 (x := some q6) (ws' := pws ac o [q0, q1, q2, q3, q4, q5, q6]) rfl rfl (Nat.le_of_ble_eq_true rfl) d_Model_init_50 (fun H locs w => ?_)
  refine lv_aload_n hx hb d_Model_init_53 rfl (lv_at hl 0 rfl) ?_
  refine lv_iconst (v := 3) hx hb d_Model_init_54 (by decide) ?_
  refine knewa (atype := .int) (a0 := (3, .inl (fun _ => 0))) (N' := 3) X w wa_int rfl 0 rfl (fun _ => rfl) (by decide) (by decide) (by decide) (Nat.le_of_ble_eq_true rfl) (Nat.le_of_ble_eq_true rfl) d_Model_init_55 (fun q7 H w => ?_)
  refine W.widen (k := 8) (n := 24) (Nat.le_refl _) (Nat.le_refl _) ?_
  refine pf_Model_33 X w hin 0 (x := some q7) (ws' := pws ac o [q0, q1, q2, q3, q4, q5, q6, q7]) rfl rfl (Nat.le_of_ble_eq_true rfl) d_Model_init_57 (fun H locs w => ?_)
  refine lv_aload_n hx hb d_Model_init_60 rfl (lv_at hl 0 rfl) ?_
  refine lv_iconst (v := 3) hx hb d_Model_init_61 (by decide) ?_
  refine knewa (atype := .int) (a0 := (3, .inl (fun _ => 0))) (N' := 3) X w wa_int rfl 0 rfl (fun _ => rfl) (by decide) (by decide) (by decide) (Nat.le_of_ble_eq_true rfl) (Nat.le_of_ble_eq_true rfl) d_Model_init_62 (fun q8 H w => ?_)
  refine W.widen (k := 9) (n := 27) (Nat.le_refl _) (Nat.le_refl _) ?_
  refine pf_Model_36 X w hin 0 (x := some q8) (ws' := pws ac o [q0, q1, q2, q3, q4, q5, q6, q7, q8]) rfl rfl (Nat.le_of_ble_eq_true rfl) d_Model_init_64 (fun H locs w => ?_)
  refine lv_aload_n hx hb d_Model_init_67 rfl (lv_at hl 0 rfl) ?_
  refine lv_iconst (v := 3) hx hb d_Model_init_68 (by decide) ?_
  refine knewa (atype := .int) (a0 := (3, .inl (fun _ => 0))) (N' := 3) X w wa_int rfl 0 rfl (fun _ => rfl) (by decide) (by decide) (by decide) (Nat.le_of_ble_eq_true rfl) (Nat.le_of_ble_eq_true rfl) d_Model_init_69 (fun q9 H w => ?_)
  refine W.widen (k := 10) (n := 30) (Nat.le_refl _) (Nat.le_refl _) ?_
  refine pf_Model_39 X w hin 0 (x := some q9) (ws' := pws ac o [q0, q1, q2, q3, q4, q5, q6, q7, q8, q9]) rfl rfl (Nat.le_of_ble_eq_true rfl) d_Model_init_71 (fun H locs w => ?_)
  refine lv_aload_n hx hb d_Model_init_74 rfl (lv_at hl 0 rfl) ?_
  refine lv_bipush (v := 12) hx hb d_Model_init_75 (by decide) ?_
  refine knewa (atype := .int) (a0 := (12, .inl (fun _ => 0))) (N' := 12) X w wa_int rfl 0 rfl (fun _ => rfl) (by decide) (by decide) (by decide) (Nat.le_of_ble_eq_true rfl) (Nat.le_of_ble_eq_true rfl) d_Model_init_77 (fun q10 H w => ?_)
  refine W.widen (k := 11) (n := 42) (Nat.le_refl _) (Nat.le_refl _) ?_
  refine pf_Model_42 X w hin 0 (x := some q10) (ws' := pws ac o [q0, q1, q2, q3, q4, q5, q6, q7, q8, q9, q10]) rfl rfl (Nat.le_of_ble_eq_true rfl) d_Model_init_79 (fun H locs w => ?_)
  refine lv_aload_n hx hb d_Model_init_82 rfl (lv_at hl 0 rfl) ?_
  refine lv_bipush (v := 12) hx hb d_Model_init_83 (by decide) ?_
  refine knewa (atype := .boolean) (a0 := (12, .inl (fun _ => 0))) (N' := 12) X w wa_boolean rfl 2 rfl (fun _ => rfl) (by decide) (by decide) (by decide) (Nat.le_of_ble_eq_true rfl) (Nat.le_of_ble_eq_true rfl) d_Model_init_85 (fun q11 H w => ?_)
  refine W.widen (k := 12) (n := 54) (Nat.le_refl _) (Nat.le_refl _) ?_
  refine pf_Model_45 X w hin 0 (x := some q11) (ws' := pws ac o [q0, q1, q2, q3, q4, q5, q6, q7, q8, q9, q10, q11]) rfl rfl (Nat.le_of_ble_eq_true rfl) d_Model_init_87 (fun H locs w => ?_)
  refine lv_aload_n hx hb d_Model_init_90 rfl (lv_at hl 0 rfl) ?_
  refine lv_bipush (v := 12) hx hb d_Model_init_91 (by decide) ?_
  refine knewa (atype := .int) (a0 := (12, .inl (fun _ => 0))) (N' := 12) X w wa_int rfl 0 rfl (fun _ => rfl) (by decide) (by decide) (by decide) (Nat.le_of_ble_eq_true rfl) (Nat.le_of_ble_eq_true rfl) d_Model_init_93 (fun q12 H w => ?_)
  refine W.widen (k := 13) (n := 66) (Nat.le_refl _) (Nat.le_refl _) ?_
  refine pf_Model_48 X w hin 0 (x := some q12) (ws' := pws ac o [q0, q1, q2, q3, q4, q5, q6, q7, q8, q9, q10, q11, q12]) rfl rfl (Nat.le_of_ble_eq_true rfl) d_Model_init_95 (fun H locs w => ?_)
  refine lv_aload_n hx hb d_Model_init_98 rfl (lv_at hl 0 rfl) ?_
  refine lv_bipush (v := 12) hx hb d_Model_init_99 (by decide) ?_
  refine knewa (atype := .long) (a0 := (12, .inr (.inl (fun _ => 0)))) (N' := 12) X w wa_long rfl 1 rfl (fun _ => rfl) (by decide) (by decide) (by decide) (Nat.le_of_ble_eq_true rfl) (Nat.le_of_ble_eq_true rfl) d_Model_init_101 (fun q13 H w => ?_)
  refine W.widen (k := 14) (n := 78) (Nat.le_refl _) (Nat.le_refl _) ?_
  refine pf_Model_51 X w hin 0 (x := some q13) (ws' := pws ac o [q0, q1, q2, q3, q4, q5, q6, q7, q8, q9, q10, q11, q12, q13]) rfl rfl (Nat.le_of_ble_eq_true rfl) d_Model_init_103 (fun H locs w => ?_)
  refine lv_aload_n hx hb d_Model_init_106 rfl (lv_at hl 0 rfl) ?_
  refine lv_bipush (v := 12) hx hb d_Model_init_107 (by decide) ?_
  refine knewa (atype := .long) (a0 := (12, .inr (.inl (fun _ => 0)))) (N' := 12) X w wa_long rfl 1 rfl (fun _ => rfl) (by decide) (by decide) (by decide) (Nat.le_of_ble_eq_true rfl) (Nat.le_of_ble_eq_true rfl) d_Model_init_109 (fun q14 H w => ?_)
  refine W.widen (k := 15) (n := 90) (Nat.le_refl _) (Nat.le_refl _) ?_
  refine pf_Model_54 X w hin 0 (x := some q14) (ws' := pws ac o [q0, q1, q2, q3, q4, q5, q6, q7, q8, q9, q10, q11, q12, q13, q14]) rfl rfl (Nat.le_of_ble_eq_true rfl) d_Model_init_111 (fun H locs w => ?_)
  refine lv_aload_n hx hb d_Model_init_114 rfl (lv_at hl 0 rfl) ?_
  refine lv_bipush (v := 6) hx hb d_Model_init_115 (by decide) ?_
  refine knewa (atype := .int) (a0 := (6, .inl (fun _ => 0))) (N' := 6) X w wa_int rfl 0 rfl (fun _ => rfl) (by decide) (by decide) (by decide) (Nat.le_of_ble_eq_true rfl) (Nat.le_of_ble_eq_true rfl) d_Model_init_117 (fun q15 H w => ?_)
  refine W.widen (k := 16) (n := 96) (Nat.le_refl _) (Nat.le_refl _) ?_
  refine pf_Model_57 X w hin 0 (x := some q15) (ws' := pws ac o [q0, q1, q2, q3, q4, q5, q6, q7, q8, q9, q10, q11, q12, q13, q14, q15]) rfl rfl (Nat.le_of_ble_eq_true rfl) d_Model_init_119 (fun H locs w => ?_)
  refine lv_aload_n hx hb d_Model_init_122 rfl (lv_at hl 0 rfl) ?_
  refine lv_bipush (v := 6) hx hb d_Model_init_123 (by decide) ?_
  refine knewa (atype := .int) (a0 := (6, .inl (fun _ => 0))) (N' := 6) X w wa_int rfl 0 rfl (fun _ => rfl) (by decide) (by decide) (by decide) (Nat.le_of_ble_eq_true rfl) (Nat.le_of_ble_eq_true rfl) d_Model_init_125 (fun q16 H w => ?_)
  refine W.widen (k := 17) (n := 102) (Nat.le_refl _) (Nat.le_refl _) ?_
  refine pf_Model_60 X w hin 0 (x := some q16) (ws' := pws ac o [q0, q1, q2, q3, q4, q5, q6, q7, q8, q9, q10, q11, q12, q13, q14, q15, q16]) rfl rfl (Nat.le_of_ble_eq_true rfl) d_Model_init_127 (fun H locs w => ?_)
  refine lv_aload_n hx hb d_Model_init_130 rfl (lv_at hl 0 rfl) ?_
  refine lv_bipush (v := 6) hx hb d_Model_init_131 (by decide) ?_
  refine knewa (atype := .int) (a0 := (6, .inl (fun _ => 0))) (N' := 6) X w wa_int rfl 0 rfl (fun _ => rfl) (by decide) (by decide) (by decide) (Nat.le_of_ble_eq_true rfl) (Nat.le_of_ble_eq_true rfl) d_Model_init_133 (fun q17 H w => ?_)
  refine W.widen (k := 18) (n := 108) (Nat.le_refl _) (Nat.le_refl _) ?_
  refine pf_Model_63 X w hin 0 (x := some q17) (ws' := pws ac o [q0, q1, q2, q3, q4, q5, q6, q7, q8, q9, q10, q11, q12, q13, q14, q15, q16, q17]) rfl rfl (Nat.le_of_ble_eq_true rfl) d_Model_init_135 (fun H locs w => ?_)
  refine lv_aload_n hx hb d_Model_init_138 rfl (lv_at hl 0 rfl) ?_
  refine lv_bipush (v := 6) hx hb d_Model_init_139 (by decide) ?_
  refine knewa (atype := .long) (a0 := (6, .inr (.inl (fun _ => 0)))) (N' := 6) X w wa_long rfl 1 rfl (fun _ => rfl) (by decide) (by decide) (by decide) (Nat.le_of_ble_eq_true rfl) (Nat.le_of_ble_eq_true rfl) d_Model_init_141 (fun q18 H w => ?_)
  refine W.widen (k := 19) (n := 114) (Nat.le_refl _) (Nat.le_refl _) ?_
  refine pf_Model_66 X w hin 0 (x := some q18) (ws' := pws ac o [q0, q1, q2, q3, q4, q5, q6, q7, q8, q9, q10, q11, q12, q13, q14, q15, q16, q17, q18]) rfl rfl (Nat.le_of_ble_eq_true rfl) d_Model_init_143 (fun H locs w => ?_)
  refine lv_aload_n hx hb d_Model_init_146 rfl (lv_at hl 0 rfl) ?_
  refine lv_bipush (v := 6) hx hb d_Model_init_147 (by decide) ?_
  refine knewa (atype := .long) (a0 := (6, .inr (.inl (fun _ => 0)))) (N' := 6) X w wa_long rfl 1 rfl (fun _ => rfl) (by decide) (by decide) (by decide) (Nat.le_of_ble_eq_true rfl) (Nat.le_of_ble_eq_true rfl) d_Model_init_149 (fun q19 H w => ?_)
  refine W.widen (k := 20) (n := 120) (Nat.le_refl _) (Nat.le_refl _) ?_
  refine pf_Model_69 X w hin 0 (x := some q19) (ws' := pws ac o [q0, q1, q2, q3, q4, q5, q6, q7, q8, q9, q10, q11, q12, q13, q14, q15, q16, q17, q18, q19]) rfl rfl (Nat.le_of_ble_eq_true rfl) d_Model_init_151 (fun H locs w => ?_)
  refine lv_aload_n hx hb d_Model_init_154 rfl (lv_at hl 0 rfl) ?_
  refine lv_bipush (v := 6) hx hb d_Model_init_155 (by decide) ?_
  refine knewa (atype := .int) (a0 := (6, .inl (fun _ => 0))) (N' := 6) X w wa_int rfl 0 rfl (fun _ => rfl) (by decide) (by decide) (by decide) (Nat.le_of_ble_eq_true rfl) (Nat.le_of_ble_eq_true rfl) d_Model_init_157 (fun q20 H w => ?_)
  refine W.widen (k := 21) (n := 126) (Nat.le_refl _) (Nat.le_refl _) ?_
  refine pf_Model_72 X w hin 0 (x := some q20) (ws' := pws ac o [q0, q1, q2, q3, q4, q5, q6, q7, q8, q9, q10, q11, q12, q13, q14, q15, q16, q17, q18, q19, q20]) rfl rfl (Nat.le_of_ble_eq_true rfl) d_Model_init_159 (fun H locs w => ?_)
  refine lv_aload_n hx hb d_Model_init_162 rfl (lv_at hl 0 rfl) ?_
  refine lv_bipush (v := 6) hx hb d_Model_init_163 (by decide) ?_
  refine knewa (atype := .boolean) (a0 := (6, .inl (fun _ => 0))) (N' := 6) X w wa_boolean rfl 2 rfl (fun _ => rfl) (by decide) (by decide) (by decide) (Nat.le_of_ble_eq_true rfl) (Nat.le_of_ble_eq_true rfl) d_Model_init_165 (fun q21 H w => ?_)
  refine W.widen (k := 22) (n := 132) (Nat.le_refl _) (Nat.le_refl _) ?_
  refine pf_Model_75 X w hin 0 (x := some q21) (ws' := pws ac o [q0, q1, q2, q3, q4, q5, q6, q7, q8, q9, q10, q11, q12, q13, q14, q15, q16, q17, q18, q19, q20, q21]) rfl rfl (Nat.le_of_ble_eq_true rfl) d_Model_init_167 (fun H locs w => ?_)
  refine lv_aload_n hx hb d_Model_init_170 rfl (lv_at hl 0 rfl) ?_
  refine lv_bipush (v := 6) hx hb d_Model_init_171 (by decide) ?_
  refine knewa (atype := .int) (a0 := (6, .inl (fun _ => 0))) (N' := 6) X w wa_int rfl 0 rfl (fun _ => rfl) (by decide) (by decide) (by decide) (Nat.le_of_ble_eq_true rfl) (Nat.le_of_ble_eq_true rfl) d_Model_init_173 (fun q22 H w => ?_)
  refine W.widen (k := 23) (n := 138) (Nat.le_refl _) (Nat.le_refl _) ?_
  refine pf_Model_78 X w hin 0 (x := some q22) (ws' := pws ac o [q0, q1, q2, q3, q4, q5, q6, q7, q8, q9, q10, q11, q12, q13, q14, q15, q16, q17, q18, q19, q20, q21, q22]) rfl rfl (Nat.le_of_ble_eq_true rfl) d_Model_init_175 (fun H locs w => ?_)
  refine lv_aload_n hx hb d_Model_init_178 rfl (lv_at hl 0 rfl) ?_
  refine lv_bipush (v := 18) hx hb d_Model_init_179 (by decide) ?_
  refine knewa (atype := .int) (a0 := (18, .inl (fun _ => 0))) (N' := 18) X w wa_int rfl 0 rfl (fun _ => rfl) (by decide) (by decide) (by decide) (Nat.le_of_ble_eq_true rfl) (Nat.le_of_ble_eq_true rfl) d_Model_init_181 (fun q23 H w => ?_)
  refine W.widen (k := 24) (n := 156) (Nat.le_refl _) (Nat.le_refl _) ?_
  refine pf_Model_81 X w hin 0 (x := some q23) (ws' := pws ac o [q0, q1, q2, q3, q4, q5, q6, q7, q8, q9, q10, q11, q12, q13, q14, q15, q16, q17, q18, q19, q20, q21, q22, q23]) rfl rfl (Nat.le_of_ble_eq_true rfl) d_Model_init_183 (fun H locs w => ?_)
  refine lv_aload_n hx hb d_Model_init_186 rfl (lv_at hl 0 rfl) ?_
  refine lv_bipush (v := 18) hx hb d_Model_init_187 (by decide) ?_
  refine knewa (atype := .int) (a0 := (18, .inl (fun _ => 0))) (N' := 18) X w wa_int rfl 0 rfl (fun _ => rfl) (by decide) (by decide) (by decide) (Nat.le_of_ble_eq_true rfl) (Nat.le_of_ble_eq_true rfl) d_Model_init_189 (fun q24 H w => ?_)
  refine W.widen (k := 25) (n := 174) (Nat.le_refl _) (Nat.le_refl _) ?_
  refine pf_Model_84 X w hin 0 (x := some q24) (ws' := pws ac o [q0, q1, q2, q3, q4, q5, q6, q7, q8, q9, q10, q11, q12, q13, q14, q15, q16, q17, q18, q19, q20, q21, q22, q23, q24]) rfl rfl (Nat.le_of_ble_eq_true rfl) d_Model_init_191 (fun H locs w => ?_)
  refine lv_aload_n hx hb d_Model_init_194 rfl (lv_at hl 0 rfl) ?_
  refine lv_bipush (v := 18) hx hb d_Model_init_195 (by decide) ?_
  refine knewa (atype := .long) (a0 := (18, .inr (.inl (fun _ => 0)))) (N' := 18) X w wa_long rfl 1 rfl (fun _ => rfl) (by decide) (by decide) (by decide) (Nat.le_of_ble_eq_true rfl) (Nat.le_of_ble_eq_true rfl) d_Model_init_197 (fun q25 H w => ?_)
  refine W.widen (k := 26) (n := 192) (Nat.le_refl _) (Nat.le_refl _) ?_
  refine pf_Model_87 X w hin 0 (x := some q25) (ws' := pws ac o [q0, q1, q2, q3, q4, q5, q6, q7, q8, q9, q10, q11, q12, q13, q14, q15, q16, q17, q18, q19, q20, q21, q22, q23, q24, q25]) rfl rfl (Nat.le_of_ble_eq_true rfl) d_Model_init_199 (fun H locs w => ?_)
  refine lv_aload_n hx hb d_Model_init_202 rfl (lv_at hl 0 rfl) ?_
  refine lv_bipush (v := 18) hx hb d_Model_init_203 (by decide) ?_
  refine knewa (atype := .long) (a0 := (18, .inr (.inl (fun _ => 0)))) (N' := 18) X w wa_long rfl 1 rfl (fun _ => rfl) (by decide) (by decide) (by decide) (Nat.le_of_ble_eq_true rfl) (Nat.le_of_ble_eq_true rfl) d_Model_init_205 (fun q26 H w => ?_)
  refine W.widen (k := 27) (n := 210) (Nat.le_refl _) (Nat.le_refl _) ?_
  refine pf_Model_90 X w hin 0 (x := some q26) (ws' := pws ac o [q0, q1, q2, q3, q4, q5, q6, q7, q8, q9, q10, q11, q12, q13, q14, q15, q16, q17, q18, q19, q20, q21, q22, q23, q24, q25, q26]) rfl rfl (Nat.le_of_ble_eq_true rfl) d_Model_init_207 (fun H locs w => ?_)
  refine lv_aload_n hx hb d_Model_init_210 rfl (lv_at hl 0 rfl) ?_
  refine lv_bipush (v := 12) hx hb d_Model_init_211 (by decide) ?_
  refine knewa (atype := .int) (a0 := (12, .inl (fun _ => 0))) (N' := 12) X w wa_int rfl 0 rfl (fun _ => rfl) (by decide) (by decide) (by decide) (Nat.le_of_ble_eq_true rfl) (Nat.le_of_ble_eq_true rfl) d_Model_init_213 (fun q27 H w => ?_)
  refine W.widen (k := 28) (n := 222) (Nat.le_refl _) (Nat.le_refl _) ?_
  refine pf_Model_93 X w hin 0 (x := some q27) (ws' := pws ac o [q0, q1, q2, q3, q4, q5, q6, q7, q8, q9, q10, q11, q12, q13, q14, q15, q16, q17, q18, q19, q20, q21, q22, q23, q24, q25, q26, q27]) rfl rfl (Nat.le_of_ble_eq_true rfl) d_Model_init_215 (fun H locs w => ?_)
  refine lv_aload_n hx hb d_Model_init_218 rfl (lv_at hl 0 rfl) ?_
  refine lv_bipush (v := 25) hx hb d_Model_init_219 (by decide) ?_
  refine knewa (atype := .int) (a0 := (25, .inl (fun _ => 0))) (N' := 25) X w wa_int rfl 0 rfl (fun _ => rfl) (by decide) (by decide) (by decide) (Nat.le_of_ble_eq_true rfl) (Nat.le_of_ble_eq_true rfl) d_Model_init_221 (fun q28 H w => ?_)
  refine W.widen (k := 29) (n := 247) (Nat.le_refl _) (Nat.le_refl _) ?_
  refine pf_Model_96 X w hin 0 (x := some q28) (ws' := pws ac o [q0, q1, q2, q3, q4, q5, q6, q7, q8, q9, q10, q11, q12, q13, q14, q15, q16, q17, q18, q19, q20, q21, q22, q23, q24, q25, q26, q27, q28]) rfl rfl (Nat.le_of_ble_eq_true rfl) d_Model_init_223 (fun H locs w => ?_)
  refine lv_aload_n hx hb d_Model_init_226 rfl (lv_at hl 0 rfl) ?_
  refine lv_bipush (v := 25) hx hb d_Model_init_227 (by decide) ?_
  refine knewa (atype := .int) (a0 := (25, .inl (fun _ => 0))) (N' := 25) X w wa_int rfl 0 rfl (fun _ => rfl) (by decide) (by decide) (by decide) (Nat.le_of_ble_eq_true rfl) (Nat.le_of_ble_eq_true rfl) d_Model_init_229 (fun q29 H w => ?_)
  refine W.widen (k := 30) (n := 272) (Nat.le_refl _) (Nat.le_refl _) ?_
  refine pf_Model_99 X w hin 0 (x := some q29) (ws' := pws ac o [q0, q1, q2, q3, q4, q5, q6, q7, q8, q9, q10, q11, q12, q13, q14, q15, q16, q17, q18, q19, q20, q21, q22, q23, q24, q25, q26, q27, q28, q29]) rfl rfl (Nat.le_of_ble_eq_true rfl) d_Model_init_231 (fun H locs w => ?_)
  refine lv_aload_n hx hb d_Model_init_234 rfl (lv_at hl 0 rfl) ?_
  refine lv_bipush (v := 25) hx hb d_Model_init_235 (by decide) ?_
  refine knewa (atype := .int) (a0 := (25, .inl (fun _ => 0))) (N' := 25) X w wa_int rfl 0 rfl (fun _ => rfl) (by decide) (by decide) (by decide) (Nat.le_of_ble_eq_true rfl) (Nat.le_of_ble_eq_true rfl) d_Model_init_237 (fun q30 H w => ?_)
  refine W.widen (k := 31) (n := 297) (Nat.le_refl _) (Nat.le_refl _) ?_
  refine pf_Model_102 X w hin 0 (x := some q30) (ws' := pws ac o [q0, q1, q2, q3, q4, q5, q6, q7, q8, q9, q10, q11, q12, q13, q14, q15, q16, q17, q18, q19, q20, q21, q22, q23, q24, q25, q26, q27, q28, q29, q30]) rfl rfl (Nat.le_of_ble_eq_true rfl) d_Model_init_239 (fun H locs w => ?_)
  refine lv_aload_n hx hb d_Model_init_242 rfl (lv_at hl 0 rfl) ?_
  refine lv_bipush (v := 25) hx hb d_Model_init_243 (by decide) ?_
  refine knewa (atype := .boolean) (a0 := (25, .inl (fun _ => 0))) (N' := 25) X w wa_boolean rfl 2 rfl (fun _ => rfl) (by decide) (by decide) (by decide) (Nat.le_of_ble_eq_true rfl) (Nat.le_of_ble_eq_true rfl) d_Model_init_245 (fun q31 H w => ?_)
  refine W.widen (k := 32) (n := 322) (Nat.le_refl _) (Nat.le_refl _) ?_
  refine pf_Model_105 X w hin 0 (x := some q31) (ws' := pws ac o [q0, q1, q2, q3, q4, q5, q6, q7, q8, q9, q10, q11, q12, q13, q14, q15, q16, q17, q18, q19, q20, q21, q22, q23, q24, q25, q26, q27, q28, q29, q30, q31]) rfl rfl (Nat.le_of_ble_eq_true rfl) d_Model_init_247 (fun H locs w => ?_)
  refine lv_aload_n hx hb d_Model_init_250 rfl (lv_at hl 0 rfl) ?_
  refine lv_bipush (v := 25) hx hb d_Model_init_251 (by decide) ?_
  refine knewa (atype := .int) (a0 := (25, .inl (fun _ => 0))) (N' := 25) X w wa_int rfl 0 rfl (fun _ => rfl) (by decide) (by decide) (by decide) (Nat.le_of_ble_eq_true rfl) (Nat.le_of_ble_eq_true rfl) d_Model_init_253 (fun q32 H w => ?_)
  refine W.widen (k := 33) (n := 347) (Nat.le_refl _) (Nat.le_refl _) ?_
  refine pf_Model_108 X w hin 0 (x := some q32) (ws' := pws ac o [q0, q1, q2, q3, q4, q5, q6, q7, q8, q9, q10, q11, q12, q13, q14, q15, q16, q17, q18, q19, q20, q21, q22, q23, q24, q25, q26, q27, q28, q29, q30, q31, q32]) rfl rfl (Nat.le_of_ble_eq_true rfl) d_Model_init_255 (fun H locs w => ?_)
  refine lv_aload_n hx hb d_Model_init_258 rfl (lv_at hl 0 rfl) ?_
  refine lv_bipush (v := 25) hx hb d_Model_init_259 (by decide) ?_
  refine knewa (atype := .long) (a0 := (25, .inr (.inl (fun _ => 0)))) (N' := 25) X w wa_long rfl 1 rfl (fun _ => rfl) (by decide) (by decide) (by decide) (Nat.le_of_ble_eq_true rfl) (Nat.le_of_ble_eq_true rfl) d_Model_init_261 (fun q33 H w => ?_)
  refine W.widen (k := 34) (n := 372) (Nat.le_refl _) (Nat.le_refl _) ?_
  refine pf_Model_111 X w hin 0 (x := some q33) (ws' := pws ac o [q0, q1, q2, q3, q4, q5, q6, q7, q8, q9, q10, q11, q12, q13, q14, q15, q16, q17, q18, q19, q20, q21, q22, q23, q24, q25, q26, q27, q28, q29, q30, q31, q32, q33]) rfl rfl (Nat.le_of_ble_eq_true rfl) d_Model_init_263 (fun H locs w => ?_)
  refine lv_aload_n hx hb d_Model_init_266 rfl (lv_at hl 0 rfl) ?_
  refine lv_bipush (v := 25) hx hb d_Model_init_267 (by decide) ?_
  refine knewa (atype := .long) (a0 := (25, .inr (.inl (fun _ => 0)))) (N' := 25) X w wa_long rfl 1 rfl (fun _ => rfl) (by decide) (by decide) (by decide) (Nat.le_of_ble_eq_true rfl) (Nat.le_of_ble_eq_true rfl) d_Model_init_269 (fun q34 H w => ?_)
  refine W.widen (k := 35) (n := 397) (Nat.le_refl _) (Nat.le_refl _) ?_
  refine pf_Model_114 X w hin 0 (x := some q34) (ws' := pws ac o [q0, q1, q2, q3, q4, q5, q6, q7, q8, q9, q10, q11, q12, q13, q14, q15, q16, q17, q18, q19, q20, q21, q22, q23, q24, q25, q26, q27, q28, q29, q30, q31, q32, q33, q34]) rfl rfl (Nat.le_of_ble_eq_true rfl) d_Model_init_271 (fun H locs w => ?_)
  have w : Wo D _ (mws ac o (fun k => [q0, q1, q2, q3, q4, q5, q6, q7, q8, q9, q10, q11, q12, q13, q14, q15, q16, q17, q18, q19, q20, q21, q22, q23, q24, q25, q26, q27, q28, q29, q30, q31, q32, q33, q34].getD k 0) (fun _ _ => 0) (fun _ _ => 0)) s.heap H locs := w
  exact g_Model_init_274 X hr hk hin _ _ x1 x2 w (lv_sub hl [0, 1, 2] rfl) ⟨_, rfl⟩
