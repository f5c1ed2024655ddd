-- ===== PART A: goes FIRST, ahead of the names: the tables' words, and 'selects' of the private methods out of them =====
/-- a private method of a class that the tables say can be made, by its rows of tables_1 -/
def lw_okq (q : MethodName × Nat) : Prop := (q.1.cls ≠ "java/lang/invoke/MethodHandle" ∧ q.1.cls ≠ "java/lang/invoke/VarHandle") ∧ Cond.instantiable q.1.cls q.2 ∈ tables_1 ∧ Cond.privateMethod q.1 ∈ tables_1 ∧ Cond.instanceMethod q.1 ∈ tables_1
theorem lw_p0 : lw_okq (⟨"LeaseCores", "needCore", "(I)LLeaseCores$Core;"⟩, 9) := ⟨⟨by decide +kernel, by decide +kernel⟩, List.mem_of_getElem? (i := 20) (by decide +kernel), List.mem_of_getElem? (i := 248) (by decide +kernel), List.mem_of_getElem? (i := 249) (by decide +kernel)⟩
theorem lw_p1 : lw_okq (⟨"java/lang/Throwable", "fillInStackTrace", "(I)Ljava/lang/Throwable;"⟩, 6) := ⟨⟨by decide +kernel, by decide +kernel⟩, List.mem_of_getElem? (i := 290) (by decide +kernel), List.mem_of_getElem? (i := 288) (by decide +kernel), List.mem_of_getElem? (i := 289) (by decide +kernel)⟩
theorem lw_p2 : lw_okq (⟨"LeaseCores", "use", "(LLeaseCores$Place;)V"⟩, 9) := ⟨⟨by decide +kernel, by decide +kernel⟩, List.mem_of_getElem? (i := 20) (by decide +kernel), List.mem_of_getElem? (i := 341) (by decide +kernel), List.mem_of_getElem? (i := 342) (by decide +kernel)⟩
theorem lw_p3 : lw_okq (⟨"LeaseCores", "send", "(LLeaseCores$Message;)V"⟩, 9) := ⟨⟨by decide +kernel, by decide +kernel⟩, List.mem_of_getElem? (i := 20) (by decide +kernel), List.mem_of_getElem? (i := 411) (by decide +kernel), List.mem_of_getElem? (i := 412) (by decide +kernel)⟩
theorem lw_p4 : lw_okq (⟨"LeaseCores", "at", "(I)LLeaseCores$Message;"⟩, 9) := ⟨⟨by decide +kernel, by decide +kernel⟩, List.mem_of_getElem? (i := 20) (by decide +kernel), List.mem_of_getElem? (i := 423) (by decide +kernel), List.mem_of_getElem? (i := 424) (by decide +kernel)⟩
theorem lw_p5 : lw_okq (⟨"LeaseCores", "remove", "(I)V"⟩, 9) := ⟨⟨by decide +kernel, by decide +kernel⟩, List.mem_of_getElem? (i := 20) (by decide +kernel), List.mem_of_getElem? (i := 442) (by decide +kernel), List.mem_of_getElem? (i := 443) (by decide +kernel)⟩
theorem lw_p6 : lw_okq (⟨"LeaseCores", "leave", "(LLeaseCores$Core;LLeaseCores$Place;I)V"⟩, 9) := ⟨⟨by decide +kernel, by decide +kernel⟩, List.mem_of_getElem? (i := 20) (by decide +kernel), List.mem_of_getElem? (i := 457) (by decide +kernel), List.mem_of_getElem? (i := 458) (by decide +kernel)⟩
theorem lw_p7 : lw_okq (⟨"LeaseCores", "entryOf", "(I)LLeaseCores$Entry;"⟩, 9) := ⟨⟨by decide +kernel, by decide +kernel⟩, List.mem_of_getElem? (i := 20) (by decide +kernel), List.mem_of_getElem? (i := 494) (by decide +kernel), List.mem_of_getElem? (i := 495) (by decide +kernel)⟩
theorem lw_p8 : lw_okq (⟨"LeaseCores", "newEntry", "(I)LLeaseCores$Entry;"⟩, 9) := ⟨⟨by decide +kernel, by decide +kernel⟩, List.mem_of_getElem? (i := 20) (by decide +kernel), List.mem_of_getElem? (i := 498) (by decide +kernel), List.mem_of_getElem? (i := 499) (by decide +kernel)⟩
theorem lw_p9 : lw_okq (⟨"LeaseCores", "least", "(Z)LLeaseCores$Entry;"⟩, 9) := ⟨⟨by decide +kernel, by decide +kernel⟩, List.mem_of_getElem? (i := 20) (by decide +kernel), List.mem_of_getElem? (i := 503) (by decide +kernel), List.mem_of_getElem? (i := 504) (by decide +kernel)⟩
theorem lw_p10 : lw_okq (⟨"LeaseCores", "call", "()V"⟩, 9) := ⟨⟨by decide +kernel, by decide +kernel⟩, List.mem_of_getElem? (i := 20) (by decide +kernel), List.mem_of_getElem? (i := 508) (by decide +kernel), List.mem_of_getElem? (i := 509) (by decide +kernel)⟩
theorem lw_p11 : lw_okq (⟨"LeaseCores", "serve", "(LLeaseCores$Entry;LLeaseCores$Request;)V"⟩, 9) := ⟨⟨by decide +kernel, by decide +kernel⟩, List.mem_of_getElem? (i := 20) (by decide +kernel), List.mem_of_getElem? (i := 532) (by decide +kernel), List.mem_of_getElem? (i := 533) (by decide +kernel)⟩
theorem lw_p12 : lw_okq (⟨"LeaseCores", "forgetCalls", "(I)V"⟩, 9) := ⟨⟨by decide +kernel, by decide +kernel⟩, List.mem_of_getElem? (i := 20) (by decide +kernel), List.mem_of_getElem? (i := 563) (by decide +kernel), List.mem_of_getElem? (i := 564) (by decide +kernel)⟩
theorem lw_p13 : lw_okq (⟨"LeaseCores", "insert", "(ILLeaseCores$Message;)V"⟩, 9) := ⟨⟨by decide +kernel, by decide +kernel⟩, List.mem_of_getElem? (i := 20) (by decide +kernel), List.mem_of_getElem? (i := 572) (by decide +kernel), List.mem_of_getElem? (i := 573) (by decide +kernel)⟩
theorem lw_p14 : lw_okq (⟨"LeaseCoresModel", "fail", "(I)I"⟩, 40) := ⟨⟨by decide +kernel, by decide +kernel⟩, List.mem_of_getElem? (i := 630) (by decide +kernel), List.mem_of_getElem? (i := 770) (by decide +kernel), List.mem_of_getElem? (i := 771) (by decide +kernel)⟩
theorem lw_p15 : lw_okq (⟨"LeaseCoresModel", "placeOf", "(II)I"⟩, 40) := ⟨⟨by decide +kernel, by decide +kernel⟩, List.mem_of_getElem? (i := 630) (by decide +kernel), List.mem_of_getElem? (i := 774) (by decide +kernel), List.mem_of_getElem? (i := 775) (by decide +kernel)⟩
def lw_privs_1 : List (MethodName × Nat) := [(⟨"LeaseCores", "needCore", "(I)LLeaseCores$Core;"⟩, 9), (⟨"java/lang/Throwable", "fillInStackTrace", "(I)Ljava/lang/Throwable;"⟩, 6), (⟨"LeaseCores", "use", "(LLeaseCores$Place;)V"⟩, 9), (⟨"LeaseCores", "send", "(LLeaseCores$Message;)V"⟩, 9), (⟨"LeaseCores", "at", "(I)LLeaseCores$Message;"⟩, 9), (⟨"LeaseCores", "remove", "(I)V"⟩, 9), (⟨"LeaseCores", "leave", "(LLeaseCores$Core;LLeaseCores$Place;I)V"⟩, 9), (⟨"LeaseCores", "entryOf", "(I)LLeaseCores$Entry;"⟩, 9), (⟨"LeaseCores", "newEntry", "(I)LLeaseCores$Entry;"⟩, 9), (⟨"LeaseCores", "least", "(Z)LLeaseCores$Entry;"⟩, 9), (⟨"LeaseCores", "call", "()V"⟩, 9), (⟨"LeaseCores", "serve", "(LLeaseCores$Entry;LLeaseCores$Request;)V"⟩, 9), (⟨"LeaseCores", "forgetCalls", "(I)V"⟩, 9), (⟨"LeaseCores", "insert", "(ILLeaseCores$Message;)V"⟩, 9), (⟨"LeaseCoresModel", "fail", "(I)I"⟩, 40), (⟨"LeaseCoresModel", "placeOf", "(II)I"⟩, 40)]
theorem lw_r1 : ∀ q ∈ lw_privs_1, lw_okq q := List.forall_mem_cons.mpr ⟨lw_p0, List.forall_mem_cons.mpr ⟨lw_p1, List.forall_mem_cons.mpr ⟨lw_p2, List.forall_mem_cons.mpr ⟨lw_p3, List.forall_mem_cons.mpr ⟨lw_p4, List.forall_mem_cons.mpr ⟨lw_p5, List.forall_mem_cons.mpr ⟨lw_p6, List.forall_mem_cons.mpr ⟨lw_p7, List.forall_mem_cons.mpr ⟨lw_p8, List.forall_mem_cons.mpr ⟨lw_p9, List.forall_mem_cons.mpr ⟨lw_p10, List.forall_mem_cons.mpr ⟨lw_p11, List.forall_mem_cons.mpr ⟨lw_p12, List.forall_mem_cons.mpr ⟨lw_p13, List.forall_mem_cons.mpr ⟨lw_p14, List.forall_mem_cons.mpr ⟨lw_p15, fun _ h => absurd h List.not_mem_nil⟩⟩⟩⟩⟩⟩⟩⟩⟩⟩⟩⟩⟩⟩⟩⟩
theorem lw_p16 : lw_okq (⟨"LeaseCoresModel", "can", "(II)Z"⟩, 40) := ⟨⟨by decide +kernel, by decide +kernel⟩, List.mem_of_getElem? (i := 630) (by decide +kernel), List.mem_of_getElem? (i := 778) (by decide +kernel), List.mem_of_getElem? (i := 779) (by decide +kernel)⟩
theorem lw_p17 : lw_okq (⟨"LeaseCoresModel", "does", "(II)V"⟩, 40) := ⟨⟨by decide +kernel, by decide +kernel⟩, List.mem_of_getElem? (i := 630) (by decide +kernel), List.mem_of_getElem? (i := 782) (by decide +kernel), List.mem_of_getElem? (i := 783) (by decide +kernel)⟩
theorem lw_p18 : lw_okq (⟨"LeaseCoresModel", "use", "(I)V"⟩, 40) := ⟨⟨by decide +kernel, by decide +kernel⟩, List.mem_of_getElem? (i := 630) (by decide +kernel), List.mem_of_getElem? (i := 789) (by decide +kernel), List.mem_of_getElem? (i := 790) (by decide +kernel)⟩
theorem lw_p19 : lw_okq (⟨"LeaseCoresModel", "send", "(IIIZIJJ)V"⟩, 40) := ⟨⟨by decide +kernel, by decide +kernel⟩, List.mem_of_getElem? (i := 630) (by decide +kernel), List.mem_of_getElem? (i := 794) (by decide +kernel), List.mem_of_getElem? (i := 795) (by decide +kernel)⟩
theorem lw_p20 : lw_okq (⟨"LeaseCoresModel", "takesRequest", "(I)Z"⟩, 40) := ⟨⟨by decide +kernel, by decide +kernel⟩, List.mem_of_getElem? (i := 630) (by decide +kernel), List.mem_of_getElem? (i := 802) (by decide +kernel), List.mem_of_getElem? (i := 803) (by decide +kernel)⟩
theorem lw_p21 : lw_okq (⟨"LeaseCoresModel", "entryOf", "(I)I"⟩, 40) := ⟨⟨by decide +kernel, by decide +kernel⟩, List.mem_of_getElem? (i := 630) (by decide +kernel), List.mem_of_getElem? (i := 806) (by decide +kernel), List.mem_of_getElem? (i := 807) (by decide +kernel)⟩
theorem lw_p22 : lw_okq (⟨"LeaseCoresModel", "open", "(I)I"⟩, 40) := ⟨⟨by decide +kernel, by decide +kernel⟩, List.mem_of_getElem? (i := 630) (by decide +kernel), List.mem_of_getElem? (i := 810) (by decide +kernel), List.mem_of_getElem? (i := 811) (by decide +kernel)⟩
theorem lw_p23 : lw_okq (⟨"LeaseCoresModel", "least", "(Z)I"⟩, 40) := ⟨⟨by decide +kernel, by decide +kernel⟩, List.mem_of_getElem? (i := 630) (by decide +kernel), List.mem_of_getElem? (i := 814) (by decide +kernel), List.mem_of_getElem? (i := 815) (by decide +kernel)⟩
theorem lw_p24 : lw_okq (⟨"LeaseCoresModel", "call", "()V"⟩, 40) := ⟨⟨by decide +kernel, by decide +kernel⟩, List.mem_of_getElem? (i := 630) (by decide +kernel), List.mem_of_getElem? (i := 818) (by decide +kernel), List.mem_of_getElem? (i := 819) (by decide +kernel)⟩
theorem lw_p25 : lw_okq (⟨"LeaseCoresModel", "remove", "(I)V"⟩, 40) := ⟨⟨by decide +kernel, by decide +kernel⟩, List.mem_of_getElem? (i := 630) (by decide +kernel), List.mem_of_getElem? (i := 822) (by decide +kernel), List.mem_of_getElem? (i := 823) (by decide +kernel)⟩
theorem lw_p26 : lw_okq (⟨"LeaseCoresModel", "serves", "(I)Z"⟩, 40) := ⟨⟨by decide +kernel, by decide +kernel⟩, List.mem_of_getElem? (i := 630) (by decide +kernel), List.mem_of_getElem? (i := 826) (by decide +kernel), List.mem_of_getElem? (i := 827) (by decide +kernel)⟩
theorem lw_p27 : lw_okq (⟨"LeaseCoresModel", "takesBack", "(I)V"⟩, 40) := ⟨⟨by decide +kernel, by decide +kernel⟩, List.mem_of_getElem? (i := 630) (by decide +kernel), List.mem_of_getElem? (i := 830) (by decide +kernel), List.mem_of_getElem? (i := 831) (by decide +kernel)⟩
theorem lw_p28 : lw_okq (⟨"LeaseCoresModel", "forget", "(I)V"⟩, 40) := ⟨⟨by decide +kernel, by decide +kernel⟩, List.mem_of_getElem? (i := 630) (by decide +kernel), List.mem_of_getElem? (i := 834) (by decide +kernel), List.mem_of_getElem? (i := 835) (by decide +kernel)⟩
theorem lw_p29 : lw_okq (⟨"LeaseCoresModel", "gives", "(I)Z"⟩, 40) := ⟨⟨by decide +kernel, by decide +kernel⟩, List.mem_of_getElem? (i := 630) (by decide +kernel), List.mem_of_getElem? (i := 838) (by decide +kernel), List.mem_of_getElem? (i := 839) (by decide +kernel)⟩
theorem lw_p30 : lw_okq (⟨"LeaseCoresModel", "answered", "(I)V"⟩, 40) := ⟨⟨by decide +kernel, by decide +kernel⟩, List.mem_of_getElem? (i := 630) (by decide +kernel), List.mem_of_getElem? (i := 842) (by decide +kernel), List.mem_of_getElem? (i := 843) (by decide +kernel)⟩
theorem lw_p31 : lw_okq (⟨"LeaseCoresModel", "room", "(II)I"⟩, 40) := ⟨⟨by decide +kernel, by decide +kernel⟩, List.mem_of_getElem? (i := 630) (by decide +kernel), List.mem_of_getElem? (i := 846) (by decide +kernel), List.mem_of_getElem? (i := 847) (by decide +kernel)⟩
def lw_privs_2 : List (MethodName × Nat) := [(⟨"LeaseCoresModel", "can", "(II)Z"⟩, 40), (⟨"LeaseCoresModel", "does", "(II)V"⟩, 40), (⟨"LeaseCoresModel", "use", "(I)V"⟩, 40), (⟨"LeaseCoresModel", "send", "(IIIZIJJ)V"⟩, 40), (⟨"LeaseCoresModel", "takesRequest", "(I)Z"⟩, 40), (⟨"LeaseCoresModel", "entryOf", "(I)I"⟩, 40), (⟨"LeaseCoresModel", "open", "(I)I"⟩, 40), (⟨"LeaseCoresModel", "least", "(Z)I"⟩, 40), (⟨"LeaseCoresModel", "call", "()V"⟩, 40), (⟨"LeaseCoresModel", "remove", "(I)V"⟩, 40), (⟨"LeaseCoresModel", "serves", "(I)Z"⟩, 40), (⟨"LeaseCoresModel", "takesBack", "(I)V"⟩, 40), (⟨"LeaseCoresModel", "forget", "(I)V"⟩, 40), (⟨"LeaseCoresModel", "gives", "(I)Z"⟩, 40), (⟨"LeaseCoresModel", "answered", "(I)V"⟩, 40), (⟨"LeaseCoresModel", "room", "(II)I"⟩, 40)]
theorem lw_r2 : ∀ q ∈ lw_privs_2, lw_okq q := List.forall_mem_cons.mpr ⟨lw_p16, List.forall_mem_cons.mpr ⟨lw_p17, List.forall_mem_cons.mpr ⟨lw_p18, List.forall_mem_cons.mpr ⟨lw_p19, List.forall_mem_cons.mpr ⟨lw_p20, List.forall_mem_cons.mpr ⟨lw_p21, List.forall_mem_cons.mpr ⟨lw_p22, List.forall_mem_cons.mpr ⟨lw_p23, List.forall_mem_cons.mpr ⟨lw_p24, List.forall_mem_cons.mpr ⟨lw_p25, List.forall_mem_cons.mpr ⟨lw_p26, List.forall_mem_cons.mpr ⟨lw_p27, List.forall_mem_cons.mpr ⟨lw_p28, List.forall_mem_cons.mpr ⟨lw_p29, List.forall_mem_cons.mpr ⟨lw_p30, List.forall_mem_cons.mpr ⟨lw_p31, fun _ h => absurd h List.not_mem_nil⟩⟩⟩⟩⟩⟩⟩⟩⟩⟩⟩⟩⟩⟩⟩⟩
def lw_privs : List (MethodName × Nat) := lw_privs_1 ++ (lw_privs_2)
def lw_tbl : List Cond := k2_sels lw_privs ++ tables_1
theorem lw_privs_ok : ∀ q ∈ lw_privs, lw_okq q := by
  show ∀ q ∈ lw_privs_1 ++ (lw_privs_2), lw_okq q
  exact List.forall_mem_append.mpr ⟨lw_r1, lw_r2⟩

-- the words that can be carried along, and what it is that they hold
def okw : Cond → Bool
  | .fieldLinkNest .. => true
  | .methodLinkNest .. => true
  | .declares _ => true
  | .castable .. => true
  | .arrayOver (.object _) => true
  | w => goodWord w
/-- the pairs of classes of which no cast goes -/
def ncs : List (String × String) := [("LeaseCores$Request", "LeaseCores$Call"), ("LeaseCores$Answer", "LeaseCores$Call"), ("LeaseCores$Return", "LeaseCores$Call"), ("java/lang/IllegalStateException", "java/lang/IllegalArgumentException"), ("java/lang/IllegalArgumentException", "java/util/NoSuchElementException"), ("java/util/NoSuchElementException", "java/lang/IllegalArgumentException")]
/-- all words of the tables that can be carried hold at U -/
def TW (U : State) : Prop := (∀ w ∈ lw_tbl, okw w = true → ∀ a : Array Value, w.before a U = true) ∧ ∀ q ∈ ncs, va_Nc q.1 q.2 U
theorem tw_one {s U : State} (hW : s.WarmedH U.vm) {w : Cond} (hk : okw w = true) (h : ∀ a : Array Value, w.before a s = true) (a : Array Value) : w.before a U = true := by
  cases w
  case fieldLinkNest => exact va_Nw.use rfl (va_Nw.warmF hW (va_Nw.of rfl (h #[])))
  case methodLinkNest => exact va_Nw.use rfl (va_Nw.warmM hW (va_Nw.of rfl (h #[])))
  case declares => exact va_Nw.use rfl (va_Nw.warmD hW (va_Nw.of rfl (h #[])))
  case castable => exact va_Nw.use rfl (va_Nw.warmC hW (va_Nw.of rfl (h #[])))
  case arrayOver t =>
    cases t
    case object C => exact va_AO.use (va_AO.moved hW.alike (va_AO.of (h #[])))
    all_goals exact absurd hk (by simp [okw, goodWord, Cond.onTables])
  all_goals exact word_at hW (good_of_word hk) (h #[])
theorem TW.moved {s U : State} (hW : s.WarmedH U.vm) (h : TW s) : TW U := ⟨fun w hw hk a => tw_one hW hk (h.1 w hw hk) a, fun q hq => (h.2 q hq).moved hW.alike⟩
theorem TW.at {s : State} (h : TW s) {w : Cond} (hw : w ∈ lw_tbl ∧ okw w = true) {a : Array Value} : w.before a s = true := h.1 w hw.1 hw.2 a
theorem TW.of {s : State} {a : Array Value} (h : ∀ w ∈ lw_tbl, w.before a s = true) (hn : ∀ q ∈ ncs, va_Nc q.1 q.2 s) : TW s := by
  refine ⟨?_, hn⟩
  intro w hw hk a'
  have h1 := h w hw
  cases w
  case arrayOver t =>
    cases t
    case object C => exact va_AO.use (va_AO.of h1)
    all_goals exact absurd hk (by simp [okw, goodWord, Cond.onTables])
  case arrayClass => exact h1
  all_goals first
    | exact va_Nw.use rfl (va_Nw.of rfl h1)
    | exact absurd hk (by simp [okw, goodWord, Cond.onTables])
theorem TW.calling {U : State} (h : TW U) (g : JFrame) (mk : MethodId) (a : Array Value) : TW (U.calling g mk a) := TW.moved (s := U) (U := U.calling g mk a) (State.WarmedH.refl U) h
