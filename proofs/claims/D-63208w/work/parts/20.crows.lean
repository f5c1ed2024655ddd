def rC (ad : Nat → Nat) (x : Option Nat) : Option Nat := x.map (fun c => ad (4 + c))
def rP (ad : Nat → Nat) (x : Option Nat) : Option Nat := x.map (fun q => ad (10 + q))
def rE (ad : Nat → Nat) (x : Option Nat) : Option Nat := x.map (fun e => ad (22 + e))
def oLC (ad : Nat → Nat) (CI : Nat → Nat → Int32) (CL : Nat → Nat → Int64) (CR : Nat → Nat → Option Nat) (i : Nat) : List Value := [.int (CI 36 0), .int (CI 37 0), .ref (ad 0), .ref (ad 1), .ref (ad 2), .long (CL 35 0), .ref (ad 3), .int (CI 38 0), .int (CI 39 0)]
def oCore (ad : Nat → Nat) (CI : Nat → Nat → Int32) (CL : Nat → Nat → Int64) (CR : Nat → Nat → Option Nat) (i : Nat) : List Value := [.int (nI i), .long (CL 0 i), .ref (ad (7 + i)), .int (CI 1 i), .int (CI 2 i), .int (CI 3 i), .int (CI 4 i), .int (CI 5 i), .int (CI 6 i), .int (CI 7 i), .int (CI 8 i), .int (CI 9 i)]
def oPlace (ad : Nat → Nat) (CI : Nat → Nat → Int32) (CL : Nat → Nat → Int64) (CR : Nat → Nat → Option Nat) (i : Nat) : List Value := [.int (CI 10 i), .int (CI 12 i), .long (CL 13 i), .long (CL 14 i), .int (CI 11 i), .int (CI 15 i)]
def oEntry (ad : Nat → Nat) (CI : Nat → Nat → Int32) (CL : Nat → Nat → Int64) (CR : Nat → Nat → Option Nat) (i : Nat) : List Value := [.int (CI 16 i), .int (CI 17 i), .long (CL 18 i), .long (CL 19 i), va_rf (rC ad (CR 0 i)), .int (CI 21 i), va_rf (CR 1 i), .ref (ad (28 + i)), .int (CI 22 i)]
def cws (ac : Nat → ClassId) (o : Nat) (ad : Nat → Nat) (CI : Nat → Nat → Int32) (CL : Nat → Nat → Int64) (CR : Nat → Nat → Option Nat) (tl : va_W) : va_W :=
   (o, .inr (0, oLC ad CI CL CR 0)) ::
   (ad 0, .inl (ac 3, 3, .inr (.inr (.inr (.inr (fun k => some (ad (4 + k)))))))) ::
   (ad 1, .inl (ac 4, 6, .inr (.inr (.inr (.inr (fun k => some (ad (22 + k)))))))) ::
   (ad 2, .inl (ac 0, 12, .inl (CI 27))) ::
   (ad 3, .inl (ac 5, 24, .inr (.inr (.inr (.inr (CR 3)))))) ::
   (ad (4 + 0), .inr (1, oCore ad CI CL CR 0)) ::
   (ad (4 + 1), .inr (1, oCore ad CI CL CR 1)) ::
   (ad (4 + 2), .inr (1, oCore ad CI CL CR 2)) ::
   (ad (7 + 0), .inl (ac 6, 4, .inr (.inr (.inr (.inr (fun k => some (ad (10 + (4 * 0 + k))))))))) ::
   (ad (7 + 1), .inl (ac 6, 4, .inr (.inr (.inr (.inr (fun k => some (ad (10 + (4 * 1 + k))))))))) ::
   (ad (7 + 2), .inl (ac 6, 4, .inr (.inr (.inr (.inr (fun k => some (ad (10 + (4 * 2 + k))))))))) ::
   (ad (10 + 0), .inr (2, oPlace ad CI CL CR 0)) ::
   (ad (10 + 1), .inr (2, oPlace ad CI CL CR 1)) ::
   (ad (10 + 2), .inr (2, oPlace ad CI CL CR 2)) ::
   (ad (10 + 3), .inr (2, oPlace ad CI CL CR 3)) ::
   (ad (10 + 4), .inr (2, oPlace ad CI CL CR 4)) ::
   (ad (10 + 5), .inr (2, oPlace ad CI CL CR 5)) ::
   (ad (10 + 6), .inr (2, oPlace ad CI CL CR 6)) ::
   (ad (10 + 7), .inr (2, oPlace ad CI CL CR 7)) ::
   (ad (10 + 8), .inr (2, oPlace ad CI CL CR 8)) ::
   (ad (10 + 9), .inr (2, oPlace ad CI CL CR 9)) ::
   (ad (10 + 10), .inr (2, oPlace ad CI CL CR 10)) ::
   (ad (10 + 11), .inr (2, oPlace ad CI CL CR 11)) ::
   (ad (22 + 0), .inr (3, oEntry ad CI CL CR 0)) ::
   (ad (22 + 1), .inr (3, oEntry ad CI CL CR 1)) ::
   (ad (22 + 2), .inr (3, oEntry ad CI CL CR 2)) ::
   (ad (22 + 3), .inr (3, oEntry ad CI CL CR 3)) ::
   (ad (22 + 4), .inr (3, oEntry ad CI CL CR 4)) ::
   (ad (22 + 5), .inr (3, oEntry ad CI CL CR 5)) ::
   (ad (28 + 0), .inl (ac 7, 2, .inr (.inr (.inr (.inr (CR (10 + 0))))))) ::
   (ad (28 + 1), .inl (ac 7, 2, .inr (.inr (.inr (.inr (CR (10 + 1))))))) ::
   (ad (28 + 2), .inl (ac 7, 2, .inr (.inr (.inr (.inr (CR (10 + 2))))))) ::
   (ad (28 + 3), .inl (ac 7, 2, .inr (.inr (.inr (.inr (CR (10 + 3))))))) ::
   (ad (28 + 4), .inl (ac 7, 2, .inr (.inr (.inr (.inr (CR (10 + 4))))))) ::
   (ad (28 + 5), .inl (ac 7, 2, .inr (.inr (.inr (.inr (CR (10 + 5))))))) :: tl
theorem cw_Core {ac : Nat → ClassId} {o : Nat} {ad : Nat → Nat} {CI : Nat → Nat → Int32} {CL : Nat → Nat → Int64} {CR : Nat → Nat → Option Nat} {tl : va_W} (i : Nat) (h : i < 3) : (cws ac o ad CI CL CR tl)[5 + i]? = some (ad (4 + i), .inr (1, oCore ad CI CL CR i)) :=
  match i, h with
  | 0, _ => rfl
  | 1, _ => rfl
  | 2, _ => rfl
theorem cs_Core_1 {ac : Nat → ClassId} {o : Nat} {ad : Nat → Nat} {CI : Nat → Nat → Int32} {CL : Nat → Nat → Int64} {CR : Nat → Nat → Option Nat} {tl : va_W} (i : Nat) (h : i < 3) (x : Int64) : (cws ac o ad CI CL CR tl).set (5 + i) (ad (4 + i), .inr (1, (oCore ad CI CL CR i).set 1 (.long x))) = cws ac o ad CI (up2 CL 0 i x) CR tl :=
  match i, h with
  | 0, _ => rfl
  | 1, _ => rfl
  | 2, _ => rfl
theorem cs_Core_3 {ac : Nat → ClassId} {o : Nat} {ad : Nat → Nat} {CI : Nat → Nat → Int32} {CL : Nat → Nat → Int64} {CR : Nat → Nat → Option Nat} {tl : va_W} (i : Nat) (h : i < 3) (x : Int32) : (cws ac o ad CI CL CR tl).set (5 + i) (ad (4 + i), .inr (1, (oCore ad CI CL CR i).set 3 (.int x))) = cws ac o ad (up2 CI 1 i x) CL CR tl :=
  match i, h with
  | 0, _ => rfl
  | 1, _ => rfl
  | 2, _ => rfl
theorem cs_Core_4 {ac : Nat → ClassId} {o : Nat} {ad : Nat → Nat} {CI : Nat → Nat → Int32} {CL : Nat → Nat → Int64} {CR : Nat → Nat → Option Nat} {tl : va_W} (i : Nat) (h : i < 3) (x : Int32) : (cws ac o ad CI CL CR tl).set (5 + i) (ad (4 + i), .inr (1, (oCore ad CI CL CR i).set 4 (.int x))) = cws ac o ad (up2 CI 2 i x) CL CR tl :=
  match i, h with
  | 0, _ => rfl
  | 1, _ => rfl
  | 2, _ => rfl
theorem cs_Core_5 {ac : Nat → ClassId} {o : Nat} {ad : Nat → Nat} {CI : Nat → Nat → Int32} {CL : Nat → Nat → Int64} {CR : Nat → Nat → Option Nat} {tl : va_W} (i : Nat) (h : i < 3) (x : Int32) : (cws ac o ad CI CL CR tl).set (5 + i) (ad (4 + i), .inr (1, (oCore ad CI CL CR i).set 5 (.int x))) = cws ac o ad (up2 CI 3 i x) CL CR tl :=
  match i, h with
  | 0, _ => rfl
  | 1, _ => rfl
  | 2, _ => rfl
theorem cs_Core_6 {ac : Nat → ClassId} {o : Nat} {ad : Nat → Nat} {CI : Nat → Nat → Int32} {CL : Nat → Nat → Int64} {CR : Nat → Nat → Option Nat} {tl : va_W} (i : Nat) (h : i < 3) (x : Int32) : (cws ac o ad CI CL CR tl).set (5 + i) (ad (4 + i), .inr (1, (oCore ad CI CL CR i).set 6 (.int x))) = cws ac o ad (up2 CI 4 i x) CL CR tl :=
  match i, h with
  | 0, _ => rfl
  | 1, _ => rfl
  | 2, _ => rfl
theorem cs_Core_7 {ac : Nat → ClassId} {o : Nat} {ad : Nat → Nat} {CI : Nat → Nat → Int32} {CL : Nat → Nat → Int64} {CR : Nat → Nat → Option Nat} {tl : va_W} (i : Nat) (h : i < 3) (x : Int32) : (cws ac o ad CI CL CR tl).set (5 + i) (ad (4 + i), .inr (1, (oCore ad CI CL CR i).set 7 (.int x))) = cws ac o ad (up2 CI 5 i x) CL CR tl :=
  match i, h with
  | 0, _ => rfl
  | 1, _ => rfl
  | 2, _ => rfl
theorem cs_Core_8 {ac : Nat → ClassId} {o : Nat} {ad : Nat → Nat} {CI : Nat → Nat → Int32} {CL : Nat → Nat → Int64} {CR : Nat → Nat → Option Nat} {tl : va_W} (i : Nat) (h : i < 3) (x : Int32) : (cws ac o ad CI CL CR tl).set (5 + i) (ad (4 + i), .inr (1, (oCore ad CI CL CR i).set 8 (.int x))) = cws ac o ad (up2 CI 6 i x) CL CR tl :=
  match i, h with
  | 0, _ => rfl
  | 1, _ => rfl
  | 2, _ => rfl
theorem cs_Core_9 {ac : Nat → ClassId} {o : Nat} {ad : Nat → Nat} {CI : Nat → Nat → Int32} {CL : Nat → Nat → Int64} {CR : Nat → Nat → Option Nat} {tl : va_W} (i : Nat) (h : i < 3) (x : Int32) : (cws ac o ad CI CL CR tl).set (5 + i) (ad (4 + i), .inr (1, (oCore ad CI CL CR i).set 9 (.int x))) = cws ac o ad (up2 CI 7 i x) CL CR tl :=
  match i, h with
  | 0, _ => rfl
  | 1, _ => rfl
  | 2, _ => rfl
theorem cs_Core_10 {ac : Nat → ClassId} {o : Nat} {ad : Nat → Nat} {CI : Nat → Nat → Int32} {CL : Nat → Nat → Int64} {CR : Nat → Nat → Option Nat} {tl : va_W} (i : Nat) (h : i < 3) (x : Int32) : (cws ac o ad CI CL CR tl).set (5 + i) (ad (4 + i), .inr (1, (oCore ad CI CL CR i).set 10 (.int x))) = cws ac o ad (up2 CI 8 i x) CL CR tl :=
  match i, h with
  | 0, _ => rfl
  | 1, _ => rfl
  | 2, _ => rfl
theorem cs_Core_11 {ac : Nat → ClassId} {o : Nat} {ad : Nat → Nat} {CI : Nat → Nat → Int32} {CL : Nat → Nat → Int64} {CR : Nat → Nat → Option Nat} {tl : va_W} (i : Nat) (h : i < 3) (x : Int32) : (cws ac o ad CI CL CR tl).set (5 + i) (ad (4 + i), .inr (1, (oCore ad CI CL CR i).set 11 (.int x))) = cws ac o ad (up2 CI 9 i x) CL CR tl :=
  match i, h with
  | 0, _ => rfl
  | 1, _ => rfl
  | 2, _ => rfl
theorem cw_Place {ac : Nat → ClassId} {o : Nat} {ad : Nat → Nat} {CI : Nat → Nat → Int32} {CL : Nat → Nat → Int64} {CR : Nat → Nat → Option Nat} {tl : va_W} (i : Nat) (h : i < 12) : (cws ac o ad CI CL CR tl)[11 + i]? = some (ad (10 + i), .inr (2, oPlace ad CI CL CR i)) :=
  match i, h with
  | 0, _ => rfl
  | 1, _ => rfl
  | 2, _ => rfl
  | 3, _ => rfl
  | 4, _ => rfl
  | 5, _ => rfl
  | 6, _ => rfl
  | 7, _ => rfl
  | 8, _ => rfl
  | 9, _ => rfl
  | 10, _ => rfl
  | 11, _ => rfl
theorem cs_Place_0 {ac : Nat → ClassId} {o : Nat} {ad : Nat → Nat} {CI : Nat → Nat → Int32} {CL : Nat → Nat → Int64} {CR : Nat → Nat → Option Nat} {tl : va_W} (i : Nat) (h : i < 12) (x : Int32) : (cws ac o ad CI CL CR tl).set (11 + i) (ad (10 + i), .inr (2, (oPlace ad CI CL CR i).set 0 (.int x))) = cws ac o ad (up2 CI 10 i x) CL CR tl :=
  match i, h with
  | 0, _ => rfl
  | 1, _ => rfl
  | 2, _ => rfl
  | 3, _ => rfl
  | 4, _ => rfl
  | 5, _ => rfl
  | 6, _ => rfl
  | 7, _ => rfl
  | 8, _ => rfl
  | 9, _ => rfl
  | 10, _ => rfl
  | 11, _ => rfl
theorem cs_Place_1 {ac : Nat → ClassId} {o : Nat} {ad : Nat → Nat} {CI : Nat → Nat → Int32} {CL : Nat → Nat → Int64} {CR : Nat → Nat → Option Nat} {tl : va_W} (i : Nat) (h : i < 12) (x : Int32) : (cws ac o ad CI CL CR tl).set (11 + i) (ad (10 + i), .inr (2, (oPlace ad CI CL CR i).set 1 (.int x))) = cws ac o ad (up2 CI 12 i x) CL CR tl :=
  match i, h with
  | 0, _ => rfl
  | 1, _ => rfl
  | 2, _ => rfl
  | 3, _ => rfl
  | 4, _ => rfl
  | 5, _ => rfl
  | 6, _ => rfl
  | 7, _ => rfl
  | 8, _ => rfl
  | 9, _ => rfl
  | 10, _ => rfl
  | 11, _ => rfl
theorem cs_Place_2 {ac : Nat → ClassId} {o : Nat} {ad : Nat → Nat} {CI : Nat → Nat → Int32} {CL : Nat → Nat → Int64} {CR : Nat → Nat → Option Nat} {tl : va_W} (i : Nat) (h : i < 12) (x : Int64) : (cws ac o ad CI CL CR tl).set (11 + i) (ad (10 + i), .inr (2, (oPlace ad CI CL CR i).set 2 (.long x))) = cws ac o ad CI (up2 CL 13 i x) CR tl :=
  match i, h with
  | 0, _ => rfl
  | 1, _ => rfl
  | 2, _ => rfl
  | 3, _ => rfl
  | 4, _ => rfl
  | 5, _ => rfl
  | 6, _ => rfl
  | 7, _ => rfl
  | 8, _ => rfl
  | 9, _ => rfl
  | 10, _ => rfl
  | 11, _ => rfl
theorem cs_Place_3 {ac : Nat → ClassId} {o : Nat} {ad : Nat → Nat} {CI : Nat → Nat → Int32} {CL : Nat → Nat → Int64} {CR : Nat → Nat → Option Nat} {tl : va_W} (i : Nat) (h : i < 12) (x : Int64) : (cws ac o ad CI CL CR tl).set (11 + i) (ad (10 + i), .inr (2, (oPlace ad CI CL CR i).set 3 (.long x))) = cws ac o ad CI (up2 CL 14 i x) CR tl :=
  match i, h with
  | 0, _ => rfl
  | 1, _ => rfl
  | 2, _ => rfl
  | 3, _ => rfl
  | 4, _ => rfl
  | 5, _ => rfl
  | 6, _ => rfl
  | 7, _ => rfl
  | 8, _ => rfl
  | 9, _ => rfl
  | 10, _ => rfl
  | 11, _ => rfl
theorem cs_Place_4 {ac : Nat → ClassId} {o : Nat} {ad : Nat → Nat} {CI : Nat → Nat → Int32} {CL : Nat → Nat → Int64} {CR : Nat → Nat → Option Nat} {tl : va_W} (i : Nat) (h : i < 12) (x : Int32) : (cws ac o ad CI CL CR tl).set (11 + i) (ad (10 + i), .inr (2, (oPlace ad CI CL CR i).set 4 (.int x))) = cws ac o ad (up2 CI 11 i x) CL CR tl :=
  match i, h with
  | 0, _ => rfl
  | 1, _ => rfl
  | 2, _ => rfl
  | 3, _ => rfl
  | 4, _ => rfl
  | 5, _ => rfl
  | 6, _ => rfl
  | 7, _ => rfl
  | 8, _ => rfl
  | 9, _ => rfl
  | 10, _ => rfl
  | 11, _ => rfl
theorem cs_Place_5 {ac : Nat → ClassId} {o : Nat} {ad : Nat → Nat} {CI : Nat → Nat → Int32} {CL : Nat → Nat → Int64} {CR : Nat → Nat → Option Nat} {tl : va_W} (i : Nat) (h : i < 12) (x : Int32) : (cws ac o ad CI CL CR tl).set (11 + i) (ad (10 + i), .inr (2, (oPlace ad CI CL CR i).set 5 (.int x))) = cws ac o ad (up2 CI 15 i x) CL CR tl :=
  match i, h with
  | 0, _ => rfl
  | 1, _ => rfl
  | 2, _ => rfl
  | 3, _ => rfl
  | 4, _ => rfl
  | 5, _ => rfl
  | 6, _ => rfl
  | 7, _ => rfl
  | 8, _ => rfl
  | 9, _ => rfl
  | 10, _ => rfl
  | 11, _ => rfl
theorem cw_Entry {ac : Nat → ClassId} {o : Nat} {ad : Nat → Nat} {CI : Nat → Nat → Int32} {CL : Nat → Nat → Int64} {CR : Nat → Nat → Option Nat} {tl : va_W} (i : Nat) (h : i < 6) : (cws ac o ad CI CL CR tl)[23 + i]? = some (ad (22 + i), .inr (3, oEntry ad CI CL CR i)) :=
  match i, h with
  | 0, _ => rfl
  | 1, _ => rfl
  | 2, _ => rfl
  | 3, _ => rfl
  | 4, _ => rfl
  | 5, _ => rfl
theorem cs_Entry_0 {ac : Nat → ClassId} {o : Nat} {ad : Nat → Nat} {CI : Nat → Nat → Int32} {CL : Nat → Nat → Int64} {CR : Nat → Nat → Option Nat} {tl : va_W} (i : Nat) (h : i < 6) (x : Int32) : (cws ac o ad CI CL CR tl).set (23 + i) (ad (22 + i), .inr (3, (oEntry ad CI CL CR i).set 0 (.int x))) = cws ac o ad (up2 CI 16 i x) CL CR tl :=
  match i, h with
  | 0, _ => rfl
  | 1, _ => rfl
  | 2, _ => rfl
  | 3, _ => rfl
  | 4, _ => rfl
  | 5, _ => rfl
theorem cs_Entry_1 {ac : Nat → ClassId} {o : Nat} {ad : Nat → Nat} {CI : Nat → Nat → Int32} {CL : Nat → Nat → Int64} {CR : Nat → Nat → Option Nat} {tl : va_W} (i : Nat) (h : i < 6) (x : Int32) : (cws ac o ad CI CL CR tl).set (23 + i) (ad (22 + i), .inr (3, (oEntry ad CI CL CR i).set 1 (.int x))) = cws ac o ad (up2 CI 17 i x) CL CR tl :=
  match i, h with
  | 0, _ => rfl
  | 1, _ => rfl
  | 2, _ => rfl
  | 3, _ => rfl
  | 4, _ => rfl
  | 5, _ => rfl
theorem cs_Entry_2 {ac : Nat → ClassId} {o : Nat} {ad : Nat → Nat} {CI : Nat → Nat → Int32} {CL : Nat → Nat → Int64} {CR : Nat → Nat → Option Nat} {tl : va_W} (i : Nat) (h : i < 6) (x : Int64) : (cws ac o ad CI CL CR tl).set (23 + i) (ad (22 + i), .inr (3, (oEntry ad CI CL CR i).set 2 (.long x))) = cws ac o ad CI (up2 CL 18 i x) CR tl :=
  match i, h with
  | 0, _ => rfl
  | 1, _ => rfl
  | 2, _ => rfl
  | 3, _ => rfl
  | 4, _ => rfl
  | 5, _ => rfl
theorem cs_Entry_3 {ac : Nat → ClassId} {o : Nat} {ad : Nat → Nat} {CI : Nat → Nat → Int32} {CL : Nat → Nat → Int64} {CR : Nat → Nat → Option Nat} {tl : va_W} (i : Nat) (h : i < 6) (x : Int64) : (cws ac o ad CI CL CR tl).set (23 + i) (ad (22 + i), .inr (3, (oEntry ad CI CL CR i).set 3 (.long x))) = cws ac o ad CI (up2 CL 19 i x) CR tl :=
  match i, h with
  | 0, _ => rfl
  | 1, _ => rfl
  | 2, _ => rfl
  | 3, _ => rfl
  | 4, _ => rfl
  | 5, _ => rfl
theorem cs_Entry_4 {ac : Nat → ClassId} {o : Nat} {ad : Nat → Nat} {CI : Nat → Nat → Int32} {CL : Nat → Nat → Int64} {CR : Nat → Nat → Option Nat} {tl : va_W} (i : Nat) (h : i < 6) (x : Option Nat) : (cws ac o ad CI CL CR tl).set (23 + i) (ad (22 + i), .inr (3, (oEntry ad CI CL CR i).set 4 (va_rf (rC ad x)))) = cws ac o ad CI CL (up2 CR 0 i x) tl :=
  match i, h with
  | 0, _ => rfl
  | 1, _ => rfl
  | 2, _ => rfl
  | 3, _ => rfl
  | 4, _ => rfl
  | 5, _ => rfl
theorem cs_Entry_5 {ac : Nat → ClassId} {o : Nat} {ad : Nat → Nat} {CI : Nat → Nat → Int32} {CL : Nat → Nat → Int64} {CR : Nat → Nat → Option Nat} {tl : va_W} (i : Nat) (h : i < 6) (x : Int32) : (cws ac o ad CI CL CR tl).set (23 + i) (ad (22 + i), .inr (3, (oEntry ad CI CL CR i).set 5 (.int x))) = cws ac o ad (up2 CI 21 i x) CL CR tl :=
  match i, h with
  | 0, _ => rfl
  | 1, _ => rfl
  | 2, _ => rfl
  | 3, _ => rfl
  | 4, _ => rfl
  | 5, _ => rfl
theorem cs_Entry_6 {ac : Nat → ClassId} {o : Nat} {ad : Nat → Nat} {CI : Nat → Nat → Int32} {CL : Nat → Nat → Int64} {CR : Nat → Nat → Option Nat} {tl : va_W} (i : Nat) (h : i < 6) (x : Option Nat) : (cws ac o ad CI CL CR tl).set (23 + i) (ad (22 + i), .inr (3, (oEntry ad CI CL CR i).set 6 (va_rf x))) = cws ac o ad CI CL (up2 CR 1 i x) tl :=
  match i, h with
  | 0, _ => rfl
  | 1, _ => rfl
  | 2, _ => rfl
  | 3, _ => rfl
  | 4, _ => rfl
  | 5, _ => rfl
theorem cs_Entry_8 {ac : Nat → ClassId} {o : Nat} {ad : Nat → Nat} {CI : Nat → Nat → Int32} {CL : Nat → Nat → Int64} {CR : Nat → Nat → Option Nat} {tl : va_W} (i : Nat) (h : i < 6) (x : Int32) : (cws ac o ad CI CL CR tl).set (23 + i) (ad (22 + i), .inr (3, (oEntry ad CI CL CR i).set 8 (.int x))) = cws ac o ad (up2 CI 22 i x) CL CR tl :=
  match i, h with
  | 0, _ => rfl
  | 1, _ => rfl
  | 2, _ => rfl
  | 3, _ => rfl
  | 4, _ => rfl
  | 5, _ => rfl
theorem cw_PA {ac : Nat → ClassId} {o : Nat} {ad : Nat → Nat} {CI : Nat → Nat → Int32} {CL : Nat → Nat → Int64} {CR : Nat → Nat → Option Nat} {tl : va_W} (i : Nat) (h : i < 3) : (cws ac o ad CI CL CR tl)[8 + i]? = some (ad (7 + i), .inl (ac 6, 4, .inr (.inr (.inr (.inr (fun k => some (ad (10 + (4 * i + k)))))))) ) :=
  match i, h with
  | 0, _ => rfl
  | 1, _ => rfl
  | 2, _ => rfl
theorem cw_Q {ac : Nat → ClassId} {o : Nat} {ad : Nat → Nat} {CI : Nat → Nat → Int32} {CL : Nat → Nat → Int64} {CR : Nat → Nat → Option Nat} {tl : va_W} (i : Nat) (h : i < 6) : (cws ac o ad CI CL CR tl)[29 + i]? = some (ad (28 + i), .inl (ac 7, 2, .inr (.inr (.inr (.inr (CR (10 + i)))))) ) :=
  match i, h with
  | 0, _ => rfl
  | 1, _ => rfl
  | 2, _ => rfl
  | 3, _ => rfl
  | 4, _ => rfl
  | 5, _ => rfl
theorem cs_Q {ac : Nat → ClassId} {o : Nat} {ad : Nat → Nat} {CI : Nat → Nat → Int32} {CL : Nat → Nat → Int64} {CR : Nat → Nat → Option Nat} {tl : va_W} (i : Nat) (h : i < 6) (j : Nat) (x : Option Nat) : (cws ac o ad CI CL CR tl).set (29 + i) (ad (28 + i), .inl (ac 7, 2, .inr (.inr (.inr (.inr (va_up (CR (10 + i)) j x)))))) = cws ac o ad CI CL (up2 CR (10 + i) j x) tl :=
  match i, h with
  | 0, _ => rfl
  | 1, _ => rfl
  | 2, _ => rfl
  | 3, _ => rfl
  | 4, _ => rfl
  | 5, _ => rfl
theorem cw_tl {ac : Nat → ClassId} {o : Nat} {ad : Nat → Nat} {CI : Nat → Nat → Int32} {CL : Nat → Nat → Int64} {CR : Nat → Nat → Option Nat} {tl : va_W} (i : Nat) : (cws ac o ad CI CL CR tl)[35 + i]? = tl[i]? := by
  rw [Nat.add_comm]; rfl
section CRW
variable {p : Program} {l : Launch} {e : Env} {R : Room} {s : State} {m : MethodId} {args : Array Value} {below : List Frame} {meth : Method} {c : Code} {H : Heap} {locs : List Loc} {cells slots : Nat} {Q : State → Prop} {cc : ByteArray} {nL pc : Nat} {ls : Array Slot} {rest : List Value} {D : va_G} {A : Nat → Prop} {H0 : Heap} {ac : Nat → ClassId} {o : Nat} {ad : Nat → Nat} {CI : Nat → Nat → Int32} {CL : Nat → Nat → Int64} {CR : Nat → Nat → Option Nat} {tl : va_W}
theorem cg_Answer_3 (X : Cx cc nL R_Answer D ac p m args c s) (w : Wo D A (cws ac o ad CI CL CR tl) H0 H locs) (i : Nat) (h : i < 6) {v : Int32} (hv : CI 16 i = v) (hdg : decode cc pc = .ok (.getfield 3, 3)) (kk : W p l e R s m args below meth c H locs cells slots Q (F0 m (pc + 3) ls (.int v :: rest))) : W p l e R s m args below meth c H locs cells slots Q (F0 m pc ls (.ref (ad (22 + i)) :: rest)) := by
  subst hv
  exact gf_Answer_3 X w (23 + i) (cw_Entry i h) rfl hdg kk
theorem cg_Answer_21 (X : Cx cc nL R_Answer D ac p m args c s) (w : Wo D A (cws ac o ad CI CL CR tl) H0 H locs) (i : Nat) (h : i < 6) {v : Int32} (hv : CI 17 i = v) (hdg : decode cc pc = .ok (.getfield 21, 3)) (kk : W p l e R s m args below meth c H locs cells slots Q (F0 m (pc + 3) ls (.int v :: rest))) : W p l e R s m args below meth c H locs cells slots Q (F0 m pc ls (.ref (ad (22 + i)) :: rest)) := by
  subst hv
  exact gf_Answer_21 X w (23 + i) (cw_Entry i h) rfl hdg kk
theorem cg_Answer_27 (X : Cx cc nL R_Answer D ac p m args c s) (w : Wo D A (cws ac o ad CI CL CR tl) H0 H locs) (i : Nat) (h : i < 6) {v : Int64} (hv : CL 18 i = v) (hdg : decode cc pc = .ok (.getfield 27, 3)) (kk : W p l e R s m args below meth c H locs cells slots Q (F0 m (pc + 3) ls (.long v :: rest))) : W p l e R s m args below meth c H locs cells slots Q (F0 m pc ls (.ref (ad (22 + i)) :: rest)) := by
  subst hv
  exact gf_Answer_27 X w (23 + i) (cw_Entry i h) rfl hdg kk
theorem cg_Answer_32 (X : Cx cc nL R_Answer D ac p m args c s) (w : Wo D A (cws ac o ad CI CL CR tl) H0 H locs) (i : Nat) (h : i < 6) {v : Int64} (hv : CL 19 i = v) (hdg : decode cc pc = .ok (.getfield 32, 3)) (kk : W p l e R s m args below meth c H locs cells slots Q (F0 m (pc + 3) ls (.long v :: rest))) : W p l e R s m args below meth c H locs cells slots Q (F0 m pc ls (.ref (ad (22 + i)) :: rest)) := by
  subst hv
  exact gf_Answer_32 X w (23 + i) (cw_Entry i h) rfl hdg kk
theorem cp_Answer_52 (X : Cx cc nL R_Answer D ac p m args c s) (w : Wo D A (cws ac o ad CI CL CR tl) H0 H locs) (i : Nat) (h : i < 12) {x : Int64} (hdg : decode cc pc = .ok (.putfield 52, 3)) (kk : ∀ (H1 : Heap) (locs1 : List Loc), Wo D A (cws ac o ad CI (up2 CL 14 i x) CR tl) H0 H1 locs1 → W p l e R s m args below meth c H1 locs1 cells slots Q (F0 m (pc + 3) ls rest)) : W p l e R s m args below meth c H locs cells slots Q (F0 m pc ls (.long x :: .ref (ad (10 + i)) :: rest)) :=
  pf_Answer_52 X w (11 + i) (cw_Place i h) (cs_Place_3 i h x) (Nat.le_of_ble_eq_true rfl) hdg kk
theorem cp_Answer_59 (X : Cx cc nL R_Answer D ac p m args c s) (w : Wo D A (cws ac o ad CI CL CR tl) H0 H locs) (i : Nat) (h : i < 12) {x : Int32} (hdg : decode cc pc = .ok (.putfield 59, 3)) (kk : ∀ (H1 : Heap) (locs1 : List Loc), Wo D A (cws ac o ad (up2 CI 10 i x) CL CR tl) H0 H1 locs1 → W p l e R s m args below meth c H1 locs1 cells slots Q (F0 m (pc + 3) ls rest)) : W p l e R s m args below meth c H locs cells slots Q (F0 m pc ls (.int x :: .ref (ad (10 + i)) :: rest)) :=
  pf_Answer_59 X w (11 + i) (cw_Place i h) (cs_Place_0 i h x) (Nat.le_of_ble_eq_true rfl) hdg kk
theorem cp_Answer_64 (X : Cx cc nL R_Answer D ac p m args c s) (w : Wo D A (cws ac o ad CI CL CR tl) H0 H locs) (i : Nat) (h : i < 12) {x : Int32} (hz : x = 0 ∨ x = 1) (hdg : decode cc pc = .ok (.putfield 64, 3)) (kk : ∀ (H1 : Heap) (locs1 : List Loc), Wo D A (cws ac o ad (up2 CI 11 i x) CL CR tl) H0 H1 locs1 → W p l e R s m args below meth c H1 locs1 cells slots Q (F0 m (pc + 3) ls rest)) : W p l e R s m args below meth c H locs cells slots Q (F0 m pc ls (.int x :: .ref (ad (10 + i)) :: rest)) :=
  pf_Answer_64 X w (11 + i) hz (cw_Place i h) (cs_Place_4 i h x) (Nat.le_of_ble_eq_true rfl) hdg kk
theorem cg_Call_3 (X : Cx cc nL R_Call D ac p m args c s) (w : Wo D A (cws ac o ad CI CL CR tl) H0 H locs) (i : Nat) (h : i < 6) {v : Int32} (hv : CI 16 i = v) (hdg : decode cc pc = .ok (.getfield 3, 3)) (kk : W p l e R s m args below meth c H locs cells slots Q (F0 m (pc + 3) ls (.int v :: rest))) : W p l e R s m args below meth c H locs cells slots Q (F0 m pc ls (.ref (ad (22 + i)) :: rest)) := by
  subst hv
  exact gf_Call_3 X w (23 + i) (cw_Entry i h) rfl hdg kk
theorem cg_Call_9 (X : Cx cc nL R_Call D ac p m args c s) (w : Wo D A (cws ac o ad CI CL CR tl) H0 H locs) (i : Nat) (h : i < 6) (hdg : decode cc pc = .ok (.getfield 9, 3)) (kk : W p l e R s m args below meth c H locs cells slots Q (F0 m (pc + 3) ls (va_rf (rC ad (CR 0 i)) :: rest))) : W p l e R s m args below meth c H locs cells slots Q (F0 m pc ls (.ref (ad (22 + i)) :: rest)) :=
  gf_Call_9 X w (23 + i) (cw_Entry i h) rfl hdg kk
theorem cg_Call_35 (X : Cx cc nL R_Call D ac p m args c s) (w : Wo D A (cws ac o ad CI CL CR tl) H0 H locs) (i : Nat) (h : i < 12) {v : Int32} (hv : CI 11 i = v) (hdg : decode cc pc = .ok (.getfield 35, 3)) (kk : W p l e R s m args below meth c H locs cells slots Q (F0 m (pc + 3) ls (.int v :: rest))) : W p l e R s m args below meth c H locs cells slots Q (F0 m pc ls (.ref (ad (10 + i)) :: rest)) := by
  subst hv
  exact gf_Call_35 X w (11 + i) (cw_Place i h) rfl hdg kk
theorem cp_Call_35 (X : Cx cc nL R_Call D ac p m args c s) (w : Wo D A (cws ac o ad CI CL CR tl) H0 H locs) (i : Nat) (h : i < 12) {x : Int32} (hz : x = 0 ∨ x = 1) (hdg : decode cc pc = .ok (.putfield 35, 3)) (kk : ∀ (H1 : Heap) (locs1 : List Loc), Wo D A (cws ac o ad (up2 CI 11 i x) CL CR tl) H0 H1 locs1 → W p l e R s m args below meth c H1 locs1 cells slots Q (F0 m (pc + 3) ls rest)) : W p l e R s m args below meth c H locs cells slots Q (F0 m pc ls (.int x :: .ref (ad (10 + i)) :: rest)) :=
  pf_Call_35 X w (11 + i) hz (cw_Place i h) (cs_Place_4 i h x) (Nat.le_of_ble_eq_true rfl) hdg kk
theorem cg_Call_41 (X : Cx cc nL R_Call D ac p m args c s) (w : Wo D A (cws ac o ad CI CL CR tl) H0 H locs) (i : Nat) (h : i < 3) {v : Int32} (hv : CI 1 i = v) (hdg : decode cc pc = .ok (.getfield 41, 3)) (kk : W p l e R s m args below meth c H locs cells slots Q (F0 m (pc + 3) ls (.int v :: rest))) : W p l e R s m args below meth c H locs cells slots Q (F0 m pc ls (.ref (ad (4 + i)) :: rest)) := by
  subst hv
  exact gf_Call_41 X w (5 + i) (cw_Core i h) rfl hdg kk
theorem cg_Call_44 (X : Cx cc nL R_Call D ac p m args c s) (w : Wo D A (cws ac o ad CI CL CR tl) H0 H locs) (i : Nat) (h : i < 3) {v : Int32} (hv : CI 3 i = v) (hdg : decode cc pc = .ok (.getfield 44, 3)) (kk : W p l e R s m args below meth c H locs cells slots Q (F0 m (pc + 3) ls (.int v :: rest))) : W p l e R s m args below meth c H locs cells slots Q (F0 m pc ls (.ref (ad (4 + i)) :: rest)) := by
  subst hv
  exact gf_Call_44 X w (5 + i) (cw_Core i h) rfl hdg kk
theorem cg_Call_48 (X : Cx cc nL R_Call D ac p m args c s) (w : Wo D A (cws ac o ad CI CL CR tl) H0 H locs) (i : Nat) (h : i < 12) {v : Int64} (hv : CL 14 i = v) (hdg : decode cc pc = .ok (.getfield 48, 3)) (kk : W p l e R s m args below meth c H locs cells slots Q (F0 m (pc + 3) ls (.long v :: rest))) : W p l e R s m args below meth c H locs cells slots Q (F0 m pc ls (.ref (ad (10 + i)) :: rest)) := by
  subst hv
  exact gf_Call_48 X w (11 + i) (cw_Place i h) rfl hdg kk
theorem cp_Call_48 (X : Cx cc nL R_Call D ac p m args c s) (w : Wo D A (cws ac o ad CI CL CR tl) H0 H locs) (i : Nat) (h : i < 12) {x : Int64} (hdg : decode cc pc = .ok (.putfield 48, 3)) (kk : ∀ (H1 : Heap) (locs1 : List Loc), Wo D A (cws ac o ad CI (up2 CL 14 i x) CR tl) H0 H1 locs1 → W p l e R s m args below meth c H1 locs1 cells slots Q (F0 m (pc + 3) ls rest)) : W p l e R s m args below meth c H locs cells slots Q (F0 m pc ls (.long x :: .ref (ad (10 + i)) :: rest)) :=
  pf_Call_48 X w (11 + i) (cw_Place i h) (cs_Place_3 i h x) (Nat.le_of_ble_eq_true rfl) hdg kk
theorem cg_Call_51 (X : Cx cc nL R_Call D ac p m args c s) (w : Wo D A (cws ac o ad CI CL CR tl) H0 H locs) (i : Nat) (h : i < 12) {v : Int64} (hv : CL 13 i = v) (hdg : decode cc pc = .ok (.getfield 51, 3)) (kk : W p l e R s m args below meth c H locs cells slots Q (F0 m (pc + 3) ls (.long v :: rest))) : W p l e R s m args below meth c H locs cells slots Q (F0 m pc ls (.ref (ad (10 + i)) :: rest)) := by
  subst hv
  exact gf_Call_51 X w (11 + i) (cw_Place i h) rfl hdg kk
theorem cg_Call_54 (X : Cx cc nL R_Call D ac p m args c s) (w : Wo D A (cws ac o ad CI CL CR tl) H0 H locs) {v : Int32} (hv : CI 36 0 = v) (hdg : decode cc pc = .ok (.getfield 54, 3)) (kk : W p l e R s m args below meth c H locs cells slots Q (F0 m (pc + 3) ls (.int v :: rest))) : W p l e R s m args below meth c H locs cells slots Q (F0 m pc ls (.ref o :: rest)) := by
  subst hv
  exact gf_Call_54 X w 0 rfl rfl hdg kk
theorem cp_Call_72 (X : Cx cc nL R_Call D ac p m args c s) (w : Wo D A (cws ac o ad CI CL CR tl) H0 H locs) (i : Nat) (h : i < 12) {x : Int32} (hdg : decode cc pc = .ok (.putfield 72, 3)) (kk : ∀ (H1 : Heap) (locs1 : List Loc), Wo D A (cws ac o ad (up2 CI 10 i x) CL CR tl) H0 H1 locs1 → W p l e R s m args below meth c H1 locs1 cells slots Q (F0 m (pc + 3) ls rest)) : W p l e R s m args below meth c H locs cells slots Q (F0 m pc ls (.int x :: .ref (ad (10 + i)) :: rest)) :=
  pf_Call_72 X w (11 + i) (cw_Place i h) (cs_Place_0 i h x) (Nat.le_of_ble_eq_true rfl) hdg kk
theorem cg_Core_11 (X : Cx cc nL R_Core D ac p m args c s) (w : Wo D A (cws ac o ad CI CL CR tl) H0 H locs) (i : Nat) (h : i < 3) (hdg : decode cc pc = .ok (.getfield 11, 3)) (kk : W p l e R s m args below meth c H locs cells slots Q (F0 m (pc + 3) ls (.ref (ad (7 + i)) :: rest))) : W p l e R s m args below meth c H locs cells slots Q (F0 m pc ls (.ref (ad (4 + i)) :: rest)) :=
  gf_Core_11 X w (5 + i) (cw_Core i h) rfl hdg kk
theorem cg_Core_17 (X : Cx cc nL R_Core D ac p m args c s) (w : Wo D A (cws ac o ad CI CL CR tl) H0 H locs) (i : Nat) (h : i < 3) {v : Int32} (hv : CI 2 i = v) (hdg : decode cc pc = .ok (.getfield 17, 3)) (kk : W p l e R s m args below meth c H locs cells slots Q (F0 m (pc + 3) ls (.int v :: rest))) : W p l e R s m args below meth c H locs cells slots Q (F0 m pc ls (.ref (ad (4 + i)) :: rest)) := by
  subst hv
  exact gf_Core_17 X w (5 + i) (cw_Core i h) rfl hdg kk
theorem cp_Core_17 (X : Cx cc nL R_Core D ac p m args c s) (w : Wo D A (cws ac o ad CI CL CR tl) H0 H locs) (i : Nat) (h : i < 3) {x : Int32} (hdg : decode cc pc = .ok (.putfield 17, 3)) (kk : ∀ (H1 : Heap) (locs1 : List Loc), Wo D A (cws ac o ad (up2 CI 2 i x) CL CR tl) H0 H1 locs1 → W p l e R s m args below meth c H1 locs1 cells slots Q (F0 m (pc + 3) ls rest)) : W p l e R s m args below meth c H locs cells slots Q (F0 m pc ls (.int x :: .ref (ad (4 + i)) :: rest)) :=
  pf_Core_17 X w (5 + i) (cw_Core i h) (cs_Core_4 i h x) (Nat.le_of_ble_eq_true rfl) hdg kk
theorem cp_Core_21 (X : Cx cc nL R_Core D ac p m args c s) (w : Wo D A (cws ac o ad CI CL CR tl) H0 H locs) (i : Nat) (h : i < 3) {x : Int32} (hdg : decode cc pc = .ok (.putfield 21, 3)) (kk : ∀ (H1 : Heap) (locs1 : List Loc), Wo D A (cws ac o ad (up2 CI 9 i x) CL CR tl) H0 H1 locs1 → W p l e R s m args below meth c H1 locs1 cells slots Q (F0 m (pc + 3) ls rest)) : W p l e R s m args below meth c H locs cells slots Q (F0 m pc ls (.int x :: .ref (ad (4 + i)) :: rest)) :=
  pf_Core_21 X w (5 + i) (cw_Core i h) (cs_Core_11 i h x) (Nat.le_of_ble_eq_true rfl) hdg kk
theorem cg_Core_28 (X : Cx cc nL R_Core D ac p m args c s) (w : Wo D A (cws ac o ad CI CL CR tl) H0 H locs) (i : Nat) (h : i < 12) {v : Int32} (hv : CI 10 i = v) (hdg : decode cc pc = .ok (.getfield 28, 3)) (kk : W p l e R s m args below meth c H locs cells slots Q (F0 m (pc + 3) ls (.int v :: rest))) : W p l e R s m args below meth c H locs cells slots Q (F0 m pc ls (.ref (ad (10 + i)) :: rest)) := by
  subst hv
  exact gf_Core_28 X w (11 + i) (cw_Place i h) rfl hdg kk
theorem cg_Core_35 (X : Cx cc nL R_Core D ac p m args c s) (w : Wo D A (cws ac o ad CI CL CR tl) H0 H locs) (i : Nat) (h : i < 12) {v : Int32} (hv : CI 15 i = v) (hdg : decode cc pc = .ok (.getfield 35, 3)) (kk : W p l e R s m args below meth c H locs cells slots Q (F0 m (pc + 3) ls (.int v :: rest))) : W p l e R s m args below meth c H locs cells slots Q (F0 m pc ls (.ref (ad (10 + i)) :: rest)) := by
  subst hv
  exact gf_Core_35 X w (11 + i) (cw_Place i h) rfl hdg kk
theorem cg_Core_38 (X : Cx cc nL R_Core D ac p m args c s) (w : Wo D A (cws ac o ad CI CL CR tl) H0 H locs) (i : Nat) (h : i < 12) {v : Int32} (hv : CI 11 i = v) (hdg : decode cc pc = .ok (.getfield 38, 3)) (kk : W p l e R s m args below meth c H locs cells slots Q (F0 m (pc + 3) ls (.int v :: rest))) : W p l e R s m args below meth c H locs cells slots Q (F0 m pc ls (.ref (ad (10 + i)) :: rest)) := by
  subst hv
  exact gf_Core_38 X w (11 + i) (cw_Place i h) rfl hdg kk
theorem cg_Core_42 (X : Cx cc nL R_Core D ac p m args c s) (w : Wo D A (cws ac o ad CI CL CR tl) H0 H locs) (i : Nat) (h : i < 3) {v : Int64} (hv : CL 0 i = v) (hdg : decode cc pc = .ok (.getfield 42, 3)) (kk : W p l e R s m args below meth c H locs cells slots Q (F0 m (pc + 3) ls (.long v :: rest))) : W p l e R s m args below meth c H locs cells slots Q (F0 m pc ls (.ref (ad (4 + i)) :: rest)) := by
  subst hv
  exact gf_Core_42 X w (5 + i) (cw_Core i h) rfl hdg kk
theorem cp_Core_42 (X : Cx cc nL R_Core D ac p m args c s) (w : Wo D A (cws ac o ad CI CL CR tl) H0 H locs) (i : Nat) (h : i < 3) {x : Int64} (hdg : decode cc pc = .ok (.putfield 42, 3)) (kk : ∀ (H1 : Heap) (locs1 : List Loc), Wo D A (cws ac o ad CI (up2 CL 0 i x) CR tl) H0 H1 locs1 → W p l e R s m args below meth c H1 locs1 cells slots Q (F0 m (pc + 3) ls rest)) : W p l e R s m args below meth c H locs cells slots Q (F0 m pc ls (.long x :: .ref (ad (4 + i)) :: rest)) :=
  pf_Core_42 X w (5 + i) (cw_Core i h) (cs_Core_1 i h x) (Nat.le_of_ble_eq_true rfl) hdg kk
theorem cg_Core_46 (X : Cx cc nL R_Core D ac p m args c s) (w : Wo D A (cws ac o ad CI CL CR tl) H0 H locs) (i : Nat) (h : i < 12) {v : Int64} (hv : CL 14 i = v) (hdg : decode cc pc = .ok (.getfield 46, 3)) (kk : W p l e R s m args below meth c H locs cells slots Q (F0 m (pc + 3) ls (.long v :: rest))) : W p l e R s m args below meth c H locs cells slots Q (F0 m pc ls (.ref (ad (10 + i)) :: rest)) := by
  subst hv
  exact gf_Core_46 X w (11 + i) (cw_Place i h) rfl hdg kk
theorem cp_Core_46 (X : Cx cc nL R_Core D ac p m args c s) (w : Wo D A (cws ac o ad CI CL CR tl) H0 H locs) (i : Nat) (h : i < 12) {x : Int64} (hdg : decode cc pc = .ok (.putfield 46, 3)) (kk : ∀ (H1 : Heap) (locs1 : List Loc), Wo D A (cws ac o ad CI (up2 CL 14 i x) CR tl) H0 H1 locs1 → W p l e R s m args below meth c H1 locs1 cells slots Q (F0 m (pc + 3) ls rest)) : W p l e R s m args below meth c H locs cells slots Q (F0 m pc ls (.long x :: .ref (ad (10 + i)) :: rest)) :=
  pf_Core_46 X w (11 + i) (cw_Place i h) (cs_Place_3 i h x) (Nat.le_of_ble_eq_true rfl) hdg kk
theorem cg_Core_49 (X : Cx cc nL R_Core D ac p m args c s) (w : Wo D A (cws ac o ad CI CL CR tl) H0 H locs) (i : Nat) (h : i < 12) {v : Int32} (hv : CI 12 i = v) (hdg : decode cc pc = .ok (.getfield 49, 3)) (kk : W p l e R s m args below meth c H locs cells slots Q (F0 m (pc + 3) ls (.int v :: rest))) : W p l e R s m args below meth c H locs cells slots Q (F0 m pc ls (.ref (ad (10 + i)) :: rest)) := by
  subst hv
  exact gf_Core_49 X w (11 + i) (cw_Place i h) rfl hdg kk
theorem cg_Core_52 (X : Cx cc nL R_Core D ac p m args c s) (w : Wo D A (cws ac o ad CI CL CR tl) H0 H locs) (i : Nat) (h : i < 3) {v : Int32} (hv : CI 5 i = v) (hdg : decode cc pc = .ok (.getfield 52, 3)) (kk : W p l e R s m args below meth c H locs cells slots Q (F0 m (pc + 3) ls (.int v :: rest))) : W p l e R s m args below meth c H locs cells slots Q (F0 m pc ls (.ref (ad (4 + i)) :: rest)) := by
  subst hv
  exact gf_Core_52 X w (5 + i) (cw_Core i h) rfl hdg kk
theorem cp_Core_55 (X : Cx cc nL R_Core D ac p m args c s) (w : Wo D A (cws ac o ad CI CL CR tl) H0 H locs) (i : Nat) (h : i < 3) {x : Int32} (hdg : decode cc pc = .ok (.putfield 55, 3)) (kk : ∀ (H1 : Heap) (locs1 : List Loc), Wo D A (cws ac o ad (up2 CI 8 i x) CL CR tl) H0 H1 locs1 → W p l e R s m args below meth c H1 locs1 cells slots Q (F0 m (pc + 3) ls rest)) : W p l e R s m args below meth c H locs cells slots Q (F0 m pc ls (.int x :: .ref (ad (4 + i)) :: rest)) :=
  pf_Core_55 X w (5 + i) (cw_Core i h) (cs_Core_10 i h x) (Nat.le_of_ble_eq_true rfl) hdg kk
theorem cg_Core_64 (X : Cx cc nL R_Core D ac p m args c s) (w : Wo D A (cws ac o ad CI CL CR tl) H0 H locs) (i : Nat) (h : i < 3) {v : Int32} (hv : CI 4 i = v) (hdg : decode cc pc = .ok (.getfield 64, 3)) (kk : W p l e R s m args below meth c H locs cells slots Q (F0 m (pc + 3) ls (.int v :: rest))) : W p l e R s m args below meth c H locs cells slots Q (F0 m pc ls (.ref (ad (4 + i)) :: rest)) := by
  subst hv
  exact gf_Core_64 X w (5 + i) (cw_Core i h) rfl hdg kk
theorem cg_Core_71 (X : Cx cc nL R_Core D ac p m args c s) (w : Wo D A (cws ac o ad CI CL CR tl) H0 H locs) (i : Nat) (h : i < 12) {v : Int64} (hv : CL 13 i = v) (hdg : decode cc pc = .ok (.getfield 71, 3)) (kk : W p l e R s m args below meth c H locs cells slots Q (F0 m (pc + 3) ls (.long v :: rest))) : W p l e R s m args below meth c H locs cells slots Q (F0 m pc ls (.ref (ad (10 + i)) :: rest)) := by
  subst hv
  exact gf_Core_71 X w (11 + i) (cw_Place i h) rfl hdg kk
theorem cp_Core_74 (X : Cx cc nL R_Core D ac p m args c s) (w : Wo D A (cws ac o ad CI CL CR tl) H0 H locs) (i : Nat) (h : i < 3) {x : Int32} (hz : x = 0 ∨ x = 1) (hdg : decode cc pc = .ok (.putfield 74, 3)) (kk : ∀ (H1 : Heap) (locs1 : List Loc), Wo D A (cws ac o ad (up2 CI 1 i x) CL CR tl) H0 H1 locs1 → W p l e R s m args below meth c H1 locs1 cells slots Q (F0 m (pc + 3) ls rest)) : W p l e R s m args below meth c H locs cells slots Q (F0 m pc ls (.int x :: .ref (ad (4 + i)) :: rest)) :=
  pf_Core_74 X w (5 + i) hz (cw_Core i h) (cs_Core_3 i h x) (Nat.le_of_ble_eq_true rfl) hdg kk
theorem cg_Core_77 (X : Cx cc nL R_Core D ac p m args c s) (w : Wo D A (cws ac o ad CI CL CR tl) H0 H locs) (i : Nat) (h : i < 3) {v : Int32} (hv : CI 7 i = v) (hdg : decode cc pc = .ok (.getfield 77, 3)) (kk : W p l e R s m args below meth c H locs cells slots Q (F0 m (pc + 3) ls (.int v :: rest))) : W p l e R s m args below meth c H locs cells slots Q (F0 m pc ls (.ref (ad (4 + i)) :: rest)) := by
  subst hv
  exact gf_Core_77 X w (5 + i) (cw_Core i h) rfl hdg kk
theorem cp_Core_77 (X : Cx cc nL R_Core D ac p m args c s) (w : Wo D A (cws ac o ad CI CL CR tl) H0 H locs) (i : Nat) (h : i < 3) {x : Int32} (hdg : decode cc pc = .ok (.putfield 77, 3)) (kk : ∀ (H1 : Heap) (locs1 : List Loc), Wo D A (cws ac o ad (up2 CI 7 i x) CL CR tl) H0 H1 locs1 → W p l e R s m args below meth c H1 locs1 cells slots Q (F0 m (pc + 3) ls rest)) : W p l e R s m args below meth c H locs cells slots Q (F0 m pc ls (.int x :: .ref (ad (4 + i)) :: rest)) :=
  pf_Core_77 X w (5 + i) (cw_Core i h) (cs_Core_9 i h x) (Nat.le_of_ble_eq_true rfl) hdg kk
theorem cg_Entry_11 (X : Cx cc nL R_Entry D ac p m args c s) (w : Wo D A (cws ac o ad CI CL CR tl) H0 H locs) (i : Nat) (h : i < 6) (hdg : decode cc pc = .ok (.getfield 11, 3)) (kk : W p l e R s m args below meth c H locs cells slots Q (F0 m (pc + 3) ls (.ref (ad (28 + i)) :: rest))) : W p l e R s m args below meth c H locs cells slots Q (F0 m pc ls (.ref (ad (22 + i)) :: rest)) :=
  gf_Entry_11 X w (23 + i) (cw_Entry i h) rfl hdg kk
theorem cp_Entry_17 (X : Cx cc nL R_Entry D ac p m args c s) (w : Wo D A (cws ac o ad CI CL CR tl) H0 H locs) (i : Nat) (h : i < 6) {x : Int32} (hdg : decode cc pc = .ok (.putfield 17, 3)) (kk : ∀ (H1 : Heap) (locs1 : List Loc), Wo D A (cws ac o ad (up2 CI 16 i x) CL CR tl) H0 H1 locs1 → W p l e R s m args below meth c H1 locs1 cells slots Q (F0 m (pc + 3) ls rest)) : W p l e R s m args below meth c H locs cells slots Q (F0 m pc ls (.int x :: .ref (ad (22 + i)) :: rest)) :=
  pf_Entry_17 X w (23 + i) (cw_Entry i h) (cs_Entry_0 i h x) (Nat.le_of_ble_eq_true rfl) hdg kk
theorem cp_Entry_25 (X : Cx cc nL R_Entry D ac p m args c s) (w : Wo D A (cws ac o ad CI CL CR tl) H0 H locs) (i : Nat) (h : i < 6) {x : Int32} (hz : x = 0 ∨ x = 1) (hdg : decode cc pc = .ok (.putfield 25, 3)) (kk : ∀ (H1 : Heap) (locs1 : List Loc), Wo D A (cws ac o ad (up2 CI 21 i x) CL CR tl) H0 H1 locs1 → W p l e R s m args below meth c H1 locs1 cells slots Q (F0 m (pc + 3) ls rest)) : W p l e R s m args below meth c H locs cells slots Q (F0 m pc ls (.int x :: .ref (ad (22 + i)) :: rest)) :=
  pf_Entry_25 X w (23 + i) hz (cw_Entry i h) (cs_Entry_5 i h x) (Nat.le_of_ble_eq_true rfl) hdg kk
theorem cg_Entry_29 (X : Cx cc nL R_Entry D ac p m args c s) (w : Wo D A (cws ac o ad CI CL CR tl) H0 H locs) (i : Nat) (h : i < 6) {v : Int32} (hv : CI 22 i = v) (hdg : decode cc pc = .ok (.getfield 29, 3)) (kk : W p l e R s m args below meth c H locs cells slots Q (F0 m (pc + 3) ls (.int v :: rest))) : W p l e R s m args below meth c H locs cells slots Q (F0 m pc ls (.ref (ad (22 + i)) :: rest)) := by
  subst hv
  exact gf_Entry_29 X w (23 + i) (cw_Entry i h) rfl hdg kk
theorem cp_Entry_29 (X : Cx cc nL R_Entry D ac p m args c s) (w : Wo D A (cws ac o ad CI CL CR tl) H0 H locs) (i : Nat) (h : i < 6) {x : Int32} (hdg : decode cc pc = .ok (.putfield 29, 3)) (kk : ∀ (H1 : Heap) (locs1 : List Loc), Wo D A (cws ac o ad (up2 CI 22 i x) CL CR tl) H0 H1 locs1 → W p l e R s m args below meth c H1 locs1 cells slots Q (F0 m (pc + 3) ls rest)) : W p l e R s m args below meth c H locs cells slots Q (F0 m pc ls (.int x :: .ref (ad (22 + i)) :: rest)) :=
  pf_Entry_29 X w (23 + i) (cw_Entry i h) (cs_Entry_8 i h x) (Nat.le_of_ble_eq_true rfl) hdg kk
theorem cg_LC_11 (X : Cx cc nL R_LC D ac p m args c s) (w : Wo D A (cws ac o ad CI CL CR tl) H0 H locs) (hdg : decode cc pc = .ok (.getfield 11, 3)) (kk : W p l e R s m args below meth c H locs cells slots Q (F0 m (pc + 3) ls (.ref (ad 0) :: rest))) : W p l e R s m args below meth c H locs cells slots Q (F0 m pc ls (.ref o :: rest)) :=
  gf_LC_11 X w 0 rfl rfl hdg kk
theorem cg_LC_17 (X : Cx cc nL R_LC D ac p m args c s) (w : Wo D A (cws ac o ad CI CL CR tl) H0 H locs) (hdg : decode cc pc = .ok (.getfield 17, 3)) (kk : W p l e R s m args below meth c H locs cells slots Q (F0 m (pc + 3) ls (.ref (ad 1) :: rest))) : W p l e R s m args below meth c H locs cells slots Q (F0 m pc ls (.ref o :: rest)) :=
  gf_LC_17 X w 0 rfl rfl hdg kk
theorem cg_LC_21 (X : Cx cc nL R_LC D ac p m args c s) (w : Wo D A (cws ac o ad CI CL CR tl) H0 H locs) (hdg : decode cc pc = .ok (.getfield 21, 3)) (kk : W p l e R s m args below meth c H locs cells slots Q (F0 m (pc + 3) ls (.ref (ad 2) :: rest))) : W p l e R s m args below meth c H locs cells slots Q (F0 m pc ls (.ref o :: rest)) :=
  gf_LC_21 X w 0 rfl rfl hdg kk
theorem cg_LC_27 (X : Cx cc nL R_LC D ac p m args c s) (w : Wo D A (cws ac o ad CI CL CR tl) H0 H locs) (hdg : decode cc pc = .ok (.getfield 27, 3)) (kk : W p l e R s m args below meth c H locs cells slots Q (F0 m (pc + 3) ls (.ref (ad 3) :: rest))) : W p l e R s m args below meth c H locs cells slots Q (F0 m pc ls (.ref o :: rest)) :=
  gf_LC_27 X w 0 rfl rfl hdg kk
theorem cg_LC_40 (X : Cx cc nL R_LC D ac p m args c s) (w : Wo D A (cws ac o ad CI CL CR tl) H0 H locs) {v : Int32} (hv : CI 36 0 = v) (hdg : decode cc pc = .ok (.getfield 40, 3)) (kk : W p l e R s m args below meth c H locs cells slots Q (F0 m (pc + 3) ls (.int v :: rest))) : W p l e R s m args below meth c H locs cells slots Q (F0 m pc ls (.ref o :: rest)) := by
  subst hv
  exact gf_LC_40 X w 0 rfl rfl hdg kk
theorem cg_LC_44 (X : Cx cc nL R_LC D ac p m args c s) (w : Wo D A (cws ac o ad CI CL CR tl) H0 H locs) {v : Int32} (hv : CI 37 0 = v) (hdg : decode cc pc = .ok (.getfield 44, 3)) (kk : W p l e R s m args below meth c H locs cells slots Q (F0 m (pc + 3) ls (.int v :: rest))) : W p l e R s m args below meth c H locs cells slots Q (F0 m pc ls (.ref o :: rest)) := by
  subst hv
  exact gf_LC_44 X w 0 rfl rfl hdg kk
theorem cg_LC_51 (X : Cx cc nL R_LC D ac p m args c s) (w : Wo D A (cws ac o ad CI CL CR tl) H0 H locs) {v : Int32} (hv : CI 38 0 = v) (hdg : decode cc pc = .ok (.getfield 51, 3)) (kk : W p l e R s m args below meth c H locs cells slots Q (F0 m (pc + 3) ls (.int v :: rest))) : W p l e R s m args below meth c H locs cells slots Q (F0 m pc ls (.ref o :: rest)) := by
  subst hv
  exact gf_LC_51 X w 0 rfl rfl hdg kk
theorem cp_LC_51 (X : Cx cc nL R_LC D ac p m args c s) (w : Wo D A (cws ac o ad CI CL CR tl) H0 H locs) {x : Int32} (hdg : decode cc pc = .ok (.putfield 51, 3)) (kk : ∀ (H1 : Heap) (locs1 : List Loc), Wo D A (cws ac o ad (up2 CI 38 0 x) CL CR tl) H0 H1 locs1 → W p l e R s m args below meth c H1 locs1 cells slots Q (F0 m (pc + 3) ls rest)) : W p l e R s m args below meth c H locs cells slots Q (F0 m pc ls (.int x :: .ref o :: rest)) :=
  pf_LC_51 X w 0 rfl rfl (Nat.le_of_ble_eq_true rfl) hdg kk
theorem cg_LC_77 (X : Cx cc nL R_LC D ac p m args c s) (w : Wo D A (cws ac o ad CI CL CR tl) H0 H locs) {v : Int32} (hv : CI 39 0 = v) (hdg : decode cc pc = .ok (.getfield 77, 3)) (kk : W p l e R s m args below meth c H locs cells slots Q (F0 m (pc + 3) ls (.int v :: rest))) : W p l e R s m args below meth c H locs cells slots Q (F0 m pc ls (.ref o :: rest)) := by
  subst hv
  exact gf_LC_77 X w 0 rfl rfl hdg kk
theorem cp_LC_77 (X : Cx cc nL R_LC D ac p m args c s) (w : Wo D A (cws ac o ad CI CL CR tl) H0 H locs) {x : Int32} (hdg : decode cc pc = .ok (.putfield 77, 3)) (kk : ∀ (H1 : Heap) (locs1 : List Loc), Wo D A (cws ac o ad (up2 CI 39 0 x) CL CR tl) H0 H1 locs1 → W p l e R s m args below meth c H1 locs1 cells slots Q (F0 m (pc + 3) ls rest)) : W p l e R s m args below meth c H locs cells slots Q (F0 m pc ls (.int x :: .ref o :: rest)) :=
  pf_LC_77 X w 0 rfl rfl (Nat.le_of_ble_eq_true rfl) hdg kk
theorem cp_LC_80 (X : Cx cc nL R_LC D ac p m args c s) (w : Wo D A (cws ac o ad CI CL CR tl) H0 H locs) (i : Nat) (h : i < 12) {x : Int32} (hdg : decode cc pc = .ok (.putfield 80, 3)) (kk : ∀ (H1 : Heap) (locs1 : List Loc), Wo D A (cws ac o ad (up2 CI 15 i x) CL CR tl) H0 H1 locs1 → W p l e R s m args below meth c H1 locs1 cells slots Q (F0 m (pc + 3) ls rest)) : W p l e R s m args below meth c H locs cells slots Q (F0 m pc ls (.int x :: .ref (ad (10 + i)) :: rest)) :=
  pf_LC_80 X w (11 + i) (cw_Place i h) (cs_Place_5 i h x) (Nat.le_of_ble_eq_true rfl) hdg kk
theorem cg_LC_85 (X : Cx cc nL R_LC D ac p m args c s) (w : Wo D A (cws ac o ad CI CL CR tl) H0 H locs) (i : Nat) (h : i < 12) {v : Int32} (hv : CI 10 i = v) (hdg : decode cc pc = .ok (.getfield 85, 3)) (kk : W p l e R s m args below meth c H locs cells slots Q (F0 m (pc + 3) ls (.int v :: rest))) : W p l e R s m args below meth c H locs cells slots Q (F0 m pc ls (.ref (ad (10 + i)) :: rest)) := by
  subst hv
  exact gf_LC_85 X w (11 + i) (cw_Place i h) rfl hdg kk
theorem cg_LC_86 (X : Cx cc nL R_LC D ac p m args c s) (w : Wo D A (cws ac o ad CI CL CR tl) H0 H locs) (i : Nat) (h : i < 12) {v : Int32} (hv : CI 11 i = v) (hdg : decode cc pc = .ok (.getfield 86, 3)) (kk : W p l e R s m args below meth c H locs cells slots Q (F0 m (pc + 3) ls (.int v :: rest))) : W p l e R s m args below meth c H locs cells slots Q (F0 m pc ls (.ref (ad (10 + i)) :: rest)) := by
  subst hv
  exact gf_LC_86 X w (11 + i) (cw_Place i h) rfl hdg kk
theorem cp_LC_86 (X : Cx cc nL R_LC D ac p m args c s) (w : Wo D A (cws ac o ad CI CL CR tl) H0 H locs) (i : Nat) (h : i < 12) {x : Int32} (hz : x = 0 ∨ x = 1) (hdg : decode cc pc = .ok (.putfield 86, 3)) (kk : ∀ (H1 : Heap) (locs1 : List Loc), Wo D A (cws ac o ad (up2 CI 11 i x) CL CR tl) H0 H1 locs1 → W p l e R s m args below meth c H1 locs1 cells slots Q (F0 m (pc + 3) ls rest)) : W p l e R s m args below meth c H locs cells slots Q (F0 m pc ls (.int x :: .ref (ad (10 + i)) :: rest)) :=
  pf_LC_86 X w (11 + i) hz (cw_Place i h) (cs_Place_4 i h x) (Nat.le_of_ble_eq_true rfl) hdg kk
theorem cg_LC_109 (X : Cx cc nL R_LC D ac p m args c s) (w : Wo D A (cws ac o ad CI CL CR tl) H0 H locs) (i : Nat) (h : i < 3) {v : Int32} (hv : CI 1 i = v) (hdg : decode cc pc = .ok (.getfield 109, 3)) (kk : W p l e R s m args below meth c H locs cells slots Q (F0 m (pc + 3) ls (.int v :: rest))) : W p l e R s m args below meth c H locs cells slots Q (F0 m pc ls (.ref (ad (4 + i)) :: rest)) := by
  subst hv
  exact gf_LC_109 X w (5 + i) (cw_Core i h) rfl hdg kk
theorem cp_LC_109 (X : Cx cc nL R_LC D ac p m args c s) (w : Wo D A (cws ac o ad CI CL CR tl) H0 H locs) (i : Nat) (h : i < 3) {x : Int32} (hz : x = 0 ∨ x = 1) (hdg : decode cc pc = .ok (.putfield 109, 3)) (kk : ∀ (H1 : Heap) (locs1 : List Loc), Wo D A (cws ac o ad (up2 CI 1 i x) CL CR tl) H0 H1 locs1 → W p l e R s m args below meth c H1 locs1 cells slots Q (F0 m (pc + 3) ls rest)) : W p l e R s m args below meth c H locs cells slots Q (F0 m pc ls (.int x :: .ref (ad (4 + i)) :: rest)) :=
  pf_LC_109 X w (5 + i) hz (cw_Core i h) (cs_Core_3 i h x) (Nat.le_of_ble_eq_true rfl) hdg kk
theorem cg_LC_115 (X : Cx cc nL R_LC D ac p m args c s) (w : Wo D A (cws ac o ad CI CL CR tl) H0 H locs) (i : Nat) (h : i < 3) {v : Int32} (hv : CI 6 i = v) (hdg : decode cc pc = .ok (.getfield 115, 3)) (kk : W p l e R s m args below meth c H locs cells slots Q (F0 m (pc + 3) ls (.int v :: rest))) : W p l e R s m args below meth c H locs cells slots Q (F0 m pc ls (.ref (ad (4 + i)) :: rest)) := by
  subst hv
  exact gf_LC_115 X w (5 + i) (cw_Core i h) rfl hdg kk
theorem cp_LC_115 (X : Cx cc nL R_LC D ac p m args c s) (w : Wo D A (cws ac o ad CI CL CR tl) H0 H locs) (i : Nat) (h : i < 3) {x : Int32} (hdg : decode cc pc = .ok (.putfield 115, 3)) (kk : ∀ (H1 : Heap) (locs1 : List Loc), Wo D A (cws ac o ad (up2 CI 6 i x) CL CR tl) H0 H1 locs1 → W p l e R s m args below meth c H1 locs1 cells slots Q (F0 m (pc + 3) ls rest)) : W p l e R s m args below meth c H locs cells slots Q (F0 m pc ls (.int x :: .ref (ad (4 + i)) :: rest)) :=
  pf_LC_115 X w (5 + i) (cw_Core i h) (cs_Core_8 i h x) (Nat.le_of_ble_eq_true rfl) hdg kk
theorem cg_LC_118 (X : Cx cc nL R_LC D ac p m args c s) (w : Wo D A (cws ac o ad CI CL CR tl) H0 H locs) (i : Nat) (h : i < 3) {v : Int64} (hv : CL 0 i = v) (hdg : decode cc pc = .ok (.getfield 118, 3)) (kk : W p l e R s m args below meth c H locs cells slots Q (F0 m (pc + 3) ls (.long v :: rest))) : W p l e R s m args below meth c H locs cells slots Q (F0 m pc ls (.ref (ad (4 + i)) :: rest)) := by
  subst hv
  exact gf_LC_118 X w (5 + i) (cw_Core i h) rfl hdg kk
theorem cp_LC_118 (X : Cx cc nL R_LC D ac p m args c s) (w : Wo D A (cws ac o ad CI CL CR tl) H0 H locs) (i : Nat) (h : i < 3) {x : Int64} (hdg : decode cc pc = .ok (.putfield 118, 3)) (kk : ∀ (H1 : Heap) (locs1 : List Loc), Wo D A (cws ac o ad CI (up2 CL 0 i x) CR tl) H0 H1 locs1 → W p l e R s m args below meth c H1 locs1 cells slots Q (F0 m (pc + 3) ls rest)) : W p l e R s m args below meth c H locs cells slots Q (F0 m pc ls (.long x :: .ref (ad (4 + i)) :: rest)) :=
  pf_LC_118 X w (5 + i) (cw_Core i h) (cs_Core_1 i h x) (Nat.le_of_ble_eq_true rfl) hdg kk
theorem cp_LC_122 (X : Cx cc nL R_LC D ac p m args c s) (w : Wo D A (cws ac o ad CI CL CR tl) H0 H locs) (i : Nat) (h : i < 3) {x : Int32} (hdg : decode cc pc = .ok (.putfield 122, 3)) (kk : ∀ (H1 : Heap) (locs1 : List Loc), Wo D A (cws ac o ad (up2 CI 2 i x) CL CR tl) H0 H1 locs1 → W p l e R s m args below meth c H1 locs1 cells slots Q (F0 m (pc + 3) ls rest)) : W p l e R s m args below meth c H locs cells slots Q (F0 m pc ls (.int x :: .ref (ad (4 + i)) :: rest)) :=
  pf_LC_122 X w (5 + i) (cw_Core i h) (cs_Core_4 i h x) (Nat.le_of_ble_eq_true rfl) hdg kk
theorem cp_LC_125 (X : Cx cc nL R_LC D ac p m args c s) (w : Wo D A (cws ac o ad CI CL CR tl) H0 H locs) (i : Nat) (h : i < 3) {x : Int32} (hdg : decode cc pc = .ok (.putfield 125, 3)) (kk : ∀ (H1 : Heap) (locs1 : List Loc), Wo D A (cws ac o ad (up2 CI 3 i x) CL CR tl) H0 H1 locs1 → W p l e R s m args below meth c H1 locs1 cells slots Q (F0 m (pc + 3) ls rest)) : W p l e R s m args below meth c H locs cells slots Q (F0 m pc ls (.int x :: .ref (ad (4 + i)) :: rest)) :=
  pf_LC_125 X w (5 + i) (cw_Core i h) (cs_Core_5 i h x) (Nat.le_of_ble_eq_true rfl) hdg kk
theorem cp_LC_126 (X : Cx cc nL R_LC D ac p m args c s) (w : Wo D A (cws ac o ad CI CL CR tl) H0 H locs) (i : Nat) (h : i < 3) {x : Int32} (hdg : decode cc pc = .ok (.putfield 126, 3)) (kk : ∀ (H1 : Heap) (locs1 : List Loc), Wo D A (cws ac o ad (up2 CI 4 i x) CL CR tl) H0 H1 locs1 → W p l e R s m args below meth c H1 locs1 cells slots Q (F0 m (pc + 3) ls rest)) : W p l e R s m args below meth c H locs cells slots Q (F0 m pc ls (.int x :: .ref (ad (4 + i)) :: rest)) :=
  pf_LC_126 X w (5 + i) (cw_Core i h) (cs_Core_6 i h x) (Nat.le_of_ble_eq_true rfl) hdg kk
theorem cp_LC_129 (X : Cx cc nL R_LC D ac p m args c s) (w : Wo D A (cws ac o ad CI CL CR tl) H0 H locs) (i : Nat) (h : i < 3) {x : Int32} (hdg : decode cc pc = .ok (.putfield 129, 3)) (kk : ∀ (H1 : Heap) (locs1 : List Loc), Wo D A (cws ac o ad (up2 CI 5 i x) CL CR tl) H0 H1 locs1 → W p l e R s m args below meth c H1 locs1 cells slots Q (F0 m (pc + 3) ls rest)) : W p l e R s m args below meth c H locs cells slots Q (F0 m pc ls (.int x :: .ref (ad (4 + i)) :: rest)) :=
  pf_LC_129 X w (5 + i) (cw_Core i h) (cs_Core_7 i h x) (Nat.le_of_ble_eq_true rfl) hdg kk
theorem cg_LC_151 (X : Cx cc nL R_LC D ac p m args c s) (w : Wo D A (cws ac o ad CI CL CR tl) H0 H locs) (i : Nat) (h : i < 12) {v : Int64} (hv : CL 13 i = v) (hdg : decode cc pc = .ok (.getfield 151, 3)) (kk : W p l e R s m args below meth c H locs cells slots Q (F0 m (pc + 3) ls (.long v :: rest))) : W p l e R s m args below meth c H locs cells slots Q (F0 m pc ls (.ref (ad (10 + i)) :: rest)) := by
  subst hv
  exact gf_LC_151 X w (11 + i) (cw_Place i h) rfl hdg kk
theorem cg_LC_157 (X : Cx cc nL R_LC D ac p m args c s) (w : Wo D A (cws ac o ad CI CL CR tl) H0 H locs) (i : Nat) (h : i < 6) {v : Int32} (hv : CI 16 i = v) (hdg : decode cc pc = .ok (.getfield 157, 3)) (kk : W p l e R s m args below meth c H locs cells slots Q (F0 m (pc + 3) ls (.int v :: rest))) : W p l e R s m args below meth c H locs cells slots Q (F0 m pc ls (.ref (ad (22 + i)) :: rest)) := by
  subst hv
  exact gf_LC_157 X w (23 + i) (cw_Entry i h) rfl hdg kk
theorem cg_LC_158 (X : Cx cc nL R_LC D ac p m args c s) (w : Wo D A (cws ac o ad CI CL CR tl) H0 H locs) (i : Nat) (h : i < 6) (hdg : decode cc pc = .ok (.getfield 158, 3)) (kk : W p l e R s m args below meth c H locs cells slots Q (F0 m (pc + 3) ls (va_rf (rC ad (CR 0 i)) :: rest))) : W p l e R s m args below meth c H locs cells slots Q (F0 m pc ls (.ref (ad (22 + i)) :: rest)) :=
  gf_LC_158 X w (23 + i) (cw_Entry i h) rfl hdg kk
theorem cp_LC_158 (X : Cx cc nL R_LC D ac p m args c s) (w : Wo D A (cws ac o ad CI CL CR tl) H0 H locs) (i : Nat) (h : i < 6) {x : Option Nat} (hdg : decode cc pc = .ok (.putfield 158, 3)) (kk : ∀ (H1 : Heap) (locs1 : List Loc), Wo D A (cws ac o ad CI CL (up2 CR 0 i x) tl) H0 H1 locs1 → W p l e R s m args below meth c H1 locs1 cells slots Q (F0 m (pc + 3) ls rest)) : W p l e R s m args below meth c H locs cells slots Q (F0 m pc ls (va_rf (rC ad x) :: .ref (ad (22 + i)) :: rest)) :=
  pf_LC_158 X w (23 + i) (cw_Entry i h) (cs_Entry_4 i h x) (Nat.le_of_ble_eq_true rfl) hdg kk
theorem cg_LC_162 (X : Cx cc nL R_LC D ac p m args c s) (w : Wo D A (cws ac o ad CI CL CR tl) H0 H locs) (i : Nat) (h : i < 6) (hdg : decode cc pc = .ok (.getfield 162, 3)) (kk : W p l e R s m args below meth c H locs cells slots Q (F0 m (pc + 3) ls (va_rf (CR 1 i) :: rest))) : W p l e R s m args below meth c H locs cells slots Q (F0 m pc ls (.ref (ad (22 + i)) :: rest)) :=
  gf_LC_162 X w (23 + i) (cw_Entry i h) rfl hdg kk
theorem cp_LC_162 (X : Cx cc nL R_LC D ac p m args c s) (w : Wo D A (cws ac o ad CI CL CR tl) H0 H locs) (i : Nat) (h : i < 6) {x : Option Nat} (hdg : decode cc pc = .ok (.putfield 162, 3)) (kk : ∀ (H1 : Heap) (locs1 : List Loc), Wo D A (cws ac o ad CI CL (up2 CR 1 i x) tl) H0 H1 locs1 → W p l e R s m args below meth c H1 locs1 cells slots Q (F0 m (pc + 3) ls rest)) : W p l e R s m args below meth c H locs cells slots Q (F0 m pc ls (va_rf x :: .ref (ad (22 + i)) :: rest)) :=
  pf_LC_162 X w (23 + i) (cw_Entry i h) (cs_Entry_6 i h x) (Nat.le_of_ble_eq_true rfl) hdg kk
theorem cg_LC_166 (X : Cx cc nL R_LC D ac p m args c s) (w : Wo D A (cws ac o ad CI CL CR tl) H0 H locs) (i : Nat) (h : i < 6) {v : Int64} (hv : CL 19 i = v) (hdg : decode cc pc = .ok (.getfield 166, 3)) (kk : W p l e R s m args below meth c H locs cells slots Q (F0 m (pc + 3) ls (.long v :: rest))) : W p l e R s m args below meth c H locs cells slots Q (F0 m pc ls (.ref (ad (22 + i)) :: rest)) := by
  subst hv
  exact gf_LC_166 X w (23 + i) (cw_Entry i h) rfl hdg kk
theorem cp_LC_166 (X : Cx cc nL R_LC D ac p m args c s) (w : Wo D A (cws ac o ad CI CL CR tl) H0 H locs) (i : Nat) (h : i < 6) {x : Int64} (hdg : decode cc pc = .ok (.putfield 166, 3)) (kk : ∀ (H1 : Heap) (locs1 : List Loc), Wo D A (cws ac o ad CI (up2 CL 19 i x) CR tl) H0 H1 locs1 → W p l e R s m args below meth c H1 locs1 cells slots Q (F0 m (pc + 3) ls rest)) : W p l e R s m args below meth c H locs cells slots Q (F0 m pc ls (.long x :: .ref (ad (22 + i)) :: rest)) :=
  pf_LC_166 X w (23 + i) (cw_Entry i h) (cs_Entry_3 i h x) (Nat.le_of_ble_eq_true rfl) hdg kk
theorem cg_LC_177 (X : Cx cc nL R_LC D ac p m args c s) (w : Wo D A (cws ac o ad CI CL CR tl) H0 H locs) (i : Nat) (h : i < 6) {v : Int32} (hv : CI 17 i = v) (hdg : decode cc pc = .ok (.getfield 177, 3)) (kk : W p l e R s m args below meth c H locs cells slots Q (F0 m (pc + 3) ls (.int v :: rest))) : W p l e R s m args below meth c H locs cells slots Q (F0 m pc ls (.ref (ad (22 + i)) :: rest)) := by
  subst hv
  exact gf_LC_177 X w (23 + i) (cw_Entry i h) rfl hdg kk
theorem cg_LC_180 (X : Cx cc nL R_LC D ac p m args c s) (w : Wo D A (cws ac o ad CI CL CR tl) H0 H locs) {v : Int64} (hv : CL 35 0 = v) (hdg : decode cc pc = .ok (.getfield 180, 3)) (kk : W p l e R s m args below meth c H locs cells slots Q (F0 m (pc + 3) ls (.long v :: rest))) : W p l e R s m args below meth c H locs cells slots Q (F0 m pc ls (.ref o :: rest)) := by
  subst hv
  exact gf_LC_180 X w 0 rfl rfl hdg kk
theorem cp_LC_180 (X : Cx cc nL R_LC D ac p m args c s) (w : Wo D A (cws ac o ad CI CL CR tl) H0 H locs) {x : Int64} (hdg : decode cc pc = .ok (.putfield 180, 3)) (kk : ∀ (H1 : Heap) (locs1 : List Loc), Wo D A (cws ac o ad CI (up2 CL 35 0 x) CR tl) H0 H1 locs1 → W p l e R s m args below meth c H1 locs1 cells slots Q (F0 m (pc + 3) ls rest)) : W p l e R s m args below meth c H locs cells slots Q (F0 m pc ls (.long x :: .ref o :: rest)) :=
  pf_LC_180 X w 0 rfl rfl (Nat.le_of_ble_eq_true rfl) hdg kk
theorem cg_LC_193 (X : Cx cc nL R_LC D ac p m args c s) (w : Wo D A (cws ac o ad CI CL CR tl) H0 H locs) (i : Nat) (h : i < 6) {v : Int32} (hv : CI 21 i = v) (hdg : decode cc pc = .ok (.getfield 193, 3)) (kk : W p l e R s m args below meth c H locs cells slots Q (F0 m (pc + 3) ls (.int v :: rest))) : W p l e R s m args below meth c H locs cells slots Q (F0 m pc ls (.ref (ad (22 + i)) :: rest)) := by
  subst hv
  exact gf_LC_193 X w (23 + i) (cw_Entry i h) rfl hdg kk
theorem cp_LC_193 (X : Cx cc nL R_LC D ac p m args c s) (w : Wo D A (cws ac o ad CI CL CR tl) H0 H locs) (i : Nat) (h : i < 6) {x : Int32} (hz : x = 0 ∨ x = 1) (hdg : decode cc pc = .ok (.putfield 193, 3)) (kk : ∀ (H1 : Heap) (locs1 : List Loc), Wo D A (cws ac o ad (up2 CI 21 i x) CL CR tl) H0 H1 locs1 → W p l e R s m args below meth c H1 locs1 cells slots Q (F0 m (pc + 3) ls rest)) : W p l e R s m args below meth c H locs cells slots Q (F0 m pc ls (.int x :: .ref (ad (22 + i)) :: rest)) :=
  pf_LC_193 X w (23 + i) hz (cw_Entry i h) (cs_Entry_5 i h x) (Nat.le_of_ble_eq_true rfl) hdg kk
theorem cg_LC_201 (X : Cx cc nL R_LC D ac p m args c s) (w : Wo D A (cws ac o ad CI CL CR tl) H0 H locs) (i : Nat) (h : i < 6) {v : Int64} (hv : CL 18 i = v) (hdg : decode cc pc = .ok (.getfield 201, 3)) (kk : W p l e R s m args below meth c H locs cells slots Q (F0 m (pc + 3) ls (.long v :: rest))) : W p l e R s m args below meth c H locs cells slots Q (F0 m pc ls (.ref (ad (22 + i)) :: rest)) := by
  subst hv
  exact gf_LC_201 X w (23 + i) (cw_Entry i h) rfl hdg kk
theorem cg_LC_213 (X : Cx cc nL R_LC D ac p m args c s) (w : Wo D A (cws ac o ad CI CL CR tl) H0 H locs) (i : Nat) (h : i < 3) (hdg : decode cc pc = .ok (.getfield 213, 3)) (kk : W p l e R s m args below meth c H locs cells slots Q (F0 m (pc + 3) ls (.int (nI i) :: rest))) : W p l e R s m args below meth c H locs cells slots Q (F0 m pc ls (.ref (ad (4 + i)) :: rest)) :=
  gf_LC_213 X w (5 + i) (cw_Core i h) rfl hdg kk
theorem cg_LC_220 (X : Cx cc nL R_LC D ac p m args c s) (w : Wo D A (cws ac o ad CI CL CR tl) H0 H locs) (i : Nat) (h : i < 3) {v : Int32} (hv : CI 7 i = v) (hdg : decode cc pc = .ok (.getfield 220, 3)) (kk : W p l e R s m args below meth c H locs cells slots Q (F0 m (pc + 3) ls (.int v :: rest))) : W p l e R s m args below meth c H locs cells slots Q (F0 m pc ls (.ref (ad (4 + i)) :: rest)) := by
  subst hv
  exact gf_LC_220 X w (5 + i) (cw_Core i h) rfl hdg kk
theorem cg_LC_223 (X : Cx cc nL R_LC D ac p m args c s) (w : Wo D A (cws ac o ad CI CL CR tl) H0 H locs) (i : Nat) (h : i < 3) {v : Int32} (hv : CI 8 i = v) (hdg : decode cc pc = .ok (.getfield 223, 3)) (kk : W p l e R s m args below meth c H locs cells slots Q (F0 m (pc + 3) ls (.int v :: rest))) : W p l e R s m args below meth c H locs cells slots Q (F0 m pc ls (.ref (ad (4 + i)) :: rest)) := by
  subst hv
  exact gf_LC_223 X w (5 + i) (cw_Core i h) rfl hdg kk
theorem cg_LC_226 (X : Cx cc nL R_LC D ac p m args c s) (w : Wo D A (cws ac o ad CI CL CR tl) H0 H locs) (i : Nat) (h : i < 3) {v : Int32} (hv : CI 9 i = v) (hdg : decode cc pc = .ok (.getfield 226, 3)) (kk : W p l e R s m args below meth c H locs cells slots Q (F0 m (pc + 3) ls (.int v :: rest))) : W p l e R s m args below meth c H locs cells slots Q (F0 m pc ls (.ref (ad (4 + i)) :: rest)) := by
  subst hv
  exact gf_LC_226 X w (5 + i) (cw_Core i h) rfl hdg kk
theorem cg_LC_229 (X : Cx cc nL R_LC D ac p m args c s) (w : Wo D A (cws ac o ad CI CL CR tl) H0 H locs) (i : Nat) (h : i < 12) {v : Int32} (hv : CI 12 i = v) (hdg : decode cc pc = .ok (.getfield 229, 3)) (kk : W p l e R s m args below meth c H locs cells slots Q (F0 m (pc + 3) ls (.int v :: rest))) : W p l e R s m args below meth c H locs cells slots Q (F0 m pc ls (.ref (ad (10 + i)) :: rest)) := by
  subst hv
  exact gf_LC_229 X w (11 + i) (cw_Place i h) rfl hdg kk
theorem cg_LC_230 (X : Cx cc nL R_LC D ac p m args c s) (w : Wo D A (cws ac o ad CI CL CR tl) H0 H locs) (i : Nat) (h : i < 12) {v : Int64} (hv : CL 14 i = v) (hdg : decode cc pc = .ok (.getfield 230, 3)) (kk : W p l e R s m args below meth c H locs cells slots Q (F0 m (pc + 3) ls (.long v :: rest))) : W p l e R s m args below meth c H locs cells slots Q (F0 m pc ls (.ref (ad (10 + i)) :: rest)) := by
  subst hv
  exact gf_LC_230 X w (11 + i) (cw_Place i h) rfl hdg kk
theorem cg_LC_231 (X : Cx cc nL R_LC D ac p m args c s) (w : Wo D A (cws ac o ad CI CL CR tl) H0 H locs) (i : Nat) (h : i < 6) {v : Int32} (hv : CI 22 i = v) (hdg : decode cc pc = .ok (.getfield 231, 3)) (kk : W p l e R s m args below meth c H locs cells slots Q (F0 m (pc + 3) ls (.int v :: rest))) : W p l e R s m args below meth c H locs cells slots Q (F0 m pc ls (.ref (ad (22 + i)) :: rest)) := by
  subst hv
  exact gf_LC_231 X w (23 + i) (cw_Entry i h) rfl hdg kk
theorem cg_Request_29 (X : Cx cc nL R_Request D ac p m args c s) (w : Wo D A (cws ac o ad CI CL CR tl) H0 H locs) (i : Nat) (h : i < 6) (hdg : decode cc pc = .ok (.getfield 29, 3)) (kk : W p l e R s m args below meth c H locs cells slots Q (F0 m (pc + 3) ls (va_rf (CR 1 i) :: rest))) : W p l e R s m args below meth c H locs cells slots Q (F0 m pc ls (.ref (ad (22 + i)) :: rest)) :=
  gf_Request_29 X w (23 + i) (cw_Entry i h) rfl hdg kk
theorem cg_Request_35 (X : Cx cc nL R_Request D ac p m args c s) (w : Wo D A (cws ac o ad CI CL CR tl) H0 H locs) (i : Nat) (h : i < 6) (hdg : decode cc pc = .ok (.getfield 35, 3)) (kk : W p l e R s m args below meth c H locs cells slots Q (F0 m (pc + 3) ls (.ref (ad (28 + i)) :: rest))) : W p l e R s m args below meth c H locs cells slots Q (F0 m pc ls (.ref (ad (22 + i)) :: rest)) :=
  gf_Request_35 X w (23 + i) (cw_Entry i h) rfl hdg kk
theorem cg_Request_39 (X : Cx cc nL R_Request D ac p m args c s) (w : Wo D A (cws ac o ad CI CL CR tl) H0 H locs) (i : Nat) (h : i < 6) {v : Int32} (hv : CI 22 i = v) (hdg : decode cc pc = .ok (.getfield 39, 3)) (kk : W p l e R s m args below meth c H locs cells slots Q (F0 m (pc + 3) ls (.int v :: rest))) : W p l e R s m args below meth c H locs cells slots Q (F0 m pc ls (.ref (ad (22 + i)) :: rest)) := by
  subst hv
  exact gf_Request_39 X w (23 + i) (cw_Entry i h) rfl hdg kk
theorem cp_Request_39 (X : Cx cc nL R_Request D ac p m args c s) (w : Wo D A (cws ac o ad CI CL CR tl) H0 H locs) (i : Nat) (h : i < 6) {x : Int32} (hdg : decode cc pc = .ok (.putfield 39, 3)) (kk : ∀ (H1 : Heap) (locs1 : List Loc), Wo D A (cws ac o ad (up2 CI 22 i x) CL CR tl) H0 H1 locs1 → W p l e R s m args below meth c H1 locs1 cells slots Q (F0 m (pc + 3) ls rest)) : W p l e R s m args below meth c H locs cells slots Q (F0 m pc ls (.int x :: .ref (ad (22 + i)) :: rest)) :=
  pf_Request_39 X w (23 + i) (cw_Entry i h) (cs_Entry_8 i h x) (Nat.le_of_ble_eq_true rfl) hdg kk
theorem cg_Return_1 (X : Cx cc nL R_Return D ac p m args c s) (w : Wo D A (cws ac o ad CI CL CR tl) H0 H locs) (i : Nat) (h : i < 12) {v : Int32} (hv : CI 10 i = v) (hdg : decode cc pc = .ok (.getfield 1, 3)) (kk : W p l e R s m args below meth c H locs cells slots Q (F0 m (pc + 3) ls (.int v :: rest))) : W p l e R s m args below meth c H locs cells slots Q (F0 m pc ls (.ref (ad (10 + i)) :: rest)) := by
  subst hv
  exact gf_Return_1 X w (11 + i) (cw_Place i h) rfl hdg kk
theorem cg_Return_13 (X : Cx cc nL R_Return D ac p m args c s) (w : Wo D A (cws ac o ad CI CL CR tl) H0 H locs) (i : Nat) (h : i < 12) {v : Int32} (hv : CI 12 i = v) (hdg : decode cc pc = .ok (.getfield 13, 3)) (kk : W p l e R s m args below meth c H locs cells slots Q (F0 m (pc + 3) ls (.int v :: rest))) : W p l e R s m args below meth c H locs cells slots Q (F0 m pc ls (.ref (ad (10 + i)) :: rest)) := by
  subst hv
  exact gf_Return_13 X w (11 + i) (cw_Place i h) rfl hdg kk
theorem cg_Return_19 (X : Cx cc nL R_Return D ac p m args c s) (w : Wo D A (cws ac o ad CI CL CR tl) H0 H locs) (i : Nat) (h : i < 12) {v : Int64} (hv : CL 13 i = v) (hdg : decode cc pc = .ok (.getfield 19, 3)) (kk : W p l e R s m args below meth c H locs cells slots Q (F0 m (pc + 3) ls (.long v :: rest))) : W p l e R s m args below meth c H locs cells slots Q (F0 m pc ls (.ref (ad (10 + i)) :: rest)) := by
  subst hv
  exact gf_Return_19 X w (11 + i) (cw_Place i h) rfl hdg kk
theorem cg_Return_24 (X : Cx cc nL R_Return D ac p m args c s) (w : Wo D A (cws ac o ad CI CL CR tl) H0 H locs) (i : Nat) (h : i < 12) {v : Int64} (hv : CL 14 i = v) (hdg : decode cc pc = .ok (.getfield 24, 3)) (kk : W p l e R s m args below meth c H locs cells slots Q (F0 m (pc + 3) ls (.long v :: rest))) : W p l e R s m args below meth c H locs cells slots Q (F0 m pc ls (.ref (ad (10 + i)) :: rest)) := by
  subst hv
  exact gf_Return_24 X w (11 + i) (cw_Place i h) rfl hdg kk
theorem cp_Return_41 (X : Cx cc nL R_Return D ac p m args c s) (w : Wo D A (cws ac o ad CI CL CR tl) H0 H locs) (i : Nat) (h : i < 6) {x : Option Nat} (hdg : decode cc pc = .ok (.putfield 41, 3)) (kk : ∀ (H1 : Heap) (locs1 : List Loc), Wo D A (cws ac o ad CI CL (up2 CR 0 i x) tl) H0 H1 locs1 → W p l e R s m args below meth c H1 locs1 cells slots Q (F0 m (pc + 3) ls rest)) : W p l e R s m args below meth c H locs cells slots Q (F0 m pc ls (va_rf (rC ad x) :: .ref (ad (22 + i)) :: rest)) :=
  pf_Return_41 X w (23 + i) (cw_Entry i h) (cs_Entry_4 i h x) (Nat.le_of_ble_eq_true rfl) hdg kk
theorem cp_Return_45 (X : Cx cc nL R_Return D ac p m args c s) (w : Wo D A (cws ac o ad CI CL CR tl) H0 H locs) (i : Nat) (h : i < 6) {x : Int32} (hz : x = 0 ∨ x = 1) (hdg : decode cc pc = .ok (.putfield 45, 3)) (kk : ∀ (H1 : Heap) (locs1 : List Loc), Wo D A (cws ac o ad (up2 CI 21 i x) CL CR tl) H0 H1 locs1 → W p l e R s m args below meth c H1 locs1 cells slots Q (F0 m (pc + 3) ls rest)) : W p l e R s m args below meth c H locs cells slots Q (F0 m pc ls (.int x :: .ref (ad (22 + i)) :: rest)) :=
  pf_Return_45 X w (23 + i) hz (cw_Entry i h) (cs_Entry_5 i h x) (Nat.le_of_ble_eq_true rfl) hdg kk
theorem cg_Return_53 (X : Cx cc nL R_Return D ac p m args c s) (w : Wo D A (cws ac o ad CI CL CR tl) H0 H locs) (i : Nat) (h : i < 6) (hdg : decode cc pc = .ok (.getfield 53, 3)) (kk : W p l e R s m args below meth c H locs cells slots Q (F0 m (pc + 3) ls (va_rf (CR 1 i) :: rest))) : W p l e R s m args below meth c H locs cells slots Q (F0 m pc ls (.ref (ad (22 + i)) :: rest)) :=
  gf_Return_53 X w (23 + i) (cw_Entry i h) rfl hdg kk
theorem cp_Return_53 (X : Cx cc nL R_Return D ac p m args c s) (w : Wo D A (cws ac o ad CI CL CR tl) H0 H locs) (i : Nat) (h : i < 6) {x : Option Nat} (hdg : decode cc pc = .ok (.putfield 53, 3)) (kk : ∀ (H1 : Heap) (locs1 : List Loc), Wo D A (cws ac o ad CI CL (up2 CR 1 i x) tl) H0 H1 locs1 → W p l e R s m args below meth c H1 locs1 cells slots Q (F0 m (pc + 3) ls rest)) : W p l e R s m args below meth c H locs cells slots Q (F0 m pc ls (va_rf x :: .ref (ad (22 + i)) :: rest)) :=
  pf_Return_53 X w (23 + i) (cw_Entry i h) (cs_Entry_6 i h x) (Nat.le_of_ble_eq_true rfl) hdg kk
theorem cg_Return_61 (X : Cx cc nL R_Return D ac p m args c s) (w : Wo D A (cws ac o ad CI CL CR tl) H0 H locs) (i : Nat) (h : i < 6) {v : Int32} (hv : CI 22 i = v) (hdg : decode cc pc = .ok (.getfield 61, 3)) (kk : W p l e R s m args below meth c H locs cells slots Q (F0 m (pc + 3) ls (.int v :: rest))) : W p l e R s m args below meth c H locs cells slots Q (F0 m pc ls (.ref (ad (22 + i)) :: rest)) := by
  subst hv
  exact gf_Return_61 X w (23 + i) (cw_Entry i h) rfl hdg kk
theorem cp_Version_9_Place (X : Cx cc nL R_Version D ac p m args c s) (w : Wo D A (cws ac o ad CI CL CR tl) H0 H locs) (i : Nat) (h : i < 12) {x : Int32} (hdg : decode cc pc = .ok (.putfield 9, 3)) (kk : ∀ (H1 : Heap) (locs1 : List Loc), Wo D A (cws ac o ad (up2 CI 10 i x) CL CR tl) H0 H1 locs1 → W p l e R s m args below meth c H1 locs1 cells slots Q (F0 m (pc + 3) ls rest)) : W p l e R s m args below meth c H locs cells slots Q (F0 m pc ls (.int x :: .ref (ad (10 + i)) :: rest)) :=
  pf_Version_9_Place X w (11 + i) (cw_Place i h) (cs_Place_0 i h x) (Nat.le_of_ble_eq_true rfl) hdg kk
theorem cp_Version_9_Entry (X : Cx cc nL R_Version D ac p m args c s) (w : Wo D A (cws ac o ad CI CL CR tl) H0 H locs) (i : Nat) (h : i < 6) {x : Int32} (hdg : decode cc pc = .ok (.putfield 9, 3)) (kk : ∀ (H1 : Heap) (locs1 : List Loc), Wo D A (cws ac o ad (up2 CI 16 i x) CL CR tl) H0 H1 locs1 → W p l e R s m args below meth c H1 locs1 cells slots Q (F0 m (pc + 3) ls rest)) : W p l e R s m args below meth c H locs cells slots Q (F0 m pc ls (.int x :: .ref (ad (22 + i)) :: rest)) :=
  pf_Version_9_Entry X w (23 + i) (cw_Entry i h) (cs_Entry_0 i h x) (Nat.le_of_ble_eq_true rfl) hdg kk
theorem cp_Version_15_Place (X : Cx cc nL R_Version D ac p m args c s) (w : Wo D A (cws ac o ad CI CL CR tl) H0 H locs) (i : Nat) (h : i < 12) {x : Int32} (hdg : decode cc pc = .ok (.putfield 15, 3)) (kk : ∀ (H1 : Heap) (locs1 : List Loc), Wo D A (cws ac o ad (up2 CI 12 i x) CL CR tl) H0 H1 locs1 → W p l e R s m args below meth c H1 locs1 cells slots Q (F0 m (pc + 3) ls rest)) : W p l e R s m args below meth c H locs cells slots Q (F0 m pc ls (.int x :: .ref (ad (10 + i)) :: rest)) :=
  pf_Version_15_Place X w (11 + i) (cw_Place i h) (cs_Place_1 i h x) (Nat.le_of_ble_eq_true rfl) hdg kk
theorem cp_Version_15_Entry (X : Cx cc nL R_Version D ac p m args c s) (w : Wo D A (cws ac o ad CI CL CR tl) H0 H locs) (i : Nat) (h : i < 6) {x : Int32} (hdg : decode cc pc = .ok (.putfield 15, 3)) (kk : ∀ (H1 : Heap) (locs1 : List Loc), Wo D A (cws ac o ad (up2 CI 17 i x) CL CR tl) H0 H1 locs1 → W p l e R s m args below meth c H1 locs1 cells slots Q (F0 m (pc + 3) ls rest)) : W p l e R s m args below meth c H locs cells slots Q (F0 m pc ls (.int x :: .ref (ad (22 + i)) :: rest)) :=
  pf_Version_15_Entry X w (23 + i) (cw_Entry i h) (cs_Entry_1 i h x) (Nat.le_of_ble_eq_true rfl) hdg kk
theorem cp_Version_18_Place (X : Cx cc nL R_Version D ac p m args c s) (w : Wo D A (cws ac o ad CI CL CR tl) H0 H locs) (i : Nat) (h : i < 12) {x : Int64} (hdg : decode cc pc = .ok (.putfield 18, 3)) (kk : ∀ (H1 : Heap) (locs1 : List Loc), Wo D A (cws ac o ad CI (up2 CL 13 i x) CR tl) H0 H1 locs1 → W p l e R s m args below meth c H1 locs1 cells slots Q (F0 m (pc + 3) ls rest)) : W p l e R s m args below meth c H locs cells slots Q (F0 m pc ls (.long x :: .ref (ad (10 + i)) :: rest)) :=
  pf_Version_18_Place X w (11 + i) (cw_Place i h) (cs_Place_2 i h x) (Nat.le_of_ble_eq_true rfl) hdg kk
theorem cp_Version_18_Entry (X : Cx cc nL R_Version D ac p m args c s) (w : Wo D A (cws ac o ad CI CL CR tl) H0 H locs) (i : Nat) (h : i < 6) {x : Int64} (hdg : decode cc pc = .ok (.putfield 18, 3)) (kk : ∀ (H1 : Heap) (locs1 : List Loc), Wo D A (cws ac o ad CI (up2 CL 18 i x) CR tl) H0 H1 locs1 → W p l e R s m args below meth c H1 locs1 cells slots Q (F0 m (pc + 3) ls rest)) : W p l e R s m args below meth c H locs cells slots Q (F0 m pc ls (.long x :: .ref (ad (22 + i)) :: rest)) :=
  pf_Version_18_Entry X w (23 + i) (cw_Entry i h) (cs_Entry_2 i h x) (Nat.le_of_ble_eq_true rfl) hdg kk
theorem cp_Version_22_Place (X : Cx cc nL R_Version D ac p m args c s) (w : Wo D A (cws ac o ad CI CL CR tl) H0 H locs) (i : Nat) (h : i < 12) {x : Int64} (hdg : decode cc pc = .ok (.putfield 22, 3)) (kk : ∀ (H1 : Heap) (locs1 : List Loc), Wo D A (cws ac o ad CI (up2 CL 14 i x) CR tl) H0 H1 locs1 → W p l e R s m args below meth c H1 locs1 cells slots Q (F0 m (pc + 3) ls rest)) : W p l e R s m args below meth c H locs cells slots Q (F0 m pc ls (.long x :: .ref (ad (10 + i)) :: rest)) :=
  pf_Version_22_Place X w (11 + i) (cw_Place i h) (cs_Place_3 i h x) (Nat.le_of_ble_eq_true rfl) hdg kk
theorem cp_Version_22_Entry (X : Cx cc nL R_Version D ac p m args c s) (w : Wo D A (cws ac o ad CI CL CR tl) H0 H locs) (i : Nat) (h : i < 6) {x : Int64} (hdg : decode cc pc = .ok (.putfield 22, 3)) (kk : ∀ (H1 : Heap) (locs1 : List Loc), Wo D A (cws ac o ad CI (up2 CL 19 i x) CR tl) H0 H1 locs1 → W p l e R s m args below meth c H1 locs1 cells slots Q (F0 m (pc + 3) ls rest)) : W p l e R s m args below meth c H locs cells slots Q (F0 m pc ls (.long x :: .ref (ad (22 + i)) :: rest)) :=
  pf_Version_22_Entry X w (23 + i) (cw_Entry i h) (cs_Entry_3 i h x) (Nat.le_of_ble_eq_true rfl) hdg kk
theorem cl_cores {own : String} (X : Cx cc nL own D ac p m args c s) (w : Wo D A (cws ac o ad CI CL CR tl) H0 H locs) (j : Nat) {i0 : Int32} (hj : j < 3) (hi : i0 = nI j) (hdg : decode cc pc = .ok (.aaload, 1)) (kk : W p l e R s m args below meth c H locs cells slots Q (F0 m (pc + 1) ls (.ref (ad (4 + j)) :: rest))) : W p l e R s m args below meth c H locs cells slots Q (F0 m pc ls (.int i0 :: .ref (ad 0) :: rest)) :=
  kqald X w 1 3 rfl rfl j hj (by decide) hi rfl hdg kk
theorem cl_entries {own : String} (X : Cx cc nL own D ac p m args c s) (w : Wo D A (cws ac o ad CI CL CR tl) H0 H locs) (j : Nat) {i0 : Int32} (hj : j < 6) (hi : i0 = nI j) (hdg : decode cc pc = .ok (.aaload, 1)) (kk : W p l e R s m args below meth c H locs cells slots Q (F0 m (pc + 1) ls (.ref (ad (22 + j)) :: rest))) : W p l e R s m args below meth c H locs cells slots Q (F0 m pc ls (.int i0 :: .ref (ad 1) :: rest)) :=
  kqald X w 2 4 rfl rfl j hj (by decide) hi rfl hdg kk
theorem cl_messages {own : String} (X : Cx cc nL own D ac p m args c s) (w : Wo D A (cws ac o ad CI CL CR tl) H0 H locs) (j : Nat) {i0 : Int32} (hj : j < 24) (hi : i0 = nI j) (hdg : decode cc pc = .ok (.aaload, 1)) (kk : W p l e R s m args below meth c H locs cells slots Q (F0 m (pc + 1) ls (va_rf (CR 3 j) :: rest))) : W p l e R s m args below meth c H locs cells slots Q (F0 m pc ls (.int i0 :: .ref (ad 3) :: rest)) :=
  kqald X w 4 5 rfl rfl j hj (by decide) hi rfl hdg kk
theorem cl_places {own : String} (X : Cx cc nL own D ac p m args c s) (w : Wo D A (cws ac o ad CI CL CR tl) H0 H locs) (i : Nat) (h : i < 3) (j : Nat) {i0 : Int32} (hj : j < 4) (hi : i0 = nI j) (hdg : decode cc pc = .ok (.aaload, 1)) (kk : W p l e R s m args below meth c H locs cells slots Q (F0 m (pc + 1) ls (.ref (ad (10 + (4 * i + j))) :: rest))) : W p l e R s m args below meth c H locs cells slots Q (F0 m pc ls (.int i0 :: .ref (ad (7 + i)) :: rest)) :=
  kqald X w (8 + i) 6 (cw_PA i h) rfl j hj (by decide) hi rfl hdg kk
theorem cl_queue {own : String} (X : Cx cc nL own D ac p m args c s) (w : Wo D A (cws ac o ad CI CL CR tl) H0 H locs) (i : Nat) (h : i < 6) (j : Nat) {i0 : Int32} (hj : j < 2) (hi : i0 = nI j) (hdg : decode cc pc = .ok (.aaload, 1)) (kk : W p l e R s m args below meth c H locs cells slots Q (F0 m (pc + 1) ls (va_rf (CR (10 + i) j) :: rest))) : W p l e R s m args below meth c H locs cells slots Q (F0 m pc ls (.int i0 :: .ref (ad (28 + i)) :: rest)) :=
  kqald X w (29 + i) 7 (cw_Q i h) rfl j hj (by decide) hi rfl hdg kk
theorem cl_memory {own : String} (X : Cx cc nL own D ac p m args c s) (w : Wo D A (cws ac o ad CI CL CR tl) H0 H locs) (j : Nat) {i0 v : Int32} (hj : j < 12) (hi : i0 = nI j) (hv : CI 27 j = v) (hdg : decode cc pc = .ok (.iaload, 1)) (kk : W p l e R s m args below meth c H locs cells slots Q (F0 m (pc + 1) ls (.int v :: rest))) : W p l e R s m args below meth c H locs cells slots Q (F0 m pc ls (.int i0 :: .ref (ad 2) :: rest)) :=
  kiald X w 3 (f := CI 27) rfl j hj (by decide) hi hv hdg kk
theorem ct_memory {own : String} (X : Cx cc nL own D ac p m args c s) (w : Wo D A (cws ac o ad CI CL CR tl) H0 H locs) (j : Nat) {i0 x : Int32} (hj : j < 12) (hi : i0 = nI j) (hdg : decode cc pc = .ok (.iastore, 1)) (kk : ∀ (H1 : Heap) (locs1 : List Loc), Wo D A (cws ac o ad (up2 CI 27 j x) CL CR tl) H0 H1 locs1 → W p l e R s m args below meth c H1 locs1 cells slots Q (F0 m (pc + 1) ls rest)) : W p l e R s m args below meth c H locs cells slots Q (F0 m pc ls (.int x :: .int i0 :: .ref (ad 2) :: rest)) :=
  kiast X w 3 (f := CI 27) (f' := fun _ => 0) rfl j hj (by decide) hi rfl hdg kk
theorem crecv {own : String} (X : Cx cc nL own D ac p m args c s) (w : Wo D A (cws ac o ad CI CL CR tl) H0 H locs) : ∃ cellB : Cell, H[o]? = some cellB ∧ cellB.vm.isStatics = false ∧ s.vm.findClass R_LC = some cellB.cls := krecv (ws0 := []) X w 0 rfl rfl
theorem crecv_Core {own : String} (X : Cx cc nL own D ac p m args c s) (w : Wo D A (cws ac o ad CI CL CR tl) H0 H locs) (i : Nat) (h : i < 3) : ∃ cellB : Cell, H[ad (4 + i)]? = some cellB ∧ cellB.vm.isStatics = false ∧ s.vm.findClass R_Core = some cellB.cls := krecv (ws0 := []) X w (5 + i) (cw_Core i h) rfl
theorem crecv_Place {own : String} (X : Cx cc nL own D ac p m args c s) (w : Wo D A (cws ac o ad CI CL CR tl) H0 H locs) (i : Nat) (h : i < 12) : ∃ cellB : Cell, H[ad (10 + i)]? = some cellB ∧ cellB.vm.isStatics = false ∧ s.vm.findClass R_Place = some cellB.cls := krecv (ws0 := []) X w (11 + i) (cw_Place i h) rfl
theorem crecv_Entry {own : String} (X : Cx cc nL own D ac p m args c s) (w : Wo D A (cws ac o ad CI CL CR tl) H0 H locs) (i : Nat) (h : i < 6) : ∃ cellB : Cell, H[ad (22 + i)]? = some cellB ∧ cellB.vm.isStatics = false ∧ s.vm.findClass R_Entry = some cellB.cls := krecv (ws0 := []) X w (23 + i) (cw_Entry i h) rfl
end CRW
