/-! WHAT x HOLDS, by roles: 0 x; 1 + k what field k holds; 30, 31 the places of left, readings; 50 + i a Sort, 60 + i a Doing; 70 + i, 80 + i their lambdas; 100 + a a left sentence; 200 + k a reading; 300 + k a sheet, 310 + k its row -/
set_option maxRecDepth 100000
abbrev xFs (Ad : Nat → Nat) (I : Nat → Int) : List Value := [.ref (Ad 1), .ref (Ad 2), .int (iI (I 1)), .ref (Ad 4), .int (iI (I 6)), .ref (Ad 6), .ref (Ad 7), .int (iI (I 7)), .int (iI (I 8)), .int (iI (I 9)), .ref (Ad 11), .ref (Ad 12), .ref (Ad 13), .ref (Ad 14), .ref (Ad 15), .ref (Ad 16), .ref (Ad 17), .int (iI (I 0)), .ref (Ad 19)]
/-- a left sentence -/
def plE (o : Nat) (k L A : Int) : xX := if k = 0 then xO 4 [.int (iI A), .int (iI L), .ref o] else if k = 1 then xO 5 [.int (iI A), .int (iI L), .ref o, .ref o] else xO 6 [.int (iI A), .int (iI L), .ref o, .ref o, .ref o]
/-- a sheet's row of a lane -/
def rowE (E : xE) (lane n : Int) (f : Nat → Int) : xX := if lane = 0 then xBy E n.toNat f else if lane = 1 then xSh E n.toNat f else xI E n.toNat f
/-- the lambda i of x -/
def lamE (E : xE) (o i : Nat) : xX := .inr { cls := E.2 (10 + i), slots := #[.ref o], vm := .none }
def rowF (F : Nat → Nat → Int) (k : Nat) : Nat → Int := fun j => if (j : Int) < F 3 k then F 4 (60 * k + j) else 0
def C0a (E : xE) (Ad : Nat → Nat) (I : Nat → Int) (F : Nat → Nat → Int) : Nat → Option xX := fun r => match r with
  | 0 => some (xO 0 (xFs Ad I))
  | 1 => some (xR E 4 5 (fun i => if i < 5 then some (Ad (50 + i)) else none))
  | 2 => some (xR E 5 3 (fun i => if i < 3 then some (Ad (60 + i)) else none))
  | 4 => some (xO 18 [.int (iI (I 41)), .ref (Ad 30), .int (iI (I 5))])
  | 6 => some (xI E 7 (F 13))
  | 7 => some (xI E 7 (F 14))
  | 11 => some (xI E 7 (F 33))
  | 12 => some (xI E 7 (F 34))
  | 13 => some (xI E 64 (F 21))
  | 14 => some (xI E 64 (F 22))
  | 15 => some (xI E 64 (F 23))
  | 16 => some (xI E 7 (F 28))
  | 17 => some (xO 18 [.int (iI (I 42)), .ref (Ad 31), .int (iI (I 29))])
  | 19 => some (xR E 6 4 (fun k => if F 2 k = -9 then none else some (Ad (300 + k))))
  | 30 => if I 43 = 0 then none else some (xR E 3 10 (fun j => if (j : Int) < I 5 then some (Ad (100 + j)) else none))
  | 31 => if I 44 = 0 then none else some (xR E 3 10 (fun j => if (j : Int) < I 29 then some (Ad (200 + j)) else none))
  | _ => none
def C0 (E : xE) (Ad : Nat → Nat) (I : Nat → Int) (F : Nat → Nat → Int) : Nat → Option xX := fun r =>
  if r < 50 then C0a E Ad I F r
  else if r < 60 then (if r < 55 then some (xO 1 [.ref (Ad (r + 20))]) else none)
  else if r < 70 then (if r < 63 then some (xO 2 [.ref (Ad (r + 20))]) else none)
  else if r < 80 then (if r < 75 then some (lamE E (Ad 0) (r - 70)) else none)
  else if r < 100 then (if r < 83 then some (lamE E (Ad 0) (r - 75)) else none)
  else if r < 200 then (if ((r - 100 : Nat) : Int) < I 5 then some (plE (Ad 0) (F 10 (r - 100)) (F 11 (r - 100)) (F 12 (r - 100))) else none)
  else if r < 300 then (if ((r - 200 : Nat) : Int) < I 29 then some (xO 14 [.int (iI (F 30 (r - 200))), .int (iI (F 31 (r - 200)))]) else none)
  else if r < 310 then (if r < 304 ∧ F 2 (r - 300) ≠ -9 then some (xO 15 [.ref (Ad (r + 10))]) else none)
  else (if r < 314 ∧ F 2 (r - 310) ≠ -9 then some (rowE E (F 2 (r - 310)) (F 3 (r - 310)) (rowF F (r - 310))) else none)
def xInv (E : xE) (o : Nat) (Ad : Nat → Nat) (I : Nat → Int) (F : Nat → Nat → Int) (w : xw) : Prop := Ad 0 = o ∧ rW Ad (C0 E Ad I F) w ∧ (I 43 = 0 → I 5 = 0 ∧ Ad 30 = E.2 20) ∧ (I 44 = 0 → I 29 = 0 ∧ Ad 31 = E.2 20)
/-- x's world, and temps beside it -/
def xBB (E : xE) (A : Nat → Prop) (s : State) (o : Nat) (Ad : Nat → Nat) (I : Nat → Int) (F : Nat → Nat → Int) (X : xw) (H : Heap) (locs : List Loc) : Prop := ∃ w, xInv E o Ad I F w ∧ wD w X ∧ xB E A s (wU w X) H locs
