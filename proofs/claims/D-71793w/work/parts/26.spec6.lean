/-! THE PURE SIDE, 6: what the operations answer, and the states behind them -/
set_option maxRecDepth 100000
/-- the same persistent state; all else is scratch -/
def mAg (I : Nat → Int) (F : Nat → Nat → Int) (I' : Nat → Int) (F' : Nat → Nat → Int) : Prop := I' 0 = I 0 ∧ I' 1 = I 1 ∧ I' 5 = I 5 ∧ I' 6 = I 6 ∧ I' 7 = I 7 ∧ I' 8 = I 8 ∧ I' 9 = I 9 ∧ I' 29 = I 29 ∧ (∀ k : Nat, (k : Int) < I 5 → F' 10 k = F 10 k ∧ F' 11 k = F 11 k ∧ F' 12 k = F 12 k) ∧ (∀ k : Nat, (k : Int) < I 6 → F' 13 k = F 13 k ∧ F' 14 k = F 14 k) ∧ (∀ k : Nat, (k : Int) < I 29 → F' 30 k = F 30 k ∧ F' 31 k = F 31 k) ∧ (∀ k : Nat, k < 4 → F' 2 k = F 2 k ∧ F' 3 k = F 3 k) ∧ (∀ k : Nat, k < 240 → F' 4 k = F 4 k)
theorem mAg_rfl (I : Nat → Int) (F : Nat → Nat → Int) : mAg I F I F := ⟨rfl, rfl, rfl, rfl, rfl, rfl, rfl, rfl, fun _ _ => ⟨rfl, rfl, rfl⟩, fun _ _ => ⟨rfl, rfl⟩, fun _ _ => ⟨rfl, rfl⟩, fun _ _ => ⟨rfl, rfl⟩, fun _ _ => rfl⟩
theorem mAg_scr (I : Nat → Int) (F : Nat → Nat → Int) (p : Int) (g1 g2 g3 g4 g5 g6 : Nat → Int) : mAg I F (va_up I 24 p) (up3 (upp F g4 g5 g6) g1 g2 g3) := ⟨rfl, rfl, rfl, rfl, rfl, rfl, rfl, rfl, fun _ _ => ⟨rfl, rfl, rfl⟩, fun _ _ => ⟨rfl, rfl⟩, fun _ _ => ⟨rfl, rfl⟩, fun _ _ => ⟨rfl, rfl⟩, fun _ _ => rfl⟩
theorem mAg_up3 (I : Nat → Int) (F : Nat → Nat → Int) (g1 g2 g3 : Nat → Int) : mAg I F I (up3 F g1 g2 g3) := ⟨rfl, rfl, rfl, rfl, rfl, rfl, rfl, rfl, fun _ _ => ⟨rfl, rfl, rfl⟩, fun _ _ => ⟨rfl, rfl⟩, fun _ _ => ⟨rfl, rfl⟩, fun _ _ => ⟨rfl, rfl⟩, fun _ _ => rfl⟩
theorem mAg.trans {I1 I2 I3 : Nat → Int} {F1 F2 F3 : Nat → Nat → Int} (h : mAg I1 F1 I2 F2) (g : mAg I2 F2 I3 F3) : mAg I1 F1 I3 F3 := by
  obtain ⟨a0, a1, a5, a6, a7, a8, a9, a29, aL, aR, aN, aS, aC⟩ := h
  obtain ⟨b0, b1, b5, b6, b7, b8, b9, b29, bL, bR, bN, bS, bC⟩ := g
  refine ⟨b0.trans a0, b1.trans a1, b5.trans a5, b6.trans a6, b7.trans a7, b8.trans a8, b9.trans a9, b29.trans a29, fun k hk => ?_, fun k hk => ?_, fun k hk => ?_, fun k hk => ?_, fun k hk => (bC k hk).trans (aC k hk)⟩
  · have x := aL k hk
    have y := bL k (by rw [a5]; exact hk)
    exact ⟨y.1.trans x.1, y.2.1.trans x.2.1, y.2.2.trans x.2.2⟩
  · have x := aR k hk
    have y := bR k (by rw [a6]; exact hk)
    exact ⟨y.1.trans x.1, y.2.trans x.2⟩
  · have x := aN k hk
    have y := bN k (by rw [a29]; exact hk)
    exact ⟨y.1.trans x.1, y.2.trans x.2⟩
  · have x := aS k hk
    have y := bS k hk
    exact ⟨y.1.trans x.1, y.2.trans x.2⟩
theorem mAg.ok {I I' : Nat → Int} {F F' : Nat → Nat → Int} (h : mAg I F I' F') (g : mOK I F) : mOK I' F' := by
  obtain ⟨a0, a1, a5, a6, a7, a8, a9, a29, aL, aR, aN, aS, aC⟩ := h
  obtain ⟨b0, b5, b6, b56, b7, b8, b9, b29, bL, bR, bN, bS, bC⟩ := g
  refine ⟨by omega, by omega, by omega, by omega, by omega, by omega, by omega, by omega, fun k hk => ?_, fun k hk => ?_, fun k hk => ?_, fun k hk => ?_, fun k hk => ?_⟩
  · have x := aL k (by omega)
    rw [x.1, x.2.1, x.2.2]; exact bL k (by omega)
  · have x := aR k (by omega)
    rw [x.1, x.2]; exact bR k (by omega)
  · have x := aN k (by omega)
    rw [x.1, x.2]; exact bN k (by omega)
  · have x := aS k hk
    rw [x.1, x.2]; exact bS k hk
  · rw [aC k hk]; exact bC k hk
theorem drop_of {α : Type} {P : List α} {k : Nat} {q : α} (h : P[k]? = some q) : P.drop k = q :: P.drop (k + 1) := by
  obtain ⟨hk, e⟩ := List.getElem?_eq_some_iff.mp h
  rw [List.drop_eq_getElem_cons hk, e]
/-- the other book's ones that are beside one, as a set -/
def pwL (k : Nat) : List (Nat × Nat × Nat) → Int → Int
  | [], v => v
  | q :: P, v => pwL k P (bOr v (if q.2.1 ≤ k ∧ k < q.2.1 + loN q.1 then bShl (bShl 1 (roN q.1) - 1) q.2.2 else 0))
def pwR (k : Nat) : List (Nat × Nat × Nat) → Int → Int
  | [], v => v
  | q :: P, v => pwR k P (bOr v (if q.2.2 ≤ k ∧ k < q.2.2 + roN q.1 then bShl (bShl 1 (loN q.1) - 1) q.2.1 else 0))
theorem rg_pwL (k : Nat) : ∀ P v, rg v → rg (pwL k P v) := by
  intro P
  induction P with
  | nil => intro v h; exact h
  | cons q P ih => intro v h; exact ih _ (rg_or _ _)
theorem rg_pwR (k : Nat) : ∀ P v, rg v → rg (pwR k P v) := by
  intro P
  induction P with
  | nil => intro v h; exact h
  | cons q P ih => intro v h; exact ih _ (rg_or _ _)
def rLeft (I : Nat → Int) (F : Nat → Nat → Int) (a wh : Int) : Int := if ¬ (0 ≤ a ∧ a < I 5) then -1 else if wh = 0 then F 10 a.toNat else if wh = 1 then F 11 a.toNat else if wh = 2 then lenF F a.toNat else if wh = 3 then F 12 a.toNat else if wh = 4 then pwL a.toNat (bpath I F (I 9)) 0 else -2
def rRight (I : Nat → Int) (F : Nat → Nat → Int) (b wh : Int) : Int := if ¬ (0 ≤ b ∧ b < I 6) then -1 else if wh = 0 then F 13 b.toNat else if wh = 1 then F 14 b.toNat else if wh = 2 then pwR b.toNat (bpath I F (I 9)) 0 else -2
/-- 0: the least cost; 2: how many pairs; 3: the next; 4: how many as little -/
def rTell (I : Nat → Int) (F : Nat → Nat → Int) (wh : Int) : Int := if wh = 4 then (DT I F (I 9) 0 0).2.2 else if (DT I F (I 9) 0 0).1 = 100000 then -9 else if wh = 3 ∧ (DT I F (I 9) 0 0).2.1 = 100000 then -9 else if wh = 0 then (DT I F (I 9) 0 0).1 else if wh = 2 then ((bpath I F (I 9)).length : Int) else (DT I F (I 9) 0 0).2.1
def rBest (I : Nat → Int) (F : Nat → Nat → Int) (wh : Int) : Int := if ¬ (0 ≤ wh ∧ wh ≤ 3) then -2 else if I 5 = 0 then -3 else rTell I F (if wh = 1 then 2 else if wh = 2 then 3 else if wh = 3 then 4 else 0)
def rPair (I : Nat → Int) (F : Nat → Nat → Int) (k wh : Int) : Int := if k < 0 ∨ ((bpath I F (I 9)).length : Int) ≤ k then -1 else if wh = 0 then (((bpath I F (I 9)).getD k.toNat (0, 0, 0)).1 : Int) else if wh = 1 then (((bpath I F (I 9)).getD k.toNat (0, 0, 0)).2.1 : Int) else if wh = 2 then (((bpath I F (I 9)).getD k.toNat (0, 0, 0)).2.2 : Int) else if wh = 3 then cst I F ((bpath I F (I 9)).getD k.toNat (0, 0, 0)).1 ((bpath I F (I 9)).getD k.toNat (0, 0, 0)).2.1 ((bpath I F (I 9)).getD k.toNat (0, 0, 0)).2.2 else -2
def rCost (I : Nat → Int) (F : Nat → Nat → Int) (so a b : Int) : Int := if ¬ (0 ≤ so ∧ so ≤ 4) then -2 else if (so = 2 ∨ (0 ≤ a ∧ a + lo so ≤ I 5)) ∧ (so = 1 ∨ (0 ≤ b ∧ b + ro so ≤ I 6)) then cst I F so a.toNat b.toNat else -1
def rBy (I : Nat → Int) (F : Nat → Nat → Int) (wd : Int) : Int := if (DT I F wd 0 0).1 = 100000 then -9 else (DT I F wd 0 0).1
/-- letters: the answer; the state behind it -/
def rLet (I : Nat → Int) (F : Nat → Nat → Int) (sd k v : Int) : Int := if ¬ (0 ≤ sd ∧ sd ≤ 1) then -2 else if ¬ (0 ≤ k ∧ k < (if sd = 0 then I 5 else I 6)) then -1 else if ¬ (1 ≤ v ∧ v ≤ 9) then -2 else if sd = 0 then F 11 k.toNat else F 13 k.toNat
def nLet (I : Nat → Int) (F : Nat → Nat → Int) (sd k v : Int) : Nat → Nat → Int := if (sd = 0 ∧ 0 ≤ k ∧ k < I 5) ∧ 1 ≤ v ∧ v ≤ 9 then va_up F 11 (va_up (F 11) k.toNat v) else if (sd = 1 ∧ 0 ≤ k ∧ k < I 6) ∧ 1 ≤ v ∧ v ≤ 9 then va_up F 13 (va_up (F 13) k.toNat v) else F
def rPrice (I : Nat → Int) (wh v : Int) : Int := if ¬ (0 ≤ wh ∧ wh ≤ 2) then -2 else if I 5 = 0 then -3 else if ¬ (0 ≤ v ∧ v ≤ (if wh = 2 then 7 else 9)) then -2 else if wh = 0 then I 7 else if wh = 1 then I 8 else I 9
def nPrice (I : Nat → Int) (wh v : Int) : Nat → Int := if (0 ≤ wh ∧ wh ≤ 2) ∧ I 5 ≠ 0 ∧ 0 ≤ v ∧ v ≤ (if wh = 2 then 7 else 9) then va_up I (if wh = 0 then 7 else if wh = 1 then 8 else 9) v else I
/-- only the table and the pairs are new -/
def scE (I : Nat → Int) (F : Nat → Nat → Int) (I' : Nat → Int) (F' : Nat → Nat → Int) : Prop := ∃ (p : Int) (g1 g2 g3 g4 g5 g6 : Nat → Int), va_up I 24 p = I' ∧ up3 (upp F g4 g5 g6) g1 g2 g3 = F'
theorem scE.ag {I I' : Nat → Int} {F F' : Nat → Nat → Int} (h : scE I F I' F') : mAg I F I' F' := by
  obtain ⟨p, g1, g2, g3, g4, g5, g6, rfl, rfl⟩ := h
  exact mAg_scr _ _ _ _ _ _ _ _ _
