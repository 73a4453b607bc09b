/-! THE PURE SIDE: a state is (I, F), the ints by place and the arrays by place, as the model lays them; what an operation answers is a function of it -/
set_option maxRecDepth 100000
def mOK (I : Nat → Int) (F : Nat → Nat → Int) : Prop := (0 ≤ I 0 ∧ I 0 ≤ 4) ∧ (0 ≤ I 5 ∧ I 5 ≤ 7) ∧ (0 ≤ I 6 ∧ I 6 ≤ 7) ∧ (I 5 = 0 ↔ I 6 = 0) ∧ (0 ≤ I 7 ∧ I 7 ≤ 9) ∧ (0 ≤ I 8 ∧ I 8 ≤ 9) ∧ (0 ≤ I 9 ∧ I 9 ≤ 7) ∧ (0 ≤ I 29 ∧ I 29 ≤ 8) ∧ (∀ k : Nat, (k : Int) < I 5 → (0 ≤ F 10 k ∧ F 10 k ≤ 2) ∧ (1 ≤ F 11 k ∧ F 11 k ≤ 9) ∧ (0 ≤ F 12 k ∧ F 12 k ≤ 4)) ∧ (∀ k : Nat, (k : Int) < I 6 → (1 ≤ F 13 k ∧ F 13 k ≤ 9) ∧ (0 ≤ F 14 k ∧ F 14 k ≤ 4)) ∧ (∀ k : Nat, (k : Int) < I 29 → (0 ≤ F 30 k ∧ F 30 k ≤ 7) ∧ ((0 ≤ F 31 k ∧ F 31 k ≤ 500) ∨ F 31 k = -9)) ∧ (∀ k : Nat, k < 4 → ((0 ≤ F 2 k ∧ F 2 k ≤ 2) ∨ F 2 k = -9) ∧ (0 ≤ F 3 k ∧ F 3 k ≤ 60)) ∧ (∀ k : Nat, k < 240 → rg (F 4 k))
def agn (F : Nat → Nat → Int) (k : Nat) (sort i n : Int) : Int := if F 2 k ≠ -9 ∧ F 2 k ≠ sort then 2 else if F 2 k = -9 then 1 else if n < 0 then 4 else if i < 0 ∨ F 3 k < i ∨ F 3 k - i < n then 3 else 0
def lenF (F : Nat → Nat → Int) (a : Nat) : Int := if F 10 a = 0 then F 11 a else if F 10 a = 1 then F 11 a + 1 else 2 * F 11 a
def lo (s : Int) : Int := if s = 2 then 0 else if s = 3 then 2 else 1
def ro (s : Int) : Int := if s = 1 then 0 else if s = 4 then 2 else 1
def aset (x : Int) : Int := if x = 4 then 0 else bShl 1 x
def aabs (x : Int) : Int := if x < 0 then -x else x
def miss (u v : Int) : Int := if u = v then 0 else 3
def cst (I : Nat → Int) (F : Nat → Nat → Int) (s : Int) (a b : Nat) : Int :=
  if s = 1 then I 7 + lenF F a
  else if s = 2 then I 7 + F 13 b
  else if s = 0 then aabs (lenF F a - F 13 b) + miss (bOr 0 (aset (F 12 a))) (bOr 0 (aset (F 14 b)))
  else if s = 3 then aabs (lenF F a + lenF F (a + 1) - F 13 b) + miss (bOr (bOr 0 (aset (F 12 a))) (aset (F 12 (a + 1)))) (bOr 0 (aset (F 14 b))) + I 8
  else aabs (lenF F a - F 13 b - F 13 (b + 1)) + miss (bOr 0 (aset (F 12 a))) (bOr (bOr 0 (aset (F 14 b))) (aset (F 14 (b + 1)))) + I 8
theorem cst_0 (I : Nat → Int) (F : Nat → Nat → Int) (a b : Nat) : cst I F 0 a b = aabs (lenF F a - F 13 b) + miss (bOr 0 (aset (F 12 a))) (bOr 0 (aset (F 14 b))) := by simp [cst]
theorem cst_1 (I : Nat → Int) (F : Nat → Nat → Int) (a b : Nat) : cst I F 1 a b = I 7 + lenF F a := by simp [cst]
theorem cst_2 (I : Nat → Int) (F : Nat → Nat → Int) (a b : Nat) : cst I F 2 a b = I 7 + F 13 b := by simp [cst]
theorem cst_3 (I : Nat → Int) (F : Nat → Nat → Int) (a b : Nat) : cst I F 3 a b = aabs (lenF F a + lenF F (a + 1) - F 13 b) + miss (bOr (bOr 0 (aset (F 12 a))) (aset (F 12 (a + 1)))) (bOr 0 (aset (F 14 b))) + I 8 := by simp [cst]
theorem cst_4 (I : Nat → Int) (F : Nat → Nat → Int) (a b : Nat) : cst I F 4 a b = aabs (lenF F a - F 13 b - F 13 (b + 1)) + miss (bOr 0 (aset (F 12 a))) (bOr (bOr 0 (aset (F 14 b))) (aset (F 14 (b + 1)))) + I 8 := by simp [cst]
theorem lenF_b {I : Nat → Int} {F : Nat → Nat → Int} (h : mOK I F) {a : Nat} (ha : (a : Int) < I 5) : 1 ≤ lenF F a ∧ lenF F a ≤ 18 := by
  obtain ⟨-, -, -, -, -, -, -, -, hL, -⟩ := h
  have := hL a ha
  unfold lenF
  repeat' split
  all_goals omega
