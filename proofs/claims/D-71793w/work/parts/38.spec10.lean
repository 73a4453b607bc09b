/-! THE PURE SIDE, 10: texts that are read -/
set_option maxRecDepth 100000
def rdI (I : Nat → Int) (a b c : Nat) : Nat → Int := va_up (va_up (va_up I 15 (a : Int)) 16 (b : Int)) 17 (c : Int)
theorem rdI_id {I : Nat → Int} {a b c : Nat} (h1 : I 15 = a) (h2 : I 16 = b) (h3 : I 17 = c) : rdI I a b c = I := by
  unfold rdI
  rw [← h1, ← h2, ← h3, va_up_id, va_up_id, va_up_id]
theorem rdI_15 (I : Nat → Int) (a b c v : Nat) : va_up (rdI I a b c) 15 (v : Int) = rdI I v b c := by
  unfold rdI
  rw [va_up_comm _ _ _ (show 17 ≠ 15 by decide), va_up_comm _ _ _ (show 16 ≠ 15 by decide), bx_uu]
theorem rdI_16 (I : Nat → Int) (a b c v : Nat) : va_up (rdI I a b c) 16 (v : Int) = rdI I a v c := by
  unfold rdI
  rw [va_up_comm _ _ _ (show 17 ≠ 16 by decide), bx_uu]
theorem rdI_17 (I : Nat → Int) (a b c v : Nat) : va_up (rdI I a b c) 17 (v : Int) = rdI I a b v := bx_uu _ _ _ _
def rdF (F : Nat → Nat → Int) (f g h : Nat → Int) : Nat → Nat → Int := va_up (va_up (va_up F 18 f) 19 g) 20 h
theorem rdF_id (F : Nat → Nat → Int) : rdF F (F 18) (F 19) (F 20) = F := by
  unfold rdF
  rw [va_up_id, va_up_id, va_up_id]
theorem rdF_18 (F : Nat → Nat → Int) (f g h v : Nat → Int) : va_up (rdF F f g h) 18 v = rdF F v g h := by
  unfold rdF
  rw [va_up_comm _ _ _ (show 20 ≠ 18 by decide), va_up_comm _ _ _ (show 19 ≠ 18 by decide), bx_uu]
theorem rdF_19 (F : Nat → Nat → Int) (f g h v : Nat → Int) : va_up (rdF F f g h) 19 v = rdF F f v h := by
  unfold rdF
  rw [va_up_comm _ _ _ (show 20 ≠ 19 by decide), bx_uu]
theorem rdF_20 (F : Nat → Nat → Int) (f g h v : Nat → Int) : va_up (rdF F f g h) 20 v = rdF F f g v := bx_uu _ _ _ _
/-- the code at a place of the cells, ahead of the text's end; -9 from there on -/
def ce (F : Nat → Nat → Int) (en t : Nat) : Int := if t < en then F 4 t else -9
theorem ce_c (F : Nat → Nat → Int) (en t : Nat) : (t < en ∧ ce F en t = F 4 t) ∨ (¬ t < en ∧ ce F en t = -9) := by
  unfold ce
  by_cases h : t < en
  · rw [if_pos h]; exact Or.inl ⟨h, rfl⟩
  · rw [if_neg h]; exact Or.inr ⟨h, rfl⟩
def kOf (x : Int) : Int := if x = 80 then 0 else if x = 76 then 1 else if x = 68 then 2 else -9
def lOf (x : Int) : Int := if 49 ≤ x ∧ x ≤ 57 then x - 48 else -9
def aOf (x : Int) : Int := if x = 45 then 4 else if 97 ≤ x ∧ x ≤ 100 then x - 97 else -9
/-- left sentences from the k-th on (the text is x, by places): where they end; the first fault -/
def lfR (x : Nat → Int) : Nat → Nat → Int
  | 0, _ => 0
  | n + 1, k => if k = 0 ∨ x (1 + 4 * k) = 59 then (if k = 7 ∨ x (1 + 4 * k) ≠ 59 then -100 - ((1 + 4 * k : Nat) : Int) else if kOf (x (2 + 4 * k)) = -9 then -101 - ((1 + 4 * k : Nat) : Int) else if lOf (x (3 + 4 * k)) = -9 then -102 - ((1 + 4 * k : Nat) : Int) else if aOf (x (4 + 4 * k)) = -9 then -103 - ((1 + 4 * k : Nat) : Int) else lfR x n (k + 1)) else ((1 + 4 * k : Nat) : Int)
def rtR (x : Nat → Int) (ln : Nat) (a : Nat) : Nat → Nat → Int
  | 0, _ => 0
  | n + 1, k => if k = 0 ∨ a + 3 * k < ln then (if k = 7 ∨ x (a + 3 * k) ≠ 44 then -100 - ((a + 3 * k : Nat) : Int) else if lOf (x (a + 1 + 3 * k)) = -9 then -101 - ((a + 3 * k : Nat) : Int) else if aOf (x (a + 2 + 3 * k)) = -9 then -102 - ((a + 3 * k : Nat) : Int) else rtR x ln a n (k + 1)) else (k : Int)
/-- what a text says: the fault, or how many sentences -/
def rText (x : Nat → Int) (ln : Nat) : Int := if x 0 ≠ 98 then -100 else if lfR x 8 0 < 0 then lfR x 8 0 else if rtR x ln (lfR x 8 0).toNat 8 0 < 0 then rtR x ln (lfR x 8 0).toNat 8 0 else (lfR x 8 0 - 1) / 4 + rtR x ln (lfR x 8 0).toNat 8 0
theorem lfR_s (x : Nat → Int) (n k : Nat) : lfR x (n + 1) k = if k = 0 ∨ x (1 + 4 * k) = 59 then (if k = 7 ∨ x (1 + 4 * k) ≠ 59 then -100 - ((1 + 4 * k : Nat) : Int) else if kOf (x (2 + 4 * k)) = -9 then -101 - ((1 + 4 * k : Nat) : Int) else if lOf (x (3 + 4 * k)) = -9 then -102 - ((1 + 4 * k : Nat) : Int) else if aOf (x (4 + 4 * k)) = -9 then -103 - ((1 + 4 * k : Nat) : Int) else lfR x n (k + 1)) else ((1 + 4 * k : Nat) : Int) := rfl
theorem rtR_s (x : Nat → Int) (ln a n k : Nat) : rtR x ln a (n + 1) k = if k = 0 ∨ a + 3 * k < ln then (if k = 7 ∨ x (a + 3 * k) ≠ 44 then -100 - ((a + 3 * k : Nat) : Int) else if lOf (x (a + 1 + 3 * k)) = -9 then -101 - ((a + 3 * k : Nat) : Int) else if aOf (x (a + 2 + 3 * k)) = -9 then -102 - ((a + 3 * k : Nat) : Int) else rtR x ln a n (k + 1)) else (k : Int) := rfl
theorem aOf_in {F : Nat → Nat → Int} {en t : Nat} (h : aOf (ce F en t) ≠ -9) : t < en := by
  rcases ce_c F en t with q | q
  · exact q.1
  · exact absurd (by rw [q.2]; decide) h
/-- books by a text x of length ln: the answer, the state behind it -/
def rBooks (F : Nat → Nat → Int) (k so i n : Int) : Int := if ¬ (0 ≤ k ∧ k ≤ 3) then -1 else if ¬ (0 ≤ so ∧ so ≤ 2) then -2 else if agn F k.toNat so i n ≠ 0 then -10 - agn F k.toNat so i n else rText (fun p => ce F (60 * k.toNat + i.toNat + n.toNat) (60 * k.toNat + i.toNat + p)) n.toNat
def bkI (I : Nat → Int) (b c : Int) : Nat → Int := va_up (va_up (va_up (va_up (va_up (va_up I 5 b) 6 c) 7 4) 8 1) 9 7) 29 0
def bkF (F : Nat → Nat → Int) (x : Nat → Int) (b : Nat) : Nat → Nat → Int := va_up (va_up (va_up (va_up (va_up F 10 (fun k => kOf (x (2 + 4 * k)))) 11 (fun k => lOf (x (3 + 4 * k)))) 12 (fun k => aOf (x (4 + 4 * k)))) 13 (fun k => lOf (x (1 + 4 * b + 1 + 3 * k)))) 14 (fun k => aOf (x (1 + 4 * b + 2 + 3 * k)))
/-- the text of a part of a sheet -/
def txt (F : Nat → Nat → Int) (k i n : Int) : Nat → Int := fun p => ce F (60 * k.toNat + i.toNat + n.toNat) (60 * k.toNat + i.toNat + p)
def nBooksI (I : Nat → Int) (F : Nat → Nat → Int) (k so i n : Int) : Nat → Int := if 0 ≤ rBooks F k so i n then bkI (fI I 0) ((lfR (txt F k i n) 8 0 - 1) / 4) (rtR (txt F k i n) n.toNat (lfR (txt F k i n) 8 0).toNat 8 0) else fI I (if ¬ (0 ≤ k ∧ k ≤ 3) ∨ ¬ (0 ≤ so ∧ so ≤ 2) then 0 else agn F k.toNat so i n)
def nBooksF (F : Nat → Nat → Int) (k so i n : Int) : Nat → Nat → Int := if 0 ≤ rBooks F k so i n then bkF F (txt F k i n) ((lfR (txt F k i n) 8 0 - 1) / 4).toNat else F
