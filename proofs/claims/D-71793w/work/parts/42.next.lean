/-! THE PURE SIDE, 11: every next state is a state -/
set_option maxRecDepth 100000
theorem nLet_ok {I : Nat → Int} {F : Nat → Nat → Int} (h : mOK I F) (sd k v : Int) : mOK I (nLet I F sd k v) := by
  unfold nLet
  split
  · rename_i q
    exact mOK_kd11 h q.2
  · split
    · rename_i q
      exact mOK_kd13 h q.2
    · exact h
theorem nPrice_ok {I : Nat → Int} {F : Nat → Nat → Int} (h : mOK I F) (wh v : Int) : mOK (nPrice I wh v) F := by
  unfold nPrice
  by_cases q : (0 ≤ wh ∧ wh ≤ 2) ∧ I 5 ≠ 0 ∧ 0 ≤ v ∧ v ≤ (if wh = 2 then 7 else 9)
  · rw [if_pos q]
    obtain ⟨q1, -, q2, q3⟩ := q
    obtain ⟨b0, b5, b6, b56, b7, b8, b9, b29, bL, bR, bN, bS, bC⟩ := h
    rcases (show wh = 0 ∨ wh = 1 ∨ wh = 2 by omega) with rfl | rfl | rfl
    · rw [if_neg (by decide)] at q3
      exact ⟨b0, b5, b6, b56, ⟨q2, q3⟩, b8, b9, b29, bL, bR, bN, bS, bC⟩
    · rw [if_neg (by decide)] at q3
      exact ⟨b0, b5, b6, b56, b7, ⟨q2, q3⟩, b9, b29, bL, bR, bN, bS, bC⟩
    · rw [if_pos rfl] at q3
      exact ⟨b0, b5, b6, b56, b7, b8, ⟨q2, q3⟩, b29, bL, bR, bN, bS, bC⟩
  · rw [if_neg q]
    exact h
theorem nMove_ok {I : Nat → Int} {F : Nat → Nat → Int} (h : mOK I F) (b n t : Int) : mOK I (nMove I F b n t) := by
  unfold nMove
  split
  · rename_i q
    obtain ⟨b0, b5, b6, b56, b7, b8, b9, b29, bL, bR, bN, bS, bC⟩ := h
    have hm : 1 ≤ n ∧ 0 ≤ b ∧ b < I 6 ∧ n ≤ I 6 - b ∧ 0 ≤ t ∧ t ≤ I 6 - n := by
      unfold rMove at q
      (repeat' split at q) <;> omega
    refine ⟨b0, b5, b6, b56, b7, b8, b9, b29, bL, fun k hk => ?_, bN, bS, bC⟩
    refine bR (msrc b.toNat n.toNat t.toNat k) ?_
    unfold msrc
    (repeat' split) <;> omega
  · exact h
theorem nRead_ok {I : Nat → Int} {F : Nat → Nat → Int} (h : mOK I F) (w c : Int) : mOK (nReadI I w c) (nReadF I F w c) := by
  unfold nReadI nReadF
  by_cases q : 0 ≤ rRead I w c
  · rw [if_pos q, if_pos q]
    obtain ⟨b0, b5, b6, b56, b7, b8, b9, b29, bL, bR, bN, bS, bC⟩ := h
    have hm : (0 ≤ w ∧ w ≤ 7) ∧ (c = -9 ∨ (0 ≤ c ∧ c ≤ 500)) ∧ I 29 ≠ 8 := by
      unfold rRead at q
      (repeat' split at q) <;> omega
    refine ⟨b0, b5, b6, b56, b7, b8, b9, (show 0 ≤ I 29 + 1 ∧ I 29 + 1 ≤ 8 by omega), bL, bR, fun k hk => ?_, bS, bC⟩
    have hk2 : (k : Int) < I 29 + 1 := hk
    show (0 ≤ va_up (F 30) (I 29).toNat w k ∧ va_up (F 30) (I 29).toNat w k ≤ 7) ∧ ((0 ≤ va_up (F 31) (I 29).toNat c k ∧ va_up (F 31) (I 29).toNat c k ≤ 500) ∨ va_up (F 31) (I 29).toNat c k = -9)
    by_cases e : k = (I 29).toNat
    · rw [e, va_up_s, va_up_s]
      omega
    · rw [va_up_n _ _ e, va_up_n _ _ e]
      exact bN k (by omega)
  · rw [if_neg q, if_neg q]
    exact h
theorem nBack_ok {I : Nat → Int} {F : Nat → Nat → Int} (h : mOK I F) (n : Int) : mOK (nBack I n) F := by
  unfold nBack
  split
  · exact h
  · obtain ⟨b0, b5, b6, b56, b7, b8, b9, b29, bL, bR, bN, bS, bC⟩ := h
    refine ⟨b0, b5, b6, b56, b7, b8, b9, (show 0 ≤ I 29 - n ∧ I 29 - n ≤ 8 by omega), bL, bR, fun k hk => ?_, bS, bC⟩
    have hk2 : (k : Int) < I 29 - n := hk
    exact bN k (by omega)
theorem nSheet_ok {I : Nat → Int} {F : Nat → Nat → Int} (h : mOK I F) (k so n : Int) : mOK (nSheetI I k so n) (nSheetF F k so n) := by
  have h1 : mOK (nSheetI I k so n) F := mOK_0 h (by split <;> decide)
  unfold nSheetF
  split
  · rename_i q
    obtain ⟨b0, b5, b6, b56, b7, b8, b9, b29, bL, bR, bN, bS, bC⟩ := h1
    have hm : (0 ≤ so ∧ so ≤ 2) ∧ 0 ≤ n ∧ n ≤ 60 := by
      unfold rSheet at q
      (repeat' split at q) <;> omega
    refine ⟨b0, b5, b6, b56, b7, b8, b9, b29, bL, bR, bN, fun j hj => ?_, fun j hj => ?_⟩
    · have := bS j hj
      show ((0 ≤ va_up (F 2) k.toNat so j ∧ va_up (F 2) k.toNat so j ≤ 2) ∨ va_up (F 2) k.toNat so j = -9) ∧ (0 ≤ va_up (F 3) k.toNat n j ∧ va_up (F 3) k.toNat n j ≤ 60)
      by_cases e : j = k.toNat
      · rw [e, va_up_s, va_up_s]
        omega
      · rw [va_up_n _ _ e, va_up_n _ _ e]
        exact this
    · have := bC j hj
      show rg (zer (F 4) (60 * k.toNat) 60 j)
      unfold zer
      split
      · exact rg_0
      · exact this
  · exact h1
theorem nLose_ok {I : Nat → Int} {F : Nat → Nat → Int} (h : mOK I F) (k : Int) : mOK I (nLose F k) := by
  unfold nLose
  split
  · exact h
  · obtain ⟨b0, b5, b6, b56, b7, b8, b9, b29, bL, bR, bN, bS, bC⟩ := h
    refine ⟨b0, b5, b6, b56, b7, b8, b9, b29, bL, bR, bN, fun j hj => ?_, bC⟩
    have := bS j hj
    show ((0 ≤ va_up (F 2) k.toNat (-9) j ∧ va_up (F 2) k.toNat (-9) j ≤ 2) ∨ va_up (F 2) k.toNat (-9) j = -9) ∧ _
    by_cases e : j = k.toNat
    · rw [e, va_up_s, ← e]
      exact ⟨Or.inr rfl, this.2⟩
    · rw [va_up_n _ _ e]
      exact this
theorem nPut_ok {I : Nat → Int} {F : Nat → Nat → Int} (h : mOK I F) (k i v : Int) (hv : rg v) : mOK (nPutI I F k i) (nPutF F k i v) := by
  have h1 : mOK (nPutI I F k i) F := mOK_0 h (by (repeat' split) <;> decide)
  unfold nPutF
  split
  · obtain ⟨b0, b5, b6, b56, b7, b8, b9, b29, bL, bR, bN, cS, cC⟩ := h1
    refine ⟨b0, b5, b6, b56, b7, b8, b9, b29, bL, bR, bN, cS, fun j hj => ?_⟩
    show rg (va_up (F 4) (60 * k.toNat + i.toNat) (if F 2 k.toNat = 0 then bB v else if F 2 k.toNat = 1 then bS v else v) j)
    by_cases e : j = 60 * k.toNat + i.toNat
    · rw [e, va_up_s]
      split
      · exact rg_b v
      · split
        · exact rg_s v
        · exact hv
    · rw [va_up_n _ _ e]
      exact cC j hj
  · exact h1
theorem nCell_ok {I : Nat → Int} {F : Nat → Nat → Int} (h : mOK I F) (k i so : Int) : mOK (fI I (eCell F k i so)) F := mOK_0 h (by unfold eCell; (repeat' split) <;> decide)
theorem nCopy_ok {I : Nat → Int} {F : Nat → Nat → Int} (h : mOK I F) (k i o j n : Int) : mOK (nCopyI I F k i o j n) (nCopyF F k i o j n) := by
  have h1 : mOK (nCopyI I F k i o j n) F := mOK_0 h (by (repeat' split) <;> decide)
  unfold nCopyF
  split
  · rename_i q
    obtain ⟨b0, b5, b6, b56, b7, b8, b9, b29, bL, bR, bN, bS, bC⟩ := h1
    have hm : (0 ≤ k ∧ k ≤ 3) ∧ 0 ≤ i ∧ 0 ≤ n ∧ i + n ≤ F 3 k.toNat := by
      unfold rCopy at q
      (repeat' split at q) <;> omega
    have hS := (bS k.toNat (by omega)).2
    refine ⟨b0, b5, b6, b56, b7, b8, b9, b29, bL, bR, bN, bS, fun x hx => ?_⟩
    show rg (va_cpy (F 4) (F 4) (60 * k.toNat + i.toNat) (60 * o.toNat + j.toNat) n.toNat x)
    unfold va_cpy
    split
    · exact bC _ (by omega)
    · exact bC x hx
  · exact h1
theorem mOK_1 {I : Nat → Int} {F : Nat → Nat → Int} (h : mOK I F) (v : Int) : mOK (va_up I 1 v) F := h
theorem nTellA_ok {I : Nat → Int} {F : Nat → Nat → Int} (h : mOK I F) (a : Int) : mOK (nTellA I F a) F := by
  unfold nTellA
  split
  · exact h
  · exact mOK_1 h _
theorem nReadA_ok {I : Nat → Int} {F : Nat → Nat → Int} (h : mOK I F) (a : Int) : mOK (nReadA I F a) F := by
  unfold nReadA
  split
  · exact h
  · exact mOK_1 h _
theorem nAs_ok {I : Nat → Int} {F : Nat → Nat → Int} (h : mOK I F) (a so : Int) : mOK (nAs I F a so) F := mOK_0 h (by split <;> decide)
theorem nDay_ok {I : Nat → Int} {F : Nat → Nat → Int} (h : mOK I F) (k so i n wh : Int) : mOK (nDayI I F k so i n wh) F := mOK_0 h (by split; decide; exact agn_b F _ _ _ _)
/-- what a text that is read well says -/
theorem lfR_ok {x : Nat → Int} : ∀ (n k : Nat), k + n = 8 → 0 ≤ lfR x n k → (n = 0 ∧ lfR x n k = 0) ∨ ∃ b, k ≤ b ∧ b ≤ 7 ∧ 1 ≤ b ∧ lfR x n k = ((1 + 4 * b : Nat) : Int) ∧ ∀ j, k ≤ j → j < b → kOf (x (2 + 4 * j)) ≠ -9 ∧ lOf (x (3 + 4 * j)) ≠ -9 ∧ aOf (x (4 + 4 * j)) ≠ -9 := by
  intro n
  induction n with
  | zero => intro k _ _; exact Or.inl ⟨rfl, rfl⟩
  | succ n ih =>
    intro k hk h
    rw [lfR_s] at h ⊢
    by_cases q1 : k = 0 ∨ x (1 + 4 * k) = 59
    · rw [if_pos q1] at h ⊢
      by_cases q2 : k = 7 ∨ x (1 + 4 * k) ≠ 59
      · rw [if_pos q2] at h; omega
      rw [if_neg q2] at h ⊢
      by_cases q3 : kOf (x (2 + 4 * k)) = -9
      · rw [if_pos q3] at h; omega
      rw [if_neg q3] at h ⊢
      by_cases q4 : lOf (x (3 + 4 * k)) = -9
      · rw [if_pos q4] at h; omega
      rw [if_neg q4] at h ⊢
      by_cases q5 : aOf (x (4 + 4 * k)) = -9
      · rw [if_pos q5] at h; omega
      rw [if_neg q5] at h ⊢
      rcases ih (k + 1) (by omega) h with q | ⟨b, b1, b2, b3, b4, b5⟩
      · exact absurd q.1 (by omega)
      · refine Or.inr ⟨b, by omega, b2, b3, b4, fun j j1 j2 => ?_⟩
        by_cases e : j = k
        · subst e; exact ⟨q3, q4, q5⟩
        · exact b5 j (by omega) j2
    · rw [if_neg q1]
      exact Or.inr ⟨k, Nat.le_refl k, by omega, by omega, rfl, fun j j1 j2 => absurd j2 (by omega)⟩
theorem rtR_ok {x : Nat → Int} {ln a : Nat} : ∀ (n k : Nat), k + n = 8 → 0 ≤ rtR x ln a n k → (n = 0 ∧ rtR x ln a n k = 0) ∨ ∃ b : Nat, k ≤ b ∧ b ≤ 7 ∧ 1 ≤ b ∧ rtR x ln a n k = (b : Int) ∧ ∀ j, k ≤ j → j < b → lOf (x (a + 1 + 3 * j)) ≠ -9 ∧ aOf (x (a + 2 + 3 * j)) ≠ -9 := by
  intro n
  induction n with
  | zero => intro k _ _; exact Or.inl ⟨rfl, rfl⟩
  | succ n ih =>
    intro k hk h
    rw [rtR_s] at h ⊢
    by_cases q1 : k = 0 ∨ a + 3 * k < ln
    · rw [if_pos q1] at h ⊢
      by_cases q2 : k = 7 ∨ x (a + 3 * k) ≠ 44
      · rw [if_pos q2] at h; omega
      rw [if_neg q2] at h ⊢
      by_cases q4 : lOf (x (a + 1 + 3 * k)) = -9
      · rw [if_pos q4] at h; omega
      rw [if_neg q4] at h ⊢
      by_cases q5 : aOf (x (a + 2 + 3 * k)) = -9
      · rw [if_pos q5] at h; omega
      rw [if_neg q5] at h ⊢
      rcases ih (k + 1) (by omega) h with q | ⟨b, b1, b2, b3, b4, b5⟩
      · exact absurd q.1 (by omega)
      · refine Or.inr ⟨b, by omega, b2, b3, b4, fun j j1 j2 => ?_⟩
        by_cases e : j = k
        · subst e; exact ⟨q4, q5⟩
        · exact b5 j (by omega) j2
    · rw [if_neg q1]
      exact Or.inr ⟨k, Nat.le_refl k, by omega, by omega, rfl, fun j j1 j2 => absurd j2 (by omega)⟩
theorem kOf_b {x : Int} (h : kOf x ≠ -9) : 0 ≤ kOf x ∧ kOf x ≤ 2 := by unfold kOf at *; (repeat' split at *) <;> omega
theorem lOf_b {x : Int} (h : lOf x ≠ -9) : 1 ≤ lOf x ∧ lOf x ≤ 9 := by unfold lOf at *; (repeat' split at *) <;> omega
theorem aOf_b {x : Int} (h : aOf x ≠ -9) : 0 ≤ aOf x ∧ aOf x ≤ 4 := by unfold aOf at *; (repeat' split at *) <;> omega
theorem nBooks_ok {I : Nat → Int} {F : Nat → Nat → Int} (h : mOK I F) (k so i n : Int) : mOK (nBooksI I F k so i n) (nBooksF F k so i n) := by
  unfold nBooksI nBooksF
  by_cases q : 0 ≤ rBooks F k so i n
  · rw [if_pos q, if_pos q]
    have ht : 0 ≤ rText (txt F k i n) n.toNat := by
      unfold rBooks at q
      have := agn_b F k.toNat so i n
      (repeat' split at q) <;> first | omega | exact q
    have hl : 0 ≤ lfR (txt F k i n) 8 0 ∧ 0 ≤ rtR (txt F k i n) n.toNat (lfR (txt F k i n) 8 0).toNat 8 0 := by
      unfold rText at ht
      (repeat' split at ht) <;> omega
    rcases lfR_ok 8 0 rfl hl.1 with q1 | ⟨b, -, b2, b3, b4, b5⟩
    · exact absurd q1.1 (by decide)
    rcases rtR_ok 8 0 rfl hl.2 with q1 | ⟨c, -, c2, c3, c4, c5⟩
    · exact absurd q1.1 (by decide)
    rw [c4, b4]
    rw [b4, Int.toNat_natCast] at c5
    have e1 : (((1 + 4 * b : Nat) : Int) - 1) / 4 = (b : Int) := by omega
    rw [e1, Int.toNat_natCast]
    obtain ⟨b0, -, -, -, -, -, -, -, -, -, -, bS, bC⟩ := h
    refine ⟨(show (0 : Int) ≤ 0 ∧ (0 : Int) ≤ 4 by decide), (show (0 : Int) ≤ (b : Int) ∧ (b : Int) ≤ 7 by omega), (show (0 : Int) ≤ (c : Int) ∧ (c : Int) ≤ 7 by omega), (show (b : Int) = 0 ↔ (c : Int) = 0 by omega), (show (0 : Int) ≤ 4 ∧ (4 : Int) ≤ 9 by decide), (show (0 : Int) ≤ 1 ∧ (1 : Int) ≤ 9 by decide), (show (0 : Int) ≤ 7 ∧ (7 : Int) ≤ 7 by decide), (show (0 : Int) ≤ 0 ∧ (0 : Int) ≤ 8 by decide), fun j hj => ?_, fun j hj => ?_, fun j hj => ?_, bS, bC⟩
    · have hj2 : (j : Int) < (b : Int) := hj
      obtain ⟨x1, x2, x3⟩ := b5 j (Nat.zero_le j) (by omega)
      exact ⟨kOf_b x1, lOf_b x2, aOf_b x3⟩
    · have hj2 : (j : Int) < (c : Int) := hj
      obtain ⟨x2, x3⟩ := c5 j (Nat.zero_le j) (by omega)
      exact ⟨lOf_b x2, aOf_b x3⟩
    · exact absurd (show (j : Int) < 0 from hj) (by omega)
  · rw [if_neg q, if_neg q]
    refine mOK_0 h ?_
    split
    · decide
    · exact agn_b F _ _ _ _
