/-! WHAT x HOLDS, its left book new -/
set_option maxRecDepth 100000
section LA
variable {E : xE} {o : Nat} {Ad Ad' : Nat → Nat} {I : Nat → Int} {F : Nat → Nat → Int}
theorem C0_ladd {n : Nat} {x : Int} {K L A : Nat → Int} (n7 : n ≤ 7) (hA : ∀ j, j ≠ 30 → (j < 100 ∨ 100 + n ≤ j) → Ad' j = Ad j) : ∀ r y, r ≠ 4 → r ≠ 30 → (r < 100 ∨ 100 + n ≤ r) → C0 E Ad' (lfI1 I x n) (lfF1 F K L A) r = some y → C0 E Ad I F r = some y := by
  intro r y h4 h30 hr hy
  have hF : ∀ j, j ≠ 10 → j ≠ 11 → j ≠ 12 → lfF1 F K L A j = F j := fun j h h' h'' => (va_up_n _ _ h'').trans ((va_up_n _ _ h').trans (va_up_n _ _ h))
  have hI : ∀ j, j ≠ 41 → j ≠ 43 → j ≠ 5 → lfI1 I x n j = I j := fun j h h' h'' => (va_up_n _ _ h'').trans ((va_up_n _ _ h').trans (va_up_n _ _ h))
  rw [← hy]
  unfold C0 at hy ⊢
  by_cases q1 : r < 50
  · rw [if_pos q1, if_pos q1]
    unfold C0a
    split
    · show _ = some (xO 0 [.ref (Ad' 1), .ref (Ad' 2), .int (iI (I 1)), .ref (Ad' 4), .int (iI (I 6)), .ref (Ad' 6), .ref (Ad' 7), .int (iI (I 7)), .int (iI (I 8)), .int (iI (I 9)), .ref (Ad' 11), .ref (Ad' 12), .ref (Ad' 13), .ref (Ad' 14), .ref (Ad' 15), .ref (Ad' 16), .ref (Ad' 17), .int (iI (I 0)), .ref (Ad' 19)])
      rw [hA 1 (by omega) (by omega), hA 2 (by omega) (by omega), hA 4 (by omega) (by omega), hA 6 (by omega) (by omega), hA 7 (by omega) (by omega), hA 11 (by omega) (by omega), hA 12 (by omega) (by omega), hA 13 (by omega) (by omega), hA 14 (by omega) (by omega), hA 15 (by omega) (by omega), hA 16 (by omega) (by omega), hA 17 (by omega) (by omega), hA 19 (by omega) (by omega)]
    · congr 2
      funext j
      by_cases g : j < 5
      · rw [if_pos g, if_pos g, hA _ (by omega) (by omega)]
      · rw [if_neg g, if_neg g]
    · congr 2
      funext j
      by_cases g : j < 3
      · rw [if_pos g, if_pos g, hA _ (by omega) (by omega)]
      · rw [if_neg g, if_neg g]
    · exact absurd rfl h4
    · rw [hF 13 (by decide) (by decide) (by decide)]
    · rw [hF 14 (by decide) (by decide) (by decide)]
    · rw [hF 33 (by decide) (by decide) (by decide)]
    · rw [hF 34 (by decide) (by decide) (by decide)]
    · rw [hF 21 (by decide) (by decide) (by decide)]
    · rw [hF 22 (by decide) (by decide) (by decide)]
    · rw [hF 23 (by decide) (by decide) (by decide)]
    · rw [hF 28 (by decide) (by decide) (by decide)]
    · rw [hA 31 (by omega) (by omega), hI 42 (by decide) (by decide) (by decide), hI 29 (by decide) (by decide) (by decide)]
    · rw [hF 2 (by decide) (by decide) (by decide)]
      congr 2
      funext j
      rw [hA _ (by omega) (by omega)]
    · exact absurd rfl h30
    · rw [hI 44 (by decide) (by decide) (by decide), hI 29 (by decide) (by decide) (by decide)]
      split
      · rfl
      · congr 2
        funext j
        rw [hA _ (by omega) (by omega)]
    · rfl
  · rw [if_neg q1] at hy
    rw [if_neg q1, if_neg q1, hF 2 (by decide) (by decide) (by decide), hF 3 (by decide) (by decide) (by decide), hF 30 (by decide) (by decide) (by decide), hF 31 (by decide) (by decide) (by decide), hA 0 (by omega) (by omega), hI 29 (by decide) (by decide) (by decide)]
    unfold rowF
    rw [hF 3 (by decide) (by decide) (by decide), hF 4 (by decide) (by decide) (by decide)]
    by_cases q2 : r < 60
    · rw [if_pos q2, if_pos q2, hA _ (by omega) (by omega)]
    · rw [if_neg q2, if_neg q2]
      by_cases q3 : r < 70
      · rw [if_pos q3, if_pos q3, hA _ (by omega) (by omega)]
      · rw [if_neg q3, if_neg q3]
        by_cases q4 : r < 80
        · rw [if_pos q4, if_pos q4]
        · rw [if_neg q4, if_neg q4]
          by_cases q5 : r < 100
          · rw [if_pos q5, if_pos q5]
          · rw [if_neg q5, if_neg q5]
            by_cases q6 : r < 200
            · rw [if_neg q2, if_neg q3, if_neg q4, if_neg q5, if_pos q6, show lfI1 I x n 5 = (n : Int) from va_up_s _ _ _, if_neg (by omega)] at hy
              cases hy
            · rw [if_neg q6, if_neg q6, hA _ (by omega) (by omega)]
end LA
