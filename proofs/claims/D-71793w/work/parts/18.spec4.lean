/-! THE PURE SIDE, 4 -/
theorem cm_b {l n a c m : Int} (h1 : 0 ≤ l ∧ l ≤ 99999) (h2 : 0 ≤ n ∧ n ≤ 99999) (hc : 0 ≤ c) : 0 ≤ (cm l n a c m).1 ∧ (cm l n a c m).1 ≤ 99999 ∧ 0 ≤ (cm l n a c m).2.1 ∧ (cm l n a c m).2.1 ≤ 99999 := by
  unfold cm
  by_cases q1 : 99999 ≤ c
  · rw [if_pos q1]; dsimp only; omega
  · rw [if_neg q1]
    by_cases q2 : c < l
    · rw [if_pos q2]; dsimp only; omega
    · rw [if_neg q2]
      by_cases q3 : c = l
      · rw [if_pos q3]; dsimp only; omega
      · rw [if_neg q3]
        by_cases q4 : c < n
        · rw [if_pos q4]; dsimp only; omega
        · rw [if_neg q4]; dsimp only; omega
