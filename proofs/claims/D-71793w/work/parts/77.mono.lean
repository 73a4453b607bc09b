/-! A WIDER BAND costs no more -/
set_option maxRecDepth 100000
theorem wy_le (acc : Int × Int × Int) (c al : Int) : (wy acc c al).1 ≤ acc.1 ∧ (wy acc c al).1 ≤ c ∨ (wy acc c al).1 ≤ acc.1 ∧ 100000 < c ∧ (wy acc c al).1 ≤ 100000 := by
  obtain ⟨l, n, a⟩ := acc
  have hm := imin_b c 100000
  by_cases h : imin c 100000 < l
  · rw [wy_1 h]
    dsimp only
    omega
  · rw [wy_2 h]
    dsimp only
    omega
theorem wy2_le {u v c : Int} {acc t : Int × Int × Int} (ha : VB u acc) (ht : VB v t) (h0 : 0 ≤ c) (hc : c ≤ 60) (hv : v ≤ 900) (hu : u ≤ 1000) : (wy2 acc c t).1 ≤ acc.1 ∧ ((wy2 acc c t).1 ≤ c + t.1) := by
  unfold wy2
  have h1 := wy_le acc (c + t.1) t.2.2
  have h2 := wy_le (wy acc (c + t.1) t.2.2) (c + t.2.1) 0
  unfold VB at ha ht
  omega
theorem acc_mono {nl nr : Nat} {cs : Nat → Nat → Nat → Int} {T U : Nat → Nat → Int × Int × Int} {i j : Nat} (hc : ∀ k, k < 5 → i + loN k ≤ nl → j + roN k ≤ nr → 0 ≤ cs k i j ∧ cs k i j ≤ 60) (hT : ∀ k, k < 5 → i + loN k ≤ nl → j + roN k ≤ nr → VB 840 (T (i + loN k) (j + roN k)) ∧ VB 840 (U (i + loN k) (j + roN k)) ∧ (U (i + loN k) (j + roN k)).1 ≤ (T (i + loN k) (j + roN k)).1) : ∀ n, n ≤ 5 → (accT nl nr cs U i j n).1 ≤ (accT nl nr cs T i j n).1 := by
  intro n
  induction n with
  | zero => intro _; exact Int.le_refl _
  | succ n ih =>
    intro hn
    have h1 := ih (by omega)
    have hA : VB 900 (accT nl nr cs T i j n) := VB_acc (by omega) hc (fun q hq h1 h2 => VB_le (hT q hq h1 h2).1 (by omega)) n (by omega)
    have hB : VB 900 (accT nl nr cs U i j n) := VB_acc (by omega) hc (fun q hq h1 h2 => VB_le (hT q hq h1 h2).2.1 (by omega)) n (by omega)
    show (if i + loN n ≤ nl ∧ j + roN n ≤ nr then wy2 (accT nl nr cs U i j n) (cs n i j) (U (i + loN n) (j + roN n)) else accT nl nr cs U i j n).1 ≤ (if i + loN n ≤ nl ∧ j + roN n ≤ nr then wy2 (accT nl nr cs T i j n) (cs n i j) (T (i + loN n) (j + roN n)) else accT nl nr cs T i j n).1
    by_cases h : i + loN n ≤ nl ∧ j + roN n ≤ nr
    · rw [if_pos h, if_pos h]
      obtain ⟨t1, t2, t3⟩ := hT n (by omega) h.1 h.2
      have c1 := hc n (by omega) h.1 h.2
      have w1 := wy2_l hA t1 c1.1 c1.2 (by omega) (by omega)
      have w2 := wy2_le hB t2 c1.1 c1.2 (by omega) (by omega)
      omega
    · rw [if_neg h, if_neg h]
      exact h1
theorem D_mono {nl nr : Nat} {cs : Nat → Nat → Nat → Int} (hl : nl ≤ 7) (hr : nr ≤ 7) (hc : cs60 nl nr cs) {w : Int} (hw : w ≤ 7) : ∀ (r i j : Nat), i ≤ nl → j ≤ nr → (nl - i) + (nr - j) ≤ r → (D nl nr cs 7 i j).1 ≤ (D nl nr cs w i j).1 := by
  intro r
  induction r with
  | zero =>
    intro i j hi hj h
    have hV : VB 840 (D nl nr cs 7 i j) := VBD hl hr hc hi hj
    rw [D_eq hi hj (w := w)]
    by_cases hf : w < (i : Int) - j ∨ w < (j : Int) - i
    · rw [if_pos hf]
      show _ ≤ (100000 : Int)
      unfold VB at hV
      omega
    · rw [if_neg hf, if_pos (by omega), D_eq hi hj, if_neg (by omega), if_pos (by omega)]
      exact Int.le_refl _
  | succ r ih =>
    intro i j hi hj h
    have hV : VB 840 (D nl nr cs 7 i j) := VBD hl hr hc hi hj
    rw [D_eq hi hj (w := w)]
    by_cases hf : w < (i : Int) - j ∨ w < (j : Int) - i
    · rw [if_pos hf]
      show _ ≤ (100000 : Int)
      unfold VB at hV
      omega
    · rw [if_neg hf, D_eq hi hj, if_neg (by omega)]
      by_cases he : i = nl ∧ j = nr
      · rw [if_pos he, if_pos he]
        exact Int.le_refl _
      · rw [if_neg he, if_neg he]
        refine acc_mono (fun k hk h1 h2 => hc k i j hk h1 h2) (fun k hk h1 h2 => ⟨VBD hl hr hc h1 h2, VBD hl hr hc h1 h2, ih _ _ h1 h2 ?_⟩) 5 (Nat.le_refl _)
        have := lr_pos k
        omega
theorem DT_mono {I : Nat → Int} {F : Nat → Nat → Int} (h : mOK I F) {w : Int} (hw : w ≤ 7) : (DT I F 7 0 0).1 ≤ (DT I F w 0 0).1 := by
  have h2 := h
  obtain ⟨-, ⟨hl1, hl2⟩, ⟨hr1, hr2⟩, -⟩ := h2
  exact D_mono (by omega) (by omega) (csM60 h) hw 14 0 0 (by omega) (by omega) (by omega)
