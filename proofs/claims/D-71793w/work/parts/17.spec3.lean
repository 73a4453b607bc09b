/-! THE PURE SIDE, 3: bounds of the table, the model's costs in it -/
set_option maxRecDepth 100000
def p3 : Nat → Int
  | 0 => 1
  | n + 1 => 3 * p3 n
theorem p3_pos (n : Nat) : 1 ≤ p3 n := by
  induction n with
  | zero => exact Int.le_refl 1
  | succ n ih => show 1 ≤ 3 * p3 n; omega
theorem p3_mono {a b : Nat} (h : a ≤ b) : p3 a ≤ p3 b := by
  induction b with
  | zero => rw [show a = 0 by omega]; exact Int.le_refl _
  | succ b ih =>
    by_cases e : a = b + 1
    · rw [e]; exact Int.le_refl _
    · have := ih (by omega)
      have := p3_pos b
      show p3 a ≤ 3 * p3 b
      omega
theorem wy2_al {u v c : Int} {acc t : Int × Int × Int} (ha : VB u acc) (ht : VB v t) (h0 : 0 ≤ c) (hc : c ≤ 60) (hv : v ≤ 900) (hu : u ≤ 1000) : (wy2 acc c t).2.2 ≤ acc.2.2 + t.2.2 := by
  obtain ⟨l, n, a⟩ := acc
  obtain ⟨tl, tn, ta⟩ := t
  by_cases hi : tl = 100000
  · simp only [VB] at ht
    have h1 : tn = 100000 ∧ ta = 0 := by omega
    obtain ⟨rfl, rfl⟩ := h1
    subst hi
    rw [show ((100000 : Int), (100000 : Int), (0 : Int)) = tinf from rfl, wy2_inf ha hu h0]
    exact Int.le_of_eq (Int.add_zero _).symm
  · simp only [VB] at ha ht
    obtain ⟨l1, n1, a1, e1, k1⟩ := wy_cases l n a (c + tl) ta (by omega)
    show (wy (wy (l, n, a) (c + tl) ta) (c + tn) 0).2.2 ≤ _
    rw [e1]
    by_cases q : tn = 100000
    · rw [wy_far _ _ _ _ (by omega) (by omega) (by omega)]
      dsimp only
      omega
    · obtain ⟨l3, n3, a3, e3, k3⟩ := wy_cases l1 n1 a1 (c + tn) 0 (by omega)
      rw [e3]
      dsimp only
      omega
theorem D_al {nl nr : Nat} {cs : Nat → Nat → Nat → Int} {w : Int} (hn : nl + nr ≤ 14) (hc : cs60 nl nr cs) : ∀ (r i j : Nat), i ≤ nl → j ≤ nr → (nl - i) + (nr - j) = r → (D nl nr cs w i j).2.2 ≤ p3 r := by
  intro r
  induction r using Nat.strongRecOn with
  | ind r ih =>
    intro i j hi hj h
    rw [D_eq hi hj]
    split
    · have := p3_pos r
      show (0 : Int) ≤ _
      omega
    split
    · have := p3_pos r
      show (1 : Int) ≤ _
      omega
    have hV : ∀ k, k < 5 → i + loN k ≤ nl → j + roN k ≤ nr → VB 840 (D nl nr cs w (i + loN k) (j + roN k)) := fun k _ h1 h2 => VB_le (VB_D hn hc _ _ _ h1 h2 (Nat.le_refl _)) (by omega)
    have hA : ∀ n, n ≤ 5 → VB 900 (accT nl nr cs (D nl nr cs w) i j n) := VB_acc (by omega) (fun k hk h1 h2 => hc k i j hk h1 h2) hV
    have step : ∀ k, k < 5 → ∀ b : Int, (accT nl nr cs (D nl nr cs w) i j k).2.2 ≤ b → (accT nl nr cs (D nl nr cs w) i j (k + 1)).2.2 ≤ b + (if i + loN k ≤ nl ∧ j + roN k ≤ nr then p3 (r - (loN k + roN k)) else 0) := by
      intro k hk b hb
      show (if i + loN k ≤ nl ∧ j + roN k ≤ nr then wy2 (accT nl nr cs (D nl nr cs w) i j k) (cs k i j) (D nl nr cs w (i + loN k) (j + roN k)) else accT nl nr cs (D nl nr cs w) i j k).2.2 ≤ _
      by_cases hq : i + loN k ≤ nl ∧ j + roN k ≤ nr
      · rw [if_pos hq, if_pos hq]
        have h1 := hc k i j hk hq.1 hq.2
        have h2 := wy2_al (hA k (by omega)) (hV k hk hq.1 hq.2) h1.1 h1.2 (by omega) (by omega)
        have h4 := lr_pos k
        have h3 := ih (r - (loN k + roN k)) (by omega) _ _ hq.1 hq.2 (by omega)
        omega
      · rw [if_neg hq, if_neg hq]
        omega
    have s0 := step 0 (by omega) 0 (Int.le_refl _)
    have s1 := step 1 (by omega) _ s0
    have s2 := step 2 (by omega) _ s1
    have s3 := step 3 (by omega) _ s2
    have s4 := step 4 (by omega) _ s3
    refine Int.le_trans s4 ?_
    simp only [loN, roN]
    have hr1 : r ≠ 0 := by omega
    match r, h, hr1 with
    | 1, h, _ =>
      have : p3 1 = 3 := rfl
      have : p3 0 = 1 := rfl
      simp
      (repeat' split) <;> omega
    | 2, h, _ =>
      have : p3 2 = 9 := rfl
      have : p3 1 = 3 := rfl
      have : p3 0 = 1 := rfl
      simp
      (repeat' split) <;> omega
    | r + 3, h, _ =>
      have e1 : p3 (r + 3) = 27 * p3 r := by show 3 * (3 * (3 * p3 r)) = _; omega
      have e2 : p3 (r + 2) = 9 * p3 r := by show 3 * (3 * p3 r) = _; omega
      have e3 : p3 (r + 1) = 3 * p3 r := rfl
      have := p3_pos r
      simp
      rw [e1]
      (repeat' split) <;> omega
theorem D_alM {nl nr : Nat} {cs : Nat → Nat → Nat → Int} {w : Int} (hl : nl ≤ 7) (hr : nr ≤ 7) (hc : cs60 nl nr cs) {i j : Nat} (hi : i ≤ nl) (hj : j ≤ nr) : (D nl nr cs w i j).2.2 ≤ 4782969 := by
  have h1 := D_al (w := w) (by omega) hc _ i j hi hj rfl
  have h2 := p3_mono (show nl - i + (nr - j) ≤ 14 by omega)
  have h3 : p3 14 = 4782969 := rfl
  omega
/-- the costs as the model has them -/
def csM (I : Nat → Int) (F : Nat → Nat → Int) : Nat → Nat → Nat → Int := fun k i j => cst I F (k : Int) i j
theorem miss_b (u v : Int) : 0 ≤ miss u v ∧ miss u v ≤ 3 := by unfold miss; split <;> omega
theorem csM60 {I : Nat → Int} {F : Nat → Nat → Int} (h : mOK I F) : cs60 (I 5).toNat (I 6).toNat (csM I F) := by
  intro k i j hk h1 h2
  obtain ⟨-, hl, hr, -, hs, hj, -, -, hL, hR, -⟩ := id h
  have hk2 : k = 0 ∨ k = 1 ∨ k = 2 ∨ k = 3 ∨ k = 4 := by omega
  unfold csM
  rcases hk2 with rfl | rfl | rfl | rfl | rfl
  · have h1 : i + 1 ≤ (I 5).toNat := h1
    have h2 : j + 1 ≤ (I 6).toNat := h2
    have := lenF_b h (a := i) (by omega)
    have := hR j (by omega)
    have := miss_b (bOr 0 (aset (F 12 i))) (bOr 0 (aset (F 14 j)))
    rw [show ((0 : Nat) : Int) = 0 from rfl, cst_0]
    unfold aabs
    split <;> omega
  · have h1 : i + 1 ≤ (I 5).toNat := h1
    have h2 : j + 0 ≤ (I 6).toNat := h2
    have := lenF_b h (a := i) (by omega)
    rw [show ((1 : Nat) : Int) = 1 from rfl, cst_1]
    omega
  · have h1 : i + 0 ≤ (I 5).toNat := h1
    have h2 : j + 1 ≤ (I 6).toNat := h2
    have := hR j (by omega)
    rw [show ((2 : Nat) : Int) = 2 from rfl, cst_2]
    omega
  · have h1 : i + 2 ≤ (I 5).toNat := h1
    have h2 : j + 1 ≤ (I 6).toNat := h2
    have := lenF_b h (a := i) (by omega)
    have := lenF_b h (a := i + 1) (by omega)
    have := hR j (by omega)
    have := miss_b (bOr (bOr 0 (aset (F 12 i))) (aset (F 12 (i + 1)))) (bOr 0 (aset (F 14 j)))
    rw [show ((3 : Nat) : Int) = 3 from rfl, cst_3]
    unfold aabs
    split <;> omega
  · have h1 : i + 1 ≤ (I 5).toNat := h1
    have h2 : j + 2 ≤ (I 6).toNat := h2
    have := lenF_b h (a := i) (by omega)
    have := hR j (by omega)
    have := hR (j + 1) (by omega)
    have := miss_b (bOr 0 (aset (F 12 i))) (bOr (bOr 0 (aset (F 14 j))) (aset (F 14 (j + 1))))
    rw [show ((4 : Nat) : Int) = 4 from rfl, cst_4]
    unfold aabs
    split <;> omega
/-- a state's table -/
def DT (I : Nat → Int) (F : Nat → Nat → Int) (w : Int) (i j : Nat) : Int × Int × Int := D (I 5).toNat (I 6).toNat (csM I F) w i j
theorem DT_up3 (I : Nat → Int) (F : Nat → Nat → Int) (f1 f2 f3 : Nat → Int) : DT I (up3 F f1 f2 f3) = DT I F := rfl
theorem mOK_up3 {I : Nat → Int} {F : Nat → Nat → Int} {f1 f2 f3 : Nat → Int} : mOK I (up3 F f1 f2 f3) ↔ mOK I F := Iff.rfl
