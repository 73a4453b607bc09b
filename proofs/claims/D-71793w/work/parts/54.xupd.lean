/-! CHANGES OF WHAT x HOLDS -/
set_option maxRecDepth 100000
theorem C0_I {E : xE} {Ad : Nat → Nat} {I I' : Nat → Int} {F : Nat → Nat → Int} (h5 : I' 5 = I 5) (h29 : I' 29 = I 29) (h41 : I' 41 = I 41) (h42 : I' 42 = I 42) (h43 : I' 43 = I 43) (h44 : I' 44 = I 44) : ∀ r, r ≠ 0 → C0 E Ad I' F r = C0 E Ad I F r := by
  intro r hr
  unfold C0
  rw [h5, h29]
  by_cases h : r < 50
  · rw [if_pos h, if_pos h]
    unfold C0a
    split
    · exact absurd rfl hr
    all_goals first | rfl | (rw [h41, h5]) | (rw [h42, h29]) | (rw [h43, h5]) | (rw [h44, h29])
  · rw [if_neg h, if_neg h]
/-- the int fields of x: which place of the state a field is -/
def xPl (k : Nat) : Option Nat := match k with
  | 2 => some 1
  | 4 => some 6
  | 7 => some 7
  | 8 => some 8
  | 9 => some 9
  | 17 => some 0
  | _ => none
theorem xFs_set {Ad : Nat → Nat} {I : Nat → Int} {z : Int} : ∀ k j, xPl k = some j → (xFs Ad I).set k (.int (iI z)) = xFs Ad (va_up I j z) := by
  intro k j h
  unfold xPl at h
  split at h <;> cases h <;> rfl
theorem xInv.put {E : xE} {o : Nat} {Ad : Nat → Nat} {I : Nat → Int} {F : Nat → Nat → Int} {w : xw} (h : xInv E o Ad I F w) {k j : Nat} {z : Int} (hk : xPl k = some j) : xInv E o Ad (va_up I j z) F (va_up w o (some (xO 0 ((xFs Ad I).set k (.int (iI z)))))) := by
  obtain ⟨h0, h1, h2, h3⟩ := h
  have hj : j = 0 ∨ j = 1 ∨ j = 6 ∨ j = 7 ∨ j = 8 ∨ j = 9 := by
    unfold xPl at hk
    split at hk <;> cases hk <;> decide
  have hn : ∀ i, i ≠ 0 → i ≠ 1 → i ≠ 6 → i ≠ 7 → i ≠ 8 → i ≠ 9 → va_up I j z i = I i := by
    intro i a0 a1 a6 a7 a8 a9
    exact va_up_n _ _ (by omega)
  have e5 := hn 5 (by decide) (by decide) (by decide) (by decide) (by decide) (by decide)
  have e29 := hn 29 (by decide) (by decide) (by decide) (by decide) (by decide) (by decide)
  have e41 := hn 41 (by decide) (by decide) (by decide) (by decide) (by decide) (by decide)
  have e42 := hn 42 (by decide) (by decide) (by decide) (by decide) (by decide) (by decide)
  have e43 := hn 43 (by decide) (by decide) (by decide) (by decide) (by decide) (by decide)
  have e44 := hn 44 (by decide) (by decide) (by decide) (by decide) (by decide) (by decide)
  refine ⟨h0, ?_, by rw [e43, e5]; exact h2, by rw [e44, e29]; exact h3⟩
  have hw := h1.put (r := 0) (e0 := xO 0 (xFs Ad I)) rfl (xO 0 ((xFs Ad I).set k (.int (iI z))))
  rw [h0] at hw
  refine hw.mono fun r e hr => ?_
  by_cases q : r = 0
  · subst q
    rw [va_up_s, xFs_set k j hk]
    exact hr
  · rw [va_up_n _ _ q]
    rw [C0_I e5 e29 e41 e42 e43 e44 r q] at hr
    exact hr
/-- the int arrays of x: the place of the state, how long -/
def xArr (r : Nat) : Option (Nat × Nat) := match r with
  | 6 => some (13, 7)
  | 7 => some (14, 7)
  | 11 => some (33, 7)
  | 12 => some (34, 7)
  | 13 => some (21, 64)
  | 14 => some (22, 64)
  | 15 => some (23, 64)
  | 16 => some (28, 7)
  | _ => none
theorem C0_F {E : xE} {Ad : Nat → Nat} {I : Nat → Int} {F : Nat → Nat → Int} {r k N : Nat} (h : xArr r = some (k, N)) (f : Nat → Int) : ∀ i, i ≠ r → C0 E Ad I (va_up F k f) i = C0 E Ad I F i := by
  intro i hi
  have hc : (r = 6 ∧ k = 13) ∨ (r = 7 ∧ k = 14) ∨ (r = 11 ∧ k = 33) ∨ (r = 12 ∧ k = 34) ∨ (r = 13 ∧ k = 21) ∨ (r = 14 ∧ k = 22) ∨ (r = 15 ∧ k = 23) ∨ (r = 16 ∧ k = 28) := by
    unfold xArr at h
    split at h <;> cases h <;> decide
  have hn : ∀ j, j = 2 ∨ j = 3 ∨ j = 4 ∨ j = 10 ∨ j = 11 ∨ j = 12 ∨ j = 30 ∨ j = 31 → va_up F k f j = F j := fun j hj => va_up_n _ _ (by omega)
  have e2 := hn 2 (by decide)
  have e3 := hn 3 (by decide)
  have e4 := hn 4 (by decide)
  have e10 := hn 10 (by decide)
  have e11 := hn 11 (by decide)
  have e12 := hn 12 (by decide)
  have e30 := hn 30 (by decide)
  have e31 := hn 31 (by decide)
  unfold C0
  by_cases q : i < 50
  · rw [if_pos q, if_pos q]
    unfold C0a
    split
    all_goals first | rfl | (rw [e2]) | (congr 2; exact va_up_n _ _ (by omega))
  · unfold rowF
    rw [if_neg q, if_neg q, e2, e3, e4, e10, e11, e12, e30, e31]
theorem C0_arr {E : xE} {Ad : Nat → Nat} {I : Nat → Int} {F : Nat → Nat → Int} {r k N : Nat} (h : xArr r = some (k, N)) : C0 E Ad I F r = some (xI E N (F k)) := by
  unfold xArr at h
  split at h <;> cases h <;> rfl
theorem xInv.ast {E : xE} {o : Nat} {Ad : Nat → Nat} {I : Nat → Int} {F : Nat → Nat → Int} {w : xw} (h : xInv E o Ad I F w) {r k N : Nat} (hr : xArr r = some (k, N)) (f : Nat → Int) : xInv E o Ad I (va_up F k f) (va_up w (Ad r) (some (xI E N f))) := by
  obtain ⟨h0, h1, h2, h3⟩ := h
  refine ⟨h0, (h1.put (C0_arr hr) (xI E N f)).mono fun i e hi => ?_, h2, h3⟩
  by_cases q : i = r
  · subst q
    rw [C0_arr hr, va_up_s] at hi
    rw [va_up_s]
    exact hi
  · rw [C0_F hr f i q] at hi
    rw [va_up_n _ _ q]
    exact hi
