/-! THE PURE SIDE, 5: the best alignment, as a list of (sort, left ones ahead, right ones ahead) -/
set_option maxRecDepth 100000
def onB (I : Nat → Int) (F : Nat → Nat → Int) (w : Int) (i j k : Nat) : Bool := decide (i + loN k ≤ (I 5).toNat ∧ j + roN k ≤ (I 6).toNat ∧ csM I F k i j + (DT I F w (i + loN k) (j + roN k)).1 = (DT I F w i j).1)
def ns (I : Nat → Int) (F : Nat → Nat → Int) (w : Int) (i j : Nat) : Nat := if onB I F w i j 0 then 0 else if onB I F w i j 1 then 1 else if onB I F w i j 2 then 2 else if onB I F w i j 3 then 3 else 4
def pth (I : Nat → Int) (F : Nat → Nat → Int) (w : Int) : Nat → Nat → Nat → List (Nat × Nat × Nat)
  | 0, _, _ => []
  | n + 1, i, j => if i = (I 5).toNat ∧ j = (I 6).toNat then [] else (ns I F w i j, i, j) :: pth I F w n (i + loN (ns I F w i j)) (j + roN (ns I F w i j))
/-- the best alignment; none where there is none -/
def bpath (I : Nat → Int) (F : Nat → Nat → Int) (w : Int) : List (Nat × Nat × Nat) := if (DT I F w 0 0).1 = 100000 then [] else pth I F w 14 0 0
theorem onB_iff {I : Nat → Int} {F : Nat → Nat → Int} {w : Int} {i j k : Nat} : onB I F w i j k = true ↔ (i + loN k ≤ (I 5).toNat ∧ j + roN k ≤ (I 6).toNat ∧ csM I F k i j + (DT I F w (i + loN k) (j + roN k)).1 = (DT I F w i j).1) := by unfold onB; exact decide_eq_true_iff
theorem wy2_l {u v c : Int} {acc t : Int × Int × Int} (ha : VB u acc) (ht : VB v t) (h0 : 0 ≤ c) (hc : c ≤ 60) (hv : v ≤ 900) (hu : u ≤ 1000) : (wy2 acc c t).1 = acc.1 ∨ (t.1 ≠ 100000 ∧ (wy2 acc c t).1 = c + t.1) := by
  obtain ⟨l, n, a⟩ := acc
  obtain ⟨tl, tn, ta⟩ := t
  by_cases hi : tl = 100000
  · simp only [VB] at ht
    have h1 : tn = 100000 ∧ ta = 0 := by omega
    obtain ⟨rfl, rfl⟩ := h1
    subst hi
    rw [show ((100000 : Int), (100000 : Int), (0 : Int)) = tinf from rfl, wy2_inf ha hu h0]
    exact Or.inl rfl
  · simp only [VB] at ha ht
    obtain ⟨l1, n1, a1, e1, k1⟩ := wy_cases l n a (c + tl) ta (by omega)
    show (wy (wy (l, n, a) (c + tl) ta) (c + tn) 0).1 = _ ∨ _ ∧ (wy (wy (l, n, a) (c + tl) ta) (c + tn) 0).1 = _
    rw [e1]
    by_cases q : tn = 100000
    · rw [wy_far _ _ _ _ (by omega) (by omega) (by omega)]
      dsimp only
      omega
    · obtain ⟨l3, n3, a3, e3, k3⟩ := wy_cases l1 n1 a1 (c + tn) 0 (by omega)
      rw [e3]
      dsimp only
      omega
theorem acc_att {nl nr : Nat} {cs : Nat → Nat → Nat → Int} {T : Nat → Nat → Int × Int × Int} {i j : Nat} (hc : ∀ k, k < 5 → i + loN k ≤ nl → j + roN k ≤ nr → 0 ≤ cs k i j ∧ cs k i j ≤ 60) (hT : ∀ k, k < 5 → i + loN k ≤ nl → j + roN k ≤ nr → VB 840 (T (i + loN k) (j + roN k))) : ∀ n, n ≤ 5 → (accT nl nr cs T i j n).1 = 100000 ∨ ∃ k, k < n ∧ i + loN k ≤ nl ∧ j + roN k ≤ nr ∧ (T (i + loN k) (j + roN k)).1 ≠ 100000 ∧ cs k i j + (T (i + loN k) (j + roN k)).1 = (accT nl nr cs T i j n).1 := by
  intro n
  induction n with
  | zero => intro _; exact Or.inl rfl
  | succ n ih =>
    intro h
    have hA : VB 900 (accT nl nr cs T i j n) := VB_acc (by omega) hc (fun k hk h1 h2 => VB_le (hT k hk h1 h2) (by omega)) n (by omega)
    have up : ((accT nl nr cs T i j (n + 1)).1 = (accT nl nr cs T i j n).1) → (accT nl nr cs T i j (n + 1)).1 = 100000 ∨ ∃ k, k < n + 1 ∧ i + loN k ≤ nl ∧ j + roN k ≤ nr ∧ (T (i + loN k) (j + roN k)).1 ≠ 100000 ∧ cs k i j + (T (i + loN k) (j + roN k)).1 = (accT nl nr cs T i j (n + 1)).1 := by
      intro e
      rw [e]
      rcases ih (by omega) with q | ⟨k, k1, k2, k3, k4, k5⟩
      · exact Or.inl q
      · exact Or.inr ⟨k, by omega, k2, k3, k4, k5⟩
    by_cases hq : i + loN n ≤ nl ∧ j + roN n ≤ nr
    · have h1 := hc n (by omega) hq.1 hq.2
      have e : accT nl nr cs T i j (n + 1) = wy2 (accT nl nr cs T i j n) (cs n i j) (T (i + loN n) (j + roN n)) := if_pos hq
      rcases wy2_l hA (hT n (by omega) hq.1 hq.2) h1.1 h1.2 (by omega) (by omega) with q | q
      · exact up (by rw [e]; exact q)
      · exact Or.inr ⟨n, by omega, hq.1, hq.2, q.1, by rw [e]; exact q.2.symm⟩
    · exact up (by rw [show accT nl nr cs T i j (n + 1) = accT nl nr cs T i j n from if_neg hq])
theorem onB_ex {I : Nat → Int} {F : Nat → Nat → Int} {w : Int} (h : mOK I F) {i j : Nat} (hi : i ≤ (I 5).toNat) (hj : j ≤ (I 6).toNat) (hf : (DT I F w i j).1 ≠ 100000) (he : ¬ (i = (I 5).toNat ∧ j = (I 6).toNat)) : ∃ k, k < 5 ∧ onB I F w i j k = true := by
  have hc := csM60 h
  obtain ⟨-, hl, hr, -⟩ := id h
  have e : DT I F w i j = accT (I 5).toNat (I 6).toNat (csM I F) (DT I F w) i j 5 := by
    unfold DT
    rw [D_eq hi hj]
    split
    · rename_i q
      refine absurd ?_ hf
      unfold DT
      rw [D_eq hi hj, if_pos q]
      rfl
    · first | rfl | (rw [if_neg he]; rfl)
  rcases acc_att (nl := (I 5).toNat) (nr := (I 6).toNat) (cs := csM I F) (T := DT I F w) (i := i) (j := j) (fun k hk h1 h2 => hc k i j hk h1 h2) (fun k hk h1 h2 => VBD (by omega) (by omega) hc h1 h2) 5 (by omega) with q | ⟨k, k1, k2, k3, k4, k5⟩
  · exact absurd (by rw [e]; exact q) hf
  · exact ⟨k, k1, onB_iff.mpr ⟨k2, k3, by rw [e]; exact k5⟩⟩
theorem ns_eq {I : Nat → Int} {F : Nat → Nat → Int} {w : Int} {i j k : Nat} (hk : k < 5) (h : onB I F w i j k = true) (hm : ∀ t, t < k → ¬ onB I F w i j t = true) : ns I F w i j = k := by
  have hk2 : k = 0 ∨ k = 1 ∨ k = 2 ∨ k = 3 ∨ k = 4 := by omega
  unfold ns
  rcases hk2 with rfl | rfl | rfl | rfl | rfl
  · rw [if_pos h]
  · rw [if_neg (hm 0 (by omega)), if_pos h]
  · rw [if_neg (hm 0 (by omega)), if_neg (hm 1 (by omega)), if_pos h]
  · rw [if_neg (hm 0 (by omega)), if_neg (hm 1 (by omega)), if_neg (hm 2 (by omega)), if_pos h]
  · rw [if_neg (hm 0 (by omega)), if_neg (hm 1 (by omega)), if_neg (hm 2 (by omega)), if_neg (hm 3 (by omega))]
theorem ns_le (I : Nat → Int) (F : Nat → Nat → Int) (w : Int) (i j : Nat) : ns I F w i j ≤ 4 := by
  unfold ns
  (repeat' split) <;> omega
theorem ns_spec {I : Nat → Int} {F : Nat → Nat → Int} {w : Int} {i j : Nat} (h : ∃ k, k < 5 ∧ onB I F w i j k = true) : onB I F w i j (ns I F w i j) = true ∧ ns I F w i j < 5 ∧ ∀ t, t < ns I F w i j → ¬ onB I F w i j t = true := by
  obtain ⟨k, ⟨k1, k2⟩, k3⟩ := pk_least (fun k => k < 5 ∧ onB I F w i j k = true) h
  have e := ns_eq k1 k2 (fun t ht q => k3 t ht ⟨by omega, q⟩)
  rw [e]
  exact ⟨k2, k1, fun t ht q => k3 t ht ⟨by omega, q⟩⟩
/-- the next stand's least is known too -/
theorem onB_fin {I : Nat → Int} {F : Nat → Nat → Int} {w : Int} (h : mOK I F) {i j k : Nat} (hi : i ≤ (I 5).toNat) (hj : j ≤ (I 6).toNat) (hk : k < 5) (hf : (DT I F w i j).1 ≠ 100000) (hb : onB I F w i j k = true) : (DT I F w (i + loN k) (j + roN k)).1 ≠ 100000 := by
  obtain ⟨h1, h2, h3⟩ := onB_iff.mp hb
  have hc := csM60 h
  obtain ⟨-, hl, hr, -⟩ := id h
  have hV : VB 840 (DT I F w i j) := VBD (by omega) (by omega) hc hi hj
  have := hc k i j hk h1 h2
  intro e
  unfold VB at hV
  omega
def upp (F : Nat → Nat → Int) (f1 f2 f3 : Nat → Int) : Nat → Nat → Int := fun k => match k with
  | 25 => f1
  | 26 => f2
  | 27 => f3
  | k => F k
theorem upp_id (F : Nat → Nat → Int) : upp F (F 25) (F 26) (F 27) = F := by
  funext k
  unfold upp
  split <;> rfl
theorem up3_25 (F : Nat → Nat → Int) (f1 f2 f3 g1 g2 g3 g : Nat → Int) : va_up (up3 (upp F f1 f2 f3) g1 g2 g3) 25 g = up3 (upp F g f2 f3) g1 g2 g3 := by
  funext k
  by_cases h : k = 25
  · subst h; rfl
  · rw [va_up_n _ _ h]
    unfold up3 upp
    split <;> first | rfl | (split <;> first | rfl | exact absurd rfl h)
theorem up3_26 (F : Nat → Nat → Int) (f1 f2 f3 g1 g2 g3 g : Nat → Int) : va_up (up3 (upp F f1 f2 f3) g1 g2 g3) 26 g = up3 (upp F f1 g f3) g1 g2 g3 := by
  funext k
  by_cases h : k = 26
  · subst h; rfl
  · rw [va_up_n _ _ h]
    unfold up3 upp
    split <;> first | rfl | (split <;> first | rfl | exact absurd rfl h)
theorem up3_27 (F : Nat → Nat → Int) (f1 f2 f3 g1 g2 g3 g : Nat → Int) : va_up (up3 (upp F f1 f2 f3) g1 g2 g3) 27 g = up3 (upp F f1 f2 g) g1 g2 g3 := by
  funext k
  by_cases h : k = 27
  · subst h; rfl
  · rw [va_up_n _ _ h]
    unfold up3 upp
    split <;> first | rfl | (split <;> first | rfl | exact absurd rfl h)
theorem up3_upp (F : Nat → Nat → Int) (g1 g2 g3 : Nat → Int) : up3 F g1 g2 g3 = up3 (upp F (F 25) (F 26) (F 27)) g1 g2 g3 := by rw [upp_id]
/-- the arrays hold the list -/
def plis (P : List (Nat × Nat × Nat)) (g1 g2 g3 : Nat → Int) : Prop := ∀ k q, P[k]? = some q → g1 k = (q.1 : Int) ∧ g2 k = (q.2.1 : Int) ∧ g3 k = (q.2.2 : Int)
theorem plis_nil (g1 g2 g3 : Nat → Int) : plis [] g1 g2 g3 := fun k q h => by simp at h
theorem plis_add {P : List (Nat × Nat × Nat)} {g1 g2 g3 : Nat → Int} (h : plis P g1 g2 g3) (a b c : Nat) {m : Nat} (hm : m = P.length) : plis (P ++ [(a, b, c)]) (va_up g1 m (a : Int)) (va_up g2 m (b : Int)) (va_up g3 m (c : Int)) := by
  subst hm
  intro k q hk
  by_cases e : k < P.length
  · rw [List.getElem?_append_left e] at hk
    rw [va_up_n _ _ (by omega), va_up_n _ _ (by omega), va_up_n _ _ (by omega)]
    exact h k q hk
  · rw [List.getElem?_append_right (by omega)] at hk
    have e2 : k - P.length < 1 := (List.getElem?_eq_some_iff.mp hk).1
    have e3 : k = P.length := by omega
    subst e3
    rw [show P.length - P.length = 0 by omega] at hk
    cases hk
    rw [va_up_s, va_up_s, va_up_s]
    exact ⟨rfl, rfl, rfl⟩
/-- what the pairs of a path are: in range, one behind the other -/
theorem pth_in {I : Nat → Int} {F : Nat → Nat → Int} {w : Int} (h : mOK I F) : ∀ (n i j : Nat), i ≤ (I 5).toNat → j ≤ (I 6).toNat → (DT I F w i j).1 ≠ 100000 → ∀ q ∈ pth I F w n i j, q.1 ≤ 4 ∧ q.2.1 + loN q.1 ≤ (I 5).toNat ∧ q.2.2 + roN q.1 ≤ (I 6).toNat := by
  intro n
  induction n with
  | zero => intro i j _ _ _ q hq; cases hq
  | succ n ih =>
    intro i j hi hj hf q hq
    unfold pth at hq
    split at hq
    · cases hq
    · rename_i he
      have hs := ns_spec (onB_ex h hi hj hf he)
      obtain ⟨h1, h2, h3⟩ := onB_iff.mp hs.1
      rcases List.mem_cons.mp hq with rfl | hq
      · exact ⟨by have := hs.2.1; dsimp only; omega, h1, h2⟩
      · exact ih _ _ h1 h2 (onB_fin h hi hj hs.2.1 hf hs.1) q hq
theorem bpath_in {I : Nat → Int} {F : Nat → Nat → Int} {w : Int} (h : mOK I F) {q : Nat × Nat × Nat} (hq : q ∈ bpath I F w) : q.1 ≤ 4 ∧ q.2.1 + loN q.1 ≤ (I 5).toNat ∧ q.2.2 + roN q.1 ≤ (I 6).toNat := by
  unfold bpath at hq
  split at hq
  · cases hq
  · rename_i hf
    exact pth_in h 14 0 0 (Nat.zero_le _) (Nat.zero_le _) hf q hq
theorem pth_len (I : Nat → Int) (F : Nat → Nat → Int) (w : Int) : ∀ n i j, (pth I F w n i j).length ≤ n := by
  intro n
  induction n with
  | zero => intro i j; exact Nat.le_refl 0
  | succ n ih =>
    intro i j
    unfold pth
    split
    · exact Nat.zero_le _
    · exact Nat.succ_le_succ (ih _ _)
theorem bpath_len (I : Nat → Int) (F : Nat → Nat → Int) (w : Int) : (bpath I F w).length ≤ 14 := by
  unfold bpath
  split
  · exact Nat.zero_le _
  · exact pth_len I F w 14 0 0
