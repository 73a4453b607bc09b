/-! THE PURE SIDE, 2: the table of the alignments -/
set_option maxRecDepth 100000
def up3 (F : Nat → Nat → Int) (f1 f2 f3 : Nat → Int) : Nat → Nat → Int := fun k => match k with
  | 21 => f1
  | 22 => f2
  | 23 => f3
  | k => F k
theorem up3_id (F : Nat → Nat → Int) : up3 F (F 21) (F 22) (F 23) = F := by
  funext k
  unfold up3
  split <;> rfl
theorem up3_21 (F : Nat → Nat → Int) (f1 f2 f3 g : Nat → Int) : va_up (up3 F f1 f2 f3) 21 g = up3 F g f2 f3 := by
  funext k
  by_cases h : k = 21
  · subst h; rfl
  · rw [va_up_n _ _ h]
    unfold up3
    split <;> first | rfl | exact absurd rfl h
theorem up3_22 (F : Nat → Nat → Int) (f1 f2 f3 g : Nat → Int) : va_up (up3 F f1 f2 f3) 22 g = up3 F f1 g f3 := by
  funext k
  by_cases h : k = 22
  · subst h; rfl
  · rw [va_up_n _ _ h]
    unfold up3
    split <;> first | rfl | exact absurd rfl h
theorem up3_23 (F : Nat → Nat → Int) (f1 f2 f3 g : Nat → Int) : va_up (up3 F f1 f2 f3) 23 g = up3 F f1 f2 g := by
  funext k
  by_cases h : k = 23
  · subst h; rfl
  · rw [va_up_n _ _ h]
    unfold up3
    split <;> first | rfl | exact absurd rfl h
/-- one more way of a cost -/
def wy (acc : Int × Int × Int) (c al : Int) : Int × Int × Int :=
  if (if c ≤ 100000 then c else 100000) < acc.1 then ((if c ≤ 100000 then c else 100000), acc.1, al)
  else (acc.1, (if acc.2.1 ≤ (if c ≤ 100000 then c else 100000) then acc.2.1 else (if c ≤ 100000 then c else 100000)), acc.2.2 + (if (if c ≤ 100000 then c else 100000) = acc.1 ∧ (if c ≤ 100000 then c else 100000) < 100000 then al else 0))
def wy2 (acc : Int × Int × Int) (c : Int) (t : Int × Int × Int) : Int × Int × Int := wy (wy acc (c + t.1) t.2.2) (c + t.2.1) 0
def tinf : Int × Int × Int := (100000, 100000, 0)
def loN (s : Nat) : Nat := if s = 2 then 0 else if s = 3 then 2 else 1
def roN (s : Nat) : Nat := if s = 1 then 0 else if s = 4 then 2 else 1
def accT (nl nr : Nat) (cs : Nat → Nat → Nat → Int) (T : Nat → Nat → Int × Int × Int) (i j : Nat) : Nat → Int × Int × Int
  | 0 => tinf
  | k + 1 => if i + loN k ≤ nl ∧ j + roN k ≤ nr then wy2 (accT nl nr cs T i j k) (cs k i j) (T (i + loN k) (j + roN k)) else accT nl nr cs T i j k
def far (w : Int) (i j : Nat) : Prop := w < (i : Int) - j ∨ w < (j : Int) - i
def Df (nl nr : Nat) (cs : Nat → Nat → Nat → Int) (w : Int) : Nat → Nat → Nat → Int × Int × Int
  | 0, _, _ => tinf
  | n + 1, i, j => if w < (i : Int) - j ∨ w < (j : Int) - i then tinf else if i = nl ∧ j = nr then (0, 100000, 1) else accT nl nr cs (Df nl nr cs w n) i j 5
def D (nl nr : Nat) (cs : Nat → Nat → Nat → Int) (w : Int) (i j : Nat) : Int × Int × Int := Df nl nr cs w (nl + nr + 1) i j
theorem accT_congr {nl nr : Nat} {cs : Nat → Nat → Nat → Int} {T U : Nat → Nat → Int × Int × Int} {i j : Nat} : ∀ n : Nat, (∀ k, k < n → i + loN k ≤ nl → j + roN k ≤ nr → T (i + loN k) (j + roN k) = U (i + loN k) (j + roN k)) → accT nl nr cs T i j n = accT nl nr cs U i j n := by
  intro n
  induction n with
  | zero => intro _; rfl
  | succ n ih =>
    intro h
    have h1 := ih (fun k hk => h k (by omega))
    unfold accT
    rw [h1]
    by_cases hc : i + loN n ≤ nl ∧ j + roN n ≤ nr
    · rw [if_pos hc, if_pos hc, h n (by omega) hc.1 hc.2]
    · rw [if_neg hc, if_neg hc]
theorem lr_pos (k : Nat) : 1 ≤ loN k + roN k ∧ loN k ≤ 2 ∧ roN k ≤ 2 := by
  unfold loN roN
  (repeat' split) <;> omega
theorem Df_fuel {nl nr : Nat} {cs : Nat → Nat → Nat → Int} {w : Int} : ∀ (n m i j : Nat), i ≤ nl → j ≤ nr → (nl - i) + (nr - j) < n → (nl - i) + (nr - j) < m → Df nl nr cs w n i j = Df nl nr cs w m i j := by
  intro n
  induction n with
  | zero => intro m i j _ _ h; exact absurd h (by omega)
  | succ n ih =>
    intro m i j hi hj hn hm
    match m, hm with
    | m + 1, hm =>
      unfold Df
      rw [accT_congr (T := Df nl nr cs w n) (U := Df nl nr cs w m) 5 (fun k _ h1 h2 => ?_)]
      have := lr_pos k
      exact ih m _ _ h1 h2 (by omega) (by omega)
theorem D_eq {nl nr : Nat} {cs : Nat → Nat → Nat → Int} {w : Int} {i j : Nat} (hi : i ≤ nl) (hj : j ≤ nr) : D nl nr cs w i j = if w < (i : Int) - j ∨ w < (j : Int) - i then tinf else if i = nl ∧ j = nr then (0, 100000, 1) else accT nl nr cs (D nl nr cs w) i j 5 := by
  show Df nl nr cs w (nl + nr + 1) i j = _
  unfold Df
  rw [accT_congr (T := Df nl nr cs w (nl + nr)) (U := D nl nr cs w) 5 (fun k _ h1 h2 => ?_)]
  have := lr_pos k
  exact Df_fuel _ _ _ _ h1 h2 (by omega) (by omega)
/-- a stand's three numbers, bounded -/
def VB (u : Int) (t : Int × Int × Int) : Prop := (t.1 = 100000 ∧ t.2.1 = 100000 ∧ t.2.2 = 0) ∨ (0 ≤ t.1 ∧ t.1 ≤ u ∧ t.1 ≤ t.2.1 ∧ (t.2.1 = 100000 ∨ t.2.1 ≤ u) ∧ 1 ≤ t.2.2 ∧ (1 < t.2.2 ↔ t.2.1 = t.1))
theorem wy_cases (l n a c al : Int) (hc : c ≤ 1000) : ∃ l' n' a', wy (l, n, a) c al = (l', n', a') ∧ ((c < l ∧ l' = c ∧ n' = l ∧ a' = al) ∨ (c = l ∧ l' = l ∧ a' = a + al ∧ ((n ≤ c ∧ n' = n) ∨ (c < n ∧ n' = c))) ∨ (l < c ∧ l' = l ∧ a' = a ∧ ((n ≤ c ∧ n' = n) ∨ (c < n ∧ n' = c)))) := by
  have e1 : (if c ≤ 100000 then c else 100000 : Int) = c := if_pos (by omega)
  unfold wy
  simp only [e1]
  by_cases h1 : c < l
  · rw [if_pos h1]
    exact ⟨_, _, _, rfl, Or.inl ⟨h1, rfl, rfl, rfl⟩⟩
  · rw [if_neg h1]
    refine ⟨_, _, _, rfl, Or.inr ?_⟩
    by_cases h2 : c = l
    · rw [if_pos ⟨h2, by omega⟩]
      refine Or.inl ⟨h2, rfl, rfl, ?_⟩
      by_cases h3 : n ≤ c
      · rw [if_pos h3]; exact Or.inl ⟨h3, rfl⟩
      · rw [if_neg h3]; exact Or.inr ⟨by omega, rfl⟩
    · rw [if_neg (fun q => h2 q.1)]
      refine Or.inr ⟨by omega, rfl, by omega, ?_⟩
      by_cases h3 : n ≤ c
      · rw [if_pos h3]; exact Or.inl ⟨h3, rfl⟩
      · rw [if_neg h3]; exact Or.inr ⟨by omega, rfl⟩
theorem wy_far (l n a c : Int) (hc : 100000 ≤ c) (hl : l ≤ 100000) (hn : n ≤ 100000) : wy (l, n, a) c 0 = (l, n, a) := by
  have e1 : (if c ≤ 100000 then c else 100000 : Int) = 100000 := by split <;> omega
  have e3 : (if n ≤ 100000 then n else 100000 : Int) = n := if_pos hn
  unfold wy
  simp only [e1]
  rw [if_neg (by omega), e3, ite_self, Int.add_zero]
theorem wy2_inf {u c : Int} {acc : Int × Int × Int} (ha : VB u acc) (hu : u ≤ 1000) (h0 : 0 ≤ c) : wy2 acc c tinf = acc := by
  obtain ⟨l, n, a⟩ := acc
  simp only [VB] at ha
  have key : wy (l, n, a) (c + 100000) 0 = (l, n, a) := by
    have e1 : (if c + 100000 ≤ 100000 then c + 100000 else 100000 : Int) = 100000 := by split <;> omega
    have e2 : ¬ (100000 : Int) < l := by omega
    have e3 : (if n ≤ 100000 then n else 100000 : Int) = n := by split <;> omega
    simp only [wy, e1, if_neg e2, e3, ite_self, Int.add_zero]
  show wy (wy (l, n, a) (c + 100000) 0) (c + 100000) 0 = _
  rw [key, key]
theorem VB_wy2 {u v c : Int} {acc t : Int × Int × Int} (ha : VB u acc) (ht : VB v t) (h0 : 0 ≤ c) (hc : c ≤ 60) (hv : v + 60 ≤ u) (hu : u ≤ 1000) : VB u (wy2 acc c t) := by
  obtain ⟨l, n, a⟩ := acc
  obtain ⟨tl, tn, ta⟩ := t
  by_cases hi : tl = 100000
  · simp only [VB] at ht
    have h1 : tn = 100000 ∧ ta = 0 := by omega
    obtain ⟨rfl, rfl⟩ := h1
    subst hi
    rw [show ((100000 : Int), (100000 : Int), (0 : Int)) = tinf from rfl, wy2_inf ha hu h0]
    exact ha
  · simp only [VB] at ha ht
    obtain ⟨l1, n1, a1, e1, k1⟩ := wy_cases l n a (c + tl) ta (by omega)
    show VB u (wy (wy (l, n, a) (c + tl) ta) (c + tn) 0)
    rw [e1]
    by_cases q : tn = 100000
    · rw [wy_far _ _ _ _ (by omega) (by omega) (by omega)]
      simp only [VB]
      omega
    · obtain ⟨l3, n3, a3, e3, k3⟩ := wy_cases l1 n1 a1 (c + tn) 0 (by omega)
      rw [e3]
      simp only [VB]
      omega
theorem VB_inf (u : Int) : VB u tinf := Or.inl ⟨rfl, rfl, rfl⟩
theorem VB_le {u v : Int} {t : Int × Int × Int} (h : VB u t) (hv : u ≤ v) : VB v t := by
  unfold VB at *
  omega
theorem VB_acc {nl nr : Nat} {cs : Nat → Nat → Nat → Int} {T : Nat → Nat → Int × Int × Int} {i j : Nat} {u : Int} (hu : u ≤ 1000) (hc : ∀ k, k < 5 → i + loN k ≤ nl → j + roN k ≤ nr → 0 ≤ cs k i j ∧ cs k i j ≤ 60) (hT : ∀ k, k < 5 → i + loN k ≤ nl → j + roN k ≤ nr → VB (u - 60) (T (i + loN k) (j + roN k))) : ∀ n, n ≤ 5 → VB u (accT nl nr cs T i j n) := by
  intro n
  induction n with
  | zero => intro _; exact VB_inf u
  | succ n ih =>
    intro h
    unfold accT
    split
    · rename_i hq
      have := hc n (by omega) hq.1 hq.2
      exact VB_wy2 (ih (by omega)) (hT n (by omega) hq.1 hq.2) this.1 this.2 (by omega) hu
    · exact ih (by omega)
/-- costs are small -/
def cs60 (nl nr : Nat) (cs : Nat → Nat → Nat → Int) : Prop := ∀ k i j, k < 5 → i + loN k ≤ nl → j + roN k ≤ nr → 0 ≤ cs k i j ∧ cs k i j ≤ 60
theorem VB_D {nl nr : Nat} {cs : Nat → Nat → Nat → Int} {w : Int} (hn : nl + nr ≤ 14) (hc : cs60 nl nr cs) : ∀ (r i j : Nat), i ≤ nl → j ≤ nr → (nl - i) + (nr - j) ≤ r → VB (60 * r) (D nl nr cs w i j) := by
  intro r
  induction r with
  | zero =>
    intro i j hi hj h
    rw [D_eq hi hj]
    split
    · exact VB_inf _
    · rw [if_pos (by omega)]
      exact Or.inr ⟨by decide, by decide, by decide, Or.inl rfl, by decide, by decide⟩
  | succ r ih =>
    intro i j hi hj h
    by_cases hr : (nl - i) + (nr - j) ≤ r
    · exact VB_le (ih i j hi hj hr) (by omega)
    rw [D_eq hi hj]
    split
    · exact VB_inf _
    · rw [if_neg (by omega)]
      refine VB_acc (by omega) (fun k hk h1 h2 => hc k i j hk h1 h2) (fun k hk h1 h2 => ?_) 5 (by omega)
      have := lr_pos k
      exact VB_le (ih _ _ h1 h2 (by omega)) (by omega)
theorem VBD {nl nr : Nat} {cs : Nat → Nat → Nat → Int} {w : Int} (hl : nl ≤ 7) (hr : nr ≤ 7) (hc : cs60 nl nr cs) {i j : Nat} (hi : i ≤ nl) (hj : j ≤ nr) : VB 840 (D nl nr cs w i j) := VB_le (VB_D (by omega) hc 14 i j hi hj (by omega)) (by omega)
/-- how the model's three numbers lie to these -/
def fm (v : Int) : Int := if v = 100000 then 99999 else v
def fmT (t : Int × Int × Int) (l n a : Int) : Prop := l = fm t.1 ∧ n = fm t.2.1 ∧ a = t.2.2
def Rm (t : Int × Int × Int) (l n a : Int) : Prop := l = fm t.1 ∧ a = t.2.2 ∧ (a ≤ 1 → n = fm t.2.1) ∧ (1 < a → t.2.1 = t.1) ∧ 0 ≤ n ∧ n ≤ 99999
/-- the model's way to take one more -/
def cm (l n a c many : Int) : Int × Int × Int := if 99999 ≤ c then (l, n, a) else if c < l then (c, l, many) else if c = l then (l, c, a + many) else if c < n then (l, c, a) else (l, n, a)
theorem cm_cases (l n a c al : Int) (hc : c ≤ 1000) : ∃ l' n' a', cm l n a c al = (l', n', a') ∧ ((c < l ∧ l' = c ∧ n' = l ∧ a' = al) ∨ (c = l ∧ l' = l ∧ a' = a + al ∧ n' = c) ∨ (l < c ∧ l' = l ∧ a' = a ∧ ((n ≤ c ∧ n' = n) ∨ (c < n ∧ n' = c)))) := by
  unfold cm
  rw [if_neg (by omega)]
  by_cases h1 : c < l
  · rw [if_pos h1]; exact ⟨_, _, _, rfl, Or.inl ⟨h1, rfl, rfl, rfl⟩⟩
  · rw [if_neg h1]
    by_cases h2 : c = l
    · rw [if_pos h2]; exact ⟨_, _, _, rfl, Or.inr (Or.inl ⟨h2, rfl, rfl, rfl⟩)⟩
    · rw [if_neg h2]
      by_cases h3 : c < n
      · rw [if_pos h3]; exact ⟨_, _, _, rfl, Or.inr (Or.inr ⟨by omega, rfl, rfl, Or.inr ⟨h3, rfl⟩⟩)⟩
      · rw [if_neg h3]; exact ⟨_, _, _, rfl, Or.inr (Or.inr ⟨by omega, rfl, rfl, Or.inl ⟨by omega, rfl⟩⟩)⟩
theorem cm_far (l n a c al : Int) (hc : 99999 ≤ c) : cm l n a c al = (l, n, a) := by
  unfold cm
  rw [if_pos hc]
theorem fm_lt {v : Int} (h : v < 100000) : fm v = v := if_neg (by omega)
theorem fm_inf : fm 100000 = 99999 := rfl
theorem Rm_step {acc t : Int × Int × Int} {l n a tl tn ta c : Int} (hA : VB 900 acc) (hT : VB 840 t) (h0 : 0 ≤ c) (hc : c ≤ 60) (hR : Rm acc l n a) (ht : fmT t tl tn ta) : Rm (wy2 acc c t) (cm (cm l n a (c + tl) ta).1 (cm l n a (c + tl) ta).2.1 (cm l n a (c + tl) ta).2.2 (if tn = tl then 99999 else c + tn) 1).1 (cm (cm l n a (c + tl) ta).1 (cm l n a (c + tl) ta).2.1 (cm l n a (c + tl) ta).2.2 (if tn = tl then 99999 else c + tn) 1).2.1 (cm (cm l n a (c + tl) ta).1 (cm l n a (c + tl) ta).2.1 (cm l n a (c + tl) ta).2.2 (if tn = tl then 99999 else c + tn) 1).2.2 := by
  obtain ⟨xl, xn, xa⟩ := acc
  obtain ⟨yl, yn, ya⟩ := t
  simp only [VB] at hA hT
  obtain ⟨h1, h2, h3, h4, h5, h6⟩ := hR
  obtain ⟨g1, g2, g3⟩ := ht
  dsimp only at h1 h2 h3 h4 g1 g2 g3
  subst h2 g3
  have hfx : (xl = 100000 ∧ l = 99999) ∨ (xl < 100000 ∧ l = xl) := by
    by_cases q : xl = 100000
    · subst q; exact Or.inl ⟨rfl, h1⟩
    · exact Or.inr ⟨by omega, by rw [h1, fm_lt (by omega)]⟩
  have hfn : a ≤ 1 → (xn = 100000 ∧ n = 99999) ∨ (xn < 100000 ∧ n = xn) := by
    intro q1
    have h3 := h3 q1
    by_cases q : xn = 100000
    · subst q; exact Or.inl ⟨rfl, h3⟩
    · exact Or.inr ⟨by omega, by rw [h3, fm_lt (by omega)]⟩
  rcases hT with hT | hT
  · obtain ⟨rfl, rfl, rfl⟩ := hT
    rw [show ((100000 : Int), (100000 : Int), (0 : Int)) = tinf from rfl, wy2_inf (acc := (xl, xn, a)) (u := 900) hA (by omega) h0]
    rw [fm_inf] at g1 g2
    subst g1 g2
    rw [if_pos rfl, cm_far l n a (c + 99999) 0 (by omega)]
    rw [cm_far l n a 99999 1 (by omega)]
    exact ⟨h1, rfl, h3, h4, h5, h6⟩
  · rw [fm_lt (by omega)] at g1
    subst g1
    obtain ⟨l1, n1, a1, e1, k1⟩ := wy_cases xl xn a (c + tl) ta (by omega)
    obtain ⟨l2, n2, a2, e2, k2⟩ := cm_cases l n a (c + tl) ta (by omega)
    show Rm (wy (wy (xl, xn, a) (c + tl) ta) (c + yn) 0) _ _ _
    rw [e1, e2]
    dsimp only
    have hl1 : 0 ≤ l1 ∧ l1 ≤ 1000 ∧ l2 = l1 := by omega
    by_cases q : yn = 100000
    · subst q
      rw [fm_inf] at g2
      subst g2
      rw [if_neg (by omega), cm_far _ _ _ (c + 99999) 1 (by omega), wy_far _ _ _ _ (by omega) (by omega) (by omega)]
      have hn1 : 0 ≤ n2 ∧ n2 ≤ 99999 := by omega
      have ha : a2 = a1 := by omega
      subst ha
      refine ⟨by rw [hl1.2.2]; exact (fm_lt (by dsimp only; omega)).symm, rfl, fun q => ?_, fun q => ?_, hn1.1, hn1.2⟩
      · dsimp only at q ⊢
        by_cases z : n1 = 100000
        · subst z; rw [fm_inf]; omega
        · rw [fm_lt (by omega)]; omega
      · dsimp only at q ⊢
        omega
    · rw [fm_lt (by omega)] at g2
      subst g2
      obtain ⟨l3, n3, a3, e3, k3⟩ := wy_cases l1 n1 a1 (c + tn) 0 (by omega)
      rw [e3]
      by_cases z : tn = tl
      · rw [if_pos z, cm_far _ _ _ 99999 1 (by omega)]
        subst z
        have ha : a2 = a3 := by omega
        have hn1 : 0 ≤ n2 ∧ n2 ≤ 99999 := by omega
        have hl3 : l3 = l1 := by omega
        subst ha hl3
        refine ⟨by rw [hl1.2.2]; exact (fm_lt (by dsimp only; omega)).symm, rfl, fun q => ?_, fun q => ?_, hn1.1, hn1.2⟩
        · dsimp only at q ⊢
          by_cases z : n3 = 100000
          · subst z; rw [fm_inf]; omega
          · rw [fm_lt (by omega)]; omega
        · dsimp only at q ⊢
          omega
      · rw [if_neg z]
        obtain ⟨l4, n4, a4, e4, k4⟩ := cm_cases l2 n2 a2 (c + tn) 1 (by omega)
        rw [e4]
        dsimp only
        have ha : a4 = a3 := by omega
        have hn1 : 0 ≤ n4 ∧ n4 ≤ 99999 := by omega
        have hl3 : l3 = l1 ∧ l4 = l1 := by omega
        subst ha
        obtain ⟨rfl, rfl⟩ := hl3
        refine ⟨(fm_lt (by omega)).symm, rfl, fun q => ?_, fun q => ?_, hn1.1, hn1.2⟩
        · dsimp only at q ⊢
          by_cases z : n3 = 100000
          · subst z; rw [fm_inf]; omega
          · rw [fm_lt (by omega)]; omega
        · dsimp only at q ⊢
          omega
