/-! THE PURE SIDE, 9: chapters moved, days -/
set_option maxRecDepth 100000
def mvF (F : Nat → Nat → Int) (f g : Nat → Int) : Nat → Nat → Int := va_up (va_up F 13 f) 14 g
theorem mvF_id (F : Nat → Nat → Int) : mvF F (F 13) (F 14) = F := by
  unfold mvF
  rw [va_up_id, va_up_id]
theorem mvF_13 (F : Nat → Nat → Int) (f g h : Nat → Int) : va_up (mvF F f g) 13 h = mvF F h g := by
  funext k
  unfold mvF
  by_cases e : k = 13
  · subst e; rfl
  · rw [va_up_n _ _ e]
    by_cases e2 : k = 14
    · subst e2; rfl
    · rw [va_up_n _ _ e2, va_up_n _ _ e2, va_up_n _ _ e, va_up_n _ _ e]
theorem mvF_14 (F : Nat → Nat → Int) (f g h : Nat → Int) : va_up (mvF F f g) 14 h = mvF F f h := bx_uu _ _ _ _
theorem mvF_mvF (F : Nat → Nat → Int) (f g a b : Nat → Int) : mvF (mvF F f g) a b = mvF F a b := by
  show va_up (va_up (mvF F f g) 13 a) 14 b = _
  rw [mvF_13, mvF_14]
def swp (f : Nat → Int) (k : Nat) : Nat → Int := fun p => if p = k then f (k - 1) else if p = k - 1 then f k else f p
theorem swp_up (f : Nat → Int) {k : Nat} (hk : 1 ≤ k) : va_up (va_up f k (f (k - 1))) (k - 1) (f k) = swp f k := by
  funext p
  unfold swp va_up
  by_cases h : p = k
  · rw [if_pos h, if_neg (by omega), if_pos h]
  · rw [if_neg h]
    by_cases h2 : p = k - 1
    · rw [if_pos h2, if_neg h]
    · rw [if_neg h2, if_neg h]
/-- whence the one at p comes, when n from b on have come to t -/
def msrc (b n t p : Nat) : Nat := if t ≤ p ∧ p < t + n then b + (p - t) else if (if p < t then p else p - n) < b then (if p < t then p else p - n) else (if p < t then p else p - n) + n
def mov (f : Nat → Int) (b n t : Nat) : Nat → Int := fun p => f (msrc b n t p)
theorem mov_id (f : Nat → Int) (b n : Nat) : mov f b n b = f := by
  funext p
  unfold mov
  congr 1
  unfold msrc
  (repeat' split) <;> omega
/-- k steps of the way up from y -/
def upk (f : Nat → Int) (y k : Nat) : Nat → Int := fun p => if y - 1 ≤ p ∧ p < y - 1 + k then f (p + 1) else if p = y - 1 + k then f (y - 1) else f p
theorem upk_0 (f : Nat → Int) (y : Nat) : upk f y 0 = f := by
  funext p
  unfold upk
  rw [if_neg (by omega)]
  by_cases h : p = y - 1 + 0
  · rw [if_pos h, h]; rfl
  · rw [if_neg h]
theorem upk_s (f : Nat → Int) {y k : Nat} (hy : 1 ≤ y) : swp (upk f y k) (y + k) = upk f y (k + 1) := by
  funext p
  unfold swp upk
  by_cases h : p = y + k
  · rw [if_pos h, if_neg (by omega), if_pos (by omega), if_neg (by omega), if_pos (by omega)]
  · rw [if_neg h]
    by_cases h2 : p = y + k - 1
    · rw [if_pos h2, if_neg (by omega), if_neg (by omega), if_pos (by omega)]
      congr 1
      omega
    · rw [if_neg h2]
      by_cases h3 : y - 1 ≤ p ∧ p < y - 1 + k
      · rw [if_pos h3, if_pos (by omega)]
      · rw [if_neg h3, if_neg (by omega), if_neg (by omega), if_neg (by omega)]
theorem upk_n (f : Nat → Int) {b n y : Nat} (hy : 1 ≤ y) (hb : y ≤ b) (hn : 1 ≤ n) : upk (mov f b n y) y n = mov f b n (y - 1) := by
  funext p
  unfold upk mov
  by_cases h3 : y - 1 ≤ p ∧ p < y - 1 + n
  · rw [if_pos h3]
    congr 1
    unfold msrc
    (repeat' split) <;> omega
  · rw [if_neg h3]
    by_cases h : p = y - 1 + n
    · rw [if_pos h]
      congr 1
      unfold msrc
      (repeat' split) <;> omega
    · rw [if_neg h]
      congr 1
      unfold msrc
      (repeat' split) <;> omega
/-- j steps of the way down from y -/
def dnk (f : Nat → Int) (y n j : Nat) : Nat → Int := fun p => if y + n - j < p ∧ p ≤ y + n then f (p - 1) else if p = y + n - j then f (y + n) else f p
theorem dnk_0 (f : Nat → Int) (y n : Nat) : dnk f y n 0 = f := by
  funext p
  unfold dnk
  rw [if_neg (by omega)]
  by_cases h : p = y + n - 0
  · rw [if_pos h, h]; rfl
  · rw [if_neg h]
theorem dnk_s (f : Nat → Int) {y n j : Nat} (hj : j < n) : swp (dnk f y n j) (y + n - j) = dnk f y n (j + 1) := by
  funext p
  unfold swp dnk
  by_cases h : p = y + n - j
  · rw [if_pos h, if_neg (by omega), if_neg (by omega), if_pos (by omega)]
    congr 1
    omega
  · rw [if_neg h]
    by_cases h2 : p = y + n - j - 1
    · rw [if_pos h2, if_neg (by omega), if_pos (by omega), if_neg (by omega), if_pos (by omega)]
    · rw [if_neg h2]
      by_cases h3 : y + n - j < p ∧ p ≤ y + n
      · rw [if_pos h3, if_pos (by omega)]
      · rw [if_neg h3, if_neg (by omega), if_neg (by omega), if_neg (by omega)]
theorem dnk_n (f : Nat → Int) {b n y : Nat} (hb : b ≤ y) (hn : 1 ≤ n) : dnk (mov f b n y) y n n = mov f b n (y + 1) := by
  funext p
  unfold dnk mov
  by_cases h3 : y + n - n < p ∧ p ≤ y + n
  · rw [if_pos h3]
    congr 1
    unfold msrc
    (repeat' split) <;> omega
  · rw [if_neg h3]
    by_cases h : p = y + n - n
    · rw [if_pos h]
      congr 1
      unfold msrc
      (repeat' split) <;> omega
    · rw [if_neg h]
      congr 1
      unfold msrc
      (repeat' split) <;> omega
def rMove (I : Nat → Int) (b n t : Int) : Int := if n < 1 then -2 else if ¬ (0 ≤ b ∧ b < I 6) ∨ I 6 - b < n then -1 else if ¬ (0 ≤ t ∧ t ≤ I 6 - n) then -2 else n
def nMove (I : Nat → Int) (F : Nat → Nat → Int) (b n t : Int) : Nat → Nat → Int := if 0 ≤ rMove I b n t then mvF F (mov (F 13) b.toNat n.toNat t.toNat) (mov (F 14) b.toNat n.toNat t.toNat) else F
/-! days -/
def isPr (a act : Int) : Prop := if 20 ≤ act ∧ act ≤ 22 then 0 ≤ a ∧ a ≤ (if act = 22 then 7 else 9) else ((0 ≤ act ∧ act ≤ 6) ∨ (10 ≤ act ∧ act ≤ 16)) ∧ 1 ≤ a ∧ a ≤ 9
/-- an act that can be done -/
def okA (I : Nat → Int) (act : Int) : Bool := decide (20 ≤ act ∨ (10 ≤ act ∧ act - 10 < I 6) ∨ (act < 10 ∧ act < I 5))
def dI (I : Nat → Int) (a act : Int) : Nat → Int := if act = 20 then va_up I 7 a else if act = 21 then va_up I 8 a else if act = 22 then va_up I 9 a else I
def dF (F : Nat → Nat → Int) (a act : Int) : Nat → Nat → Int := if 20 ≤ act then F else if 10 ≤ act then va_up F 13 (va_up (F 13) (act - 10).toNat a) else va_up F 11 (va_up (F 11) act.toNat a)
/-- the acts of a day, one by one: the first that can't be done (-9: none), and the state -/
def gdy (c : Nat → Int) : Nat → Nat → (Nat → Int) → (Nat → Nat → Int) → Int × (Nat → Int) × (Nat → Nat → Int)
  | 0, _, I, F => (-9, I, F)
  | n + 1, k, I, F => if okA I (c (2 * k + 1)) = true then gdy c n (k + 1) (dI I (c (2 * k)) (c (2 * k + 1))) (dF F (c (2 * k)) (c (2 * k + 1))) else ((k : Int), I, F)
theorem dI_5 (I : Nat → Int) (a act : Int) : dI I a act 5 = I 5 ∧ dI I a act 6 = I 6 ∧ dI I a act 0 = I 0 ∧ dI I a act 1 = I 1 ∧ dI I a act 29 = I 29 := by
  unfold dI
  (repeat' split) <;> exact ⟨rfl, rfl, rfl, rfl, rfl⟩
theorem dOK {I : Nat → Int} {F : Nat → Nat → Int} (h : mOK I F) {a act : Int} (hp : isPr a act) : mOK (dI I a act) (dF F a act) := by
  unfold isPr at hp
  unfold dI dF
  by_cases h1 : 20 ≤ act ∧ act ≤ 22
  · rw [if_pos h1] at hp
    rw [if_pos h1.1]
    obtain ⟨b0, b5, b6, b56, b7, b8, b9, b29, bL, bR, bN, bS, bC⟩ := h
    rcases (show act = 20 ∨ act = 21 ∨ act = 22 by omega) with rfl | rfl | rfl
    · rw [if_neg (by decide)] at hp
      exact ⟨b0, b5, b6, b56, hp, b8, b9, b29, bL, bR, bN, bS, bC⟩
    · rw [if_neg (by decide)] at hp
      exact ⟨b0, b5, b6, b56, b7, hp, b9, b29, bL, bR, bN, bS, bC⟩
    · rw [if_pos rfl] at hp
      exact ⟨b0, b5, b6, b56, b7, b8, hp, b29, bL, bR, bN, bS, bC⟩
  · rw [if_neg h1] at hp
    rw [if_neg (by omega), if_neg (by omega), if_neg (by omega), if_neg (by omega)]
    by_cases h2 : 10 ≤ act
    · rw [if_pos h2]
      exact mOK_kd13 h hp.2
    · rw [if_neg h2]
      exact mOK_kd11 h hp.2
def rTellD (I : Nat → Int) (F : Nat → Nat → Int) (wh : Int) : Int := if wh < 10 then rTell I F wh else if 0 ≤ wh - 10 ∧ wh - 10 < I 5 then pwL (wh - 10).toNat (bpath I F (I 9)) 0 else -9
/-- a day's answer, its acts told in the cells from f on -/
def rDay (I : Nat → Int) (F : Nat → Nat → Int) (c : Nat → Int) (n : Nat) (wh : Int) : Int := if wh = 1 then (gdy c n 0 I F).1 else if (gdy c n 0 I F).1 = -9 then rTellD (gdy c n 0 I F).2.1 (gdy c n 0 I F).2.2 wh else -100 - (gdy c n 0 I F).1
/-- the rows that a day writes and puts back -/
def dyF (F : Nat → Nat → Int) (f g : Nat → Int) : Nat → Nat → Int := va_up (va_up F 11 f) 13 g
theorem dyF_id (F : Nat → Nat → Int) : dyF F (F 11) (F 13) = F := by
  unfold dyF
  rw [va_up_id, va_up_id]
theorem dyF_11 (F : Nat → Nat → Int) (f g h : Nat → Int) : va_up (dyF F f g) 11 h = dyF F h g := by
  funext k
  unfold dyF
  by_cases e : k = 11
  · subst e; rfl
  · rw [va_up_n _ _ e]
    by_cases e2 : k = 13
    · subst e2; rfl
    · rw [va_up_n _ _ e2, va_up_n _ _ e2, va_up_n _ _ e, va_up_n _ _ e]
theorem dyF_13 (F : Nat → Nat → Int) (f g h : Nat → Int) : va_up (dyF F f g) 13 h = dyF F f h := bx_uu _ _ _ _
theorem dF_dy (F : Nat → Nat → Int) (a act : Int) : dF F a act = dyF F (dF F a act 11) (dF F a act 13) := by
  unfold dF
  split
  · exact (dyF_id F).symm
  · split
    · show va_up F 13 (va_up (F 13) (act - 10).toNat a) = dyF F (F 11) (va_up (F 13) (act - 10).toNat a)
      rw [← dyF_13 F (F 11) (F 13), dyF_id]
    · show va_up F 11 (va_up (F 11) act.toNat a) = dyF F (va_up (F 11) act.toNat a) (F 13)
      rw [← dyF_11 F (F 11) (F 13), dyF_id]
def bd3 (I : Nat → Int) (x y z : Int) : Nat → Int := va_up (va_up (va_up I 7 x) 8 y) 9 z
theorem bd3_id (I : Nat → Int) : bd3 I (I 7) (I 8) (I 9) = I := by
  unfold bd3
  rw [va_up_id, va_up_id, va_up_id]
theorem bd3_7 (I : Nat → Int) (x y z v : Int) : va_up (bd3 I x y z) 7 v = bd3 I v y z := by
  funext k
  unfold bd3
  by_cases e : k = 7
  · subst e; rfl
  · rw [va_up_n _ _ e]
    by_cases e2 : k = 9
    · subst e2; rfl
    · by_cases e3 : k = 8
      · subst e3; rfl
      · rw [va_up_n _ _ e2, va_up_n _ _ e2, va_up_n _ _ e3, va_up_n _ _ e3, va_up_n _ _ e, va_up_n _ _ e]
theorem bd3_8 (I : Nat → Int) (x y z v : Int) : va_up (bd3 I x y z) 8 v = bd3 I x v z := by
  funext k
  unfold bd3
  by_cases e : k = 8
  · subst e; rfl
  · rw [va_up_n _ _ e]
    by_cases e2 : k = 9
    · subst e2; rfl
    · rw [va_up_n _ _ e2, va_up_n _ _ e2, va_up_n _ _ e, va_up_n _ _ e]
theorem bd3_9 (I : Nat → Int) (x y z v : Int) : va_up (bd3 I x y z) 9 v = bd3 I x y v := bx_uu _ _ _ _
theorem dI_bd (I : Nat → Int) (a act : Int) : dI I a act = bd3 I (dI I a act 7) (dI I a act 8) (dI I a act 9) := by
  unfold dI
  split
  · show va_up I 7 a = bd3 I a (I 8) (I 9)
    rw [← bd3_7 I (I 7) (I 8) (I 9), bd3_id]
  · split
    · show va_up I 8 a = bd3 I (I 7) a (I 9)
      rw [← bd3_8 I (I 7) (I 8) (I 9), bd3_id]
    · split
      · show va_up I 9 a = bd3 I (I 7) (I 8) a
        rw [← bd3_9 I (I 7) (I 8) (I 9), bd3_id]
      · exact (bd3_id I).symm
/-- a day changes these alone -/
theorem gdy_form (c : Nat → Int) : ∀ (n k : Nat) (I : Nat → Int) (F : Nat → Nat → Int), ∃ x y z f g, (gdy c n k I F).2.1 = bd3 I x y z ∧ (gdy c n k I F).2.2 = dyF F f g := by
  intro n
  induction n with
  | zero => intro k I F; exact ⟨_, _, _, _, _, (bd3_id I).symm, (dyF_id F).symm⟩
  | succ n ih =>
    intro k I F
    unfold gdy
    split
    · obtain ⟨x, y, z, f, g, h1, h2⟩ := ih (k + 1) (dI I (c (2 * k)) (c (2 * k + 1))) (dF F (c (2 * k)) (c (2 * k + 1)))
      refine ⟨x, y, z, f, g, h1.trans ?_, h2.trans ?_⟩
      · rw [dI_bd]
        unfold bd3
        show va_up (va_up (va_up (bd3 I _ _ _) 7 x) 8 y) 9 z = _
        rw [bd3_7, bd3_8, bd3_9]
        rfl
      · rw [dF_dy]
        show va_up (va_up (dyF F _ _) 11 f) 13 g = _
        rw [dyF_11, dyF_13]
    · exact ⟨_, _, _, _, _, (bd3_id I).symm, (dyF_id F).symm⟩
def kpF (F : Nat → Nat → Int) (f : Nat → Int) : Nat → Nat → Int := va_up F 28 f
theorem kpF_id (F : Nat → Nat → Int) : kpF F (F 28) = F := va_up_id F 28
theorem kpF_28 (F : Nat → Nat → Int) (f g : Nat → Int) : va_up (kpF F f) 28 g = kpF F g := bx_uu _ _ _ _
theorem va_up_comm {α : Type} (f : Nat → α) {k j : Nat} (x y : α) (h : k ≠ j) : va_up (va_up f k x) j y = va_up (va_up f j y) k x := by
  funext q
  by_cases e : q = j
  · subst e
    rw [va_up_s, va_up_n _ _ (fun z => h z.symm), va_up_s]
  · rw [va_up_n _ _ e]
    by_cases e2 : q = k
    · subst e2; rw [va_up_s, va_up_s]
    · rw [va_up_n _ _ e2, va_up_n _ _ e2, va_up_n _ _ e]
theorem dI_0 (I : Nat → Int) (v a act : Int) : dI (va_up I 0 v) a act = va_up (dI I a act) 0 v := by
  unfold dI
  split
  · exact va_up_comm _ _ _ (by decide)
  · split
    · exact va_up_comm _ _ _ (by decide)
    · split
      · exact va_up_comm _ _ _ (by decide)
      · rfl
theorem dF_28 (F : Nat → Nat → Int) (f : Nat → Int) (a act : Int) : dF (kpF F f) a act = kpF (dF F a act) f := by
  unfold dF kpF
  split
  · rfl
  · split
    · exact va_up_comm _ _ _ (by decide)
    · exact va_up_comm _ _ _ (by decide)
theorem gdy_s (c : Nat → Int) (n k : Nat) (I : Nat → Int) (F : Nat → Nat → Int) : gdy c (n + 1) k I F = if okA I (c (2 * k + 1)) = true then gdy c n (k + 1) (dI I (c (2 * k)) (c (2 * k + 1))) (dF F (c (2 * k)) (c (2 * k + 1))) else ((k : Int), I, F) := rfl
theorem gdy_0 (c : Nat → Int) (v : Int) (f : Nat → Int) : ∀ (n k : Nat) (I : Nat → Int) (F : Nat → Nat → Int), gdy c n k (va_up I 0 v) (kpF F f) = ((gdy c n k I F).1, va_up (gdy c n k I F).2.1 0 v, kpF (gdy c n k I F).2.2 f) := by
  intro n
  induction n with
  | zero => intro k I F; rfl
  | succ n ih =>
    intro k I F
    rw [gdy_s, gdy_s, show okA (va_up I 0 v) (c (2 * k + 1)) = okA I (c (2 * k + 1)) from rfl]
    by_cases h : okA I (c (2 * k + 1)) = true
    · rw [if_pos h, if_pos h, dI_0, dF_28]
      exact ih (k + 1) _ _
    · rw [if_neg h, if_neg h]
theorem dF_4 (F : Nat → Nat → Int) (a act : Int) : dF F a act 4 = F 4 := by
  unfold dF
  split
  · rfl
  · split <;> rfl
theorem gdy_rg (c : Nat → Int) : ∀ (n k : Nat) (I : Nat → Int) (F : Nat → Nat → Int), (gdy c n k I F).1 = -9 ∨ ((k : Int) ≤ (gdy c n k I F).1 ∧ (gdy c n k I F).1 < k + n) := by
  intro n
  induction n with
  | zero => intro k I F; exact Or.inl rfl
  | succ n ih =>
    intro k I F
    unfold gdy
    split
    · have := ih (k + 1) (dI I (c (2 * k)) (c (2 * k + 1))) (dF F (c (2 * k)) (c (2 * k + 1)))
      omega
    · exact Or.inr ⟨Int.le_refl _, by show (k : Int) < _; omega⟩
noncomputable def rDayO (I : Nat → Int) (F : Nat → Nat → Int) (k so i n wh : Int) : Int :=
  if ¬ (0 ≤ k ∧ k ≤ 3) then -1
  else if ¬ (0 ≤ so ∧ so ≤ 2) ∨ ¬ (0 ≤ n ∧ n ≤ 20) ∨ ¬ ((0 ≤ wh ∧ wh ≤ 4) ∨ (10 ≤ wh ∧ wh ≤ 16)) then -2
  else if agn F k.toNat so i (2 * n) ≠ 0 then -10 - agn F k.toNat so i (2 * n)
  else if I 5 = 0 then -3
  else @ite Int (∀ q : Nat, q < n.toNat → isPr (F 4 (60 * k.toNat + i.toNat + 2 * q)) (F 4 (60 * k.toNat + i.toNat + 2 * q + 1))) (Classical.propDecidable _) (rDay I F (fun j => F 4 (60 * k.toNat + i.toNat + j)) n.toNat wh) (-2)
def nDayI (I : Nat → Int) (F : Nat → Nat → Int) (k so i n wh : Int) : Nat → Int := fI I (if ¬ (0 ≤ k ∧ k ≤ 3) ∨ ¬ (0 ≤ so ∧ so ≤ 2) ∨ ¬ (0 ≤ n ∧ n ≤ 20) ∨ ¬ ((0 ≤ wh ∧ wh ≤ 4) ∨ (10 ≤ wh ∧ wh ≤ 16)) then 0 else agn F k.toNat so i (2 * n))
theorem agn_b (F : Nat → Nat → Int) (k : Nat) (so i n : Int) : 0 ≤ agn F k so i n ∧ agn F k so i n ≤ 4 := by
  unfold agn
  (repeat' split) <;> omega
theorem agn_z {F : Nat → Nat → Int} {k : Nat} {so i n : Int} (h : agn F k so i n = 0) : F 2 k = so ∧ F 2 k ≠ -9 ∧ 0 ≤ n ∧ 0 ≤ i ∧ i ≤ F 3 k ∧ n ≤ F 3 k - i := by
  unfold agn at h
  (repeat' split at h) <;> omega
theorem DT_congr {I I' : Nat → Int} {F F' : Nat → Nat → Int} (h5 : I' 5 = I 5) (h6 : I' 6 = I 6) (hc : csM I' F' = csM I F) : DT I' F' = DT I F := by
  funext w i j
  unfold DT
  rw [h5, h6, hc]
theorem onB_congr {I I' : Nat → Int} {F F' : Nat → Nat → Int} (h5 : I' 5 = I 5) (h6 : I' 6 = I 6) (hc : csM I' F' = csM I F) (w : Int) (i j k : Nat) : onB I' F' w i j k = onB I F w i j k := by
  unfold onB
  simp only [h5, h6, hc, DT_congr h5 h6 hc]
theorem ns_congr {I I' : Nat → Int} {F F' : Nat → Nat → Int} (h5 : I' 5 = I 5) (h6 : I' 6 = I 6) (hc : csM I' F' = csM I F) (w : Int) (i j : Nat) : ns I' F' w i j = ns I F w i j := by
  unfold ns
  simp only [onB_congr h5 h6 hc]
theorem pth_congr {I I' : Nat → Int} {F F' : Nat → Nat → Int} (h5 : I' 5 = I 5) (h6 : I' 6 = I 6) (hc : csM I' F' = csM I F) (w : Int) : ∀ n i j, pth I' F' w n i j = pth I F w n i j := by
  intro n
  induction n with
  | zero => intro i j; rfl
  | succ n ih =>
    intro i j
    show (if i = (I' 5).toNat ∧ j = (I' 6).toNat then [] else (ns I' F' w i j, i, j) :: pth I' F' w n (i + loN (ns I' F' w i j)) (j + roN (ns I' F' w i j))) = (if i = (I 5).toNat ∧ j = (I 6).toNat then [] else (ns I F w i j, i, j) :: pth I F w n (i + loN (ns I F w i j)) (j + roN (ns I F w i j)))
    rw [h5, h6, ns_congr h5 h6 hc, ih]
theorem bpath_congr {I I' : Nat → Int} {F F' : Nat → Nat → Int} (h5 : I' 5 = I 5) (h6 : I' 6 = I 6) (hc : csM I' F' = csM I F) : bpath I' F' = bpath I F := by
  funext w
  unfold bpath
  rw [DT_congr h5 h6 hc, pth_congr h5 h6 hc]
theorem rTellD_congr {I I' : Nat → Int} {F F' : Nat → Nat → Int} (h5 : I' 5 = I 5) (h6 : I' 6 = I 6) (h9 : I' 9 = I 9) (hc : csM I' F' = csM I F) (wh : Int) : rTellD I' F' wh = rTellD I F wh := by
  unfold rTellD rTell
  rw [DT_congr h5 h6 hc, bpath_congr h5 h6 hc, h5, h9]
theorem csM_0 (I : Nat → Int) (F : Nat → Nat → Int) (v : Int) (f : Nat → Int) : csM (va_up I 0 v) (kpF F f) = csM I F := rfl
theorem rTellD_0 (I : Nat → Int) (F : Nat → Nat → Int) (v : Int) (f : Nat → Int) (wh : Int) : rTellD (va_up I 0 v) (kpF F f) wh = rTellD I F wh := by
  have h5 : va_up I 0 v 5 = I 5 := rfl
  have h6 : va_up I 0 v 6 = I 6 := rfl
  have h9 : va_up I 0 v 9 = I 9 := rfl
  exact rTellD_congr (I := I) (I' := va_up I 0 v) (F := F) (F' := kpF F f) h5 h6 h9 (csM_0 I F v f) wh
theorem mOK_0 {I : Nat → Int} {F : Nat → Nat → Int} (h : mOK I F) {v : Int} (hv : 0 ≤ v ∧ v ≤ 4) : mOK (va_up I 0 v) F := by
  obtain ⟨b0, b5, b6, b56, b7, b8, b9, b29, bL, bR, bN, bS, bC⟩ := h
  exact ⟨hv, b5, b6, b56, b7, b8, b9, b29, bL, bR, bN, bS, bC⟩
