/-! THE PURE SIDE, 7 -/
set_option maxRecDepth 100000
def rByO (I : Nat → Int) (F : Nat → Nat → Int) (wd : Int) : Int := if ¬ (0 ≤ wd ∧ wd ≤ 7) then -2 else if I 5 = 0 then -3 else rBy I F wd
def enF (I : Nat → Int) (F : Nat → Nat → Int) : Nat → Nat → Nat
  | 0, w => w
  | n + 1, w => if rBy I F w = rBy I F 7 then w else enF I F n (w + 1)
def rEnough (I : Nat → Int) (F : Nat → Nat → Int) : Int := if I 5 = 0 then -3 else (enF I F 7 0 : Int)
def rRead (I : Nat → Int) (w c : Int) : Int := if I 5 = 0 then -3 else if ¬ (0 ≤ w ∧ w ≤ 7) ∨ (c ≠ -9 ∧ ¬ (0 ≤ c ∧ c ≤ 500)) then -2 else if I 29 = 8 then -4 else I 29
def nReadI (I : Nat → Int) (w c : Int) : Nat → Int := if 0 ≤ rRead I w c then va_up I 29 (I 29 + 1) else I
def nReadF (I : Nat → Int) (F : Nat → Nat → Int) (w c : Int) : Nat → Nat → Int := if 0 ≤ rRead I w c then va_up (va_up F 30 (va_up (F 30) (I 29).toNat w)) 31 (va_up (F 31) (I 29).toNat c) else F
def rBack (I : Nat → Int) (n : Int) : Int := if ¬ (0 ≤ n ∧ n ≤ I 29) then -2 else I 29 - n
def nBack (I : Nat → Int) (n : Int) : Nat → Int := if ¬ (0 ≤ n ∧ n ≤ I 29) then I else va_up I 29 (I 29 - n)
def rSo (I : Nat → Int) (F : Nat → Nat → Int) : Bool := decide (∀ q, q < (I 29).toNat → rBy I F (F 30 q) = F 31 q)
def kd (F : Nat → Nat → Int) (r a : Nat) (v : Int) : Nat → Nat → Int := va_up F r (va_up (F r) a v)
def kset (I : Nat → Int) (F : Nat → Nat → Int) (a : Nat) : Nat → Int
  | 0 => 0
  | v + 1 => bOr (kset I F a v) (if rSo I (kd F 10 a (v : Int)) = true then bShl 1 (v : Int) else 0)
def lset (I : Nat → Int) (F : Nat → Nat → Int) (a : Nat) : Nat → Int
  | 0 => 0
  | v + 1 => bOr (lset I F a v) (if rSo I (kd F 11 a ((v : Int) + 1)) = true then bShl 1 ((v : Int) + 1) else 0)
def rKinds (I : Nat → Int) (F : Nat → Nat → Int) (a : Int) : Int := if ¬ (0 ≤ a ∧ a < I 5) then -1 else kset I F a.toNat 3
def rLetterings (I : Nat → Int) (F : Nat → Nat → Int) (a : Int) : Int := if ¬ (0 ≤ a ∧ a < I 5) then -1 else lset I F a.toNat 9
theorem rg_kset (I : Nat → Int) (F : Nat → Nat → Int) (a v : Nat) : rg (kset I F a v) := by
  cases v with
  | zero => exact rg_0
  | succ v => exact rg_or _ _
theorem rg_lset (I : Nat → Int) (F : Nat → Nat → Int) (a v : Nat) : rg (lset I F a v) := by
  cases v with
  | zero => exact rg_0
  | succ v => exact rg_or _ _
theorem va_up_id {α : Type} (f : Nat → α) (k : Nat) : va_up f k (f k) = f := by
  funext j
  by_cases h : j = k
  · subst h; exact va_up_s _ _ _
  · exact va_up_n _ _ h
theorem up3_c {F : Nat → Nat → Int} {g1 g2 g3 f h : Nat → Int} {r : Nat} (hr : r ≠ 21 ∧ r ≠ 22 ∧ r ≠ 23) : va_up (up3 (va_up F r f) g1 g2 g3) r h = up3 (va_up F r h) g1 g2 g3 := by
  obtain ⟨h1, h2, h3⟩ := hr
  funext k
  by_cases e : k = r
  · subst e
    rw [va_up_s]
    unfold up3
    split <;> first | exact absurd rfl h1 | exact absurd rfl h2 | exact absurd rfl h3 | exact (va_up_s _ _ _).symm
  · rw [va_up_n _ _ e]
    unfold up3
    split <;> first | rfl | (rw [va_up_n _ _ e, va_up_n _ _ e])
theorem mOK_kd10 {I : Nat → Int} {F : Nat → Nat → Int} (h : mOK I F) {a : Nat} {v : Int} (hv : 0 ≤ v ∧ v ≤ 2) : mOK I (kd F 10 a v) := by
  obtain ⟨b0, b5, b6, b56, b7, b8, b9, b29, bL, bR, bN, bS, bC⟩ := h
  refine ⟨b0, b5, b6, b56, b7, b8, b9, b29, fun k hk => ?_, bR, bN, bS, bC⟩
  have := bL k hk
  show (0 ≤ va_up (F 10) a v k ∧ va_up (F 10) a v k ≤ 2) ∧ _
  by_cases e : k = a
  · subst e
    rw [va_up_s]
    exact ⟨hv, this.2⟩
  · rw [va_up_n _ _ e]
    exact this
theorem mOK_kd11 {I : Nat → Int} {F : Nat → Nat → Int} (h : mOK I F) {a : Nat} {v : Int} (hv : 1 ≤ v ∧ v ≤ 9) : mOK I (kd F 11 a v) := by
  obtain ⟨b0, b5, b6, b56, b7, b8, b9, b29, bL, bR, bN, bS, bC⟩ := h
  refine ⟨b0, b5, b6, b56, b7, b8, b9, b29, fun k hk => ?_, bR, bN, bS, bC⟩
  have := bL k hk
  show _ ∧ (1 ≤ va_up (F 11) a v k ∧ va_up (F 11) a v k ≤ 9) ∧ _
  by_cases e : k = a
  · subst e
    rw [va_up_s]
    exact ⟨this.1, hv, this.2.2⟩
  · rw [va_up_n _ _ e]
    exact this
theorem mOK_kd13 {I : Nat → Int} {F : Nat → Nat → Int} (h : mOK I F) {a : Nat} {v : Int} (hv : 1 ≤ v ∧ v ≤ 9) : mOK I (kd F 13 a v) := by
  obtain ⟨b0, b5, b6, b56, b7, b8, b9, b29, bL, bR, bN, bS, bC⟩ := h
  refine ⟨b0, b5, b6, b56, b7, b8, b9, b29, bL, fun k hk => ?_, bN, bS, bC⟩
  have := bR k hk
  show (1 ≤ va_up (F 13) a v k ∧ va_up (F 13) a v k ≤ 9) ∧ _
  by_cases e : k = a
  · subst e
    rw [va_up_s]
    exact ⟨hv, this.2⟩
  · rw [va_up_n _ _ e]
    exact this
/-- how many pairs of a path are of a sort -/
def cntS (so : Int) : List (Nat × Nat × Nat) → Nat
  | [] => 0
  | q :: P => (if (q.1 : Int) = so then 1 else 0) + cntS so P
theorem cntS_le (so : Int) : ∀ P, cntS so P ≤ P.length := by
  intro P
  induction P with
  | nil => exact Nat.le_refl 0
  | cons q P ih =>
    show (if (q.1 : Int) = so then 1 else 0) + cntS so P ≤ P.length + 1
    split <;> omega
def rOdds (I : Nat → Int) (F : Nat → Nat → Int) (so wh : Int) : Int := if ¬ (0 ≤ so ∧ so ≤ 4) ∨ ¬ (0 ≤ wh ∧ wh ≤ 1) ∨ I 5 = 0 ∨ (DT I F (I 9) 0 0).1 = 100000 then -9223372036854775808 else if wh = 0 then ((cntS so (bpath I F (I 9)) / Nat.gcd (cntS so (bpath I F (I 9))) (bpath I F (I 9)).length : Nat) : Int) else (((bpath I F (I 9)).length / Nat.gcd (cntS so (bpath I F (I 9))) (bpath I F (I 9)).length : Nat) : Int)
/-- a book that is there has a best alignment of one pair at least, or none -/
theorem bpath_pos {I : Nat → Int} {F : Nat → Nat → Int} {w : Int} (h0 : ¬ I 5 = 0) (hl : 0 ≤ I 5) (hf : (DT I F w 0 0).1 ≠ 100000) : 1 ≤ (bpath I F w).length := by
  unfold bpath
  rw [if_neg hf, show pth I F w 14 0 0 = if 0 = (I 5).toNat ∧ 0 = (I 6).toNat then [] else (ns I F w 0 0, 0, 0) :: pth I F w 13 (0 + loN (ns I F w 0 0)) (0 + roN (ns I F w 0 0)) from rfl, if_neg (by omega)]
  exact Nat.succ_le_succ (Nat.zero_le _)
theorem lN_lI (n : Nat) : lN n = lI (n : Int) := rfl
section XL
variable {p : Program} {l : Launch} {e : Env} {R : Room} {s : State} {m : MethodId} {args : Array Value} {below : List Frame} {meth : Method} {c : Code} {H : Heap} {locs : List Loc} {cells slots : Nat} {Q : State → Prop}
variable {cc : ByteArray} {pc : Nat} {ls : Array Slot} {rest : List Value}
theorem x_lrem (hx : p.tables.exec = Jvm.exec) (hb : c.code = cc) {a b : Nat} (hdg : decode cc pc = .ok (.lrem, 1)) (ha : a < 2 ^ 31) (h0 : 0 < b) (hb2 : b < 2 ^ 31) (k : W p l e R s m args below meth c H locs cells slots Q (F0 m (pc + 1) ls (.long (lI ((a % b : Nat) : Int)) :: rest))) : W p l e R s m args below meth c H locs cells slots Q (F0 m pc ls (.long (lI (b : Int)) :: .long (lI (a : Int)) :: rest)) := by
  refine lv_lrem hx hb hdg ?_ (x_rwl (y := lI ((a % b : Nat) : Int)) ?_ k)
  · intro q
    have q2 : lN b = lN 0 := q
    rw [lN_eq hb2 (by decide)] at q2
    omega
  · exact pk_lRem (by omega) h0 (by omega)
theorem x_ldiv (hx : p.tables.exec = Jvm.exec) (hb : c.code = cc) {a b : Nat} (hdg : decode cc pc = .ok (.ldiv, 1)) (ha : a < 2 ^ 31) (h0 : 0 < b) (hb2 : b < 2 ^ 31) (k : W p l e R s m args below meth c H locs cells slots Q (F0 m (pc + 1) ls (.long (lI ((a / b : Nat) : Int)) :: rest))) : W p l e R s m args below meth c H locs cells slots Q (F0 m pc ls (.long (lI (b : Int)) :: .long (lI (a : Int)) :: rest)) := by
  refine lv_ldiv hx hb hdg ?_ (x_rwl (y := lI ((a / b : Nat) : Int)) ?_ k)
  · intro q
    have q2 : lN b = lN 0 := q
    rw [lN_eq hb2 (by decide)] at q2
    omega
  · exact pk_lDiv (by omega) h0 (by omega)
end XL
