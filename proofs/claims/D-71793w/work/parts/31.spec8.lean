/-! THE PURE SIDE, 8: sheets and parts -/
set_option maxRecDepth 100000
def fI (I : Nat → Int) (f : Int) : Nat → Int := va_up I 0 f
def rSheet (k so n : Int) : Int := if ¬ (0 ≤ k ∧ k ≤ 3) then -1 else if ¬ (0 ≤ so ∧ so ≤ 2) ∨ 60 < n then -2 else if n < 0 then -14 else 1
def nSheetI (I : Nat → Int) (k so n : Int) : Nat → Int := fI I (if rSheet k so n = -14 then 4 else 0)
def zer (f : Nat → Int) (d n : Nat) : Nat → Int := fun j => if d ≤ j ∧ j < d + n then 0 else f j
def nSheetF (F : Nat → Nat → Int) (k so n : Int) : Nat → Nat → Int := if rSheet k so n = 1 then va_up (va_up (va_up F 2 (va_up (F 2) k.toNat so)) 3 (va_up (F 3) k.toNat n)) 4 (zer (F 4) (60 * k.toNat) 60) else F
theorem zer_0 (f : Nat → Int) (d : Nat) : zer f d 0 = f := by
  funext j
  exact if_neg (by omega)
theorem zer_s (f : Nat → Int) (d n : Nat) : va_up (zer f d n) (d + n) 0 = zer f d (n + 1) := by
  funext j
  unfold zer va_up
  by_cases h : j = d + n
  · rw [if_pos h, if_pos (by omega)]
  · rw [if_neg h]
    dsimp only
    by_cases h2 : d ≤ j ∧ j < d + n
    · rw [if_pos h2, if_pos (by omega)]
    · rw [if_neg h2, if_neg (by omega)]
def rLose (F : Nat → Nat → Int) (k : Int) : Int := if ¬ (0 ≤ k ∧ k ≤ 3) then -1 else if F 2 k.toNat = -9 then 0 else 1
def nLose (F : Nat → Nat → Int) (k : Int) : Nat → Nat → Int := if ¬ (0 ≤ k ∧ k ≤ 3) then F else va_up F 2 (va_up (F 2) k.toNat (-9))
def rPut (F : Nat → Nat → Int) (k i : Int) : Int := if ¬ (0 ≤ k ∧ k ≤ 3) then -1 else if F 2 k.toNat = -9 then -11 else if ¬ (0 ≤ i ∧ i < F 3 k.toNat) then -13 else 1
def nPutI (I : Nat → Int) (F : Nat → Nat → Int) (k i : Int) : Nat → Int := fI I (if rPut F k i = -11 then 1 else if rPut F k i = -13 then 3 else 0)
def nPutF (F : Nat → Nat → Int) (k i v : Int) : Nat → Nat → Int := if rPut F k i = 1 then va_up F 4 (va_up (F 4) (60 * k.toNat + i.toNat) (if F 2 k.toNat = 0 then bB v else if F 2 k.toNat = 1 then bS v else v)) else F
/-- what a look at a cell raises; 0: nothing -/
def eCell (F : Nat → Nat → Int) (k i so : Int) : Int := if ¬ (0 ≤ k ∧ k ≤ 3) ∨ ¬ (0 ≤ so ∧ so ≤ 2) then 0 else if F 2 k.toNat ≠ -9 ∧ F 2 k.toNat ≠ so then 2 else if F 2 k.toNat = -9 then 1 else if ¬ (0 ≤ i ∧ i < F 3 k.toNat) then 3 else 0
def rCell (F : Nat → Nat → Int) (k i so : Int) : Int := if ¬ (0 ≤ k ∧ k ≤ 3) ∨ ¬ (0 ≤ so ∧ so ≤ 2) ∨ eCell F k i so ≠ 0 then -9223372036854775808 else F 4 (60 * k.toNat + i.toNat)
def rCopy (F : Nat → Nat → Int) (k i o j n : Int) : Int := if ¬ (0 ≤ k ∧ k ≤ 3) ∨ ¬ (0 ≤ o ∧ o ≤ 3) then -1 else if F 2 k.toNat = -9 ∨ F 2 o.toNat = -9 then -11 else if F 2 k.toNat ≠ F 2 o.toNat then -12 else if i < 0 ∨ j < 0 ∨ n < 0 ∨ F 3 k.toNat < i + n ∨ F 3 o.toNat < j + n then -13 else n
def nCopyI (I : Nat → Int) (F : Nat → Nat → Int) (k i o j n : Int) : Nat → Int := fI I (if rCopy F k i o j n = -11 then 1 else if rCopy F k i o j n = -12 then 2 else if rCopy F k i o j n = -13 then 3 else 0)
def nCopyF (F : Nat → Nat → Int) (k i o j n : Int) : Nat → Nat → Int := if 0 ≤ rCopy F k i o j n then va_up F 4 (va_cpy (F 4) (F 4) (60 * k.toNat + i.toNat) (60 * o.toNat + j.toNat) n.toNat) else F
theorem cpy_0 (f : Nat → Int) (sp dp : Nat) : va_cpy f f sp dp 0 = f := by
  funext j
  exact if_neg (by omega)
theorem cpy_asc {f : Nat → Int} {sp dp q : Nat} (h : ¬ (dp ≤ sp + q ∧ sp + q < dp + q)) : va_up (va_cpy f f sp dp q) (dp + q) (va_cpy f f sp dp q (sp + q)) = va_cpy f f sp dp (q + 1) := by
  have e : va_cpy f f sp dp q (sp + q) = f (sp + q) := if_neg h
  rw [e]
  funext j
  unfold va_cpy va_up
  by_cases h1 : j = dp + q
  · subst h1
    rw [if_pos rfl, if_pos (by omega)]
    congr 1
    omega
  · rw [if_neg h1]
    dsimp only
    by_cases h2 : dp ≤ j ∧ j < dp + q
    · rw [if_pos h2, if_pos (by omega)]
    · rw [if_neg h2, if_neg (by omega)]
theorem cpy_desc {f : Nat → Int} {sp dp q n : Nat} (hq : q < n) (h : ¬ (dp + (n - q) ≤ sp + (n - (q + 1)) ∧ sp + (n - (q + 1)) < dp + n)) : va_up (va_cpy f f (sp + (n - q)) (dp + (n - q)) q) (dp + (n - (q + 1))) (va_cpy f f (sp + (n - q)) (dp + (n - q)) q (sp + (n - (q + 1)))) = va_cpy f f (sp + (n - (q + 1))) (dp + (n - (q + 1))) (q + 1) := by
  have e : va_cpy f f (sp + (n - q)) (dp + (n - q)) q (sp + (n - (q + 1))) = f (sp + (n - (q + 1))) := if_neg (by omega)
  rw [e]
  funext j
  unfold va_cpy va_up
  by_cases h1 : j = dp + (n - (q + 1))
  · subst h1
    rw [if_pos rfl, if_pos (by omega)]
    congr 1
    omega
  · rw [if_neg h1]
    dsimp only
    by_cases h2 : dp + (n - q) ≤ j ∧ j < dp + (n - q) + q
    · rw [if_pos h2, if_pos (by omega)]
      congr 1
      omega
    · rw [if_neg h2, if_neg (by omega)]
def rTellA (I : Nat → Int) (F : Nat → Nat → Int) (a : Int) : Int := if ¬ (0 ≤ a ∧ a < I 5) then -1 else if F 10 a.toNat = 1 then F 11 a.toNat + 100 else if F 10 a.toNat = 2 then 2 * F 11 a.toNat + 100 else F 11 a.toNat
def tr (t n : Int) : Int := 31 * t + n
def nTellA (I : Nat → Int) (F : Nat → Nat → Int) (a : Int) : Nat → Int := if ¬ (0 ≤ a ∧ a < I 5) then I else va_up I 1 (if F 10 a.toNat = 1 then tr (tr (I 1) 2) 1 else if F 10 a.toNat = 2 then tr (tr (tr (tr (I 1) 3) 2) 1) 1 else tr (I 1) 1)
def rReadA (I : Nat → Int) (F : Nat → Nat → Int) (a : Int) : Int := if ¬ (0 ≤ a ∧ a < I 5) then -1 else if F 10 a.toNat = 2 then F 12 a.toNat + 80 else F 12 a.toNat
def nReadA (I : Nat → Int) (F : Nat → Nat → Int) (a : Int) : Nat → Int := if ¬ (0 ≤ a ∧ a < I 5) then I else va_up I 1 (if F 10 a.toNat = 2 then tr (tr (I 1) 5) 4 else tr (I 1) 4)
def rAs (I : Nat → Int) (F : Nat → Nat → Int) (a so : Int) : Int := if ¬ (0 ≤ a ∧ a < I 5) then -1 else if ¬ (0 ≤ so ∧ so ≤ 2) then -2 else if so ≤ F 10 a.toNat then 1 else -12
def nAs (I : Nat → Int) (F : Nat → Nat → Int) (a so : Int) : Nat → Int := fI I (if rAs I F a so = -12 then 2 else 0)
def rMany (I : Nat → Int) (wh : Int) : Int := if wh = 0 then I 5 else if wh = 1 then I 6 else if wh = 2 then I 7 else if wh = 3 then I 8 else if wh = 4 then I 9 else if wh = 5 then I 29 else -2
section XS
variable {p : Program} {l : Launch} {e : Env} {R : Room} {s : State} {m : MethodId} {args : Array Value} {below : List Frame} {meth : Method} {c : Code} {H : Heap} {locs : List Loc} {cells slots : Nat} {Q : State → Prop}
variable {cc : ByteArray} {pc : Nat} {ls : Array Slot} {rest : List Value}
theorem x_lk (hx : p.tables.exec = Jvm.exec) (hb : c.code = cc) {dflt : Int} {ps : Array (Int × Int)} {len : Nat} {z : Int} {off : Int} {tgt : Nat} (k : Int) (hdg : decode cc pc = .ok (.lookupswitch dflt ps, len)) (hz : z = k) (hr : rg k) (hp : (ps.toList.zip (ps.toList.drop 1)).all (fun (a, next) => a.1 < next.1) = true) (ho : Op.lookupswitch.offset ps.toList dflt k = off) (ht : (pc : Int) + off = (tgt : Int))
    (kk : W p l e R s m args below meth c H locs cells slots Q (F0 m tgt ls rest)) : W p l e R s m args below meth c H locs cells slots Q (F0 m pc ls (.int (iI z) :: rest)) := by
  subst hz
  exact lv_lookup hx hb hdg hp (by rw [iI_toInt hr]; exact ho) ht kk
end XS
