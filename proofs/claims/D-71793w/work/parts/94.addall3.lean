/-! ROW: the left book's list takes all that was told -/
set_option maxRecDepth 100000
theorem lf_cpy {g Ad' : Nat → Nat} {f : Nat → Option Nat} {n : Nat} (h : ∀ k, k < n → Ad' (100 + k) = g (0 + k)) (hf : ∀ j, f j = none) : va_cpy (va_cpy (lfE g 0 (n : Int)) (fun _ => none) 0 0 n) f 0 0 n = lfE Ad' 100 (n : Int) := by
  funext j
  unfold va_cpy lfE
  by_cases q : j < n
  · have e := h j q
    rw [if_pos ⟨Nat.zero_le _, by omega⟩, if_pos ⟨Nat.zero_le _, by omega⟩]
    simp only [Nat.sub_zero, Nat.zero_add] at e ⊢
    rw [if_pos (by omega), if_pos (by omega), e]
  · rw [if_neg (by omega), hf, if_neg (by omega)]
section LB
variable {p : Program} {l : Launch} {e : Env} {R : Room} {s : State} {m : MethodId} {args : Array Value} {below : List Frame} {meth : Method} {c : Code} {H : Heap} {locs : List Loc} {cells slots : Nat} {Q : State → Prop}
variable {cc : ByteArray} {pc nL : Nat} {ls : Array Slot} {rest : List Value} {E : xE} {A : Nat → Prop} {o a ed : Nat} {Ad Ad' : Nat → Nat} {I : Nat → Int} {F : Nat → Nat → Int} {X : xw} {own : String}
theorem xInv.ladd {w W : xw} (h : xInv E o Ad I F w) {n : Nat} {x : Int} {K L B : Nat → Int} {g : Nat → Nat} (h5 : I 5 = 0) (n7 : n ≤ 7) (n1 : 1 ≤ n) (hs : ∀ a e, w a = some e → W a = some e) (hw : ∀ k, k < n → w (g k) = none) (hW : ∀ k, k < n → W (g k) = some (plE o (K k) (L k) (B k))) (hi : ∀ k k', k < n → k' < n → g k = g k' → k = k') (hd30 : Ad' 30 = Ad 30 ∧ ¬ I 43 = 0 ∨ (I 43 = 0 ∧ W (Ad' 30) = none)) (hA : ∀ j, j ≠ 30 → Ad' j = adN Ad 100 n g j) : xInv E o Ad' (lfI1 I x n) (lfF1 F K L B) (va_up (va_up W (Ad' 30) (some (xR E 3 10 (lfE Ad' 100 (n : Int))))) (Ad 4) (some (xO 18 [.int (iI x), .ref (Ad' 30), .int (iI (n : Int))]))) := by
  obtain ⟨h0, h1, h2, h3⟩ := h
  have hA2 : ∀ j, j ≠ 30 → (j < 100 ∨ 100 + n ≤ j) → Ad' j = Ad j := fun j hj hj2 => (hA j hj).trans (adN_o hj2)
  have hA3 : ∀ k, k < n → Ad' (100 + k) = g k := fun k hk => (hA _ (by omega)).trans (adN_i hk)
  refine ⟨by rw [hA2 0 (by omega) (by omega)]; exact h0, ?_, fun z => absurd (show (1 : Int) = 0 from z) (by decide), by rw [hA2 31 (by omega) (by omega)]; exact h3⟩
  have fin : ∀ (C1 : Nat → Option xX), (∀ r, r < 100 ∨ 100 + n ≤ r → C1 r = C0 E Ad I F r) → (∀ k, k < n → C1 (100 + k) = some (plE o (K k) (L k) (B k))) → ∀ r y, C0 E Ad' (lfI1 I x n) (lfF1 F K L B) r = some y → va_up (va_up C1 30 (some (xR E 3 10 (lfE Ad' 100 (n : Int))))) 4 (some (xO 18 [.int (iI x), .ref (Ad' 30), .int (iI (n : Int))])) r = some y := by
    intro C1 c1 c2 r y hr
    by_cases g1 : r = 4
    · subst g1
      rw [va_up_s]
      exact hr
    · rw [va_up_n _ _ g1]
      by_cases g2 : r = 30
      · subst g2
        rw [va_up_s]
        rw [C0_30, show lfI1 I x n 43 = 1 from rfl, if_neg (by decide)] at hr
        exact hr
      · rw [va_up_n _ _ g2]
        by_cases g3 : r < 100 ∨ 100 + n ≤ r
        · rw [c1 r g3]
          exact C0_ladd n7 hA2 r y g1 g2 g3 hr
        · obtain ⟨k, hk, rfl⟩ : ∃ k, k < n ∧ r = 100 + k := ⟨r - 100, by omega, by omega⟩
          rw [c2 k hk]
          rw [C0_pl (I := lfI1 I x n) (show (k : Int) < (n : Int) by omega) (show (n : Int) ≤ 7 by omega), hA2 0 (by omega) (by omega), h0] at hr
          exact hr
  let C1 : Nat → Option xX := fun r => if 100 ≤ r ∧ r < 100 + n then some (plE o (K (r - 100)) (L (r - 100)) (B (r - 100))) else C0 E Ad I F r
  have c1 : ∀ r, r < 100 ∨ 100 + n ≤ r → C1 r = C0 E Ad I F r := fun r hr => if_neg (by omega)
  have c2 : ∀ k, k < n → C1 (100 + k) = some (plE o (K k) (L k) (B k)) := fun k hk => by
    show (if _ then _ else _) = _
    rw [if_pos (by omega), show 100 + k - 100 = k by omega]
  have rb : rW (adN Ad 100 n g) C1 W := h1.batch hs hw hW hi (fun r hr => adN_o hr) (fun k hk => adN_i hk) (fun r e hr hc => by rw [c1 r hr] at hc; exact hc) (fun k e hk hc => by rw [c2 k hk] at hc; injection hc with hc; exact hc.symm)
  have c4 : C1 4 = some (xO 18 [.int (iI (I 41)), .ref (Ad 30), .int (iI (I 5))]) := (c1 4 (by omega)).trans C0_4
  have a4 : adN Ad 100 n g 4 = Ad 4 := adN_o (by omega)
  rcases hd30 with ⟨d1, d2⟩ | ⟨d1, d2⟩
  · have e30 : Ad' = adN Ad 100 n g := by
      funext j
      by_cases q : j = 30
      · rw [q, d1, adN_o (by omega)]
      · exact hA j q
    have r1 := rb.put (r := 30) (e0 := xR E 3 10 (lfE Ad 100 (I 5))) (by rw [c1 30 (by omega), C0_30, if_neg d2]) (xR E 3 10 (lfE Ad' 100 (n : Int)))
    have r2 := r1.put (r := 4) (by rw [va_up_n _ _ (by decide)]; exact c4) (xO 18 [.int (iI x), .ref (Ad' 30), .int (iI (n : Int))])
    rw [← e30] at r2
    rw [hA2 4 (by omega) (by omega)] at r2
    exact r2.mono (fin C1 c1 c2)
  · have e30 : Ad' = va_up (adN Ad 100 n g) 30 (Ad' 30) := by
      funext j
      by_cases q : j = 30
      · rw [q, va_up_s]
      · rw [va_up_n _ _ q]
        exact hA j q
    have r1 := rb.new d2 30 (xR E 3 10 (lfE Ad' 100 (n : Int)))
    have r2 := r1.put (r := 4) (by rw [va_up_n _ _ (by decide)]; exact c4) (xO 18 [.int (iI x), .ref (Ad' 30), .int (iI (n : Int))])
    rw [← e30] at r2
    rw [hA2 4 (by omega) (by omega)] at r2
    exact r2.mono (fin C1 c1 c2)
end LB
