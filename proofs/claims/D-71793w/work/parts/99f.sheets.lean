/-! THE SHEETS: roles 19, 300 + k, 310 + k; contracts of x's world that may throw -/
set_option maxRecDepth 100000
theorem C0_sh {E : xE} {Ad : Nat → Nat} {I : Nat → Int} {F : Nat → Nat → Int} {k : Nat} (hk : k < 4) (hs : F 2 k ≠ -9) : C0 E Ad I F (300 + k) = some (xO 15 [.ref (Ad (310 + k))]) := by
  unfold C0
  rw [if_neg (by omega), if_neg (by omega), if_neg (by omega), if_neg (by omega), if_neg (by omega), if_neg (by omega), if_neg (by omega), if_pos (by omega), show 300 + k - 300 = k by omega, if_pos ⟨by omega, hs⟩, show 300 + k + 10 = 310 + k by omega]
theorem C0_row {E : xE} {Ad : Nat → Nat} {I : Nat → Int} {F : Nat → Nat → Int} {k : Nat} (hk : k < 4) (hs : F 2 k ≠ -9) : C0 E Ad I F (310 + k) = some (rowE E (F 2 k) (F 3 k) (rowF F k)) := by
  unfold C0
  rw [if_neg (by omega), if_neg (by omega), if_neg (by omega), if_neg (by omega), if_neg (by omega), if_neg (by omega), if_neg (by omega), if_neg (by omega), show 310 + k - 310 = k by omega, if_pos ⟨by omega, hs⟩]
/-- the sheets' places in their array -/
abbrev shA (Ad : Nat → Nat) (F : Nat → Nat → Int) : Nat → Option Nat := fun k => if F 2 k = -9 then none else some (Ad (300 + k))
theorem C0_19 {E : xE} {Ad : Nat → Nat} {I : Nat → Int} {F : Nat → Nat → Int} : C0 E Ad I F 19 = some (xR E 6 4 (shA Ad F)) := rfl
/-- roles that the sheets don't touch -/
theorem C0_S {E : xE} {Ad : Nat → Nat} {I : Nat → Int} {F F' : Nat → Nat → Int} (h : ∀ j, j ≠ 2 → j ≠ 3 → j ≠ 4 → F' j = F j) : ∀ r, r < 300 → r ≠ 19 → C0 E Ad I F' r = C0 E Ad I F r := by
  intro r hr h19
  have e10 := h 10 (by decide) (by decide) (by decide)
  have e11 := h 11 (by decide) (by decide) (by decide)
  have e12 := h 12 (by decide) (by decide) (by decide)
  have e30 := h 30 (by decide) (by decide) (by decide)
  have e31 := h 31 (by decide) (by decide) (by decide)
  have e13 := h 13 (by decide) (by decide) (by decide)
  have e14 := h 14 (by decide) (by decide) (by decide)
  have e33 := h 33 (by decide) (by decide) (by decide)
  have e34 := h 34 (by decide) (by decide) (by decide)
  have e21 := h 21 (by decide) (by decide) (by decide)
  have e22 := h 22 (by decide) (by decide) (by decide)
  have e23 := h 23 (by decide) (by decide) (by decide)
  have e28 := h 28 (by decide) (by decide) (by decide)
  unfold C0
  by_cases q : r < 50
  · rw [if_pos q, if_pos q]
    unfold C0a
    split
    all_goals first | rfl | (rw [e13]) | (rw [e14]) | (rw [e33]) | (rw [e34]) | (rw [e21]) | (rw [e22]) | (rw [e23]) | (rw [e28]) | exact absurd rfl h19
  · rw [if_neg q, if_neg q, e10, e11, e12, e30, e31]
    repeat' split
    all_goals first | rfl | omega
/-- a row's cells change -/
theorem xInv.row {E : xE} {o : Nat} {Ad : Nat → Nat} {I : Nat → Int} {F : Nat → Nat → Int} {w : xw} (h : xInv E o Ad I F w) {k : Nat} (hk : k < 4) (hs : F 2 k ≠ -9) (h60 : ∀ k, k < 4 → F 3 k ≤ 60) (f4 : Nat → Int) (ho : ∀ k' j, k' < 4 → k' ≠ k → j < 60 → f4 (60 * k' + j) = F 4 (60 * k' + j)) : xInv E o Ad I (va_up F 4 f4) (va_up w (Ad (310 + k)) (some (rowE E (F 2 k) (F 3 k) (rowF (va_up F 4 f4) k)))) := by
  obtain ⟨h0, h1, h2, h3⟩ := h
  refine ⟨h0, (h1.put (C0_row hk hs) (rowE E (F 2 k) (F 3 k) (rowF (va_up F 4 f4) k))).mono fun r e hr => ?_, h2, h3⟩
  by_cases q : r = 310 + k
  · subst q
    rw [va_up_s]
    rw [C0_row (F := va_up F 4 f4) hk hs] at hr
    exact hr
  · rw [va_up_n _ _ q]
    by_cases q2 : r < 310
    · by_cases q3 : r < 300
      · by_cases q4 : r = 19
        · subst q4; exact hr
        · rw [C0_S (F := F) (F' := va_up F 4 f4) (fun j _ _ h4 => va_up_n _ _ h4) r q3 q4] at hr
          exact hr
      · unfold C0 at hr ⊢
        rw [if_neg (by omega), if_neg (by omega), if_neg (by omega), if_neg (by omega), if_neg (by omega), if_neg (by omega), if_neg (by omega), if_pos q2] at hr ⊢
        exact hr
    · unfold C0 at hr ⊢
      rw [if_neg (by omega), if_neg (by omega), if_neg (by omega), if_neg (by omega), if_neg (by omega), if_neg (by omega), if_neg (by omega), if_neg q2] at hr ⊢
      by_cases c : r < 314 ∧ F 2 (r - 310) ≠ -9
      · rw [if_pos c]
        rw [if_pos (show r < 314 ∧ va_up F 4 f4 2 (r - 310) ≠ -9 from c)] at hr
        rw [← hr]
        congr 1
        show rowE E (F 2 (r - 310)) (F 3 (r - 310)) _ = rowE E (F 2 (r - 310)) (F 3 (r - 310)) _
        congr 1
        funext j
        unfold rowF
        show (if (j : Int) < F 3 (r - 310) then F 4 (60 * (r - 310) + j) else 0) = (if (j : Int) < F 3 (r - 310) then f4 (60 * (r - 310) + j) else 0)
        by_cases g : (j : Int) < F 3 (r - 310)
        · rw [if_pos g, if_pos g]
          have := h60 (r - 310) (by omega)
          exact (ho (r - 310) j (by omega) (by omega) (by omega)).symm
        · rw [if_neg g, if_neg g]
      · rw [if_neg (show ¬ (r < 314 ∧ va_up F 4 f4 2 (r - 310) ≠ -9) from c)] at hr
        cases hr
/-- a sheet is lost -/
theorem xInv.shN {E : xE} {o : Nat} {Ad : Nat → Nat} {I : Nat → Int} {F : Nat → Nat → Int} {w : xw} (h : xInv E o Ad I F w) {k : Nat} (hk : k < 4) : xInv E o Ad I (va_up F 2 (va_up (F 2) k (-9))) (va_up w (Ad 19) (some (xR E 6 4 (va_up (shA Ad F) k none)))) := by
  obtain ⟨h0, h1, h2, h3⟩ := h
  refine ⟨h0, (h1.put (r := 19) C0_19 (xR E 6 4 (va_up (shA Ad F) k none))).mono fun r e hr => ?_, h2, h3⟩
  have e2 : ∀ j, va_up F 2 (va_up (F 2) k (-9)) 2 j = va_up (F 2) k (-9) j := fun j => rfl
  by_cases q : r = 19
  · subst q
    rw [va_up_s]
    rw [C0_19] at hr
    rw [← hr]
    have hf : va_up (shA Ad F) k none = shA Ad (va_up F 2 (va_up (F 2) k (-9))) := by
      funext j
      by_cases g : j = k
      · subst g
        rw [va_up_s]
        show none = if va_up (F 2) j (-9) j = -9 then none else _
        rw [va_up_s, if_pos rfl]
      · rw [va_up_n _ _ g]
        show (if F 2 j = -9 then none else _) = if va_up (F 2) k (-9) j = -9 then none else _
        rw [va_up_n _ _ g]
    rw [hf]
  · rw [va_up_n _ _ q]
    by_cases q3 : r < 300
    · rw [C0_S (F := F) (F' := va_up F 2 (va_up (F 2) k (-9))) (fun j h2 _ _ => va_up_n _ _ h2) r q3 q] at hr
      exact hr
    · have hn : ∀ j, va_up (F 2) k (-9) j ≠ -9 → va_up (F 2) k (-9) j = F 2 j := fun j hj => by
        by_cases g : j = k
        · subst g
          rw [va_up_s] at hj
          exact absurd rfl hj
        · exact va_up_n _ _ g
      unfold C0 at hr ⊢
      rw [if_neg (by omega), if_neg (by omega), if_neg (by omega), if_neg (by omega), if_neg (by omega), if_neg (by omega), if_neg q3] at hr ⊢
      by_cases q2 : r < 310
      · rw [if_pos q2] at hr ⊢
        by_cases c : r < 304 ∧ va_up F 2 (va_up (F 2) k (-9)) 2 (r - 300) ≠ -9
        · rw [if_pos c] at hr
          have e1 := hn _ c.2
          have c2 : F 2 (r - 300) ≠ -9 := by rw [← e1]; exact c.2
          rw [if_pos ⟨c.1, c2⟩]
          exact hr
        · rw [if_neg c] at hr
          cases hr
      · rw [if_neg q2] at hr ⊢
        by_cases c : r < 314 ∧ va_up F 2 (va_up (F 2) k (-9)) 2 (r - 310) ≠ -9
        · rw [if_pos c] at hr
          have e1 := hn _ c.2
          have c2 : F 2 (r - 310) ≠ -9 := by rw [← e1]; exact c.2
          rw [if_pos ⟨c.1, c2⟩, ← e1]
          exact hr
        · rw [if_neg c] at hr
          cases hr
/-- the state behind a new sheet -/
def shF (F : Nat → Nat → Int) (k : Nat) (ln n : Int) : Nat → Nat → Int := va_up (va_up (va_up F 2 (va_up (F 2) k ln)) 3 (va_up (F 3) k n)) 4 (zer (F 4) (60 * k) 60)
theorem shF_2 (F : Nat → Nat → Int) (k : Nat) (ln n : Int) : shF F k ln n 2 = va_up (F 2) k ln := rfl
theorem shF_3 (F : Nat → Nat → Int) (k : Nat) (ln n : Int) : shF F k ln n 3 = va_up (F 3) k n := rfl
theorem shF_4 (F : Nat → Nat → Int) (k : Nat) (ln n : Int) : shF F k ln n 4 = zer (F 4) (60 * k) 60 := rfl
theorem shF_o (F : Nat → Nat → Int) (k : Nat) (ln n : Int) (j : Nat) (h2 : j ≠ 2) (h3 : j ≠ 3) (h4 : j ≠ 4) : shF F k ln n j = F j := by
  unfold shF
  rw [va_up_n _ _ h4, va_up_n _ _ h3, va_up_n _ _ h2]
theorem rowF_new {F : Nat → Nat → Int} {k : Nat} {ln n : Int} (hn : n ≤ 60) : rowF (shF F k ln n) k = fun _ => 0 := by
  funext j
  unfold rowF
  rw [shF_3, shF_4, va_up_s]
  by_cases g : (j : Int) < n
  · rw [if_pos g]
    unfold zer
    rw [if_pos (by omega)]
  · rw [if_neg g]
theorem rowF_old {F : Nat → Nat → Int} {k k' : Nat} {ln n : Int} (h : k' ≠ k) (h60 : F 3 k' ≤ 60) : rowF (shF F k ln n) k' = rowF F k' := by
  funext j
  unfold rowF
  rw [shF_3, shF_4, va_up_n _ _ h]
  by_cases g : (j : Int) < F 3 k'
  · rw [if_pos g, if_pos g]
    unfold zer
    rw [if_neg (by omega)]
  · rw [if_neg g, if_neg g]
/-- the roles' addresses behind a new sheet -/
def shAd (Ad : Nat → Nat) (k t a : Nat) : Nat → Nat := va_up (va_up Ad (300 + k) t) (310 + k) a
theorem C0_ren {E : xE} {Ad Ad' : Nat → Nat} {I : Nat → Int} {F : Nat → Nat → Int} (h5 : I 5 ≤ 7) (h29 : I 29 ≤ 8) (hA : ∀ j, j < 300 → Ad' j = Ad j) : ∀ r, r < 300 → r ≠ 19 → C0 E Ad' I F r = C0 E Ad I F r := by
  intro r hr h19
  unfold C0
  by_cases q1 : r < 50
  · rw [if_pos q1, if_pos q1]
    unfold C0a
    split
    · show some (xO 0 [.ref (Ad' 1), .ref (Ad' 2), .int (iI (I 1)), .ref (Ad' 4), .int (iI (I 6)), .ref (Ad' 6), .ref (Ad' 7), .int (iI (I 7)), .int (iI (I 8)), .int (iI (I 9)), .ref (Ad' 11), .ref (Ad' 12), .ref (Ad' 13), .ref (Ad' 14), .ref (Ad' 15), .ref (Ad' 16), .ref (Ad' 17), .int (iI (I 0)), .ref (Ad' 19)]) = _
      rw [hA 1 (by omega), hA 2 (by omega), hA 4 (by omega), hA 6 (by omega), hA 7 (by omega), hA 11 (by omega), hA 12 (by omega), hA 13 (by omega), hA 14 (by omega), hA 15 (by omega), hA 16 (by omega), hA 17 (by omega), hA 19 (by omega)]
    · congr 2
      funext j
      by_cases g : j < 5
      · rw [if_pos g, if_pos g, hA _ (by omega)]
      · rw [if_neg g, if_neg g]
    · congr 2
      funext j
      by_cases g : j < 3
      · rw [if_pos g, if_pos g, hA _ (by omega)]
      · rw [if_neg g, if_neg g]
    · rw [hA 30 (by omega)]
    · rfl
    · rfl
    · rfl
    · rfl
    · rfl
    · rfl
    · rfl
    · rfl
    · rw [hA 31 (by omega)]
    · exact absurd rfl h19
    · split
      · rfl
      · congr 2
        funext j
        by_cases g : (j : Int) < I 5
        · rw [if_pos g, if_pos g, hA _ (by omega)]
        · rw [if_neg g, if_neg g]
    · split
      · rfl
      · congr 2
        funext j
        by_cases g : (j : Int) < I 29
        · rw [if_pos g, if_pos g, hA _ (by omega)]
        · rw [if_neg g, if_neg g]
    · rfl
  · rw [if_neg q1, if_neg q1, hA 0 (by omega)]
    by_cases q2 : r < 60
    · rw [if_pos q2, if_pos q2, hA _ (by omega)]
    · rw [if_neg q2, if_neg q2]
      by_cases q3 : r < 70
      · rw [if_pos q3, if_pos q3, hA _ (by omega)]
      · rw [if_neg q3, if_neg q3]
        by_cases q4 : r < 80
        · rw [if_pos q4, if_pos q4]
        · rw [if_neg q4, if_neg q4]
          by_cases q5 : r < 100
          · rw [if_pos q5, if_pos q5]
          · rw [if_neg q5, if_neg q5]
            by_cases q6 : r < 200
            · rw [if_pos q6, if_pos q6]
            · rw [if_neg q6, if_neg q6, if_pos hr, if_pos hr]
theorem xInv.shP {E : xE} {o : Nat} {Ad : Nat → Nat} {I : Nat → Int} {F : Nat → Nat → Int} {w : xw} (h : xInv E o Ad I F w) {k t a : Nat} {ln n : Int} (hk : k < 4) (h60 : ∀ k, k < 4 → F 3 k ≤ 60) (h5 : I 5 ≤ 7) (h29 : I 29 ≤ 8) (hn : n ≤ 60) (hln : 0 ≤ ln) (ht : w t = none) (ha : w a = none) (hta : a ≠ t) :
    xInv E o (shAd Ad k t a) I (shF F k ln n) (va_up (va_up (va_up w t (some (xO 15 [.ref a]))) a (some (rowE E ln n (fun _ => 0)))) (Ad 19) (some (xR E 6 4 (shA (shAd Ad k t a) (shF F k ln n))))) := by
  obtain ⟨h0, h1, h2, h3⟩ := h
  have hlow : ∀ r, r ≠ 300 + k → r ≠ 310 + k → shAd Ad k t a r = Ad r := fun r g1 g2 => by
    unfold shAd
    rw [va_up_n _ _ g2, va_up_n _ _ g1]
  have hS : shAd Ad k t a (300 + k) = t := by
    unfold shAd
    rw [va_up_n _ _ (by omega), va_up_s]
  have hR : shAd Ad k t a (310 + k) = a := va_up_s _ _ _
  have r1 := h1.new ht (300 + k) (xO 15 [.ref a])
  have r2 := r1.new (q := a) (by rw [va_up_n _ _ hta]; exact ha) (310 + k) (rowE E ln n (fun _ => 0))
  have r3 := r2.put (r := 19) (e0 := xR E 6 4 (shA Ad F)) (by rw [va_up_n _ _ (by omega), va_up_n _ _ (by omega)]; exact C0_19) (xR E 6 4 (shA (shAd Ad k t a) (shF F k ln n)))
  have e19 : va_up (va_up Ad (300 + k) t) (310 + k) a 19 = Ad 19 := hlow 19 (by omega) (by omega)
  rw [e19] at r3
  refine ⟨by rw [hlow 0 (by omega) (by omega)]; exact h0, r3.mono fun r e hr => ?_, by rw [hlow 30 (by omega) (by omega)]; exact h2, by rw [hlow 31 (by omega) (by omega)]; exact h3⟩
  by_cases g19 : r = 19
  · subst g19
    rw [va_up_s]
    rw [C0_19] at hr
    exact hr
  · rw [va_up_n _ _ g19]
    by_cases q3 : r < 300
    · rw [C0_S (F := F) (F' := shF F k ln n) (fun j h2 h3 h4 => shF_o F k ln n j h2 h3 h4) r q3 g19, C0_ren h5 h29 (fun j hj => hlow j (by omega) (by omega)) r q3 g19] at hr
      rw [va_up_n _ _ (by omega), va_up_n _ _ (by omega)]
      exact hr
    · by_cases gS : r = 300 + k
      · subst gS
        rw [va_up_n _ _ (by omega), va_up_s]
        rw [C0_sh hk (by rw [shF_2, va_up_s]; omega), hR] at hr
        exact hr
      · by_cases gR : r = 310 + k
        · subst gR
          rw [va_up_s]
          rw [C0_row hk (by rw [shF_2, va_up_s]; omega), rowF_new hn, shF_2, shF_3, va_up_s, va_up_s] at hr
          exact hr
        · rw [va_up_n _ _ gR, va_up_n _ _ gS]
          unfold C0 at hr ⊢
          rw [if_neg (by omega), if_neg (by omega), if_neg (by omega), if_neg (by omega), if_neg (by omega), if_neg (by omega), if_neg q3] at hr ⊢
          rw [shF_2, shF_3] at hr
          by_cases q2 : r < 310
          · rw [if_pos q2] at hr ⊢
            rw [va_up_n _ _ (show r - 300 ≠ k by omega)] at hr
            by_cases c : r < 304 ∧ F 2 (r - 300) ≠ -9
            · rw [if_pos c] at hr ⊢
              rw [hlow (r + 10) (by omega) (by omega)] at hr
              exact hr
            · rw [if_neg c] at hr
              cases hr
          · rw [if_neg q2] at hr ⊢
            rw [va_up_n _ _ (show r - 310 ≠ k by omega), va_up_n _ _ (show r - 310 ≠ k by omega)] at hr
            by_cases c : r < 314 ∧ F 2 (r - 310) ≠ -9
            · rw [if_pos c] at hr ⊢
              rw [rowF_old (by omega) (h60 _ (by omega))] at hr
              exact hr
            · rw [if_neg c] at hr
              cases hr
theorem shA_new {Ad : Nat → Nat} {F : Nat → Nat → Int} {k t a : Nat} {ln n : Int} (hk : k < 4) (hln : 0 ≤ ln) : ∀ j, j < 4 → va_up (shA Ad F) k (some t) j = shA (shAd Ad k t a) (shF F k ln n) j := by
  intro j hj
  show _ = if shF F k ln n 2 j = -9 then none else some (shAd Ad k t a (300 + j))
  rw [shF_2]
  unfold shAd
  rw [va_up_n _ _ (show 300 + j ≠ 310 + k by omega)]
  by_cases g : j = k
  · subst g
    rw [va_up_s, va_up_s, va_up_s, if_neg (by omega)]
  · rw [va_up_n _ _ g, va_up_n _ _ g, va_up_n _ _ (by omega)]
theorem arrV_congr (cI : ClassId) (N : Nat) {f g : Nat → Value} (h : ∀ j, j < N → f j = g j) : arrV cI N f = arrV cI N g := by
  unfold arrV
  have e : (fun j : Fin N => f j.val) = (fun j : Fin N => g j.val) := funext fun j => h j.val j.isLt
  rw [e]
theorem xB.arrR {E : xE} {A : Nat → Prop} {s : State} {w : xw} {H : Heap} {locs : List Loc} (h : xB E A s w H locs) {a t n : Nat} {f g : Nat → Option Nat} (ha : w a = some (xR E t n f)) (hfg : ∀ j, j < n → f j = g j) : xB E A s (va_up w a (some (xR E t n g))) H locs := by
  obtain ⟨hP, hD, hS, hA⟩ := h
  have h1 := hP a _ ha
  refine ⟨fun q e hq => ?_, fun q e hq => ?_, hS, hA⟩
  · by_cases g1 : q = a
    · subst g1
      rw [va_up_s] at hq
      cases hq
      show H[q]? = some (vp_cell (E.2 t) (n, .inr (.inr (.inr (.inr g)))))
      have h2 : H[q]? = some (vp_cell (E.2 t) (n, .inr (.inr (.inr (.inr f))))) := h1
      rw [h2, vp_cell_q, vp_cell_q]
      congr 1
      exact arrV_congr _ _ (fun j hj => by rw [hfg j hj])
    · rw [va_up_n _ _ g1] at hq
      exact hP q e hq
  · by_cases g1 : q = a
    · subst g1
      exact hD q _ ha
    · rw [va_up_n _ _ g1] at hq
      exact hD q e hq
theorem xB.forget {E : xE} {A : Nat → Prop} {s : State} {w w1 : xw} {H : Heap} {locs : List Loc} (h : xB E A s w1 H locs) (hk : ∀ a e, w a = some e → w1 a = some e) : xB E A s w H locs := ⟨fun a e ha => h.1 a e (hk a e ha), fun a e ha => h.2.1 a e (hk a e ha), h.2.2.1, h.2.2.2⟩
/-! ## contracts of x's world that may throw -/
def bX (E : xE) (o : Nat) (px : String → (Nat → Nat) → (Nat → Int) → (Nat → Nat → Int) → xw → Prop) : String → xw → Prop := fun En w' => ∃ (Ad' : Nat → Nat) (I' : Nat → Int) (F' : Nat → Nat → Int) (X' w1 : xw), xInv E o Ad' I' F' w1 ∧ wD w1 X' ∧ w' = wU w1 X' ∧ px En Ad' I' F' X'
abbrev yi_ (l : Launch) (E : xE) (y : MethodName) (ws : List Cond) (rf rl mc ms : Nat) (av : List Value) (o : Nat) (Ad : Nat → Nat) (I : Nat → Int) (F : Nat → Nat → Int) (X : xw) (post : Int → (Nat → Nat) → (Nat → Int) → (Nat → Nat → Int) → xw → Prop) (px : String → (Nat → Nat) → (Nat → Int) → (Nat → Nat → Int) → xw → Prop) : Prop := ∀ w : xw, xInv E o Ad I F w → wD w X → xi_ l E y ws rf rl mc ms av (wU w X) (bQ E o post) (bX E o px)
abbrev zi_ (l : Launch) (E : xE) (y : MethodName) (ws : List Cond) (rf rl mc ms : Nat) (av : List Value) (o : Nat) (Ad : Nat → Nat) (I : Nat → Int) (F : Nat → Nat → Int) (X : xw) (post : Int → (Nat → Nat) → (Nat → Int) → (Nat → Nat → Int) → xw → Prop) : Prop := ∀ w : xw, xInv E o Ad I F w → wD w X → xi_ l E y ws rf rl mc ms av (wU w X) (bQ E o post) nx
abbrev zl_ (l : Launch) (E : xE) (y : MethodName) (ws : List Cond) (rf rl mc ms : Nat) (av : List Value) (o : Nat) (Ad : Nat → Nat) (I : Nat → Int) (F : Nat → Nat → Int) (X : xw) (post : Int → (Nat → Nat) → (Nat → Int) → (Nat → Nat → Int) → xw → Prop) : Prop := ∀ w : xw, xInv E o Ad I F w → wD w X → xl_ l E y ws rf rl mc ms av (wU w X) (bQ E o post) nx
section SH
variable {p : Program} {l : Launch} {e : Env} {R : Room} {s : State} {m : MethodId} {args : Array Value} {below : List Frame} {meth : Method} {c : Code} {H : Heap} {locs : List Loc} {cells slots mc ms : Nat} {Q : State → Prop}
variable {cc : ByteArray} {pc nL : Nat} {ls : Array Slot} {rest st0 : List Value} {E : xE} {A : Nat → Prop} {o : Nat} {Ad : Nat → Nat} {I : Nat → Int} {F : Nat → Nat → Int} {X : xw} {own : String} {a : Array Value}
theorem b_callXi (c2 s2 : Nat) (h1 : cells + mc ≤ c2) (h2 : slots + ms ≤ s2) (hB : xBB E A s o Ad I F X H locs) {post : Int → (Nat → Nat) → (Nat → Int) → (Nat → Nat → Int) → xw → Prop} {px : String → (Nat → Nat) → (Nat → Int) → (Nat → Nat → Int) → xw → Prop} (hr : ∀ w, xInv E o Ad I F w → wD w X → xB E A s (wU w X) H locs → vx_Run p l e R s m args below meth c H locs cells slots mc ms (F0 m pc ls st0) rest (va_Qi (gQi (bQ E o post)) (xEnd E (xA (wU w X) H.size)) (xA (wU w X) H.size) a) (gXC E (wU w X) H.size (bX E o px)) (xA (wU w X) H.size))
    (kx : ∀ (En : String) (q9 : Nat) (Ad1 : Nat → Nat) (I1 : Nat → Int) (F1 : Nat → Nat → Int) (X1 : xw) (H1 : Heap) (locs1 : List Loc), px En Ad1 I1 F1 X1 → xBB E A s o Ad1 I1 F1 X1 H1 locs1 → xEx En s H1 q9 → vx_W p l e R s m args below meth c H1 locs1 c2 s2 Q (F0 m pc ls rest) q9)
    (kk : ∀ (z : Int) (Ad1 : Nat → Nat) (I1 : Nat → Int) (F1 : Nat → Nat → Int) (X1 : xw) (H1 : Heap) (locs1 : List Loc), rg z → post z Ad1 I1 F1 X1 → xBB E A s o Ad1 I1 F1 X1 H1 locs1 → W p l e R s m args below meth c H1 locs1 c2 s2 Q (F0 m (pc + 3) ls (.int (iI z) :: rest))) : W p l e R s m args below meth c H locs cells slots Q (F0 m pc ls st0) := by
  obtain ⟨w, hI, hd, hB⟩ := hB
  refine g_callXi c2 s2 h1 h2 hB (hr w hI hd hB) (fun En q9 w1 H1 locs1 hp hB hE => ?_) (fun z w1 H1 locs1 hz hp hB => ?_)
  · obtain ⟨Ad1, I1, F1, X1, w2, hI1, hd1, rfl, hp⟩ := hp
    exact kx En q9 Ad1 I1 F1 X1 H1 locs1 hp ⟨w2, hI1, hd1, hB⟩ hE
  · obtain ⟨Ad1, I1, F1, X1, w2, hI1, hd1, rfl, hp⟩ := hp
    exact kk z Ad1 I1 F1 X1 H1 locs1 hz hp ⟨w2, hI1, hd1, hB⟩
theorem b_out {w0 : xw} {sz pc : Nat} {En : String} {q9 : Nat} {px : String → (Nat → Nat) → (Nat → Int) → (Nat → Nat → Int) → xw → Prop} {Qc : Array Value → State → Outcome → State → Prop} (hB : xBB E (xA w0 sz) s o Ad I F X H locs) (hE : xEx En s H q9) (hout : ∀ x ∈ c.exceptionTable.toList, False) (hlocks : meth.locks = false) (hp : px En Ad I F X) (h1 : cells ≤ mc) (h2 : slots ≤ ms) : vx_W p l e R s m args below meth c H locs cells slots (vx_MQ below Qc (gXC E w0 sz (bX E o px)) args s mc ms (xA w0 sz)) (F0 m pc ls rest) q9 := by
  obtain ⟨w, hI, hd, hB⟩ := hB
  exact e_out hB hE hout hlocks ⟨Ad, I, F, X, w, hI, hd, rfl, hp⟩ h1 h2
/-! ## the sheets' rows of the machine -/
/-- sheets[k] = null -/
theorem b_shnull (C : xC E p s m args c cc nL own) (hB : xBB E A s o Ad I F X H locs) {z : Int} (k : Nat) (hz : z = (k : Int)) (hk : k < 4) (hdg : decode cc pc = .ok (.aastore, 1))
    (kk : ∀ (H1 : Heap) (locs1 : List Loc), xBB E A s o Ad I (va_up F 2 (va_up (F 2) k (-9))) X H1 locs1 → W p l e R s m args below meth c H1 locs1 cells slots Q (F0 m (pc + 1) ls rest)) : W p l e R s m args below meth c H locs cells slots Q (F0 m pc ls (.null :: .int (iI z) :: .ref (Ad 19) :: rest)) := by
  obtain ⟨w, hI, hd, hB⟩ := hB
  have h19 := hI.at (r := 19) C0_19
  refine x_aastN C hB 6 rfl (wU_l h19) k hz hk (by decide) hdg (fun H1 locs1 h => ?_)
  rw [wU_up_l] at h
  exact kk H1 locs1 ⟨_, hI.shN hk, hd.put_l h19, h⟩
/-- sheets[k] = a new sheet with a new row -/
theorem b_shput (C : xC E p s m args c cc nL own) (hB : xBB E A s o Ad I F X H locs) {z ln n : Int} (k : Nat) (hz : z = (k : Int)) (hk : k < 4) (h60 : ∀ k, k < 4 → F 3 k ≤ 60) (h5 : I 5 ≤ 7) (h29 : I 29 ≤ 8) (hn : n ≤ 60) (hln : 0 ≤ ln) {t q : Nat} (ht : X t = some (xO 15 [.ref q])) (hq : X q = some (rowE E ln n (fun _ => 0))) (hqt : q ≠ t) (hdg : decode cc pc = .ok (.aastore, 1))
    (kk : ∀ (H1 : Heap) (locs1 : List Loc) (X1 : xw), xBB E A s o (shAd Ad k t q) I (shF F k ln n) X1 H1 locs1 → W p l e R s m args below meth c H1 locs1 cells slots Q (F0 m (pc + 1) ls rest)) : W p l e R s m args below meth c H locs cells slots Q (F0 m pc ls (.ref t :: .int (iI z) :: .ref (Ad 19) :: rest)) := by
  obtain ⟨w, hI, hd, hB⟩ := hB
  have h19 := hI.at (r := 19) C0_19
  have hnone : ∀ a e, X a = some e → w a = none := fun a e ha => by
    cases g : w a with
    | none => rfl
    | some x => rw [hd a x g] at ha; cases ha
  have hwt := hnone t _ ht
  have hwq := hnone q _ hq
  have ht19 : t ≠ Ad 19 := fun z => by rw [z, h19] at hwt; cases hwt
  have hq19 : q ≠ Ad 19 := fun z => by rw [z, h19] at hwq; cases hwq
  refine x_aast C hB 6 rfl (wU_l h19) (wU_r hd ht) rfl k hz hk (by decide) hdg (fun H1 locs1 h => ?_)
  have h := h.arrR (va_up_s _ _ _) (g := shA (shAd Ad k t q) (shF F k ln n)) (shA_new hk hln)
  have hI2 := hI.shP (t := t) (a := q) (n := n) hk h60 h5 h29 hn hln hwt hwq hqt
  refine kk H1 locs1 (fun a => if a = t ∨ a = q then none else X a) ⟨_, hI2, fun a e ha => ?_, ?_⟩
  · show (if a = t ∨ a = q then none else X a) = none
    by_cases g : a = t ∨ a = q
    · exact if_pos g
    · rw [if_neg g]
      by_cases g3 : a = Ad 19
      · rw [g3]; exact hd _ _ h19
      · rw [va_up_n _ _ g3, va_up_n _ _ (fun z => g (Or.inr z)), va_up_n _ _ (fun z => g (Or.inl z))] at ha
        exact hd _ _ ha
  · have e1 : va_up (va_up (wU w X) (Ad 19) (some (xR E 6 4 (va_up (shA Ad F) k (some t))))) (Ad 19) (some (xR E 6 4 (shA (shAd Ad k t q) (shF F k ln n)))) = wU (va_up (va_up (va_up w t (some (xO 15 [.ref q]))) q (some (rowE E ln n (fun _ => 0)))) (Ad 19) (some (xR E 6 4 (shA (shAd Ad k t q) (shF F k ln n))))) (fun a => if a = t ∨ a = q then none else X a) := by
      funext a
      by_cases g3 : a = Ad 19
      · subst g3
        rw [va_up_s, wU_l (va_up_s _ _ _)]
      · rw [va_up_n _ _ g3, va_up_n _ _ g3]
        by_cases g1 : a = q
        · subst g1
          rw [wU_r hd hq]
          exact (wU_l (by rw [va_up_n _ _ g3, va_up_s])).symm
        · by_cases g2 : a = t
          · subst g2
            rw [wU_r hd ht]
            exact (wU_l (by rw [va_up_n _ _ g3, va_up_n _ _ g1, va_up_s])).symm
          · unfold wU
            rw [va_up_n _ _ g3, va_up_n _ _ g1, va_up_n _ _ g2]
            cases w a with
            | some x => rfl
            | none => exact (if_neg (by rintro (z | z); exact g2 z; exact g1 z)).symm
    rw [← e1]
    exact h
/-- behind a store into a row -/
theorem b_row (hd0 : xBB E A s o Ad I F X H locs) {k : Nat} (hk : k < 4) (hs : F 2 k ≠ -9) : ∃ w, xInv E o Ad I F w ∧ wD w X ∧ xB E A s (wU w X) H locs ∧ wU w X (Ad (310 + k)) = some (rowE E (F 2 k) (F 3 k) (rowF F k)) := by
  obtain ⟨w, hI, hd, hB⟩ := hd0
  exact ⟨w, hI, hd, hB, wU_l (hI.at (C0_row hk hs))⟩
theorem b_row2 {w : xw} (hI : xInv E o Ad I F w) (hd : wD w X) {k : Nat} (hk : k < 4) (hs : F 2 k ≠ -9) (h60 : ∀ k, k < 4 → F 3 k ≤ 60) (f4 : Nat → Int) (ho : ∀ k' j, k' < 4 → k' ≠ k → j < 60 → f4 (60 * k' + j) = F 4 (60 * k' + j)) {g : Nat → Int} (hg : ∀ j, j < (F 3 k).toNat → g j = f4 (60 * k + j)) (hB : xB E A s (va_up (wU w X) (Ad (310 + k)) (some (rowE E (F 2 k) (F 3 k) g))) H locs) : xBB E A s o Ad I (va_up F 4 f4) X H locs := by
  have hrow := hI.at (C0_row hk hs)
  refine ⟨_, hI.row hk hs h60 f4 ho, hd.put_l hrow, ?_⟩
  rw [← wU_up_l]
  have e1 : rowE E (F 2 k) (F 3 k) g = .inl (.inl (E.2 (lnT (F 2 k)), (F 3 k).toNat, .inl (fun j => iI (g j)))) := rowE_at
  have e2 : rowE E (F 2 k) (F 3 k) (rowF (va_up F 4 f4) k) = .inl (.inl (E.2 (lnT (F 2 k)), (F 3 k).toNat, .inl (fun j => iI (rowF (va_up F 4 f4) k j)))) := rowE_at
  obtain ⟨hP, hD, hS, hA⟩ := hB
  refine ⟨fun q e hq => ?_, fun q e hq => ?_, hS, hA⟩
  · by_cases g1 : q = Ad (310 + k)
    · subst g1
      rw [va_up_s] at hq
      cases hq
      have h1 := hP _ _ (va_up_s (wU w X) (Ad (310 + k)) (some (rowE E (F 2 k) (F 3 k) g)))
      rw [e1] at h1
      rw [e2]
      have h2 : H[Ad (310 + k)]? = some (vp_cell (E.2 (lnT (F 2 k))) ((F 3 k).toNat, .inl (fun j => iI (g j)))) := h1
      show H[Ad (310 + k)]? = some (vp_cell (E.2 (lnT (F 2 k))) ((F 3 k).toNat, .inl (fun j => iI (rowF (va_up F 4 f4) k j))))
      rw [h2, vp_cell_i, vp_cell_i]
      congr 1
      refine arrV_congr _ _ (fun j hj => ?_)
      rw [hg j hj]
      unfold rowF
      show _ = Value.int (iI (if (j : Int) < F 3 k then f4 (60 * k + j) else 0))
      rw [if_pos (by omega)]
    · rw [va_up_n _ _ g1] at hq
      exact hP q e (by rw [va_up_n _ _ g1]; exact hq)
  · by_cases g1 : q = Ad (310 + k)
    · subst g1
      exact hD _ _ (va_up_s _ _ _)
    · rw [va_up_n _ _ g1] at hq
      exact hD q e (by rw [va_up_n _ _ g1]; exact hq)
end SH
/-! ## rows over what may be null -/
section NU
variable {p : Program} {l : Launch} {e : Env} {R : Room} {s : State} {m : MethodId} {args : Array Value} {below : List Frame} {meth : Method} {c : Code} {H : Heap} {locs : List Loc} {cells slots : Nat} {Q : State → Prop}
variable {cc : ByteArray} {pc nL : Nat} {ls : Array Slot} {rest : List Value} {E : xE} {A : Nat → Prop} {w : xw} {own : String}
theorem x_aldQ (hx : p.tables.exec = Jvm.exec) (hb : c.code = cc) {k : Fin 4} {i : Nat} {r : Option Nat} (hdg : decode cc pc = .ok (.aload_n k, 1)) (hi : (k : Nat) = i) (hl : ls[i]? = some (.val (va_rf r)))
    (kk : W p l e R s m args below meth c H locs cells slots Q (F0 m (pc + 1) ls (va_rf r :: rest))) : W p l e R s m args below meth c H locs cells slots Q (F0 m pc ls rest) := by
  cases r with
  | none => exact lv_aload_nN hx hb hdg hi hl kk
  | some x => exact lv_aload_n hx hb hdg hi hl kk
theorem x_castN (C : xC E p s m args c cc nL own) {index : Nat} (hdg : decode cc pc = .ok (.checkcast index, 3))
    (kk : W p l e R s m args below meth c H locs cells slots Q (F0 m (pc + 3) ls (.null :: rest))) : W p l e R s m args below meth c H locs cells slots Q (F0 m pc ls (.null :: rest)) := by
  intro T hT X
  obtain ⟨t, a1, b1⟩ := kk T hT X
  exact ⟨t, X.checkcastNull C.1.1 (g := F0 m pc ls (.null :: rest)) rfl (rest := rest) rfl (by rw [C.1.2.1]; exact hdg) t a1, b1⟩
theorem x_getX (hfl : l.stackTraces = false) (C : xC E p s m args c cc nL own) (hV : zV E A s s.heap) (hB : xB E A s w H locs) {ref Cn : String} {T : u_T} {N ci index : Nat} (hc : vwCl[ci]? = some (Cn, T, N)) (hin : ∀ w ∈ u_ws Cn T N, w ∈ lw_all) (k : Nat) (hk : k < N) (hlink : (Cond.fieldLink own index ref (T k).2.1 (T k).2.2.1) ∈ lw_all) (hsame : ∀ x, s.fieldFound? (T k).1 (T k).2.1 (T k).2.2.1 = some x → s.fieldFound? ref (T k).2.1 (T k).2.2.1 = some x) (hl : ls.size = nL) (hr : rmOK meth R cells slots rest) (hdg : decode cc pc = .ok (.getfield index, 3))
    (kx : thr E A w locs p l e R s m args below meth c cells slots Q (F0 m pc ls rest) "java/lang/NullPointerException") : W p l e R s m args below meth c H locs cells slots Q (F0 m pc ls (.null :: rest)) := by
  have hN := e_np (pc := pc) hfl C hV hB hl hr kx
  obtain ⟨⟨hx, hb, -, hown, hts⟩, hK⟩ := C
  exact vx_getfN hx hb hts hin hown hK.1 hc k hk (hts _ hlink) hsame hdg hN
end NU
