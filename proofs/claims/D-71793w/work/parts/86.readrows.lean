/-! ROWS: readings put at the end of their list, taken from there -/
set_option maxRecDepth 100000
def xrm (X : xw) (q : Nat) : xw := fun a => if a = q then none else X a
theorem xrm_n {X : xw} {q a : Nat} (h : a ≠ q) : xrm X q a = X a := if_neg h
theorem xrm_s (X : xw) (q : Nat) : xrm X q q = none := if_pos rfl
/-- a temp comes to what x holds -/
theorem wU_take {w X : xw} {q : Nat} {e : xX} (hd : wD w X) (hq : X q = some e) : wU (va_up w q (some e)) (xrm X q) = wU w X ∧ wD (va_up w q (some e)) (xrm X q) := by
  have hwq : w q = none := by
    cases g : w q with
    | none => rfl
    | some x => rw [hd q x g] at hq; cases hq
  refine ⟨?_, fun a x ha => ?_⟩
  · funext a
    by_cases g : a = q
    · subst g
      unfold wU
      rw [va_up_s, hwq, hq]
    · unfold wU
      rw [va_up_n _ _ g, xrm_n g]
  · by_cases g : a = q
    · rw [g]
      exact xrm_s X q
    · rw [va_up_n _ _ g] at ha
      rw [xrm_n g]
      exact hd a x ha
abbrev rdI1 (I : Nat → Int) (x : Int) (n : Nat) : Nat → Int := va_up (va_up (va_up I 42 x) 44 1) 29 ((n : Int) + 1)
abbrev rdF1 (F : Nat → Nat → Int) (n : Nat) (cv dv : Int) : Nat → Nat → Int := va_up (va_up F 30 (va_up (F 30) n cv)) 31 (va_up (F 31) n dv)
section RR
variable {p : Program} {l : Launch} {e : Env} {R : Room} {s : State} {m : MethodId} {args : Array Value} {below : List Frame} {meth : Method} {c : Code} {H : Heap} {locs : List Loc} {cells slots : Nat} {Q : State → Prop}
variable {cc : ByteArray} {pc nL : Nat} {ls : Array Slot} {rest : List Value} {E : xE} {A : Nat → Prop} {o a ed : Nat} {Ad Ad' : Nat → Nat} {I : Nat → Int} {F : Nat → Nat → Int} {X : xw} {own : String}
theorem C0_radd {n : Nat} {x cv dv : Int} (hn : I 29 = n) (n8 : n < 8) (h7 : I 5 ≤ 7) (hA : ∀ j, j ≠ 31 → j ≠ 200 + n → Ad' j = Ad j) : ∀ k, k ≠ 17 → k ≠ 31 → k ≠ 200 + n → C0 E Ad' (rdI1 I x n) (rdF1 F n cv dv) k = C0 E Ad I F k := by
  intro r h17 h31 h2
  have hF : ∀ j, j ≠ 30 → j ≠ 31 → rdF1 F n cv dv j = F j := fun j h h' => (va_up_n _ _ h').trans (va_up_n _ _ h)
  have hI : ∀ j, j ≠ 42 → j ≠ 44 → j ≠ 29 → rdI1 I x n j = I j := fun j h h' h'' => (va_up_n _ _ h'').trans ((va_up_n _ _ h').trans (va_up_n _ _ h))
  unfold C0
  rw [hI 5 (by decide) (by decide) (by decide)]
  by_cases q1 : r < 50
  · rw [if_pos q1, if_pos q1]
    unfold C0a
    split
    · show some (xO 0 [.ref (Ad' 1), .ref (Ad' 2), .int (iI (I 1)), .ref (Ad' 4), .int (iI (I 6)), .ref (Ad' 6), .ref (Ad' 7), .int (iI (I 7)), .int (iI (I 8)), .int (iI (I 9)), .ref (Ad' 11), .ref (Ad' 12), .ref (Ad' 13), .ref (Ad' 14), .ref (Ad' 15), .ref (Ad' 16), .ref (Ad' 17), .int (iI (I 0)), .ref (Ad' 19)]) = _
      rw [hA 1 (by omega) (by omega), hA 2 (by omega) (by omega), hA 4 (by omega) (by omega), hA 6 (by omega) (by omega), hA 7 (by omega) (by omega), hA 11 (by omega) (by omega), hA 12 (by omega) (by omega), hA 13 (by omega) (by omega), hA 14 (by omega) (by omega), hA 15 (by omega) (by omega), hA 16 (by omega) (by omega), hA 17 (by omega) (by omega), hA 19 (by omega) (by omega)]
    · congr 2
      funext j
      by_cases g : j < 5
      · rw [if_pos g, if_pos g, hA _ (by omega) (by omega)]
      · rw [if_neg g, if_neg g]
    · congr 2
      funext j
      by_cases g : j < 3
      · rw [if_pos g, if_pos g, hA _ (by omega) (by omega)]
      · rw [if_neg g, if_neg g]
    · rw [hA 30 (by omega) (by omega), hI 41 (by decide) (by decide) (by decide), hI 5 (by decide) (by decide) (by decide)]
    · rw [hF 13 (by decide) (by decide)]
    · rw [hF 14 (by decide) (by decide)]
    · rw [hF 33 (by decide) (by decide)]
    · rw [hF 34 (by decide) (by decide)]
    · rw [hF 21 (by decide) (by decide)]
    · rw [hF 22 (by decide) (by decide)]
    · rw [hF 23 (by decide) (by decide)]
    · rw [hF 28 (by decide) (by decide)]
    · exact absurd rfl h17
    · rw [hF 2 (by decide) (by decide)]
      congr 2
      funext j
      by_cases g : j < 4
      · rw [hA _ (by omega) (by omega)]
      · by_cases g2 : j < 10
        · rw [hA _ (by omega) (by omega)]
        · rw [hA _ (by omega) (by omega)]
    · rw [hI 43 (by decide) (by decide) (by decide), hI 5 (by decide) (by decide) (by decide)]
      split
      · rfl
      · congr 2
        funext j
        by_cases g : (j : Int) < I 5
        · by_cases g2 : 100 + j = 200 + n
          · exact absurd g2 (by omega)
          · rw [if_pos g, if_pos g, hA _ (by omega) g2]
        · rw [if_neg g, if_neg g]
    · exact absurd rfl h31
    · rfl
  · rw [if_neg q1, if_neg q1, hF 2 (by decide) (by decide), hF 3 (by decide) (by decide), hF 10 (by decide) (by decide), hF 11 (by decide) (by decide), hF 12 (by decide) (by decide), hA 0 (by omega) (by omega)]
    unfold rowF
    rw [hF 3 (by decide) (by decide), hF 4 (by decide) (by decide)]
    by_cases q2 : r < 60
    · rw [if_pos q2, if_pos q2, hA _ (by omega) (by omega)]
    · rw [if_neg q2, if_neg q2]
      by_cases q3 : r < 70
      · rw [if_pos q3, if_pos q3, hA _ (by omega) (by omega)]
      · rw [if_neg q3, if_neg q3]
        by_cases q4 : r < 100
        · rw [if_pos q4, if_pos q4]
        · rw [if_neg q4, if_neg q4, if_neg (show ¬ r < 80 by omega), if_neg (show ¬ r < 80 by omega)]
          by_cases q5 : r < 200
          · rw [if_pos q5, if_pos q5]
          · rw [if_neg q5, if_neg q5]
            by_cases q6 : r < 300
            · rw [if_pos q6, if_pos q6, show rdI1 I x n 29 = (n : Int) + 1 from va_up_s _ _ _, hn]
              by_cases q7 : ((r - 200 : Nat) : Int) < n
              · rw [if_pos q7, if_pos (by omega)]
                show some (xO 14 [.int (iI (va_up (F 30) n cv (r - 200))), .int (iI (va_up (F 31) n dv (r - 200)))]) = _
                rw [va_up_n _ _ (show r - 200 ≠ n by omega), va_up_n _ _ (show r - 200 ≠ n by omega)]
              · rw [if_neg q7, if_neg (by omega)]
            · rw [if_neg q6, if_neg q6, hA _ (by omega) (by omega)]
theorem C0_rd_none {n : Nat} (hn : I 29 = n) (n8 : n < 8) : C0 E Ad I F (200 + n) = none := by
  unfold C0
  rw [if_neg (by omega), if_neg (by omega), if_neg (by omega), if_neg (by omega), if_neg (by omega), if_neg (by omega), if_pos (by omega), show 200 + n - 200 = n by omega, if_neg (by omega)]
theorem C0_rd_at {n : Nat} {x cv dv : Int} (n8 : n < 8) : C0 E Ad (rdI1 I x n) (rdF1 F n cv dv) (200 + n) = some (xO 14 [.int (iI cv), .int (iI dv)]) := by
  rw [C0_rd (I := rdI1 I x n) (F := rdF1 F n cv dv) (i := n) (show (n : Int) < (n : Int) + 1 by omega) (show (n : Int) + 1 ≤ 8 by omega)]
  show some (xO 14 [.int (iI (va_up (F 30) n cv n)), .int (iI (va_up (F 31) n dv n))]) = _
  rw [va_up_s, va_up_s]
theorem C0_31 : C0 E Ad I F 31 = if I 44 = 0 then none else some (xR E 3 10 (lfE Ad 200 (I 29))) := rfl
theorem C0_17 : C0 E Ad I F 17 = some (xO 18 [.int (iI (I 42)), .ref (Ad 31), .int (iI (I 29))]) := rfl
theorem lfE_up {n q : Nat} : lfE (va_up Ad (200 + n) q) 200 ((n : Int) + 1) = va_up (lfE Ad 200 (n : Int)) n (some q) := by
  funext j
  unfold lfE
  by_cases g : j = n
  · subst g
    rw [va_up_s, if_pos (by omega), va_up_s]
  · rw [va_up_n _ _ g]
    by_cases g2 : j < n
    · rw [if_pos (by omega), if_pos (by omega), va_up_n _ _ (show 200 + j ≠ 200 + n by omega)]
    · rw [if_neg (by omega), if_neg (by omega)]
theorem xInv.radd {w : xw} (h : xInv E o Ad I F w) {n q : Nat} {x cv dv : Int} (hn : I 29 = n) (n8 : n < 8) (h7 : I 5 ≤ 7) (h44 : ¬ I 44 = 0) (hq : w q = none) : xInv E o (va_up Ad (200 + n) q) (rdI1 I x n) (rdF1 F n cv dv) (va_up (va_up (va_up w q (some (xO 14 [.int (iI cv), .int (iI dv)]))) (Ad 31) (some (xR E 3 10 (va_up (lfE Ad 200 (n : Int)) n (some q))))) (Ad 17) (some (xO 18 [.int (iI x), .ref (Ad 31), .int (iI ((n : Int) + 1))]))) := by
  obtain ⟨h0, h1, h2, h3⟩ := h
  have hA : ∀ j, j ≠ 200 + n → va_up Ad (200 + n) q j = Ad j := fun j hj => va_up_n _ _ hj
  refine ⟨by rw [hA 0 (by omega)]; exact h0, ?_, by rw [hA 30 (by omega)]; exact h2, fun z => absurd (show (1 : Int) = 0 from z) (by decide)⟩
  have r1 := h1.new hq (200 + n) (xO 14 [.int (iI cv), .int (iI dv)])
  have r2 := r1.put (r := 31) (e0 := xR E 3 10 (lfE Ad 200 (I 29))) (by rw [va_up_n _ _ (by omega), C0_31, if_neg h44]) (xR E 3 10 (va_up (lfE Ad 200 (n : Int)) n (some q)))
  have r3 := r2.put (r := 17) (e0 := xO 18 [.int (iI (I 42)), .ref (Ad 31), .int (iI (I 29))]) (by rw [va_up_n _ _ (by omega), va_up_n _ _ (by omega)]; rfl) (xO 18 [.int (iI x), .ref (Ad 31), .int (iI ((n : Int) + 1))])
  rw [hA 31 (by omega), hA 17 (by omega)] at r3
  refine r3.mono fun k e hk => ?_
  by_cases g1 : k = 17
  · subst g1
    rw [va_up_s]
    rw [C0_17, hA 31 (by omega)] at hk
    exact hk
  · rw [va_up_n _ _ g1]
    by_cases g2 : k = 31
    · subst g2
      rw [va_up_s]
      rw [C0_31, show rdI1 I x n 44 = 1 from rfl, if_neg (show ¬ (1 : Int) = 0 by decide)] at hk
      rw [show rdI1 I x n 29 = (n : Int) + 1 from va_up_s _ _ _, lfE_up] at hk
      exact hk
    · rw [va_up_n _ _ g2]
      by_cases g3 : k = 200 + n
      · subst g3
        rw [va_up_s]
        rw [C0_rd_at n8] at hk
        exact hk
      · rw [va_up_n _ _ g3]
        rw [C0_radd hn n8 h7 (fun j _ hj => hA j hj) k g1 g2 g3] at hk
        exact hk
theorem xInv.radd0 {w : xw} (h : xInv E o Ad I F w) {q q2 : Nat} {x cv dv : Int} (hn : I 29 = (0 : Nat)) (h7 : I 5 ≤ 7) (h44 : I 44 = 0) (hq : w q = none) (hq2 : w q2 = none) (hqq : q2 ≠ q) : xInv E o (va_up (va_up Ad (200 + 0) q) 31 q2) (rdI1 I x 0) (rdF1 F 0 cv dv) (va_up (va_up (va_up w q (some (xO 14 [.int (iI cv), .int (iI dv)]))) q2 (some (xR E 3 10 (va_up (fun _ => none) 0 (some q))))) (Ad 17) (some (xO 18 [.int (iI x), .ref q2, .int (iI 1)]))) := by
  obtain ⟨h0, h1, h2, h3⟩ := h
  have hA : ∀ j, j ≠ 31 → j ≠ 200 + 0 → va_up (va_up Ad (200 + 0) q) 31 q2 j = Ad j := fun j hj hj2 => (va_up_n _ _ hj).trans (va_up_n _ _ hj2)
  refine ⟨by rw [hA 0 (by omega) (by omega)]; exact h0, ?_, by rw [hA 30 (by omega) (by omega)]; exact h2, fun z => absurd (show (1 : Int) = 0 from z) (by decide)⟩
  have r1 := h1.new hq (200 + 0) (xO 14 [.int (iI cv), .int (iI dv)])
  have r2 := r1.new (q := q2) (by rw [va_up_n _ _ hqq]; exact hq2) 31 (xR E 3 10 (va_up (fun _ => none) 0 (some q)))
  have r3 := r2.put (r := 17) (e0 := xO 18 [.int (iI (I 42)), .ref (Ad 31), .int (iI (I 29))]) (by rw [va_up_n _ _ (by omega), va_up_n _ _ (by omega)]; rfl) (xO 18 [.int (iI x), .ref q2, .int (iI 1)])
  rw [hA 17 (by omega) (by omega)] at r3
  refine r3.mono fun k e hk => ?_
  by_cases g1 : k = 17
  · subst g1
    rw [va_up_s]
    rw [C0_17, va_up_s] at hk
    exact hk
  · rw [va_up_n _ _ g1]
    by_cases g2 : k = 31
    · subst g2
      rw [va_up_s]
      rw [C0_31, show rdI1 I x 0 44 = 1 from rfl, if_neg (show ¬ (1 : Int) = 0 by decide)] at hk
      rw [show lfE (va_up (va_up Ad (200 + 0) q) 31 q2) 200 (rdI1 I x 0 29) = va_up (fun _ => none) 0 (some q) from ?_] at hk
      · exact hk
      · funext j
        show (if (j : Int) < 0 + 1 then some (va_up (va_up Ad (200 + 0) q) 31 q2 (200 + j)) else none) = _
        by_cases g : j = 0
        · subst g
          rw [if_pos (by decide), va_up_s, va_up_n _ _ (by decide), va_up_s]
        · rw [if_neg (by omega), va_up_n _ _ g]
    · rw [va_up_n _ _ g2]
      by_cases g3 : k = 200 + 0
      · subst g3
        rw [va_up_s]
        rw [C0_rd_at (by decide)] at hk
        exact hk
      · rw [va_up_n _ _ g3]
        rw [C0_radd hn (by decide) h7 hA k g1 g2 g3] at hk
        exact hk
/-- a reading put at the end -/
theorem b_radd (C : xC E p s m args c cc nL own) (hZ : zK E A s s.heap) (hB : xBB E A s o Ad I F X H locs) {q n : Nat} {cv dv : Int} (hq : X q = some (xO 14 [.int (iI cv), .int (iI dv)])) (hn : I 29 = n) (n8 : n < 8) (h7 : I 5 ≤ 7) {index count : Nat} (hlk : Cond.methodLink own index ⟨"java/util/List", "add", "(Ljava/lang/Object;)Z"⟩ ∈ lw_all) (hR : 5 ≤ R.frames ∧ 111 ≤ R.locals) (hl : ls.size = nL) (hW : (rest.map fun v => v.category).sum ≤ 8) (hdg : decode cc pc = .ok (.invokeinterface index count, 5)) (hcs : cells + 1 ≤ R.cells ∧ slots + 10 ≤ R.slots)
    (kk : ∀ (z : Int) (H1 : Heap) (locs1 : List Loc) (Ad1 : Nat → Nat) (x : Int) (X1 : xw), (∀ a e, a ≠ q → X a = some e → X1 a = some e) → xBB E A s o Ad1 (rdI1 I x n) (rdF1 F n cv dv) X1 H1 locs1 → W p l e R s m args below meth c H1 locs1 (cells + 1) (slots + 10) Q (F0 m (pc + 5) ls (.int (iI z) :: rest))) : W p l e R s m args below meth c H locs cells slots Q (F0 m pc ls (.ref q :: .ref (Ad 17) :: rest)) := by
  obtain ⟨w, hI, hd, hB⟩ := hB
  have hwq : w q = none := by
    cases g : w q with
    | none => rfl
    | some x => rw [hd q x g] at hq; cases hq
  have ha := hI.at (r := 17) (e := xO 18 [.int (iI (I 42)), .ref (Ad 31), .int (iI (I 29))]) rfl
  have haq : Ad 17 ≠ q := fun z => by rw [z, hwq] at ha; cases ha
  obtain ⟨hu, hd2⟩ := wU_take hd hq
  have hv : xAny (wU w X) q := ⟨_, _, _, wU_r hd hq, rfl, q1774⟩
  by_cases h44 : I 44 = 0
  · obtain ⟨h29, h31⟩ := hI.2.2.2 h44
    have hn0 : n = 0 := by omega
    subst hn0
    rw [h31, h29] at ha
    refine g_callFi (cells + 1) (slots + 10) (Nat.le_refl _) (Nat.le_refl _) hB (rF (As := [.ref q]) (n := 1) C hZ hB ⟨"java/util/List", "add", "(Ljava/lang/Object;)Z"⟩ (kJ2_add0 l E (wU w X) (Ad 17) (I 42) q (wU_l ha) hv H.size) (by decide) hlk q676 q678 q71 q680 (by decide +kernel) ⟨hR.1, hR.2⟩ (wU_l ha) rfl rfl rfl hl rfl hW hdg hcs) (fun z w1 H1 locs1 hz hp2 hB => ?_)
    obtain ⟨q2, hq2, rfl⟩ := hp2
    obtain ⟨hq2a, hq2b⟩ := wU_n hq2
    have hqq : q2 ≠ q := fun z => by rw [z, hq] at hq2b; cases hq2b
    have hqn : q2 ≠ Ad 17 := fun z => by rw [z, ha] at hq2a; cases hq2a
    refine kk z H1 locs1 _ (I 42 + 1) (xrm X q) (fun a e g hX => by rw [xrm_n g]; exact hX) ⟨_, hI.radd0 (cv := cv) (dv := dv) hn h7 h44 hwq hq2a hqq, ?_, ?_⟩
    · exact (hd2.new_l (by rw [xrm_n hqq]; exact hq2b)).put_l (by rw [va_up_n _ _ hqn.symm, va_up_n _ _ haq]; exact ha)
    · rw [← hu, wU_up_l, wU_up_l] at hB
      exact hB
  · have he := hI.at (r := 31) (e := xR E 3 10 (lfE Ad 200 (I 29))) (if_neg h44)
    have heq : Ad 31 ≠ q := fun z => by rw [z, hwq] at he; cases he
    have hne : Ad 17 ≠ Ad 31 := fun z => by rw [z, he] at ha; cases ha
    rw [hn] at ha he
    refine x_up (Nat.le_succ cells) (Nat.le_add_right slots 10) ?_
    refine g_callFi (cells + 1) (slots + 10) (Nat.le_refl _) (Nat.le_refl _) hB (rF (As := [.ref q]) (n := 1) C hZ hB ⟨"java/util/List", "add", "(Ljava/lang/Object;)Z"⟩ (kJ2_add l E (wU w X) (Ad 17) (Ad 31) (I 42) n 10 (lfE Ad 200 (n : Int)) q (wU_l ha) (wU_l he) hv (by omega) (by decide) H.size) (by decide) hlk q676 q678 q71 q680 (by decide +kernel) ⟨by omega, by have := hR.2; show 8 + (2 + 11) + 23 ≤ _; omega⟩ (wU_l ha) rfl rfl rfl hl rfl hW hdg ⟨by omega, by omega⟩) (fun z w1 H1 locs1 hz hp2 hB => ?_)
    subst hp2
    refine kk z H1 locs1 _ (I 42 + 1) (xrm X q) (fun a e g hX => by rw [xrm_n g]; exact hX) ⟨_, hI.radd (cv := cv) (dv := dv) hn n8 h7 h44 hwq, ?_, ?_⟩
    · exact (hd2.put_l (by rw [va_up_n _ _ heq]; exact he)).put_l (by rw [va_up_n _ _ hne, va_up_n _ _ haq]; exact ha)
    · rw [← hu, wU_up_l, wU_up_l] at hB
      exact hB
end RR
