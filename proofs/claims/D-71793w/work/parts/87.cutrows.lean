/-! ROWS: readings taken away -/
set_option maxRecDepth 100000
abbrev rdI2 (I : Nat → Int) (x : Int) (n : Nat) : Nat → Int := va_up (va_up I 42 x) 29 (n : Int)
section RC
variable {p : Program} {l : Launch} {e : Env} {R : Room} {s : State} {m : MethodId} {args : Array Value} {below : List Frame} {meth : Method} {c : Code} {H : Heap} {locs : List Loc} {cells slots : Nat} {Q : State → Prop}
variable {cc : ByteArray} {pc nL : Nat} {ls : Array Slot} {rest : List Value} {E : xE} {A : Nat → Prop} {o a ed : Nat} {Ad Ad' : Nat → Nat} {I : Nat → Int} {F : Nat → Nat → Int} {X : xw} {own : String}
theorem C0_cut {n : Nat} {x : Int} (hn : (n : Int) ≤ I 29) : ∀ k y, k ≠ 17 → k ≠ 31 → C0 E Ad (rdI2 I x n) F k = some y → C0 E Ad I F k = some y := by
  intro r y h17 h31 hy
  unfold C0 at hy ⊢
  by_cases q1 : r < 50
  · rw [if_pos q1] at hy ⊢
    unfold C0a at hy ⊢
    split at hy
    all_goals first | exact hy | exact absurd rfl h17 | exact absurd rfl h31 | skip
  · rw [if_neg q1] at hy ⊢
    by_cases q2 : 200 ≤ r ∧ r < 300
    · rw [if_neg (by omega), if_neg (by omega), if_neg (by omega), if_neg (by omega), if_neg (by omega), if_pos (by omega)] at hy ⊢
      rw [show rdI2 I x n 29 = (n : Int) from va_up_s _ _ _] at hy
      by_cases q3 : ((r - 200 : Nat) : Int) < n
      · rw [if_pos q3] at hy
        rw [if_pos (by omega)]
        exact hy
      · rw [if_neg q3] at hy
        cases hy
    · by_cases q3 : r < 200
      · rw [show rdI2 I x n 5 = I 5 from rfl] at hy
        by_cases g1 : r < 60
        · rw [if_pos g1] at hy ⊢; exact hy
        · rw [if_neg g1] at hy ⊢
          by_cases g2 : r < 70
          · rw [if_pos g2] at hy ⊢; exact hy
          · rw [if_neg g2] at hy ⊢
            by_cases g3 : r < 80
            · rw [if_pos g3] at hy ⊢; exact hy
            · rw [if_neg g3] at hy ⊢
              by_cases g4 : r < 100
              · rw [if_pos g4] at hy ⊢; exact hy
              · rw [if_neg g4, if_pos q3] at hy ⊢; exact hy
      · rw [if_neg (by omega), if_neg (by omega), if_neg (by omega), if_neg (by omega), if_neg (by omega), if_neg (by omega)] at hy ⊢
        exact hy
theorem xInv.rcut {w : xw} (h : xInv E o Ad I F w) {n k : Nat} {x : Int} (hk : I 29 = k) (hn : n ≤ k) (h44 : ¬ I 44 = 0) : xInv E o Ad (rdI2 I x n) F (va_up (va_up w (Ad 17) (some (xO 18 [.int (iI x), .ref (Ad 31), .int (iI (n : Int))]))) (Ad 31) (some (xR E 3 10 (lfE Ad 200 (n : Int))))) := by
  obtain ⟨h0, h1, h2, h3⟩ := h
  refine ⟨h0, ?_, h2, fun z => absurd z h44⟩
  have r1 := h1.put (r := 17) (e0 := xO 18 [.int (iI (I 42)), .ref (Ad 31), .int (iI (I 29))]) rfl (xO 18 [.int (iI x), .ref (Ad 31), .int (iI (n : Int))])
  have r2 := r1.put (r := 31) (e0 := xR E 3 10 (lfE Ad 200 (I 29))) (by rw [va_up_n _ _ (by decide), C0_31, if_neg h44]) (xR E 3 10 (lfE Ad 200 (n : Int)))
  refine r2.mono fun r y hr => ?_
  by_cases g1 : r = 31
  · subst g1
    rw [va_up_s]
    rw [C0_31, show rdI2 I x n 44 = I 44 from rfl, if_neg h44] at hr
    exact hr
  · rw [va_up_n _ _ g1]
    by_cases g2 : r = 17
    · subst g2
      rw [va_up_s]
      exact hr
    · rw [va_up_n _ _ g2]
      exact C0_cut (by omega) r y g2 g1 hr
theorem xInv.rcl0 {w : xw} (h : xInv E o Ad I F w) {x : Int} (hk : I 29 = 0) : xInv E o Ad (rdI2 I x 0) F (va_up w (Ad 17) (some (xO 18 [.int (iI x), .ref (Ad 31), .int (iI 0)]))) := by
  obtain ⟨h0, h1, h2, h3⟩ := h
  refine ⟨h0, ?_, h2, fun z => ⟨rfl, (h3 z).2⟩⟩
  have r1 := h1.put (r := 17) (e0 := xO 18 [.int (iI (I 42)), .ref (Ad 31), .int (iI (I 29))]) rfl (xO 18 [.int (iI x), .ref (Ad 31), .int (iI 0)])
  refine r1.mono fun r y hr => ?_
  by_cases g2 : r = 17
  · subst g2
    rw [va_up_s]
    exact hr
  · rw [va_up_n _ _ g2]
    by_cases g1 : r = 31
    · subst g1
      rw [C0_31] at hr ⊢
      rw [hk]
      exact hr
    · exact C0_cut (by rw [hk]; exact Int.le_refl _) r y g2 g1 hr
theorem lfE_dn {n : Nat} {b : Nat} : va_up (lfE Ad b ((n : Int) + 1)) n none = lfE Ad b (n : Int) := by
  funext j
  unfold lfE
  by_cases g : j = n
  · subst g
    rw [va_up_s, if_neg (by omega)]
  · rw [va_up_n _ _ g]
    by_cases g2 : j < n
    · rw [if_pos (by omega), if_pos (by omega)]
    · rw [if_neg (by omega), if_neg (by omega)]
/-- the last reading is taken away -/
theorem b_rrem (C : xC E p s m args c cc nL own) (hZ : zK E A s s.heap) (hB : xBB E A s o Ad I F X H locs) {z : Int} (n : Nat) (hz : z = (n : Int)) (hn : I 29 = (n : Int) + 1) (n8 : n < 8) {index count : Nat} (hlk : Cond.methodLink own index ⟨"java/util/List", "remove", "(I)Ljava/lang/Object;"⟩ ∈ lw_all) (hR : 3 ≤ R.frames ∧ 66 ≤ R.locals) (hl : ls.size = nL) (hW : (rest.map fun v => v.category).sum ≤ 8) (hdg : decode cc pc = .ok (.invokeinterface index count, 5)) (hcs : cells ≤ R.cells ∧ slots ≤ R.slots)
    (kk : ∀ (zr : Option Nat) (H1 : Heap) (locs1 : List Loc) (x : Int), xBB E A s o Ad (rdI2 I x n) F X H1 locs1 → W p l e R s m args below meth c H1 locs1 cells slots Q (F0 m (pc + 5) ls (va_rf zr :: rest))) : W p l e R s m args below meth c H locs cells slots Q (F0 m pc ls (.int (iI z) :: .ref (Ad 17) :: rest)) := by
  subst hz
  obtain ⟨w, hI, hd, hB⟩ := hB
  have h44 : ¬ I 44 = 0 := fun z => by have := (hI.2.2.2 z).1; omega
  have ha := hI.at (r := 17) (e := xO 18 [.int (iI (I 42)), .ref (Ad 31), .int (iI (I 29))]) rfl
  have he := hI.at (r := 31) (e := xR E 3 10 (lfE Ad 200 (I 29))) (if_neg h44)
  have hne : Ad 31 ≠ Ad 17 := fun z => by rw [z, ha] at he; cases he
  rw [hn] at ha he
  refine g_callFq cells slots (Nat.le_refl _) (Nat.le_refl _) hB (rF (As := [.int (iI (n : Int))]) (n := 1) C hZ hB ⟨"java/util/List", "remove", "(I)Ljava/lang/Object;"⟩ (kJ2_remove l E (wU w X) (Ad 17) (Ad 31) (I 42) n 10 (lfE Ad 200 ((n : Int) + 1)) (Ad (200 + n)) (wU_l ha) (wU_l he) (if_pos (by omega)) (by omega) (by decide) H.size) (by decide) hlk q755 q757 q71 q759 (by decide +kernel) ⟨hR.1, hR.2⟩ (wU_l ha) rfl rfl rfl hl rfl hW hdg hcs) (fun z w1 H1 locs1 hp2 hB => ?_)
  subst hp2
  refine kk z H1 locs1 (I 42 + 1) ⟨_, hI.rcut (k := n + 1) (n := n) (by omega) (by omega) h44, (hd.put_l ha).put_l (by rw [va_up_n _ _ hne]; exact he), ?_⟩
  rw [wU_up_l, wU_up_l, lfE_dn] at hB
  exact hB
theorem lfE_cl {n b : Nat} : clr (lfE Ad b (n : Int)) n = lfE Ad b ((0 : Nat) : Int) := by
  funext j
  unfold clr lfE
  by_cases g : j < n
  · rw [if_pos g, if_neg (by omega)]
  · rw [if_neg g, if_neg (by omega), if_neg (by omega)]
/-- all readings are taken away -/
theorem b_rclear (C : xC E p s m args c cc nL own) (hZ : zK E A s s.heap) (hB : xBB E A s o Ad I F X H locs) (n : Nat) (hn : I 29 = (n : Int)) (n8 : n ≤ 8) {index count : Nat} (hlk : Cond.methodLink own index ⟨"java/util/List", "clear", "()V"⟩ ∈ lw_all) (hR : 1 ≤ R.frames ∧ 23 ≤ R.locals) (hl : ls.size = nL) (hW : (rest.map fun v => v.category).sum ≤ 8) (hdg : decode cc pc = .ok (.invokeinterface index count, 5)) (hcs : cells ≤ R.cells ∧ slots ≤ R.slots)
    (kk : ∀ (H1 : Heap) (locs1 : List Loc) (x : Int), xBB E A s o Ad (rdI2 I x 0) F X H1 locs1 → W p l e R s m args below meth c H1 locs1 cells slots Q (F0 m (pc + 5) ls rest)) : W p l e R s m args below meth c H locs cells slots Q (F0 m pc ls (.ref (Ad 17) :: rest)) := by
  obtain ⟨w, hI, hd, hB⟩ := hB
  have ha := hI.at (r := 17) (e := xO 18 [.int (iI (I 42)), .ref (Ad 31), .int (iI (I 29))]) rfl
  by_cases h0 : n = 0
  · subst h0
    rw [hn] at ha
    refine g_callFv cells slots (Nat.le_refl _) (Nat.le_refl _) hB (rF (As := []) (n := 0) C hZ hB ⟨"java/util/List", "clear", "()V"⟩ (kJ2_clear0 l E (wU w X) (Ad 17) (Ad 31) (I 42) (wU_l ha) H.size) (by decide) hlk q1084 q1086 q71 q1088 (by decide +kernel) ⟨hR.1, hR.2⟩ (wU_l ha) rfl rfl rfl hl rfl hW hdg hcs) (fun w1 H1 locs1 hp2 hB => ?_)
    subst hp2
    refine kk H1 locs1 (I 42 + 1) ⟨_, hI.rcl0 (by omega), hd.put_l ha, ?_⟩
    rw [wU_up_l] at hB
    exact hB
  · have h44 : ¬ I 44 = 0 := fun z => by have := (hI.2.2.2 z).1; omega
    have he := hI.at (r := 31) (e := xR E 3 10 (lfE Ad 200 (I 29))) (if_neg h44)
    have hne : Ad 31 ≠ Ad 17 := fun z => by rw [z, ha] at he; cases he
    rw [hn] at ha he
    refine g_callFv cells slots (Nat.le_refl _) (Nat.le_refl _) hB (rF (As := []) (n := 0) C hZ hB ⟨"java/util/List", "clear", "()V"⟩ (kJ2_clear l E (wU w X) (Ad 17) (Ad 31) (I 42) n 10 (lfE Ad 200 (n : Int)) (wU_l ha) (wU_l he) (by omega) (by decide) H.size) (by decide) hlk q1084 q1086 q71 q1088 (by decide +kernel) ⟨hR.1, hR.2⟩ (wU_l ha) rfl rfl rfl hl rfl hW hdg hcs) (fun w1 H1 locs1 hp2 hB => ?_)
    subst hp2
    refine kk H1 locs1 (I 42 + 1) ⟨_, hI.rcut (k := n) (n := 0) hn (Nat.zero_le _) h44, (hd.put_l ha).put_l (by rw [va_up_n _ _ hne]; exact he), ?_⟩
    rw [wU_up_l, wU_up_l, lfE_cl, va_up_comm _ _ _ hne] at hB
    exact hB
end RC
