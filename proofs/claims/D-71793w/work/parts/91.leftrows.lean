/-! ROWS: the left book's list, emptied, filled -/
set_option maxRecDepth 100000
abbrev lfI2 (I : Nat → Int) (x : Int) : Nat → Int := va_up (va_up I 41 x) 5 0
abbrev lfI1 (I : Nat → Int) (x : Int) (n : Nat) : Nat → Int := va_up (va_up (va_up I 41 x) 43 1) 5 (n : Int)
abbrev lfF1 (F : Nat → Nat → Int) (K L A : Nat → Int) : Nat → Nat → Int := va_up (va_up (va_up F 10 K) 11 L) 12 A
section LC
variable {p : Program} {l : Launch} {e : Env} {R : Room} {s : State} {m : MethodId} {args : Array Value} {below : List Frame} {meth : Method} {c : Code} {H : Heap} {locs : List Loc} {cells slots : Nat} {Q : State → Prop}
variable {cc : ByteArray} {pc nL : Nat} {ls : Array Slot} {rest : List Value} {E : xE} {A : Nat → Prop} {o a ed : Nat} {Ad Ad' : Nat → Nat} {I : Nat → Int} {F : Nat → Nat → Int} {X : xw} {own : String}
theorem C0_lcut {x : Int} : ∀ k y, k ≠ 4 → k ≠ 30 → C0 E Ad (lfI2 I x) F k = some y → C0 E Ad I F k = some y := by
  intro r y h17 h31 hy
  unfold C0 at hy ⊢
  by_cases q1 : r < 50
  · rw [if_pos q1] at hy ⊢
    unfold C0a at hy ⊢
    split at hy
    all_goals first | exact hy | exact absurd rfl h17 | exact absurd rfl h31 | skip
  · rw [if_neg q1] at hy ⊢
    by_cases g1 : r < 60
    · rw [if_pos g1] at hy ⊢; exact hy
    · rw [if_neg g1] at hy ⊢
      by_cases g2 : r < 70
      · rw [if_pos g2] at hy ⊢; exact hy
      · rw [if_neg g2] at hy ⊢
        by_cases g3 : r < 80
        · rw [if_pos g3] at hy ⊢; exact hy
        · rw [if_neg g3] at hy ⊢
          by_cases g4 : r < 100
          · rw [if_pos g4] at hy ⊢; exact hy
          · rw [if_neg g4] at hy ⊢
            by_cases g5 : r < 200
            · rw [if_pos g5, show lfI2 I x 5 = 0 from va_up_s _ _ _, if_neg (by omega)] at hy
              cases hy
            · rw [if_neg g5] at hy ⊢; exact hy
theorem C0_30 : C0 E Ad I F 30 = if I 43 = 0 then none else some (xR E 3 10 (lfE Ad 100 (I 5))) := rfl
theorem C0_4 : C0 E Ad I F 4 = some (xO 18 [.int (iI (I 41)), .ref (Ad 30), .int (iI (I 5))]) := rfl
theorem xInv.lcut {w : xw} (h : xInv E o Ad I F w) {x : Int} (h43 : ¬ I 43 = 0) : xInv E o Ad (lfI2 I x) F (va_up (va_up w (Ad 4) (some (xO 18 [.int (iI x), .ref (Ad 30), .int (iI 0)]))) (Ad 30) (some (xR E 3 10 (lfE Ad 100 ((0 : Nat) : Int))))) := by
  obtain ⟨h0, h1, h2, h3⟩ := h
  refine ⟨h0, ?_, fun z => absurd z h43, h3⟩
  have r1 := h1.put (r := 4) C0_4 (xO 18 [.int (iI x), .ref (Ad 30), .int (iI 0)])
  have r2 := r1.put (r := 30) (e0 := xR E 3 10 (lfE Ad 100 (I 5))) (by rw [va_up_n _ _ (by decide), C0_30, if_neg h43]) (xR E 3 10 (lfE Ad 100 ((0 : Nat) : Int)))
  refine r2.mono fun r y hr => ?_
  by_cases g1 : r = 30
  · subst g1
    rw [va_up_s]
    rw [C0_30, show lfI2 I x 43 = I 43 from rfl, if_neg h43] at hr
    exact hr
  · rw [va_up_n _ _ g1]
    by_cases g2 : r = 4
    · subst g2
      rw [va_up_s]
      exact hr
    · rw [va_up_n _ _ g2]
      exact C0_lcut r y g2 g1 hr
theorem xInv.lcl0 {w : xw} (h : xInv E o Ad I F w) {x : Int} (hk : I 5 = 0) : xInv E o Ad (lfI2 I x) F (va_up w (Ad 4) (some (xO 18 [.int (iI x), .ref (Ad 30), .int (iI 0)]))) := by
  obtain ⟨h0, h1, h2, h3⟩ := h
  refine ⟨h0, ?_, fun z => ⟨rfl, (h2 z).2⟩, h3⟩
  have r1 := h1.put (r := 4) C0_4 (xO 18 [.int (iI x), .ref (Ad 30), .int (iI 0)])
  refine r1.mono fun r y hr => ?_
  by_cases g2 : r = 4
  · subst g2
    rw [va_up_s]
    exact hr
  · rw [va_up_n _ _ g2]
    by_cases g1 : r = 30
    · subst g1
      rw [C0_30] at hr ⊢
      rw [hk]
      exact hr
    · exact C0_lcut r y g2 g1 hr
/-- the left book is emptied -/
theorem b_lclear (C : xC E p s m args c cc nL own) (hZ : zK E A s s.heap) (hB : xBB E A s o Ad I F X H locs) (n : Nat) (hn : I 5 = (n : Int)) (n8 : n ≤ 8) {index count : Nat} (hlk : Cond.methodLink own index ⟨"java/util/List", "clear", "()V"⟩ ∈ lw_all) (hR : 1 ≤ R.frames ∧ 23 ≤ R.locals) (hl : ls.size = nL) (hW : (rest.map fun v => v.category).sum ≤ 8) (hdg : decode cc pc = .ok (.invokeinterface index count, 5)) (hcs : cells ≤ R.cells ∧ slots ≤ R.slots)
    (kk : ∀ (H1 : Heap) (locs1 : List Loc) (x : Int), xBB E A s o Ad (lfI2 I x) F X H1 locs1 → W p l e R s m args below meth c H1 locs1 cells slots Q (F0 m (pc + 5) ls rest)) : W p l e R s m args below meth c H locs cells slots Q (F0 m pc ls (.ref (Ad 4) :: rest)) := by
  obtain ⟨w, hI, hd, hB⟩ := hB
  have ha := hI.at (r := 4) C0_4
  by_cases h0 : n = 0
  · subst h0
    rw [hn] at ha
    refine g_callFv cells slots (Nat.le_refl _) (Nat.le_refl _) hB (rF (As := []) (n := 0) C hZ hB ⟨"java/util/List", "clear", "()V"⟩ (kJ2_clear0 l E (wU w X) (Ad 4) (Ad 30) (I 41) (wU_l ha) H.size) (by decide) hlk q1084 q1086 q71 q1088 (by decide +kernel) ⟨hR.1, hR.2⟩ (wU_l ha) rfl rfl rfl hl rfl hW hdg hcs) (fun w1 H1 locs1 hp2 hB => ?_)
    subst hp2
    refine kk H1 locs1 (I 41 + 1) ⟨_, hI.lcl0 (by omega), hd.put_l ha, ?_⟩
    rw [wU_up_l] at hB
    exact hB
  · have h44 : ¬ I 43 = 0 := fun z => by have := (hI.2.2.1 z).1; omega
    have he := hI.at (r := 30) (e := xR E 3 10 (lfE Ad 100 (I 5))) (if_neg h44)
    have hne : Ad 30 ≠ Ad 4 := fun z => by rw [z, ha] at he; cases he
    rw [hn] at ha he
    refine g_callFv cells slots (Nat.le_refl _) (Nat.le_refl _) hB (rF (As := []) (n := 0) C hZ hB ⟨"java/util/List", "clear", "()V"⟩ (kJ2_clear l E (wU w X) (Ad 4) (Ad 30) (I 41) n 10 (lfE Ad 100 (n : Int)) (wU_l ha) (wU_l he) (by omega) (by decide) H.size) (by decide) hlk q1084 q1086 q71 q1088 (by decide +kernel) ⟨hR.1, hR.2⟩ (wU_l ha) rfl rfl rfl hl rfl hW hdg hcs) (fun w1 H1 locs1 hp2 hB => ?_)
    subst hp2
    refine kk H1 locs1 (I 41 + 1) ⟨_, hI.lcut h44, (hd.put_l ha).put_l (by rw [va_up_n _ _ hne]; exact he), ?_⟩
    rw [wU_up_l, wU_up_l, lfE_cl, va_up_comm _ _ _ hne] at hB
    exact hB
end LC
