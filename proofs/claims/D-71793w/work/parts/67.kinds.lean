/-! CALLS OF LEFT SENTENCES' MEMBERS, by kind -/
set_option maxRecDepth 100000
def saidV (F : Nat → Nat → Int) (i : Nat) : Int := if F 10 i = 1 then F 11 i + 100 else if F 10 i = 2 then 2 * F 11 i + 100 else F 11 i
def saidT (I : Nat → Int) (F : Nat → Nat → Int) (i : Nat) : Int := if F 10 i = 1 then tr (tr (I 1) 2) 1 else if F 10 i = 2 then tr (tr (tr (tr (I 1) 3) 2) 1) 1 else tr (I 1) 1
theorem b_plen (l : Launch) {p : Program} {e : Env} {R : Room} {s : State} {m : MethodId} {args : Array Value} {below : List Frame} {meth : Method} {c : Code} {H : Heap} {locs : List Loc} {cells slots : Nat} {Q : State → Prop} {cc : ByteArray} {pc nL : Nat} {ls : Array Slot} {rest : List Value} {E : xE} {A : Nat → Prop} {o : Nat} {Ad : Nat → Nat} {I : Nat → Int} {F : Nat → Nat → Int} {X : xw} {own : String} (C : xC E p s m args c cc nL own) (hZ : zK E A s s.heap) (hB : xBB E A s o Ad I F X H locs) (i : Nat) (hi : (i : Int) < I 5) (h7 : I 5 ≤ 7) (hk3 : 0 ≤ F 10 i ∧ F 10 i ≤ 2) (hL : 1 ≤ F 11 i ∧ F 11 i ≤ 9) {index : Nat} (hlk : Cond.methodLink own index ⟨"BookPairs$Plain", "length", "()I"⟩ ∈ lw_all) (hR : 3 ≤ R.frames ∧ 60 ≤ R.locals) (hl : ls.size = nL) (hW : (rest.map fun v => v.category).sum ≤ 8) (hdg : decode cc pc = .ok (.invokevirtual index, 3)) (hcs : cells ≤ R.cells ∧ slots ≤ R.slots)
    (kk : ∀ (H1 : Heap) (locs1 : List Loc), 1 ≤ lenF F i → lenF F i ≤ 18 → xBB E A s o Ad I F X H1 locs1 → W p l e R s m args below meth c H1 locs1 cells slots Q (F0 m (pc + 3) ls (.int (iI (lenF F i)) :: rest))) : W p l e R s m args below meth c H locs cells slots Q (F0 m pc ls (.ref (Ad (100 + i)) :: rest)) := by
  obtain ⟨hR1, hR2⟩ := hR
  rcases (show F 10 i = 0 ∨ F 10 i = 1 ∨ F 10 i = 2 by omega) with hk | hk | hk
  · refine b_calli cells slots (Nat.le_refl _) (Nat.le_refl _) hB (fun w hI hd hB => rV (As := []) (n := 0) C hZ hB (kX6_length l E o Ad I F X i (by omega) (by omega) (by omega) w hI hd _) (lw_V hlk q177 q178 q80 q191) (by decide +kernel) ⟨by omega, by omega⟩ (wU_l (pl_at0 hI (show ((i : Nat) : Int) < I 5 by omega) (show I 5 ≤ 7 by omega) (show (F 10) i = 0 from hk))) rfl rfl rfl hl rfl hW hdg hcs) (fun z Ad1 I1 F1 X1 H1 locs1 hz hp hB => ?_)
    obtain ⟨rfl, rfl, rfl, rfl, rfl⟩ := hp
    have e : lenF F i = F 11 i := by unfold lenF; rw [if_pos hk]
    have e3 := kk H1 locs1 (by omega) (by omega) hB
    rw [e] at e3
    exact e3
  · refine b_calli cells slots (Nat.le_refl _) (Nat.le_refl _) hB (fun w hI hd hB => rO (As := []) (n := 0) C hZ hB ⟨"BookPairs$Plain", "length", "()I"⟩ "BookPairs$Plain" (kX7_length_1 l E o Ad I F X i (by omega) (by omega) hk (by omega) w hI hd _) hlk q179 q177 q192 q193 q81 q194 q191 (by decide +kernel) ⟨by omega, by omega⟩ (wU_l (pl_at1 hI (show ((i : Nat) : Int) < I 5 by omega) (show I 5 ≤ 7 by omega) (show (F 10) i = 1 from hk))) rfl rfl rfl hl rfl hW hdg hcs) (fun z Ad1 I1 F1 X1 H1 locs1 hz hp hB => ?_)
    obtain ⟨rfl, rfl, rfl, rfl, rfl⟩ := hp
    have e : lenF F i = F 11 i + 1 := by unfold lenF; rw [if_neg (by omega), if_pos hk]
    have e3 := kk H1 locs1 (by omega) (by omega) hB
    rw [e] at e3
    exact e3
  · refine b_calli cells slots (Nat.le_refl _) (Nat.le_refl _) hB (fun w hI hd hB => rO (As := []) (n := 0) C hZ hB ⟨"BookPairs$Plain", "length", "()I"⟩ "BookPairs$Plain" (kX8_length_2 l E o Ad I F X i (by omega) (by omega) hk (by omega) w hI hd _) hlk q179 q177 q180 q181 q82 q182 q191 (by decide +kernel) ⟨by omega, by omega⟩ (wU_l (pl_at2 hI (show ((i : Nat) : Int) < I 5 by omega) (show I 5 ≤ 7 by omega) (show (F 10) i = 2 from hk))) rfl rfl rfl hl rfl hW hdg hcs) (fun z Ad1 I1 F1 X1 H1 locs1 hz hp hB => ?_)
    obtain ⟨rfl, rfl, rfl, rfl, rfl⟩ := hp
    have e : lenF F i = 2 * F 11 i := by unfold lenF; rw [if_neg (by omega), if_neg (by omega)]
    have e3 := kk H1 locs1 (by omega) (by omega) hB
    rw [e] at e3
    exact e3

theorem b_pkind (l : Launch) {p : Program} {e : Env} {R : Room} {s : State} {m : MethodId} {args : Array Value} {below : List Frame} {meth : Method} {c : Code} {H : Heap} {locs : List Loc} {cells slots : Nat} {Q : State → Prop} {cc : ByteArray} {pc nL : Nat} {ls : Array Slot} {rest : List Value} {E : xE} {A : Nat → Prop} {o : Nat} {Ad : Nat → Nat} {I : Nat → Int} {F : Nat → Nat → Int} {X : xw} {own : String} (C : xC E p s m args c cc nL own) (hZ : zK E A s s.heap) (hB : xBB E A s o Ad I F X H locs) (i : Nat) (hi : (i : Int) < I 5) (h7 : I 5 ≤ 7) (hk3 : 0 ≤ F 10 i ∧ F 10 i ≤ 2) {index : Nat} (hlk : Cond.methodLink own index ⟨"BookPairs$Plain", "kind", "()I"⟩ ∈ lw_all) (hR : 1 ≤ R.frames ∧ 20 ≤ R.locals) (hl : ls.size = nL) (hW : (rest.map fun v => v.category).sum ≤ 8) (hdg : decode cc pc = .ok (.invokevirtual index, 3)) (hcs : cells ≤ R.cells ∧ slots ≤ R.slots)
    (kk : ∀ (H1 : Heap) (locs1 : List Loc), xBB E A s o Ad I F X H1 locs1 → W p l e R s m args below meth c H1 locs1 cells slots Q (F0 m (pc + 3) ls (.int (iI (F 10 i)) :: rest))) : W p l e R s m args below meth c H locs cells slots Q (F0 m pc ls (.ref (Ad (100 + i)) :: rest)) := by
  obtain ⟨hR1, hR2⟩ := hR
  rcases (show F 10 i = 0 ∨ F 10 i = 1 ∨ F 10 i = 2 by omega) with hk | hk | hk
  · refine b_calli cells slots (Nat.le_refl _) (Nat.le_refl _) hB (fun w hI hd hB => rV (As := []) (n := 0) C hZ hB (kX6_kind l E o Ad I F X i (by omega) (by omega) w hI hd _) (lw_V hlk q375 q376 q80 q384) (by decide +kernel) ⟨by omega, by omega⟩ (wU_l (pl_at0 hI (show ((i : Nat) : Int) < I 5 by omega) (show I 5 ≤ 7 by omega) (show (F 10) i = 0 from hk))) rfl rfl rfl hl rfl hW hdg hcs) (fun z Ad1 I1 F1 X1 H1 locs1 hz hp hB => ?_)
    obtain ⟨rfl, rfl, rfl, rfl, rfl⟩ := hp
    have e3 := kk H1 locs1 hB
    rw [hk] at e3
    exact e3
  · refine b_calli cells slots (Nat.le_refl _) (Nat.le_refl _) hB (fun w hI hd hB => rO (As := []) (n := 0) C hZ hB ⟨"BookPairs$Plain", "kind", "()I"⟩ "BookPairs$Plain" (kX7_kind l E o Ad I F X i (by omega) (by omega) w hI hd _) hlk q377 q375 q381 q382 q81 q383 q384 (by decide +kernel) ⟨by omega, by omega⟩ (wU_l (pl_at1 hI (show ((i : Nat) : Int) < I 5 by omega) (show I 5 ≤ 7 by omega) (show (F 10) i = 1 from hk))) rfl rfl rfl hl rfl hW hdg hcs) (fun z Ad1 I1 F1 X1 H1 locs1 hz hp hB => ?_)
    obtain ⟨rfl, rfl, rfl, rfl, rfl⟩ := hp
    have e3 := kk H1 locs1 hB
    rw [hk] at e3
    exact e3
  · refine b_calli cells slots (Nat.le_refl _) (Nat.le_refl _) hB (fun w hI hd hB => rO (As := []) (n := 0) C hZ hB ⟨"BookPairs$Plain", "kind", "()I"⟩ "BookPairs$Plain" (kX8_kind l E o Ad I F X i (by omega) (by omega) w hI hd _) hlk q377 q375 q378 q379 q82 q380 q384 (by decide +kernel) ⟨by omega, by omega⟩ (wU_l (pl_at2 hI (show ((i : Nat) : Int) < I 5 by omega) (show I 5 ≤ 7 by omega) (show (F 10) i = 2 from hk))) rfl rfl rfl hl rfl hW hdg hcs) (fun z Ad1 I1 F1 X1 H1 locs1 hz hp hB => ?_)
    obtain ⟨rfl, rfl, rfl, rfl, rfl⟩ := hp
    have e3 := kk H1 locs1 hB
    rw [hk] at e3
    exact e3

theorem b_psaid (l : Launch) {p : Program} {e : Env} {R : Room} {s : State} {m : MethodId} {args : Array Value} {below : List Frame} {meth : Method} {c : Code} {H : Heap} {locs : List Loc} {cells slots : Nat} {Q : State → Prop} {cc : ByteArray} {pc nL : Nat} {ls : Array Slot} {rest : List Value} {E : xE} {A : Nat → Prop} {o : Nat} {Ad : Nat → Nat} {I : Nat → Int} {F : Nat → Nat → Int} {X : xw} {own : String} (C : xC E p s m args c cc nL own) (hZ : zK E A s s.heap) (hB : xBB E A s o Ad I F X H locs) (i : Nat) (hi : (i : Int) < I 5) (h7 : I 5 ≤ 7) (hk3 : 0 ≤ F 10 i ∧ F 10 i ≤ 2) (hL : 1 ≤ F 11 i ∧ F 11 i ≤ 9) {index : Nat} (hlk : Cond.methodLink own index ⟨"BookPairs$Plain", "said", "()I"⟩ ∈ lw_all) (hR : 4 ≤ R.frames ∧ 81 ≤ R.locals) (hl : ls.size = nL) (hW : (rest.map fun v => v.category).sum ≤ 8) (hdg : decode cc pc = .ok (.invokevirtual index, 3)) (hcs : cells ≤ R.cells ∧ slots ≤ R.slots)
    (kk : ∀ (H1 : Heap) (locs1 : List Loc), 1 ≤ saidV F i → saidV F i ≤ 200 → xBB E A s o Ad (va_up I 1 (saidT I F i)) F X H1 locs1 → W p l e R s m args below meth c H1 locs1 cells slots Q (F0 m (pc + 3) ls (.int (iI (saidV F i)) :: rest))) : W p l e R s m args below meth c H locs cells slots Q (F0 m pc ls (.ref (Ad (100 + i)) :: rest)) := by
  obtain ⟨hR1, hR2⟩ := hR
  rcases (show F 10 i = 0 ∨ F 10 i = 1 ∨ F 10 i = 2 by omega) with hk | hk | hk
  · refine b_calli cells slots (Nat.le_refl _) (Nat.le_refl _) hB (fun w hI hd hB => rV (As := []) (n := 0) C hZ hB (kX6_said_0 l E o Ad I F X i (by omega) (by omega) hk (by omega) w hI hd _) (lw_V hlk q1277 q1278 q80 q1297) (by decide +kernel) ⟨by omega, by omega⟩ (wU_l (pl_at0 hI (show ((i : Nat) : Int) < I 5 by omega) (show I 5 ≤ 7 by omega) (show (F 10) i = 0 from hk))) rfl rfl rfl hl rfl hW hdg hcs) (fun z Ad1 I1 F1 X1 H1 locs1 hz hp hB => ?_)
    obtain ⟨rfl, rfl, rfl, rfl, rfl⟩ := hp
    have e : saidV F i = F 11 i := by unfold saidV; rw [if_neg (by omega), if_neg (by omega)]
    have e2 : saidT I F i = tr (I 1) 1 := by unfold saidT; rw [if_neg (by omega), if_neg (by omega)]
    rw [← e2] at hB
    have e3 := kk H1 locs1 (by omega) (by omega) hB
    rw [e] at e3
    exact e3
  · refine b_calli cells slots (Nat.le_refl _) (Nat.le_refl _) hB (fun w hI hd hB => rO (As := []) (n := 0) C hZ hB ⟨"BookPairs$Plain", "said", "()I"⟩ "BookPairs$Plain" (kX7_said_1 l E o Ad I F X i (by omega) (by omega) hk (by omega) w hI hd _) hlk q1279 q1277 q1305 q1290 q81 q1291 q1297 (by decide +kernel) ⟨by omega, by omega⟩ (wU_l (pl_at1 hI (show ((i : Nat) : Int) < I 5 by omega) (show I 5 ≤ 7 by omega) (show (F 10) i = 1 from hk))) rfl rfl rfl hl rfl hW hdg hcs) (fun z Ad1 I1 F1 X1 H1 locs1 hz hp hB => ?_)
    obtain ⟨rfl, rfl, rfl, rfl, rfl⟩ := hp
    have e : saidV F i = F 11 i + 100 := by unfold saidV; rw [if_pos hk]
    have e2 : saidT I F i = tr (tr (I 1) 2) 1 := by unfold saidT; rw [if_pos hk]
    rw [← e2] at hB
    have e3 := kk H1 locs1 (by omega) (by omega) hB
    rw [e] at e3
    exact e3
  · refine b_calli cells slots (Nat.le_refl _) (Nat.le_refl _) hB (fun w hI hd hB => rO (As := []) (n := 0) C hZ hB ⟨"BookPairs$Plain", "said", "()I"⟩ "BookPairs$Plain" (kX8_said_2 l E o Ad I F X i (by omega) (by omega) hk (by omega) w hI hd _) hlk q1279 q1277 q1280 q1281 q82 q1282 q1297 (by decide +kernel) ⟨by omega, by omega⟩ (wU_l (pl_at2 hI (show ((i : Nat) : Int) < I 5 by omega) (show I 5 ≤ 7 by omega) (show (F 10) i = 2 from hk))) rfl rfl rfl hl rfl hW hdg hcs) (fun z Ad1 I1 F1 X1 H1 locs1 hz hp hB => ?_)
    obtain ⟨rfl, rfl, rfl, rfl, rfl⟩ := hp
    have e : saidV F i = 2 * F 11 i + 100 := by unfold saidV; rw [if_neg (by omega), if_pos hk]
    have e2 : saidT I F i = tr (tr (tr (tr (I 1) 3) 2) 1) 1 := by unfold saidT; rw [if_neg (by omega), if_pos hk]
    rw [← e2] at hB
    have e3 := kk H1 locs1 (by omega) (by omega) hB
    rw [e] at e3
    exact e3

