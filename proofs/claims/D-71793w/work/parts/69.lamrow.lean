/-! CALLS OF x's LAMBDAS -/
set_option maxRecDepth 100000
theorem qi_int {S : Type} {post : Int32 → S → Prop} {B : S → State → Prop} {A : Nat → Prop} : ∀ (a : Array Value) (st : State) (v : Option Value) (t : State), va_Qi post B A a st (.returned v) t → ∃ r, v = some (.int r) ∧ narrow .int (.int r) = .int r := by
  intro a st v t h
  obtain ⟨⟨r, u, hv, -⟩, -⟩ := h
  cases hv
  exact ⟨r, rfl, rfl⟩
theorem qi_bool {post : Int → xw → Prop} {B : xw → State → Prop} {A : Nat → Prop} (hp : ∀ z w, post z w → z = 0 ∨ z = 1) : ∀ (a : Array Value) (st : State) (v : Option Value) (t : State), va_Qi (gQi post) B A a st (.returned v) t → ∃ r, v = some (.int r) ∧ narrow .boolean (.int r) = .int r := by
  intro a st v t h
  obtain ⟨⟨r, u, hv, ⟨z, hz, -, hq⟩, -⟩, -⟩ := h
  cases hv
  refine ⟨r, rfl, ?_⟩
  subst hz
  rcases hp z u hq with rfl | rfl <;> rfl
theorem lam_at {E : xE} {o : Nat} {Ad : Nat → Nat} {I : Nat → Int} {F : Nat → Nat → Int} {X : xw} {w : xw} (hI : xInv E o Ad I F w) {r i : Nat} (h : C0 E Ad I F r = some (lamE E (Ad 0) i)) : wU w X (Ad r) = some (.inr { cls := E.2 (10 + i), slots := #[.ref o], vm := .none }) := by
  have h2 := hI.at h
  rw [hI.1] at h2
  exact wU_l h2
theorem b_cost (l : Launch) {p : Program} {e : Env} {R : Room} {s : State} {m : MethodId} {args : Array Value} {below : List Frame} {meth : Method} {c : Code} {H : Heap} {locs : List Loc} {cells slots : Nat} {Q : State → Prop} {cc : ByteArray} {pc nL : Nat} {ls : Array Slot} {rest : List Value} {E : xE} {A : Nat → Prop} {o : Nat} {Ad : Nat → Nat} {I : Nat → Int} {F : Nat → Nat → Int} {X : xw} {own : String} (C : xC E p s m args c cc nL own) (hZ : zK E A s s.heap) (hB : xBB E A s o Ad I F X H locs) (k : Nat) (hk : k < 5) (a b : Nat) (ha : (k : Int) ≠ 2 → (a : Int) + lo (k : Int) ≤ I 5) (hbb : (k : Int) ≠ 1 → (b : Int) + ro (k : Int) ≤ I 6) (hOK : mOK I F) {index count : Nat} (hlk : Cond.methodLink own index ⟨"BookPairs$Cost", "of", "(II)I"⟩ ∈ lw_all) (hR : 6 ≤ R.frames ∧ 136 ≤ R.locals) (hl : ls.size = nL) (hW : (rest.map fun v => v.category).sum ≤ 8) (hdg : decode cc pc = .ok (.invokeinterface index count, 5)) (hcs : cells ≤ R.cells ∧ slots ≤ R.slots)
    (kk : ∀ (H1 : Heap) (locs1 : List Loc), 0 ≤ cst I F (k : Int) a b → cst I F (k : Int) a b ≤ 60 → xBB E A s o Ad I F X H1 locs1 → W p l e R s m args below meth c H1 locs1 cells slots Q (F0 m (pc + 5) ls (.int (iI (cst I F (k : Int) a b)) :: rest))) : W p l e R s m args below meth c H locs cells slots Q (F0 m pc ls (.int (iI (b : Int)) :: .int (iI (a : Int)) :: .ref (Ad (70 + k)) :: rest)) := by
  obtain ⟨hR1, hR2⟩ := hR
  have hcr := cst_rg hOK (so := (k : Int)) (a := a) (b := b) (by omega) ha hbb
  rcases (show k = 0 ∨ k = 1 ∨ k = 2 ∨ k = 3 ∨ k = 4 by omega) with rfl | rfl | rfl | rfl | rfl
  · refine b_callFi cells slots (Nat.le_refl _) (Nat.le_refl _) hB (fun w hI hd hB => va_runLA (i := 0) (by decide) C hZ hB (kX0_lambda_new_0 l E o Ad I F X a b (show (a : Int) + 1 ≤ I 5 from ha (by decide)) (show (b : Int) + 1 ≤ I 6 from hbb (by decide)) hOK w hI hd _) rfl rfl rfl hlk (by decide) q149 q68 q150 qs0 (by decide +kernel) ⟨by omega, by show 8 + (3 + 11) + (8 + (3 + 11) + 92) ≤ R.locals; omega⟩ (lam_at hI (r := 70) rfl) (wU_l hI.x) qi_int hl rfl hW hdg hcs) (fun z Ad1 I1 F1 X1 H1 locs1 hz hp hB => ?_)
    obtain ⟨rfl, rfl, rfl, rfl, rfl⟩ := hp
    exact kk H1 locs1 hcr.1 hcr.2 hB
  · refine b_callFi cells slots (Nat.le_refl _) (Nat.le_refl _) hB (fun w hI hd hB => va_runLA (i := 1) (by decide) C hZ hB (kX0_lambda_new_1 l E o Ad I F X a b (show (a : Int) + 1 ≤ I 5 from ha (by decide)) hOK w hI hd _) rfl rfl rfl hlk (by decide) q215 q68 q216 qs2 (by decide +kernel) ⟨by omega, by show 8 + (3 + 11) + (8 + (3 + 11) + 64) ≤ R.locals; omega⟩ (lam_at hI (r := 71) rfl) (wU_l hI.x) qi_int hl rfl hW hdg hcs) (fun z Ad1 I1 F1 X1 H1 locs1 hz hp hB => ?_)
    obtain ⟨rfl, rfl, rfl, rfl, rfl⟩ := hp
    exact kk H1 locs1 hcr.1 hcr.2 hB
  · refine b_callFi cells slots (Nat.le_refl _) (Nat.le_refl _) hB (fun w hI hd hB => va_runLA (i := 2) (by decide) C hZ hB (kX0_lambda_new_2 l E o Ad I F X a b (show (b : Int) + 1 ≤ I 6 from hbb (by decide)) hOK w hI hd _) rfl rfl rfl hlk (by decide) q218 q68 q219 qs3 (by decide +kernel) ⟨by omega, by show 8 + (3 + 11) + (8 + (3 + 11) + 0) ≤ R.locals; omega⟩ (lam_at hI (r := 72) rfl) (wU_l hI.x) qi_int hl rfl hW hdg hcs) (fun z Ad1 I1 F1 X1 H1 locs1 hz hp hB => ?_)
    obtain ⟨rfl, rfl, rfl, rfl, rfl⟩ := hp
    exact kk H1 locs1 hcr.1 hcr.2 hB
  · refine b_callFi cells slots (Nat.le_refl _) (Nat.le_refl _) hB (fun w hI hd hB => va_runLA (i := 3) (by decide) C hZ hB (kX0_lambda_new_3 l E o Ad I F X a b (show (a : Int) + 2 ≤ I 5 from ha (by decide)) (show (b : Int) + 1 ≤ I 6 from hbb (by decide)) hOK w hI hd _) rfl rfl rfl hlk (by decide) q221 q68 q222 qs4 (by decide +kernel) ⟨by omega, by show 8 + (3 + 11) + (8 + (3 + 11) + 92) ≤ R.locals; omega⟩ (lam_at hI (r := 73) rfl) (wU_l hI.x) qi_int hl rfl hW hdg hcs) (fun z Ad1 I1 F1 X1 H1 locs1 hz hp hB => ?_)
    obtain ⟨rfl, rfl, rfl, rfl, rfl⟩ := hp
    exact kk H1 locs1 hcr.1 hcr.2 hB
  · refine b_callFi cells slots (Nat.le_refl _) (Nat.le_refl _) hB (fun w hI hd hB => va_runLA (i := 4) (by decide) C hZ hB (kX0_lambda_new_4 l E o Ad I F X a b (show (a : Int) + 1 ≤ I 5 from ha (by decide)) (show (b : Int) + 2 ≤ I 6 from hbb (by decide)) hOK w hI hd _) rfl rfl rfl hlk (by decide) q224 q68 q225 qs5 (by decide +kernel) ⟨by omega, by show 8 + (3 + 11) + (8 + (3 + 11) + 92) ≤ R.locals; omega⟩ (lam_at hI (r := 74) rfl) (wU_l hI.x) qi_int hl rfl hW hdg hcs) (fun z Ad1 I1 F1 X1 H1 locs1 hz hp hB => ?_)
    obtain ⟨rfl, rfl, rfl, rfl, rfl⟩ := hp
    exact kk H1 locs1 hcr.1 hcr.2 hB
theorem b_cost1 (l : Launch) {p : Program} {e : Env} {R : Room} {s : State} {m : MethodId} {args : Array Value} {below : List Frame} {meth : Method} {c : Code} {H : Heap} {locs : List Loc} {cells slots : Nat} {Q : State → Prop} {cc : ByteArray} {pc nL : Nat} {ls : Array Slot} {rest : List Value} {E : xE} {A : Nat → Prop} {o : Nat} {Ad : Nat → Nat} {I : Nat → Int} {F : Nat → Nat → Int} {X : xw} {own : String} (C : xC E p s m args c cc nL own) (hZ : zK E A s s.heap) (hB : xBB E A s o Ad I F X H locs) (a : Nat) (y : Int) (ha : (a : Int) + 1 ≤ I 5) (hOK : mOK I F) {index count : Nat} (hlk : Cond.methodLink own index ⟨"BookPairs$Cost", "of", "(II)I"⟩ ∈ lw_all) (hR : 5 ≤ R.frames ∧ 108 ≤ R.locals) (hl : ls.size = nL) (hW : (rest.map fun v => v.category).sum ≤ 8) (hdg : decode cc pc = .ok (.invokeinterface index count, 5)) (hcs : cells ≤ R.cells ∧ slots ≤ R.slots)
    (kk : ∀ (H1 : Heap) (locs1 : List Loc), xBB E A s o Ad I F X H1 locs1 → W p l e R s m args below meth c H1 locs1 cells slots Q (F0 m (pc + 5) ls (.int (iI (I 7 + lenF F a)) :: rest))) : W p l e R s m args below meth c H locs cells slots Q (F0 m pc ls (.int (iI y) :: .int (iI (a : Int)) :: .ref (Ad (70 + 1)) :: rest)) := by
  obtain ⟨hR1, hR2⟩ := hR
  refine b_callFi cells slots (Nat.le_refl _) (Nat.le_refl _) hB (fun w hI hd hB => va_runLA (i := 1) (by decide) C hZ hB (kX0_lambda_new_1i l E o Ad I F X a y ha hOK w hI hd _) rfl rfl rfl hlk (by decide) q215 q68 q216 qs2 (by decide +kernel) ⟨by omega, by show 8 + (3 + 11) + (8 + (3 + 11) + 64) ≤ R.locals; omega⟩ (lam_at hI (r := 71) rfl) (wU_l hI.x) qi_int hl rfl hW hdg hcs) (fun z Ad1 I1 F1 X1 H1 locs1 hz hp hB => ?_)
  obtain ⟨rfl, rfl, rfl, rfl, rfl⟩ := hp
  exact kk H1 locs1 hB
theorem b_cost2 (l : Launch) {p : Program} {e : Env} {R : Room} {s : State} {m : MethodId} {args : Array Value} {below : List Frame} {meth : Method} {c : Code} {H : Heap} {locs : List Loc} {cells slots : Nat} {Q : State → Prop} {cc : ByteArray} {pc nL : Nat} {ls : Array Slot} {rest : List Value} {E : xE} {A : Nat → Prop} {o : Nat} {Ad : Nat → Nat} {I : Nat → Int} {F : Nat → Nat → Int} {X : xw} {own : String} (C : xC E p s m args c cc nL own) (hZ : zK E A s s.heap) (hB : xBB E A s o Ad I F X H locs) (y : Int) (b : Nat) (hbb : (b : Int) + 1 ≤ I 6) (hOK : mOK I F) {index count : Nat} (hlk : Cond.methodLink own index ⟨"BookPairs$Cost", "of", "(II)I"⟩ ∈ lw_all) (hR : 2 ≤ R.frames ∧ 44 ≤ R.locals) (hl : ls.size = nL) (hW : (rest.map fun v => v.category).sum ≤ 8) (hdg : decode cc pc = .ok (.invokeinterface index count, 5)) (hcs : cells ≤ R.cells ∧ slots ≤ R.slots)
    (kk : ∀ (H1 : Heap) (locs1 : List Loc), xBB E A s o Ad I F X H1 locs1 → W p l e R s m args below meth c H1 locs1 cells slots Q (F0 m (pc + 5) ls (.int (iI (I 7 + F 13 b)) :: rest))) : W p l e R s m args below meth c H locs cells slots Q (F0 m pc ls (.int (iI (b : Int)) :: .int (iI y) :: .ref (Ad (70 + 2)) :: rest)) := by
  obtain ⟨hR1, hR2⟩ := hR
  refine b_callFi cells slots (Nat.le_refl _) (Nat.le_refl _) hB (fun w hI hd hB => va_runLA (i := 2) (by decide) C hZ hB (kX0_lambda_new_2i l E o Ad I F X y b hbb hOK w hI hd _) rfl rfl rfl hlk (by decide) q218 q68 q219 qs3 (by decide +kernel) ⟨by omega, by show 8 + (3 + 11) + (8 + (3 + 11) + 0) ≤ R.locals; omega⟩ (lam_at hI (r := 72) rfl) (wU_l hI.x) qi_int hl rfl hW hdg hcs) (fun z Ad1 I1 F1 X1 H1 locs1 hz hp hB => ?_)
  obtain ⟨rfl, rfl, rfl, rfl, rfl⟩ := hp
  exact kk H1 locs1 hB
