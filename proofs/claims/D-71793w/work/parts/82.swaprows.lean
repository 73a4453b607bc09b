/-! ROWS: x's int arrays changed for others; a left sentence put at a place -/
set_option maxRecDepth 100000
theorem C0_A {E : xE} {Ad Ad' : Nat → Nat} {I : Nat → Int} {F : Nat → Nat → Int} (hA : ∀ j, j = 0 ∨ 30 ≤ j → Ad' j = Ad j) : ∀ i, i ≠ 0 → C0 E Ad' I F i = C0 E Ad I F i := by
  intro r hr
  unfold C0
  by_cases q1 : r < 50
  · rw [if_pos q1, if_pos q1]
    unfold C0a
    split
    · exact absurd rfl hr
    · congr 2
      funext j
      by_cases g : j < 5
      · rw [if_pos g, if_pos g, hA _ (by omega)]
      · rw [if_neg g, if_neg g]
    · congr 2
      funext j
      by_cases g : j < 3
      · rw [if_pos g, if_pos g, hA _ (by omega)]
      · rw [if_neg g, if_neg g]
    · rw [hA 30 (by omega)]
    · rfl
    · rfl
    · rfl
    · rfl
    · rfl
    · rfl
    · rfl
    · rfl
    · rw [hA 31 (by omega)]
    · congr 2
      funext j
      rw [hA _ (by omega)]
    · split
      · rfl
      · congr 2
        funext j
        rw [hA _ (by omega)]
    · split
      · rfl
      · congr 2
        funext j
        rw [hA _ (by omega)]
    · rfl
  · rw [if_neg q1, if_neg q1, hA 0 (by omega), hA (r + 20) (by omega), hA (r + 10) (by omega)]
section SR
variable {p : Program} {l : Launch} {e : Env} {R : Room} {s : State} {m : MethodId} {args : Array Value} {below : List Frame} {meth : Method} {c : Code} {H : Heap} {locs : List Loc} {cells slots : Nat} {Q : State → Prop}
variable {cc : ByteArray} {pc nL : Nat} {ls : Array Slot} {rest : List Value} {E : xE} {A : Nat → Prop} {o a ed : Nat} {Ad : Nat → Nat} {I : Nat → Int} {F : Nat → Nat → Int} {X : xw} {own : String}
theorem xInv.putR {w : xw} (h : xInv E o Ad I F w) {r k q : Nat} {f : Nat → Int} (hr : (r = 6 ∧ k = 13) ∨ (r = 7 ∧ k = 14)) (hq : w q = none) : xInv E o (va_up Ad r q) I (va_up F k f) (wsw w (Ad r) q o (xI E 7 f) (xO 0 (xFs (va_up Ad r q) I))) := by
  obtain ⟨h0, h1, h2, h3⟩ := h
  have hx : xArr r = some (k, 7) := by rcases hr with ⟨rfl, rfl⟩ | ⟨rfl, rfl⟩ <;> rfl
  have hA : ∀ j, j = 0 ∨ 30 ≤ j → va_up Ad r q j = Ad j := fun j hj => va_up_n _ _ (by omega)
  refine ⟨by rw [hA 0 (by omega)]; exact h0, ?_, by rw [hA 30 (by omega)]; exact h2, by rw [hA 31 (by omega)]; exact h3⟩
  rw [← h0]
  refine rW_swap (rc := 0) h1 (C0_arr hx) rfl (by omega) hq (fun i hi hi0 => ?_) ?_ rfl
  · rw [C0_F hx f i hi, C0_A hA i hi0]
  · rw [C0_arr hx, va_up_s]
theorem b_putR (C : xC E p s m args c cc nL RX0) (hB : xBB E A s o Ad I F X H locs) {index : Nat} (kf r k : Nat) (hr : (kf = 5 ∧ r = 6 ∧ k = 13) ∨ (kf = 6 ∧ r = 7 ∧ k = 14)) (hlink : (Cond.fieldLink RX0 index RX0 (TX0 kf).2.1 (TX0 kf).2.2.1) ∈ lw_all) {q : Nat} {f : Nat → Int} (hq : X q = some (xI E 7 f)) (hdg : decode cc pc = .ok (.putfield index, 3))
    (kk : ∀ (H1 : Heap) (locs1 : List Loc) (Ad1 : Nat → Nat) (X1 : xw), (∀ a e, a ≠ q → X a = some e → X1 a = some e) → xBB E A s o Ad1 I (va_up F k f) X1 H1 locs1 → W p l e R s m args below meth c H1 locs1 cells slots Q (F0 m (pc + 3) ls rest)) : W p l e R s m args below meth c H locs cells slots Q (F0 m pc ls (.ref q :: .ref o :: rest)) := by
  obtain ⟨w, hI, hd, hB⟩ := hB
  have hwq : w q = none := by
    cases g : w q with
    | none => rfl
    | some x => rw [hd q x g] at hq; cases hq
  have hr' : (r = 6 ∧ k = 13) ∨ (r = 7 ∧ k = 14) := by omega
  have hx : xArr r = some (k, 7) := by rcases hr' with ⟨rfl, rfl⟩ | ⟨rfl, rfl⟩ <;> rfl
  have hp := hI.at (C0_arr (E := E) (Ad := Ad) (I := I) (F := F) hx)
  have hop : o ≠ Ad r := fun z => by
    have := hI.x
    rw [z, hp] at this
    cases this
  have hfs : (xFs Ad I).set kf (.ref q) = xFs (va_up Ad r q) I := by
    rcases hr with ⟨rfl, rfl, rfl⟩ | ⟨rfl, rfl, rfl⟩ <;> rfl
  obtain ⟨hu, hd2⟩ := wU_swap (c1 := xO 0 (xFs (va_up Ad r q) I)) hd hp hI.x hop hq
  have hkf : kf < 19 := by omega
  have ho : (TX0 kf).1 = RX0 := by rcases hr with ⟨rfl, -⟩ | ⟨rfl, -⟩ <;> rfl
  have hfin : (TX0 kf).2.2.2 = false := by rcases hr with ⟨rfl, -⟩ | ⟨rfl, -⟩ <;> rfl
  have hty : tyX0 kf = .array .int := by rcases hr with ⟨rfl, -⟩ | ⟨rfl, -⟩ <;> rfl
  refine x_put C hB (wU_l hI.x) rfl in_X0 tyX0_ok nmX0 kf hkf hlink (fun x h => by rw [ho] at h; exact h) hfin (by rw [hty]; rfl) (by rw [hty]; rfl) hkf hdg (fun H1 locs1 h => kk H1 locs1 (va_up Ad r q) (xsw X q (Ad r) (xI E 7 (F k))) (fun a e ha hX => ?_) ⟨_, hI.putR hr' hwq, hd2, ?_⟩)
  · rw [xsw_n ha (fun z => by rw [z, hd _ _ hp] at hX; cases hX)]
    exact hX
  · rw [hu, ← hfs]
    exact h
/-! a left sentence of another kind -/
theorem xInv.lkd {w : xw} (h : xInv E o Ad I F w) {i q : Nat} {v : Int} (hi : (i : Int) < I 5) (h7 : I 5 ≤ 7) (hq : w q = none) : xInv E o (va_up Ad (100 + i) q) I (kd F 10 i v) (wsw w (Ad (100 + i)) q (Ad 30) (plE o v (F 11 i) (F 12 i)) (xR E 3 10 (va_up (lfE Ad 100 (I 5)) i (some q)))) := by
  obtain ⟨h0, h1, h2, h3⟩ := h
  have hA : ∀ j, j ≠ 100 + i → va_up Ad (100 + i) q j = Ad j := fun j hj => va_up_n _ _ hj
  have h43 : ¬ I 43 = 0 := fun z => by have := (h2 z).1; omega
  refine ⟨by rw [hA 0 (by omega)]; exact h0, ?_, by rw [hA 30 (by omega)]; exact h2, by rw [hA 31 (by omega)]; exact h3⟩
  refine rW_swap (rc := 30) (c0 := xR E 3 10 (lfE Ad 100 (I 5))) h1 (C0_pl hi h7) ?_ (by omega) hq (fun k hk hk2 => C0_kd v hi h7 k hk hk2) ?_ ?_
  · show (if I 43 = 0 then none else _) = _
    rw [if_neg h43]
    rfl
  · rw [C0_pl hi h7, hA 0 (by omega), h0, show kd F 10 i v 10 = va_up (F 10) i v from va_up_s _ _ _, va_up_s, show kd F 10 i v 11 = F 11 from va_up_n _ _ (by decide), show kd F 10 i v 12 = F 12 from va_up_n _ _ (by decide)]
  · show (if I 43 = 0 then none else _) = _
    rw [if_neg h43]
    congr 2
    funext j
    unfold lfE
    by_cases g : j = i
    · subst g
      rw [va_up_s, if_pos hi, va_up_s]
    · rw [va_up_n _ _ g, va_up_n _ _ (show 100 + j ≠ 100 + i by omega)]
theorem plE_any {w : xw} {o q : Nat} {k L N : Int} (h : w q = some (plE o k L N)) : xAny w q := by
  unfold plE at h
  split at h
  · exact ⟨_, _, _, h, rfl, q1759⟩
  · split at h
    · exact ⟨_, _, _, h, rfl, q1760⟩
    · exact ⟨_, _, _, h, rfl, q1761⟩
theorem plE_nX {o : Nat} {k L N : Int} (E : xE) (n : Nat) (f : Nat → Option Nat) : plE o k L N ≠ xR E 3 n f := by
  unfold plE
  split
  · intro h; cases h
  · split
    · intro h; cases h
    · intro h; cases h
theorem b_lset (C : xC E p s m args c cc nL own) (hZ : zK E A s s.heap) (hB : xBB E A s o Ad I F X H locs) {z v : Int} (i : Nat) (hz : z = (i : Int)) (hi : (i : Int) < I 5) (h7 : I 5 ≤ 7) {q : Nat} (hq : X q = some (plE o v (F 11 i) (F 12 i))) {index count : Nat} (hlk : Cond.methodLink own index ⟨"java/util/List", "set", "(ILjava/lang/Object;)Ljava/lang/Object;"⟩ ∈ lw_all) (hR : 3 ≤ R.frames ∧ 66 ≤ R.locals) (hl : ls.size = nL) (hW : (rest.map fun v => v.category).sum ≤ 8) (hdg : decode cc pc = .ok (.invokeinterface index count, 5)) (hcs : cells ≤ R.cells ∧ slots ≤ R.slots)
    (kk : ∀ (H1 : Heap) (locs1 : List Loc) (Ad1 : Nat → Nat) (X1 : xw), (∀ a e, a ≠ q → X a = some e → X1 a = some e) → X1 (Ad (100 + i)) = some (plE o (F 10 i) (F 11 i) (F 12 i)) → Ad (100 + i) ≠ q → (∀ a, X a ≠ none → Ad (100 + i) ≠ a) → Ad1 (100 + i) = q → Ad1 4 = Ad 4 → xBB E A s o Ad1 I (kd F 10 i v) X1 H1 locs1 → W p l e R s m args below meth c H1 locs1 cells slots Q (F0 m (pc + 5) ls (.ref (Ad (100 + i)) :: rest))) : W p l e R s m args below meth c H locs cells slots Q (F0 m pc ls (.ref q :: .int (iI z) :: .ref (Ad 4) :: rest)) := by
  subst hz
  obtain ⟨w, hI, hd, hB⟩ := hB
  have hwq : w q = none := by
    cases g : w q with
    | none => rfl
    | some x => rw [hd q x g] at hq; cases hq
  have hp := pl_at hI hi h7
  have hc := hI.larr (by omega)
  have hcp : Ad 30 ≠ Ad (100 + i) := fun z => by
    rw [z, hp] at hc
    injection hc with hc
    exact plE_nX E _ _ hc
  obtain ⟨hu, hd2⟩ := wU_swap (c1 := xR E 3 10 (va_up (lfE Ad 100 (I 5)) i (some q))) hd hp hc hcp hq
  refine g_callFq cells slots (Nat.le_refl _) (Nat.le_refl _) hB (rF (As := [.int (iI (i : Int)), .ref q]) (n := 2) C hZ hB ⟨"java/util/List", "set", "(ILjava/lang/Object;)Ljava/lang/Object;"⟩ (kJ2_set l E (wU w X) (Ad 4) (Ad 30) (I 41) (I 5) 10 (lfE Ad 100 (I 5)) i (Ad (100 + i)) q (wU_l (hI.at (r := 4) rfl)) (wU_l hc) (if_pos hi) (plE_any (wU_r hd hq)) hi ⟨by omega, by decide⟩ H.size) (by decide) hlk q825 q827 q71 q829 (by decide +kernel) ⟨hR.1, hR.2⟩ (wU_l (hI.at (r := 4) rfl)) rfl rfl rfl hl rfl hW hdg hcs) (fun z w1 H1 locs1 hp2 hB => ?_)
  obtain ⟨rfl, rfl⟩ := hp2
  refine kk H1 locs1 (va_up Ad (100 + i) q) (xsw X q (Ad (100 + i)) (plE o (F 10 i) (F 11 i) (F 12 i))) (fun a e ha hX => ?_) (xsw_p (fun z => by rw [z, hwq] at hp; cases hp)) (fun z => by rw [z, hwq] at hp; cases hp) (fun a ha z => ha (by rw [← z]; exact hd _ _ hp)) (va_up_s _ _ _) (va_up_n _ _ (by omega)) ⟨_, hI.lkd hi h7 hwq, hd2, ?_⟩
  · rw [xsw_n ha (fun z => by rw [z, hd _ _ hp] at hX; cases hX)]
    exact hX
  · rw [hu]
    exact hB
end SR
