/-! ROW: the left book's list takes all that was told -/
set_option maxRecDepth 100000
section LD
variable {p : Program} {l : Launch} {e : Env} {R : Room} {s : State} {m : MethodId} {args : Array Value} {below : List Frame} {meth : Method} {c : Code} {H : Heap} {locs : List Loc} {cells slots : Nat} {Q : State → Prop}
variable {cc : ByteArray} {pc nL : Nat} {ls : Array Slot} {rest : List Value} {E : xE} {A : Nat → Prop} {o a ed : Nat} {Ad Ad' : Nat → Nat} {I : Nat → Int} {F : Nat → Nat → Int} {X : xw} {own : String}
theorem b_laddAll (C : xC E p s m args c cc nL own) (hZ : zK E A s s.heap) (hB : xBB E A s o Ad I F X H locs) {t te n : Nat} {mb : Int} {K L B : Nat → Int} {g : Nat → Nat} (h5 : I 5 = 0) (n7 : n ≤ 7) (n1 : 1 ≤ n) (ht : X t = some (xO 18 [.int (iI mb), .ref te, .int (iI (n : Int))])) (he : X te = some (xR E 3 7 (lfE g 0 (n : Int)))) (hp : ∀ k, k < n → X (g (0 + k)) = some (plE o (K k) (L k) (B k))) (hi : ∀ k k', k < n → k' < n → g (0 + k) = g (0 + k') → k = k') {index count : Nat} (hlk : Cond.methodLink own index ⟨"java/util/List", "addAll", "(Ljava/util/Collection;)Z"⟩ ∈ lw_all) (hR : 5 ≤ R.frames ∧ 129 ≤ R.locals) (hl : ls.size = nL) (hW : (rest.map fun v => v.category).sum ≤ 8) (hdg : decode cc pc = .ok (.invokeinterface index count, 5)) (hcs : cells + 2 ≤ R.cells ∧ slots + 17 ≤ R.slots)
    (kk : ∀ (z : Int) (H1 : Heap) (locs1 : List Loc) (Ad1 : Nat → Nat) (x : Int) (X1 : xw), xBB E A s o Ad1 (lfI1 I x n) (lfF1 F K L B) X1 H1 locs1 → W p l e R s m args below meth c H1 locs1 (cells + 2) (slots + 17) Q (F0 m (pc + 5) ls (.int (iI z) :: rest))) : W p l e R s m args below meth c H locs cells slots Q (F0 m pc ls (.ref t :: .ref (Ad 4) :: rest)) := by
  obtain ⟨w, hI, hd, hB⟩ := hB
  have ha := hI.at (r := 4) C0_4
  rw [h5] at ha
  have hXw : ∀ a y, X a = some y → w a = none := fun a y hX => by
    cases q : w a with
    | none => rfl
    | some z => rw [hd a z q] at hX; cases hX
  have hel : ∀ i, i < n → ∀ y : Nat, lfE g 0 (n : Int) i = some y → xAny (wU w X) y := fun i hin y hy => by
    rw [show lfE g 0 (n : Int) i = some (g (0 + i)) from if_pos (by omega)] at hy
    injection hy with hy
    subst hy
    exact plE_any (wU_r hd (hp i hin))
  by_cases h43 : I 43 = 0
  · have h31 := (hI.2.2.1 h43).2
    rw [h31] at ha
    refine g_callFi (cells + 2) (slots + 17) (Nat.le_refl _) (Nat.le_refl _) hB (rF (As := [.ref t]) (n := 1) C hZ hB ⟨"java/util/List", "addAll", "(Ljava/util/Collection;)Z"⟩ (kJ2_addAll0 l E (wU w X) (Ad 4) (I 41) t mb te n 7 (lfE g 0 (n : Int)) (wU_l ha) (wU_r hd ht) (wU_r hd he) ⟨n7, n7, by decide⟩ n1 hel H.size) (by decide) hlk q1093 q1095 q71 q1097 (by decide +kernel) ⟨hR.1, hR.2⟩ (wU_l ha) rfl rfl rfl hl rfl hW hdg hcs) (fun z w1 H1 locs1 hz hp2 hB => ?_)
    obtain ⟨q, q2, hq, hq2, hqq, rfl⟩ := hp2
    have hgq : ∀ k, k < n → g (0 + k) ≠ q := fun k hk z => by
      have := wU_r hd (hp k hk)
      rw [z, hq] at this
      cases this
    have hx := hI.ladd (W := va_up (wU w X) q (some (xR E 3 n (va_cpy (lfE g 0 (n : Int)) (fun _ => none) 0 0 n)))) (Ad' := va_up (adN Ad 100 n (fun k => g (0 + k))) 30 q2) (x := I 41 + 1) (K := K) (L := L) (B := B) (g := fun k => g (0 + k)) h5 n7 n1 (fun a y h => by rw [va_up_n _ _ (fun z => by rw [z, (wU_n hq).1] at h; cases h)]; exact wU_l h) (fun k hk => hXw _ _ (hp k hk)) (fun k hk => by rw [va_up_n _ _ (hgq k hk)]; exact wU_r hd (hp k hk)) hi (Or.inr ⟨h43, by rw [va_up_s, va_up_n _ _ hqq]; exact hq2⟩) (fun j hj => va_up_n _ _ hj)
    refine kk z H1 locs1 _ (I 41 + 1) (fun _ => none) ⟨_, hx, fun _ _ _ => rfl, ?_⟩
    rw [lf_cpy (Ad' := va_up (adN Ad 100 n (fun k => g (0 + k))) 30 q2) (fun k hk => (va_up_n _ _ (by omega)).trans (adN_i hk)) (fun _ => rfl)] at hB
    rw [va_up_s, show ∀ w0 : xw, wU w0 (fun _ => none) = w0 from fun w0 => funext fun a => by unfold wU; cases w0 a <;> rfl]
    exact hB
  · have he2 := hI.at (r := 30) (e := xR E 3 10 (lfE Ad 100 (I 5))) (if_neg h43)
    refine x_up (show cells ≤ cells + 1 by omega) (show slots ≤ slots + 10 by omega) ?_
    refine g_callFi (cells + 2) (slots + 17) (by omega) (by omega) hB (rF (As := [.ref t]) (n := 1) C hZ hB ⟨"java/util/List", "addAll", "(Ljava/util/Collection;)Z"⟩ (kJ2_addAll l E (wU w X) (Ad 4) (I 41) t mb te n 7 (lfE g 0 (n : Int)) (Ad 30) 10 (lfE Ad 100 (I 5)) (wU_l ha) (wU_l he2) (wU_r hd ht) (wU_r hd he) ⟨n7, n7, by decide⟩ n1 hel ⟨by omega, by decide⟩ H.size) (by decide) hlk q1093 q1095 q71 q1097 (by decide +kernel) ⟨hR.1, hR.2⟩ (wU_l ha) rfl rfl rfl hl rfl hW hdg ⟨by omega, by omega⟩) (fun z w1 H1 locs1 hz hp2 hB => ?_)
    obtain ⟨q, hq, rfl⟩ := hp2
    have hgq : ∀ k, k < n → g (0 + k) ≠ q := fun k hk z => by
      have := wU_r hd (hp k hk)
      rw [z, hq] at this
      cases this
    have hx := hI.ladd (W := va_up (wU w X) q (some (xR E 3 n (va_cpy (lfE g 0 (n : Int)) (fun _ => none) 0 0 n)))) (Ad' := adN Ad 100 n (fun k => g (0 + k))) (x := I 41 + 1) (K := K) (L := L) (B := B) (g := fun k => g (0 + k)) h5 n7 n1 (fun a y h => by rw [va_up_n _ _ (fun z => by rw [z, (wU_n hq).1] at h; cases h)]; exact wU_l h) (fun k hk => hXw _ _ (hp k hk)) (fun k hk => by rw [va_up_n _ _ (hgq k hk)]; exact wU_r hd (hp k hk)) hi (Or.inl ⟨adN_o (by omega), h43⟩) (fun j hj => rfl)
    refine kk z H1 locs1 _ (I 41 + 1) (fun _ => none) ⟨_, hx, fun _ _ _ => rfl, ?_⟩
    rw [lf_cpy (Ad' := adN Ad 100 n (fun k => g (0 + k))) (fun k hk => adN_i hk) (fun j => by rw [h5]; exact if_neg (by omega))] at hB
    rw [show adN Ad 100 n (fun k => g (0 + k)) 30 = Ad 30 from adN_o (by omega), show ∀ w0 : xw, wU w0 (fun _ => none) = w0 from fun w0 => funext fun a => by unfold wU; cases w0 a <;> rfl]
    exact hB
end LD
