/-! AGREEMENT: what an operation answers, and the state behind it, depend on what mAg speaks of alone -/
set_option maxRecDepth 100000
theorem nnP {p : Prop} (h : p) : ¬ ¬ p := fun q => q h
section AG
variable {I I' : Nat → Int} {F F' : Nat → Nat → Int}
theorem mAg.symm (h : mAg I F I' F') : mAg I' F' I F := by
  obtain ⟨h0, h1, h5, h6, h7, h8, h9, h29, hL, hR, hN, hS, hC⟩ := h
  exact ⟨h0.symm, h1.symm, h5.symm, h6.symm, h7.symm, h8.symm, h9.symm, h29.symm, fun k hk => by obtain ⟨a, b, c⟩ := hL k (h5 ▸ hk); exact ⟨a.symm, b.symm, c.symm⟩, fun k hk => by obtain ⟨a, b⟩ := hR k (h6 ▸ hk); exact ⟨a.symm, b.symm⟩, fun k hk => by obtain ⟨a, b⟩ := hN k (h29 ▸ hk); exact ⟨a.symm, b.symm⟩, fun k hk => by obtain ⟨a, b⟩ := hS k hk; exact ⟨a.symm, b.symm⟩, fun k hk => (hC k hk).symm⟩
theorem mOK.ag (hK : mOK I F) (h : mAg I F I' F') : mOK I' F' := by
  obtain ⟨h0, h1, h5, h6, h7, h8, h9, h29, hL, hR, hN, hS, hC⟩ := h
  obtain ⟨b0, b5, b6, b56, b7, b8, b9, b29, bL, bR, bN, bS, bC⟩ := hK
  refine ⟨by omega, by omega, by omega, by omega, by omega, by omega, by omega, by omega, fun k hk => ?_, fun k hk => ?_, fun k hk => ?_, fun k hk => ?_, fun k hk => ?_⟩
  · obtain ⟨a, b, c⟩ := hL k (by omega)
    rw [a, b, c]; exact bL k (by omega)
  · obtain ⟨a, b⟩ := hR k (by omega)
    rw [a, b]; exact bR k (by omega)
  · obtain ⟨a, b⟩ := hN k (by omega)
    rw [a, b]; exact bN k (by omega)
  · obtain ⟨a, b⟩ := hS k hk
    rw [a, b]; exact bS k hk
  · rw [hC k hk]; exact bC k hk
theorem lenF_ag (h : mAg I F I' F') {a : Nat} (ha : (a : Int) < I 5) : lenF F' a = lenF F a := by
  obtain ⟨h0, h1, h5, h6, h7, h8, h9, h29, hL, hR, hN, hS, hC⟩ := h
  obtain ⟨e1, e2, e3⟩ := hL a ha
  unfold lenF
  rw [e1, e2]
theorem cst_ag (h : mAg I F I' F') {so : Int} {a b : Nat} (hs : 0 ≤ so ∧ so ≤ 4) (ha : so ≠ 2 → (a : Int) + lo so ≤ I 5) (hb : so ≠ 1 → (b : Int) + ro so ≤ I 6) : cst I' F' so a b = cst I F so a b := by
  have hl : ∀ x : Nat, (x : Int) < I 5 → lenF F' x = lenF F x := fun x hx => lenF_ag h hx
  obtain ⟨h0, h1, h5, h6, h7, h8, h9, h29, hL, hR, hN, hS, hC⟩ := h
  rcases (show so = 0 ∨ so = 1 ∨ so = 2 ∨ so = 3 ∨ so = 4 by omega) with rfl | rfl | rfl | rfl | rfl
  · have a1 : (a : Int) + 1 ≤ I 5 := ha (by decide)
    have b1 : (b : Int) + 1 ≤ I 6 := hb (by decide)
    rw [cst_0, cst_0, hl a (by omega), (hL a (by omega)).2.2, (hR b (by omega)).1, (hR b (by omega)).2]
  · have a1 : (a : Int) + 1 ≤ I 5 := ha (by decide)
    rw [cst_1, cst_1, h7, hl a (by omega)]
  · have b1 : (b : Int) + 1 ≤ I 6 := hb (by decide)
    rw [cst_2, cst_2, h7, (hR b (by omega)).1]
  · have a1 : (a : Int) + 2 ≤ I 5 := ha (by decide)
    have b1 : (b : Int) + 1 ≤ I 6 := hb (by decide)
    rw [cst_3, cst_3, hl a (by omega), hl (a + 1) (by omega), (hL a (by omega)).2.2, (hL (a + 1) (by omega)).2.2, (hR b (by omega)).1, (hR b (by omega)).2, h8]
  · have a1 : (a : Int) + 1 ≤ I 5 := ha (by decide)
    have b1 : (b : Int) + 2 ≤ I 6 := hb (by decide)
    rw [cst_4, cst_4, hl a (by omega), (hL a (by omega)).2.2, (hR b (by omega)).1, (hR b (by omega)).2, (hR (b + 1) (by omega)).1, (hR (b + 1) (by omega)).2, h8]
theorem csM_ag (h : mAg I F I' F') {k i j : Nat} (hk : k < 5) (hi : i + loN k ≤ (I 5).toNat) (hj : j + roN k ≤ (I 6).toNat) : csM I' F' k i j = csM I F k i j := by
  have hlo : k ≠ 2 → lo (k : Int) = loN k := fun _ => by unfold lo loN; (repeat' split) <;> omega
  have hro : k ≠ 1 → ro (k : Int) = roN k := fun _ => by unfold ro roN; (repeat' split) <;> omega
  have p1 : k ≠ 2 → 1 ≤ loN k := fun _ => by unfold loN; (repeat' split) <;> omega
  have p2 : k ≠ 1 → 1 ≤ roN k := fun _ => by unfold roN; (repeat' split) <;> omega
  unfold csM
  refine cst_ag h ⟨by omega, by omega⟩ (fun g => ?_) (fun g => ?_)
  · have g2 : k ≠ 2 := fun z => g (by rw [z]; rfl)
    rw [hlo g2]
    have := p1 g2
    omega
  · have g2 : k ≠ 1 := fun z => g (by rw [z]; rfl)
    rw [hro g2]
    have := p2 g2
    omega
theorem accT_cs {nl nr : Nat} {cs cs' : Nat → Nat → Nat → Int} {T : Nat → Nat → Int × Int × Int} {i j : Nat} : ∀ n : Nat, (∀ k, k < n → i + loN k ≤ nl → j + roN k ≤ nr → cs k i j = cs' k i j) → accT nl nr cs T i j n = accT nl nr cs' T i j n := by
  intro n
  induction n with
  | zero => intro _; rfl
  | succ n ih =>
    intro h
    have h1 := ih (fun k hk => h k (by omega))
    unfold accT
    rw [h1]
    by_cases hc : i + loN n ≤ nl ∧ j + roN n ≤ nr
    · rw [if_pos hc, if_pos hc, h n (by omega) hc.1 hc.2]
    · rw [if_neg hc, if_neg hc]
theorem Df_cs {nl nr : Nat} {cs cs' : Nat → Nat → Nat → Int} {w : Int} (h : ∀ k i j, k < 5 → i + loN k ≤ nl → j + roN k ≤ nr → cs k i j = cs' k i j) : ∀ n, Df nl nr cs w n = Df nl nr cs' w n := by
  intro n
  induction n with
  | zero => rfl
  | succ n ih =>
    funext i j
    unfold Df
    rw [ih, accT_cs (cs' := cs') 5 (fun k hk => h k i j hk)]
theorem DT_ag (h : mAg I F I' F') : DT I' F' = DT I F := by
  have h5 := h.2.2.1
  have h6 := h.2.2.2.1
  funext w i j
  unfold DT D
  rw [h5, h6, Df_cs (cs' := csM I F) (fun k i j hk h1 h2 => csM_ag h hk h1 h2)]
theorem onB_ag (h : mAg I F I' F') {w : Int} {i j k : Nat} (hk : k < 5) : onB I' F' w i j k = onB I F w i j k := by
  have h5 := h.2.2.1
  have h6 := h.2.2.2.1
  unfold onB
  rw [DT_ag h, h5, h6]
  refine decide_eq_decide.mpr ⟨fun g => ⟨g.1, g.2.1, ?_⟩, fun g => ⟨g.1, g.2.1, ?_⟩⟩
  · rw [← csM_ag h hk g.1 g.2.1]; exact g.2.2
  · rw [csM_ag h hk g.1 g.2.1]; exact g.2.2
theorem ns_ag (h : mAg I F I' F') {w : Int} {i j : Nat} : ns I' F' w i j = ns I F w i j := by
  unfold ns
  rw [onB_ag h (by omega), onB_ag h (by omega), onB_ag h (by omega), onB_ag h (by omega)]
theorem pth_ag (h : mAg I F I' F') {w : Int} : ∀ n i j, pth I' F' w n i j = pth I F w n i j := by
  have h5 := h.2.2.1
  have h6 := h.2.2.2.1
  intro n
  induction n with
  | zero => intro i j; rfl
  | succ n ih =>
    intro i j
    show (if i = (I' 5).toNat ∧ j = (I' 6).toNat then [] else (ns I' F' w i j, i, j) :: pth I' F' w n (i + loN (ns I' F' w i j)) (j + roN (ns I' F' w i j))) = (if i = (I 5).toNat ∧ j = (I 6).toNat then [] else (ns I F w i j, i, j) :: pth I F w n (i + loN (ns I F w i j)) (j + roN (ns I F w i j)))
    rw [h5, h6, ns_ag h, ih]
theorem bpath_ag (h : mAg I F I' F') : bpath I' F' = bpath I F := by
  funext w
  unfold bpath
  rw [DT_ag h, pth_ag h]
theorem rTell_ag (h : mAg I F I' F') (wh : Int) : rTell I' F' wh = rTell I F wh := by
  have h9 := h.2.2.2.2.2.2.1
  unfold rTell
  rw [DT_ag h, bpath_ag h, h9]
theorem rTellD_ag (h : mAg I F I' F') (wh : Int) : rTellD I' F' wh = rTellD I F wh := by
  have h5 := h.2.2.1
  have h9 := h.2.2.2.2.2.2.1
  unfold rTellD
  rw [rTell_ag h, bpath_ag h, h9, h5]
theorem rBest_ag (h : mAg I F I' F') (wh : Int) : rBest I' F' wh = rBest I F wh := by
  have h5 := h.2.2.1
  unfold rBest
  rw [rTell_ag h, h5]
theorem rBy_ag (h : mAg I F I' F') (wd : Int) : rBy I' F' wd = rBy I F wd := by
  unfold rBy
  rw [DT_ag h]
theorem rByO_ag (h : mAg I F I' F') (wd : Int) : rByO I' F' wd = rByO I F wd := by
  have h5 := h.2.2.1
  unfold rByO
  rw [rBy_ag h, h5]
theorem enF_ag (h : mAg I F I' F') : ∀ n w, enF I' F' n w = enF I F n w := by
  intro n
  induction n with
  | zero => intro w; rfl
  | succ n ih =>
    intro w
    unfold enF
    rw [rBy_ag h, rBy_ag h, ih]
theorem rEnough_ag (h : mAg I F I' F') : rEnough I' F' = rEnough I F := by
  have h5 := h.2.2.1
  unfold rEnough
  rw [enF_ag h, h5]
theorem rSo_ag (h : mAg I F I' F') : rSo I' F' = rSo I F := by
  have hN := h.2.2.2.2.2.2.2.2.2.2.1
  have h29 := h.2.2.2.2.2.2.2.1
  unfold rSo
  rw [h29]
  refine decide_eq_decide.mpr ⟨fun g q hq => ?_, fun g q hq => ?_⟩
  · have := g q hq
    rw [(hN q (by omega)).1, (hN q (by omega)).2, rBy_ag h] at this
    exact this
  · rw [(hN q (by omega)).1, (hN q (by omega)).2, rBy_ag h]
    exact g q hq
theorem kd10_ag (h : mAg I F I' F') (a : Nat) (v : Int) : mAg I (kd F 10 a v) I' (kd F' 10 a v) := by
  obtain ⟨h0, h1, h5, h6, h7, h8, h9, h29, hL, hR, hN, hS, hC⟩ := h
  refine ⟨h0, h1, h5, h6, h7, h8, h9, h29, fun k hk => ⟨?_, (hL k hk).2.1, (hL k hk).2.2⟩, hR, hN, hS, hC⟩
  show va_up (F' 10) a v k = va_up (F 10) a v k
  unfold va_up
  rw [(hL k hk).1]
theorem kd11_ag (h : mAg I F I' F') (a : Nat) (v : Int) : mAg I (kd F 11 a v) I' (kd F' 11 a v) := by
  obtain ⟨h0, h1, h5, h6, h7, h8, h9, h29, hL, hR, hN, hS, hC⟩ := h
  refine ⟨h0, h1, h5, h6, h7, h8, h9, h29, fun k hk => ⟨(hL k hk).1, ?_, (hL k hk).2.2⟩, hR, hN, hS, hC⟩
  show va_up (F' 11) a v k = va_up (F 11) a v k
  unfold va_up
  rw [(hL k hk).2.1]
theorem kd13_ag (h : mAg I F I' F') (a : Nat) (v : Int) : mAg I (kd F 13 a v) I' (kd F' 13 a v) := by
  obtain ⟨h0, h1, h5, h6, h7, h8, h9, h29, hL, hR, hN, hS, hC⟩ := h
  refine ⟨h0, h1, h5, h6, h7, h8, h9, h29, hL, fun k hk => ⟨?_, (hR k hk).2⟩, hN, hS, hC⟩
  show va_up (F' 13) a v k = va_up (F 13) a v k
  unfold va_up
  rw [(hR k hk).1]
theorem kset_ag (h : mAg I F I' F') (a : Nat) : ∀ v, kset I' F' a v = kset I F a v := by
  intro v
  induction v with
  | zero => rfl
  | succ v ih =>
    unfold kset
    rw [ih, rSo_ag (kd10_ag h a v)]
theorem lset_ag (h : mAg I F I' F') (a : Nat) : ∀ v, lset I' F' a v = lset I F a v := by
  intro v
  induction v with
  | zero => rfl
  | succ v ih =>
    unfold lset
    rw [ih, rSo_ag (kd11_ag h a ((v : Int) + 1))]
theorem rKinds_ag (h : mAg I F I' F') (a : Int) : rKinds I' F' a = rKinds I F a := by
  have h5 := h.2.2.1
  unfold rKinds
  rw [kset_ag h, h5]
theorem rLetterings_ag (h : mAg I F I' F') (a : Int) : rLetterings I' F' a = rLetterings I F a := by
  have h5 := h.2.2.1
  unfold rLetterings
  rw [lset_ag h, h5]
theorem rOdds_ag (h : mAg I F I' F') (so wh : Int) : rOdds I' F' so wh = rOdds I F so wh := by
  have h5 := h.2.2.1
  have h9 := h.2.2.2.2.2.2.1
  unfold rOdds
  rw [DT_ag h, bpath_ag h, h9, h5]
theorem rLeft_ag (h : mAg I F I' F') (a wh : Int) : rLeft I' F' a wh = rLeft I F a wh := by
  have hb := bpath_ag h
  have hl : ∀ x : Nat, (x : Int) < I 5 → lenF F' x = lenF F x := fun x hx => lenF_ag h hx
  obtain ⟨h0, h1, h5, h6, h7, h8, h9, h29, hL, hR, hN, hS, hC⟩ := h
  unfold rLeft
  rw [h5, h9, hb]
  by_cases g : 0 ≤ a ∧ a < I 5
  · have e := hL a.toNat (by omega)
    rw [e.1, e.2.1, e.2.2, hl a.toNat (by omega)]
  · rw [if_pos g, if_pos g]
theorem rRight_ag (h : mAg I F I' F') (b wh : Int) : rRight I' F' b wh = rRight I F b wh := by
  have hb := bpath_ag h
  obtain ⟨h0, h1, h5, h6, h7, h8, h9, h29, hL, hR, hN, hS, hC⟩ := h
  unfold rRight
  rw [h6, h9, hb]
  by_cases g : 0 ≤ b ∧ b < I 6
  · have e := hR b.toNat (by omega)
    rw [e.1, e.2]
  · rw [if_pos g, if_pos g]
theorem rCost_ag (h : mAg I F I' F') (so a b : Int) : rCost I' F' so a b = rCost I F so a b := by
  have h5 := h.2.2.1
  have h6 := h.2.2.2.1
  unfold rCost
  rw [h5, h6]
  by_cases g : 0 ≤ so ∧ so ≤ 4
  · rw [if_neg (nnP g), if_neg (nnP g)]
    by_cases g2 : (so = 2 ∨ (0 ≤ a ∧ a + lo so ≤ I 5)) ∧ (so = 1 ∨ (0 ≤ b ∧ b + ro so ≤ I 6))
    · rw [if_pos g2, if_pos g2]
      exact cst_ag h g (fun q => by rcases g2.1 with z | z; exact absurd z q; omega) (fun q => by rcases g2.2 with z | z; exact absurd z q; omega)
    · rw [if_neg g2, if_neg g2]
  · rw [if_pos g, if_pos g]
theorem rPair_ag (hK : mOK I F) (h : mAg I F I' F') (k wh : Int) : rPair I' F' k wh = rPair I F k wh := by
  have h9 := h.2.2.2.2.2.2.1
  unfold rPair
  rw [bpath_ag h, h9]
  by_cases g : k < 0 ∨ ((bpath I F (I 9)).length : Int) ≤ k
  · rw [if_pos g, if_pos g]
  · rw [if_neg g, if_neg g]
    have hm : (bpath I F (I 9)).getD k.toNat (0, 0, 0) ∈ bpath I F (I 9) := by
      rw [List.getD_eq_getElem?_getD, List.getElem?_eq_getElem (show k.toNat < (bpath I F (I 9)).length by omega)]
      exact List.getElem_mem _
    obtain ⟨q1, q2, q3⟩ := bpath_in hK hm
    have e : cst I' F' ((bpath I F (I 9)).getD k.toNat (0, 0, 0)).1 ((bpath I F (I 9)).getD k.toNat (0, 0, 0)).2.1 ((bpath I F (I 9)).getD k.toNat (0, 0, 0)).2.2 = cst I F ((bpath I F (I 9)).getD k.toNat (0, 0, 0)).1 ((bpath I F (I 9)).getD k.toNat (0, 0, 0)).2.1 ((bpath I F (I 9)).getD k.toNat (0, 0, 0)).2.2 := csM_ag h (by omega) q2 q3
    rw [e]
theorem rLet_ag (h : mAg I F I' F') (sd k v : Int) : rLet I' F' sd k v = rLet I F sd k v := by
  obtain ⟨h0, h1, h5, h6, h7, h8, h9, h29, hL, hR, hN, hS, hC⟩ := h
  unfold rLet
  rw [h5, h6]
  by_cases g : 0 ≤ sd ∧ sd ≤ 1
  · rw [if_neg (nnP g), if_neg (nnP g)]
    by_cases g2 : 0 ≤ k ∧ k < (if sd = 0 then I 5 else I 6)
    · rw [if_neg (nnP g2), if_neg (nnP g2)]
      by_cases g3 : sd = 0
      · rw [if_pos g3] at g2
        rw [if_pos g3, if_pos g3, (hL k.toNat (by omega)).2.1]
      · rw [if_neg g3] at g2
        rw [if_neg g3, if_neg g3, (hR k.toNat (by omega)).1]
    · rw [if_pos g2, if_pos g2]
  · rw [if_pos g, if_pos g]
theorem nLet_ag (h : mAg I F I' F') (sd k v : Int) : mAg I (nLet I F sd k v) I' (nLet I' F' sd k v) := by
  have h5 := h.2.2.1
  have h6 := h.2.2.2.1
  unfold nLet
  rw [h5, h6]
  split
  · exact kd11_ag h _ _
  · split
    · exact kd13_ag h _ _
    · exact h
theorem rPrice_ag (h : mAg I F I' F') (wh v : Int) : rPrice I' wh v = rPrice I wh v := by
  obtain ⟨h0, h1, h5, h6, h7, h8, h9, h29, hL, hR, hN, hS, hC⟩ := h
  unfold rPrice
  rw [h5, h7, h8, h9]
theorem i7_ag (h : mAg I F I' F') (v : Int) : mAg (va_up I 7 v) F (va_up I' 7 v) F' := by
  obtain ⟨h0, h1, h5, h6, h7, h8, h9, h29, hL, hR, hN, hS, hC⟩ := h
  exact ⟨h0, h1, h5, h6, rfl, h8, h9, h29, hL, hR, hN, hS, hC⟩
theorem i8_ag (h : mAg I F I' F') (v : Int) : mAg (va_up I 8 v) F (va_up I' 8 v) F' := by
  obtain ⟨h0, h1, h5, h6, h7, h8, h9, h29, hL, hR, hN, hS, hC⟩ := h
  exact ⟨h0, h1, h5, h6, h7, rfl, h9, h29, hL, hR, hN, hS, hC⟩
theorem i9_ag (h : mAg I F I' F') (v : Int) : mAg (va_up I 9 v) F (va_up I' 9 v) F' := by
  obtain ⟨h0, h1, h5, h6, h7, h8, h9, h29, hL, hR, hN, hS, hC⟩ := h
  exact ⟨h0, h1, h5, h6, h7, h8, rfl, h29, hL, hR, hN, hS, hC⟩
theorem i0_ag (h : mAg I F I' F') (v : Int) : mAg (fI I v) F (fI I' v) F' := by
  obtain ⟨h0, h1, h5, h6, h7, h8, h9, h29, hL, hR, hN, hS, hC⟩ := h
  exact ⟨rfl, h1, h5, h6, h7, h8, h9, h29, hL, hR, hN, hS, hC⟩
theorem i1_ag (h : mAg I F I' F') (v : Int) : mAg (va_up I 1 v) F (va_up I' 1 v) F' := by
  obtain ⟨h0, h1, h5, h6, h7, h8, h9, h29, hL, hR, hN, hS, hC⟩ := h
  exact ⟨h0, rfl, h5, h6, h7, h8, h9, h29, hL, hR, hN, hS, hC⟩
theorem nPrice_ag (h : mAg I F I' F') (wh v : Int) : mAg (nPrice I wh v) F (nPrice I' wh v) F' := by
  have h5 := h.2.2.1
  unfold nPrice
  rw [h5]
  by_cases g0 : (0 ≤ wh ∧ wh ≤ 2) ∧ I 5 ≠ 0 ∧ 0 ≤ v ∧ v ≤ (if wh = 2 then 7 else 9)
  · rw [if_pos g0, if_pos g0]
    by_cases g : wh = 0
    · rw [if_pos g]; exact i7_ag h v
    · rw [if_neg g]
      by_cases g2 : wh = 1
      · rw [if_pos g2]; exact i8_ag h v
      · rw [if_neg g2]; exact i9_ag h v
  · rw [if_neg g0, if_neg g0]; exact h
theorem rMove_ag (h : mAg I F I' F') (b n t : Int) : rMove I' b n t = rMove I b n t := by
  have h6 := h.2.2.2.1
  unfold rMove
  rw [h6]
theorem nMove_ag (h : mAg I F I' F') (b n t : Int) : mAg I (nMove I F b n t) I' (nMove I' F' b n t) := by
  have hr := rMove_ag h b n t
  unfold nMove
  rw [hr]
  split
  · rename_i g
    obtain ⟨h0, h1, h5, h6, h7, h8, h9, h29, hL, hR, hN, hS, hC⟩ := h
    refine ⟨h0, h1, h5, h6, h7, h8, h9, h29, hL, fun k hk => ?_, hN, hS, hC⟩
    have hs : ((msrc b.toNat n.toNat t.toNat k : Nat) : Int) < I 6 := by
      unfold rMove at g
      unfold msrc
      (repeat' split at g) <;> (repeat' split) <;> omega
    exact ⟨(hR _ hs).1, (hR _ hs).2⟩
  · exact h
theorem rRead_ag (h : mAg I F I' F') (w c : Int) : rRead I' w c = rRead I w c := by
  obtain ⟨h0, h1, h5, h6, h7, h8, h9, h29, hL, hR, hN, hS, hC⟩ := h
  unfold rRead
  rw [h5, h29]
theorem nRead_ag (hK : mOK I F) (h : mAg I F I' F') (w c : Int) : mAg (nReadI I w c) (nReadF I F w c) (nReadI I' w c) (nReadF I' F' w c) := by
  have hr := rRead_ag h w c
  unfold nReadI nReadF
  rw [hr]
  have b29 := hK.2.2.2.2.2.2.2.1
  split
  · obtain ⟨h0, h1, h5, h6, h7, h8, h9, h29, hL, hR, hN, hS, hC⟩ := h
    refine ⟨h0, h1, h5, h6, h7, h8, h9, ?_, hL, hR, fun k hk => ?_, hS, hC⟩
    · show I' 29 + 1 = I 29 + 1
      rw [h29]
    · have hk : (k : Int) < I 29 + 1 := hk
      show va_up (F' 30) (I' 29).toNat w k = va_up (F 30) (I 29).toNat w k ∧ va_up (F' 31) (I' 29).toNat c k = va_up (F 31) (I 29).toNat c k
      rw [h29]
      unfold va_up
      by_cases g : k = (I 29).toNat
      · rw [if_pos g, if_pos g, if_pos g, if_pos g]; exact ⟨rfl, rfl⟩
      · rw [if_neg g, if_neg g, if_neg g, if_neg g]; exact hN k (by omega)
  · exact h
theorem rBack_ag (h : mAg I F I' F') (n : Int) : rBack I' n = rBack I n := by
  have h29 := h.2.2.2.2.2.2.2.1
  unfold rBack
  rw [h29]
theorem nBack_ag (h : mAg I F I' F') (n : Int) : mAg (nBack I n) F (nBack I' n) F' := by
  obtain ⟨h0, h1, h5, h6, h7, h8, h9, h29, hL, hR, hN, hS, hC⟩ := h
  unfold nBack
  rw [h29]
  split
  · exact ⟨h0, h1, h5, h6, h7, h8, h9, h29, hL, hR, hN, hS, hC⟩
  · rename_i g
    refine ⟨h0, h1, h5, h6, h7, h8, h9, rfl, hL, hR, fun k hk => ?_, hS, hC⟩
    have hk : (k : Int) < I 29 - n := hk
    exact hN k (by omega)
theorem s2_ag (h : mAg I F I' F') (k : Nat) (v : Int) : mAg I (va_up F 2 (va_up (F 2) k v)) I' (va_up F' 2 (va_up (F' 2) k v)) := by
  obtain ⟨h0, h1, h5, h6, h7, h8, h9, h29, hL, hR, hN, hS, hC⟩ := h
  refine ⟨h0, h1, h5, h6, h7, h8, h9, h29, hL, hR, hN, fun j hj => ⟨?_, (hS j hj).2⟩, hC⟩
  show va_up (F' 2) k v j = va_up (F 2) k v j
  unfold va_up
  rw [(hS j hj).1]
theorem s3_ag (h : mAg I F I' F') (k : Nat) (v : Int) : mAg I (va_up F 3 (va_up (F 3) k v)) I' (va_up F' 3 (va_up (F' 3) k v)) := by
  obtain ⟨h0, h1, h5, h6, h7, h8, h9, h29, hL, hR, hN, hS, hC⟩ := h
  refine ⟨h0, h1, h5, h6, h7, h8, h9, h29, hL, hR, hN, fun j hj => ⟨(hS j hj).1, ?_⟩, hC⟩
  show va_up (F' 3) k v j = va_up (F 3) k v j
  unfold va_up
  rw [(hS j hj).2]
theorem s4_ag (h : mAg I F I' F') {f f' : Nat → Int} (hf : ∀ k : Nat, k < 240 → f' k = f k) : mAg I (va_up F 4 f) I' (va_up F' 4 f') := by
  obtain ⟨h0, h1, h5, h6, h7, h8, h9, h29, hL, hR, hN, hS, hC⟩ := h
  exact ⟨h0, h1, h5, h6, h7, h8, h9, h29, hL, hR, hN, hS, hf⟩
theorem nSheet_ag (h : mAg I F I' F') (k so n : Int) : mAg (nSheetI I k so n) (nSheetF F k so n) (nSheetI I' k so n) (nSheetF F' k so n) := by
  unfold nSheetI nSheetF
  have hI := i0_ag h (if rSheet k so n = -14 then 4 else 0)
  by_cases g0 : rSheet k so n = 1
  · rw [if_pos g0, if_pos g0]
    refine s4_ag (s3_ag (s2_ag hI k.toNat so) k.toNat n) (fun j hj => ?_)
    unfold zer
    split
    · rfl
    · exact h.2.2.2.2.2.2.2.2.2.2.2.2 j hj
  · rw [if_neg g0, if_neg g0]; exact hI
theorem rLose_ag (h : mAg I F I' F') (k : Int) : rLose F' k = rLose F k := by
  have hS := h.2.2.2.2.2.2.2.2.2.2.2.1
  unfold rLose
  by_cases g : 0 ≤ k ∧ k ≤ 3
  · rw [(hS k.toNat (by omega)).1]
  · rw [if_pos g, if_pos g]
theorem nLose_ag (h : mAg I F I' F') (k : Int) : mAg I (nLose F k) I' (nLose F' k) := by
  unfold nLose
  split
  · exact h
  · exact s2_ag h _ _
theorem rPut_ag (h : mAg I F I' F') (k i : Int) : rPut F' k i = rPut F k i := by
  have hS := h.2.2.2.2.2.2.2.2.2.2.2.1
  unfold rPut
  by_cases g : 0 ≤ k ∧ k ≤ 3
  · rw [(hS k.toNat (by omega)).1, (hS k.toNat (by omega)).2]
  · rw [if_pos g, if_pos g]
theorem nPut_ag (h : mAg I F I' F') (k i v : Int) : mAg (nPutI I F k i) (nPutF F k i v) (nPutI I' F' k i) (nPutF F' k i v) := by
  unfold nPutI nPutF
  rw [rPut_ag h]
  have hI := i0_ag h (if rPut F k i = -11 then 1 else if rPut F k i = -13 then 3 else 0)
  by_cases g : rPut F k i = 1
  · rw [if_pos g, if_pos g]
    have hk : 0 ≤ k ∧ k ≤ 3 := by
      unfold rPut at g
      (repeat' split at g) <;> omega
    refine s4_ag hI (fun j hj => ?_)
    rw [(h.2.2.2.2.2.2.2.2.2.2.2.1 k.toNat (by omega)).1]
    unfold va_up
    rw [h.2.2.2.2.2.2.2.2.2.2.2.2 j hj]
  · rw [if_neg g, if_neg g]; exact hI
theorem eCell_ag (h : mAg I F I' F') (k i so : Int) : eCell F' k i so = eCell F k i so := by
  have hS := h.2.2.2.2.2.2.2.2.2.2.2.1
  unfold eCell
  by_cases g : 0 ≤ k ∧ k ≤ 3
  · rw [(hS k.toNat (by omega)).1, (hS k.toNat (by omega)).2]
  · rw [if_pos (Or.inl g), if_pos (Or.inl g)]
theorem rCell_ag (hK : mOK I F) (h : mAg I F I' F') (k i so : Int) : rCell F' k i so = rCell F k i so := by
  have he := eCell_ag h k i so
  unfold rCell
  rw [he]
  by_cases g : ¬ (0 ≤ k ∧ k ≤ 3) ∨ ¬ (0 ≤ so ∧ so ≤ 2) ∨ eCell F k i so ≠ 0
  · rw [if_pos g, if_pos g]
  · rw [if_neg g, if_neg g]
    have g1 : 0 ≤ k ∧ k ≤ 3 := by omega
    have g2 : 0 ≤ so ∧ so ≤ 2 := by omega
    have g3 : eCell F k i so = 0 := by omega
    have b := (hK.2.2.2.2.2.2.2.2.2.2.2.1 k.toNat (by omega)).2
    refine h.2.2.2.2.2.2.2.2.2.2.2.2 _ ?_
    unfold eCell at g3
    rw [if_neg (by omega)] at g3
    (repeat' split at g3) <;> omega
theorem nCell_ag (h : mAg I F I' F') (k i so : Int) : mAg (fI I (eCell F k i so)) F (fI I' (eCell F' k i so)) F' := by
  rw [eCell_ag h]
  exact i0_ag h _
theorem rCopy_ag (h : mAg I F I' F') (k i o j n : Int) : rCopy F' k i o j n = rCopy F k i o j n := by
  have hS := h.2.2.2.2.2.2.2.2.2.2.2.1
  unfold rCopy
  by_cases g : ¬ (0 ≤ k ∧ k ≤ 3) ∨ ¬ (0 ≤ o ∧ o ≤ 3)
  · rw [if_pos g, if_pos g]
  · rw [(hS k.toNat (by omega)).1, (hS k.toNat (by omega)).2, (hS o.toNat (by omega)).1, (hS o.toNat (by omega)).2]
theorem nCopy_ag (hK : mOK I F) (h : mAg I F I' F') (k i o j n : Int) : mAg (nCopyI I F k i o j n) (nCopyF F k i o j n) (nCopyI I' F' k i o j n) (nCopyF F' k i o j n) := by
  unfold nCopyI nCopyF
  rw [rCopy_ag h]
  have hI := i0_ag h (if rCopy F k i o j n = -11 then 1 else if rCopy F k i o j n = -12 then 2 else if rCopy F k i o j n = -13 then 3 else 0)
  by_cases g : 0 ≤ rCopy F k i o j n
  · rw [if_pos g, if_pos g]
    have hC := h.2.2.2.2.2.2.2.2.2.2.2.2
    have hb : 0 ≤ k ∧ k ≤ 3 ∧ 0 ≤ o ∧ o ≤ 3 ∧ 0 ≤ i ∧ 0 ≤ j ∧ 0 ≤ n ∧ i + n ≤ F 3 k.toNat ∧ j + n ≤ F 3 o.toNat := by
      unfold rCopy at g
      (repeat' split at g) <;> omega
    have b1 := (hK.2.2.2.2.2.2.2.2.2.2.2.1 k.toNat (by omega)).2
    refine s4_ag hI (fun q hq => ?_)
    unfold va_cpy
    by_cases g2 : 60 * o.toNat + j.toNat ≤ q ∧ q < 60 * o.toNat + j.toNat + n.toNat
    · rw [if_pos g2, if_pos g2]
      exact hC _ (by omega)
    · rw [if_neg g2, if_neg g2]
      exact hC q hq
  · rw [if_neg g, if_neg g]; exact hI
theorem rTellA_ag (h : mAg I F I' F') (a : Int) : rTellA I' F' a = rTellA I F a := by
  have h5 := h.2.2.1
  have hL := h.2.2.2.2.2.2.2.2.1
  unfold rTellA
  rw [h5]
  by_cases g : 0 ≤ a ∧ a < I 5
  · rw [(hL a.toNat (by omega)).1, (hL a.toNat (by omega)).2.1]
  · rw [if_pos g, if_pos g]
theorem nTellA_ag (h : mAg I F I' F') (a : Int) : mAg (nTellA I F a) F (nTellA I' F' a) F' := by
  have h5 := h.2.2.1
  have h1 := h.2.1
  have hL := h.2.2.2.2.2.2.2.2.1
  unfold nTellA
  rw [h5, h1]
  by_cases g : 0 ≤ a ∧ a < I 5
  · rw [if_neg (nnP g), if_neg (nnP g), (hL a.toNat (by omega)).1]
    exact i1_ag h _
  · rw [if_pos g, if_pos g]
    exact h
theorem rReadA_ag (h : mAg I F I' F') (a : Int) : rReadA I' F' a = rReadA I F a := by
  have h5 := h.2.2.1
  have hL := h.2.2.2.2.2.2.2.2.1
  unfold rReadA
  rw [h5]
  by_cases g : 0 ≤ a ∧ a < I 5
  · rw [(hL a.toNat (by omega)).1, (hL a.toNat (by omega)).2.2]
  · rw [if_pos g, if_pos g]
theorem nReadA_ag (h : mAg I F I' F') (a : Int) : mAg (nReadA I F a) F (nReadA I' F' a) F' := by
  have h5 := h.2.2.1
  have h1 := h.2.1
  have hL := h.2.2.2.2.2.2.2.2.1
  unfold nReadA
  rw [h5, h1]
  by_cases g : 0 ≤ a ∧ a < I 5
  · rw [if_neg (nnP g), if_neg (nnP g), (hL a.toNat (by omega)).1]
    exact i1_ag h _
  · rw [if_pos g, if_pos g]
    exact h
theorem rAs_ag (h : mAg I F I' F') (a so : Int) : rAs I' F' a so = rAs I F a so := by
  have h5 := h.2.2.1
  have hL := h.2.2.2.2.2.2.2.2.1
  unfold rAs
  rw [h5]
  by_cases g : 0 ≤ a ∧ a < I 5
  · rw [(hL a.toNat (by omega)).1]
  · rw [if_pos g, if_pos g]
theorem nAs_ag (h : mAg I F I' F') (a so : Int) : mAg (nAs I F a so) F (nAs I' F' a so) F' := by
  unfold nAs
  rw [rAs_ag h]
  exact i0_ag h _
theorem rMany_ag (h : mAg I F I' F') (wh : Int) : rMany I' wh = rMany I wh := by
  obtain ⟨h0, h1, h5, h6, h7, h8, h9, h29, hL, hR, hN, hS, hC⟩ := h
  unfold rMany
  rw [h5, h6, h7, h8, h9, h29]
theorem agn_ag (h : mAg I F I' F') {k : Nat} (hk : k < 4) (so i n : Int) : agn F' k so i n = agn F k so i n := by
  have hS := h.2.2.2.2.2.2.2.2.2.2.2.1
  unfold agn
  rw [(hS k hk).1, (hS k hk).2]
theorem dI_ag (h : mAg I F I' F') (a act : Int) : mAg (dI I a act) (dF F a act) (dI I' a act) (dF F' a act) := by
  unfold dI dF
  by_cases g : 20 ≤ act
  · rw [if_pos g, if_pos g]
    by_cases g1 : act = 20
    · rw [if_pos g1, if_pos g1]; exact i7_ag h a
    · rw [if_neg g1, if_neg g1]
      by_cases g2 : act = 21
      · rw [if_pos g2, if_pos g2]; exact i8_ag h a
      · rw [if_neg g2, if_neg g2]
        by_cases g3 : act = 22
        · rw [if_pos g3, if_pos g3]; exact i9_ag h a
        · rw [if_neg g3, if_neg g3]; exact h
  · have e20 : ¬ act = 20 := by omega
    have e21 : ¬ act = 21 := by omega
    have e22 : ¬ act = 22 := by omega
    rw [if_neg g, if_neg g, if_neg e20, if_neg e20, if_neg e21, if_neg e21, if_neg e22, if_neg e22]
    by_cases g1 : 10 ≤ act
    · rw [if_pos g1, if_pos g1]; exact kd13_ag h _ _
    · rw [if_neg g1, if_neg g1]; exact kd11_ag h _ _
theorem okA_ag (h : mAg I F I' F') (act : Int) : okA I' act = okA I act := by
  have h5 := h.2.2.1
  have h6 := h.2.2.2.1
  unfold okA
  rw [h5, h6]
end AG
theorem gdy_ag (c : Nat → Int) : ∀ (n k : Nat) (I I' : Nat → Int) (F F' : Nat → Nat → Int), mAg I F I' F' → (gdy c n k I' F').1 = (gdy c n k I F).1 ∧ mAg (gdy c n k I F).2.1 (gdy c n k I F).2.2 (gdy c n k I' F').2.1 (gdy c n k I' F').2.2 := by
  intro n
  induction n with
  | zero => intro k I I' F F' h; exact ⟨rfl, h⟩
  | succ n ih =>
    intro k I I' F F' h
    rw [gdy_s, gdy_s, okA_ag h]
    split
    · exact ih (k + 1) _ _ _ _ (dI_ag h _ _)
    · exact ⟨rfl, h⟩
section AG2
variable {I I' : Nat → Int} {F F' : Nat → Nat → Int}
theorem rDay_ag (h : mAg I F I' F') (c : Nat → Int) (n : Nat) (wh : Int) : rDay I' F' c n wh = rDay I F c n wh := by
  obtain ⟨g1, g2⟩ := gdy_ag c n 0 I I' F F' h
  unfold rDay
  rw [g1, rTellD_ag g2]
theorem rDayO_ag (hK : mOK I F) (h : mAg I F I' F') (k so i n wh : Int) : rDayO I' F' k so i n wh = rDayO I F k so i n wh := by
  have h5 := h.2.2.1
  have hC := h.2.2.2.2.2.2.2.2.2.2.2.2
  unfold rDayO
  rw [h5]
  by_cases g : 0 ≤ k ∧ k ≤ 3
  · rw [if_neg (nnP g), if_neg (nnP g), agn_ag h (show k.toNat < 4 by omega)]
    by_cases g2 : ¬ (0 ≤ so ∧ so ≤ 2) ∨ ¬ (0 ≤ n ∧ n ≤ 20) ∨ ¬ ((0 ≤ wh ∧ wh ≤ 4) ∨ (10 ≤ wh ∧ wh ≤ 16))
    · rw [if_pos g2, if_pos g2]
    · rw [if_neg g2, if_neg g2]
      by_cases g3 : agn F k.toNat so i (2 * n) ≠ 0
      · rw [if_pos g3, if_pos g3]
      · rw [if_neg g3, if_neg g3]
        have g3 : agn F k.toNat so i (2 * n) = 0 := by omega
        obtain ⟨a1, a2, a3, a4, a5, a6⟩ := agn_z g3
        have b := (hK.2.2.2.2.2.2.2.2.2.2.2.1 k.toNat (by omega)).2
        have hc : ∀ j, j < 2 * n.toNat → F' 4 (60 * k.toNat + i.toNat + j) = F 4 (60 * k.toNat + i.toNat + j) := fun j hj => hC _ (by omega)
        by_cases g4 : I 5 = 0
        · rw [if_pos g4, if_pos g4]
        · rw [if_neg g4, if_neg g4]
          have hp : (∀ q : Nat, q < n.toNat → isPr (F' 4 (60 * k.toNat + i.toNat + 2 * q)) (F' 4 (60 * k.toNat + i.toNat + 2 * q + 1))) ↔ (∀ q : Nat, q < n.toNat → isPr (F 4 (60 * k.toNat + i.toNat + 2 * q)) (F 4 (60 * k.toNat + i.toNat + 2 * q + 1))) := by
            constructor
            · intro z q hq
              have := z q hq
              rw [hc (2 * q) (by omega), show 60 * k.toNat + i.toNat + 2 * q + 1 = 60 * k.toNat + i.toNat + (2 * q + 1) by omega, hc (2 * q + 1) (by omega)] at this
              exact this
            · intro z q hq
              rw [hc (2 * q) (by omega), show 60 * k.toNat + i.toNat + 2 * q + 1 = 60 * k.toNat + i.toNat + (2 * q + 1) by omega, hc (2 * q + 1) (by omega)]
              exact z q hq
          by_cases g5 : ∀ q : Nat, q < n.toNat → isPr (F 4 (60 * k.toNat + i.toNat + 2 * q)) (F 4 (60 * k.toNat + i.toNat + 2 * q + 1))
          · rw [if_pos g5, if_pos (hp.mpr g5), rDay_ag h]
            exact rDay_congr hc
          · rw [if_neg g5, if_neg (fun z => g5 (hp.mp z))]
  · rw [if_pos g, if_pos g]
theorem nDay_ag (h : mAg I F I' F') (k so i n wh : Int) : mAg (nDayI I F k so i n wh) F (nDayI I' F' k so i n wh) F' := by
  unfold nDayI
  by_cases g : ¬ (0 ≤ k ∧ k ≤ 3) ∨ ¬ (0 ≤ so ∧ so ≤ 2) ∨ ¬ (0 ≤ n ∧ n ≤ 20) ∨ ¬ ((0 ≤ wh ∧ wh ≤ 4) ∨ (10 ≤ wh ∧ wh ≤ 16))
  · rw [if_pos g, if_pos g]
    exact i0_ag h _
  · rw [if_neg g, if_neg g, agn_ag h (show k.toNat < 4 by omega)]
    exact i0_ag h _
theorem txt_ag (hK : mOK I F) (h : mAg I F I' F') {k so i n : Int} (hk : 0 ≤ k ∧ k ≤ 3) (ha : agn F k.toNat so i n = 0) : txt F' k i n = txt F k i n := by
  have hC := h.2.2.2.2.2.2.2.2.2.2.2.2
  obtain ⟨a1, a2, a3, a4, a5, a6⟩ := agn_z ha
  have b := (hK.2.2.2.2.2.2.2.2.2.2.2.1 k.toNat (by omega)).2
  funext p
  unfold txt ce
  by_cases g : 60 * k.toNat + i.toNat + p < 60 * k.toNat + i.toNat + n.toNat
  · rw [if_pos g, if_pos g]
    exact hC _ (by omega)
  · rw [if_neg g, if_neg g]
theorem rBooks_ag (hK : mOK I F) (h : mAg I F I' F') (k so i n : Int) : rBooks F' k so i n = rBooks F k so i n := by
  unfold rBooks
  by_cases g : 0 ≤ k ∧ k ≤ 3
  · rw [if_neg (nnP g), if_neg (nnP g), agn_ag h (show k.toNat < 4 by omega)]
    by_cases g2 : 0 ≤ so ∧ so ≤ 2
    · rw [if_neg (nnP g2), if_neg (nnP g2)]
      by_cases g3 : agn F k.toNat so i n ≠ 0
      · rw [if_pos g3, if_pos g3]
      · rw [if_neg g3, if_neg g3]
        have e := txt_ag hK h g (show agn F k.toNat so i n = 0 by omega)
        unfold txt at e
        rw [e]
    · rw [if_pos g2, if_pos g2]
  · rw [if_pos g, if_pos g]
theorem nBooks_ag (hK : mOK I F) (h : mAg I F I' F') (k so i n : Int) : mAg (nBooksI I F k so i n) (nBooksF F k so i n) (nBooksI I' F' k so i n) (nBooksF F' k so i n) := by
  have hr := rBooks_ag hK h k so i n
  unfold nBooksI nBooksF
  rw [hr]
  by_cases g : 0 ≤ rBooks F k so i n
  · rw [if_pos g, if_pos g, if_pos g, if_pos g]
    have hk : 0 ≤ k ∧ k ≤ 3 ∧ agn F k.toNat so i n = 0 := by
      have hb := agn_b F k.toNat so i n
      unfold rBooks at g
      by_cases c1 : 0 ≤ k ∧ k ≤ 3
      · rw [if_neg (nnP c1)] at g
        by_cases c2 : 0 ≤ so ∧ so ≤ 2
        · rw [if_neg (nnP c2)] at g
          by_cases c3 : agn F k.toNat so i n ≠ 0
          · rw [if_pos c3] at g; omega
          · omega
        · rw [if_pos c2] at g; omega
      · rw [if_pos c1] at g; omega
    rw [txt_ag hK h ⟨hk.1, hk.2.1⟩ hk.2.2]
    obtain ⟨h0, h1, h5, h6, h7, h8, h9, h29, hL, hR, hN, hS, hC⟩ := h
    exact ⟨rfl, h1, rfl, rfl, rfl, rfl, rfl, rfl, fun k _ => ⟨rfl, rfl, rfl⟩, fun k _ => ⟨rfl, rfl⟩, fun k hk => absurd (show (k : Int) < 0 from hk) (by omega), hS, hC⟩
  · rw [if_neg g, if_neg g, if_neg g, if_neg g]
    by_cases g2 : ¬ (0 ≤ k ∧ k ≤ 3) ∨ ¬ (0 ≤ so ∧ so ≤ 2)
    · rw [if_pos g2, if_pos g2]
      exact i0_ag h _
    · rw [if_neg g2, if_neg g2, agn_ag h (show k.toNat < 4 by omega)]
      exact i0_ag h _
end AG2
/-! ## xOK stays -/
theorem xOK.ag {I I' : Nat → Int} {F F' : Nat → Nat → Int} (hK : mOK I F) (hx : xOK F) (h : mAg I F I' F') : xOK F' := by
  intro k j hk hj
  have hS := h.2.2.2.2.2.2.2.2.2.2.2.1
  have hC := h.2.2.2.2.2.2.2.2.2.2.2.2
  have b := (hK.2.2.2.2.2.2.2.2.2.2.2.1 k hk).2
  rw [(hS k hk).2] at hj
  rw [(hS k hk).1, hC _ (by omega)]
  exact hx k j hk hj
theorem bB_rg (v : Int) : -128 ≤ bB v ∧ bB v ≤ 127 := by
  have h1 := Int8.le_toInt (iI v).toInt8
  have h2 := Int8.toInt_le (iI v).toInt8
  have e : bB v = (iI v).toInt8.toInt := Int8.toInt_toInt32 _
  rw [e]
  exact ⟨h1, h2⟩
theorem bS_rg (v : Int) : -32768 ≤ bS v ∧ bS v ≤ 32767 := by
  have h1 := Int16.le_toInt (iI v).toInt16
  have h2 := Int16.toInt_le (iI v).toInt16
  have e : bS v = (iI v).toInt16.toInt := Int16.toInt_toInt32 _
  rw [e]
  exact ⟨h1, h2⟩
theorem lnOK_0 (lane : Int) : lnOK lane 0 := ⟨fun _ => by decide, fun _ => by decide⟩
theorem xOK_sheet {I : Nat → Int} {F : Nat → Nat → Int} (hK : mOK I F) (hx : xOK F) (k so n : Int) : xOK (nSheetF F k so n) := by
  unfold nSheetF
  split
  · rename_i g
    intro q j hq hj
    have hj : (j : Int) < va_up (F 3) k.toNat n q := hj
    show lnOK (va_up (F 2) k.toNat so q) (zer (F 4) (60 * k.toNat) 60 (60 * q + j))
    have hn : n ≤ 60 := by
      unfold rSheet at g
      (repeat' split at g) <;> omega
    by_cases e : q = k.toNat
    · rw [e, va_up_s] at hj
      unfold zer
      rw [if_pos (by omega)]
      exact lnOK_0 _
    · rw [va_up_n _ _ e] at hj
      rw [va_up_n _ _ e]
      have b := (hK.2.2.2.2.2.2.2.2.2.2.2.1 q hq).2
      unfold zer
      rw [if_neg (by omega)]
      exact hx q j hq hj
  · exact hx
theorem xOK_lose {F : Nat → Nat → Int} (hx : xOK F) (k : Int) : xOK (nLose F k) := by
  unfold nLose
  split
  · exact hx
  · intro q j hq hj
    show lnOK (va_up (F 2) k.toNat (-9) q) (F 4 (60 * q + j))
    by_cases e : q = k.toNat
    · rw [e, va_up_s]
      exact ⟨fun z => by omega, fun z => by omega⟩
    · rw [va_up_n _ _ e]
      exact hx q j hq hj
theorem xOK_put {I : Nat → Int} {F : Nat → Nat → Int} (hK : mOK I F) (hx : xOK F) (k i v : Int) : xOK (nPutF F k i v) := by
  unfold nPutF
  split
  · rename_i g
    have hr : 0 ≤ i ∧ i < F 3 k.toNat ∧ 0 ≤ k ∧ k ≤ 3 := by
      unfold rPut at g
      (repeat' split at g) <;> omega
    intro q j hq hj
    have b := (hK.2.2.2.2.2.2.2.2.2.2.2.1 q hq).2
    have b2 := (hK.2.2.2.2.2.2.2.2.2.2.2.1 k.toNat (by omega)).2
    have hj : (j : Int) < F 3 q := hj
    show lnOK (F 2 q) (va_up (F 4) (60 * k.toNat + i.toNat) _ (60 * q + j))
    by_cases e : 60 * q + j = 60 * k.toNat + i.toNat
    · rw [e, va_up_s]
      have eq : q = k.toNat := by omega
      rw [eq]
      refine ⟨fun z => ?_, fun z => ?_⟩
      · rw [if_pos z]; exact bB_rg v
      · rw [if_neg (by omega), if_pos z]; exact bS_rg v
    · rw [va_up_n _ _ e]
      exact hx q j hq hj
  · exact hx
theorem xOK_copy {I : Nat → Int} {F : Nat → Nat → Int} (hK : mOK I F) (hx : xOK F) (k i o j n : Int) : xOK (nCopyF F k i o j n) := by
  unfold nCopyF
  split
  · rename_i g
    have hb : 0 ≤ k ∧ k ≤ 3 ∧ 0 ≤ o ∧ o ≤ 3 ∧ 0 ≤ i ∧ 0 ≤ j ∧ 0 ≤ n ∧ i + n ≤ F 3 k.toNat ∧ j + n ≤ F 3 o.toNat ∧ F 2 k.toNat = F 2 o.toNat := by
      unfold rCopy at g
      (repeat' split at g) <;> omega
    intro q t hq ht
    have b := (hK.2.2.2.2.2.2.2.2.2.2.2.1 q hq).2
    have b2 := (hK.2.2.2.2.2.2.2.2.2.2.2.1 o.toNat (by omega)).2
    have ht : (t : Int) < F 3 q := ht
    show lnOK (F 2 q) (va_cpy (F 4) (F 4) (60 * k.toNat + i.toNat) (60 * o.toNat + j.toNat) n.toNat (60 * q + t))
    unfold va_cpy
    by_cases e : 60 * o.toNat + j.toNat ≤ 60 * q + t ∧ 60 * q + t < 60 * o.toNat + j.toNat + n.toNat
    · rw [if_pos e]
      have eq : q = o.toNat := by omega
      rw [eq, ← hb.2.2.2.2.2.2.2.2.2]
      have h2 := hx k.toNat (i.toNat + (t - j.toNat)) (by omega) (by omega)
      rw [show 60 * k.toNat + i.toNat + (60 * o.toNat + t - (60 * o.toNat + j.toNat)) = 60 * k.toNat + (i.toNat + (t - j.toNat)) by omega]
      exact h2
    · rw [if_neg e]
      exact hx q t hq ht
  · exact hx
theorem xOK_books {F : Nat → Nat → Int} (hx : xOK F) (k so i n : Int) : xOK (nBooksF F k so i n) := by
  unfold nBooksF
  split
  · exact hx
  · exact hx
theorem xOK_read {I : Nat → Int} {F : Nat → Nat → Int} (hx : xOK F) (w c : Int) : xOK (nReadF I F w c) := by
  unfold nReadF
  split
  · exact hx
  · exact hx
theorem xOK_let {I : Nat → Int} {F : Nat → Nat → Int} (hx : xOK F) (sd k v : Int) : xOK (nLet I F sd k v) := by
  unfold nLet
  (repeat' split) <;> exact hx
theorem xOK_move {I : Nat → Int} {F : Nat → Nat → Int} (hx : xOK F) (b n t : Int) : xOK (nMove I F b n t) := by
  unfold nMove
  split
  · exact hx
  · exact hx
