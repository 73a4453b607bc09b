/-! THE COMPONENT: by all bands; letterings -/
set_option maxRecDepth 100000
theorem so_two {I : Nat → Int} {F : Nat → Nat → Int} {fl : Int} {q : Nat} (h : (fl = 1 ∧ ∀ t, t < q → rBy I F (F 30 t) = F 31 t) ∨ (fl = 0 ∧ ∃ t : Nat, (t : Int) < I 29 ∧ rBy I F (F 30 t) ≠ F 31 t)) (hq : fl = 0 ∨ I 29 ≤ (q : Int)) : (fl = 1 ∧ rSo I F = true) ∨ (fl = 0 ∧ rSo I F = false) := by
  rcases h with ⟨h1, h2⟩ | ⟨h1, t, h2, h3⟩
  · exact Or.inl ⟨h1, decide_eq_true (fun t ht => h2 t (by omega))⟩
  · exact Or.inr ⟨h1, decide_eq_false (fun z => h3 (z t (by omega)))⟩
set_option maxHeartbeats 800000 in
set_option maxRecDepth 100000 in
theorem kX0_enough (l : Launch) (E : xE) (o : Nat) (Ad : Nat → Nat) (I : Nat → Int) (F : Nat → Nat → Int) (X : xw) (hOK : mOK I F) : ci_ l E yX0_enough cX0_enough 3 (some .int) 8 186 0 0 [.ref o] o Ad I F X (fun z Ad' I' F' X' => Ad = Ad' ∧ I = I' ∧ X = X' ∧ (∃ g1 g2 g3, up3 F g1 g2 g3 = F') ∧ z = rEnough I F) := by
  intro w hI hd sz
  refine x_bodyz (by decide) (Nat.le_of_ble_eq_true rfl) ?_
  intro p e s m args below meth c ls hx hb C hr hlocks hin hsz hZ hB hl
  have C : xC E p s m args c cX0_enough 3 RX0 := C
  replace hB : xBB E (xA (wU w X) sz) s o Ad I F X s.heap [] := ⟨w, hI, hd, hB⟩
  have hl : lv_has ls 3 [(0, .ref o)] := hl
  have hOK0 := hOK
  obtain ⟨⟨hf1, hf2⟩, ⟨hl1, hl2⟩, ⟨hr1, hr2⟩, hlr, ⟨hs1, hs2⟩, ⟨hj1, hj2⟩, ⟨hb1, hb2⟩, ⟨hn1, hn2⟩, hL, hR, hN, hS, hC⟩ := hOK
  
  refine lv_aload_n hx hb dX0_enough_0 rfl (lv_at hl 0 rfl) ?_
  refine b_calli 0 0 (Nat.le_of_ble_eq_true rfl) (Nat.le_of_ble_eq_true rfl) hB (fun w hI hd hB => rV (As := []) (n := 0) C hZ hB (kX0_noBooks l E o Ad I F X hOK0 w hI hd _) (lw_V q275 q277 qs11 q68 q278) (by decide +kernel) ⟨Nat.le_of_ble_eq_true rfl, Nat.le_of_ble_eq_true rfl⟩ (wU_l hI.x) rfl rfl rfl hl.1 rfl (Nat.le_of_ble_eq_true rfl) dX0_enough_1 ⟨Nat.le_of_ble_eq_true rfl, Nat.le_of_ble_eq_true rfl⟩) (fun z1 Ad2 I3 F4 X5 H locs hz6 hp7 hB => ?_)
  obtain ⟨hz6a, hz6b⟩ := hz6
  obtain ⟨rfl, rfl, rfl, rfl, ⟨rfl, h8⟩ | ⟨rfl, h8⟩⟩ := hp7
  · refine x_if_eq (tgt := 10) hx hb dX0_enough_4 (by decide) ⟨by decide, by decide⟩ (fun c9 => by exfalso; omega) (fun c9 => ?_)
    refine lv_bipush (v := iI (-3)) hx hb dX0_enough_7 rfl ?_
    exact b_iret C hB hr hlocks rfl dX0_enough_9 (Nat.le_of_ble_eq_true rfl) (Nat.le_of_ble_eq_true rfl) ⟨by decide, by decide⟩ ⟨rfl, rfl, rfl, ⟨_, _, _, up3_id F⟩, by unfold rEnough; rw [if_pos (by omega)]⟩
  · refine x_if_eq (tgt := 10) hx hb dX0_enough_4 (by decide) ⟨by decide, by decide⟩ (fun c10 => ?_) (fun c10 => by exfalso; omega)
    refine lv_aload_n hx hb dX0_enough_10 rfl (lv_at hl 0 rfl) ?_
    refine lv_bipush (v := iI 7) hx hb dX0_enough_11 rfl ?_
    rw [← up3_id F] at hB
    refine b_calli 0 0 (Nat.le_of_ble_eq_true rfl) (Nat.le_of_ble_eq_true rfl) hB (fun w hI hd hB => rV (As := [.int (iI 7)]) (n := 1) C hZ hB (kX0_aligns l E o Ad I F (F 21) (F 22) (F 23) X 7 (by omega) hOK0 w hI hd _) (lw_V q603 q432 qs13 q68 q433) (by decide +kernel) ⟨Nat.le_of_ble_eq_true rfl, Nat.le_of_ble_eq_true rfl⟩ (wU_l hI.x) rfl rfl rfl hl.1 rfl (Nat.le_of_ble_eq_true rfl) dX0_enough_13 ⟨Nat.le_of_ble_eq_true rfl, Nat.le_of_ble_eq_true rfl⟩) (fun z11 Ad12 I13 F14 X15 H locs hz16 hp17 hB => ?_)
    obtain ⟨hz16a, hz16b⟩ := hz16
    obtain ⟨rfl, rfl, rfl, g18, g19, g20, rfl, ht21, rfl⟩ := hp17
    have hVht21 : VB 840 (DT I F 7 0 0) := VBD (by omega) (by omega) (csM60 hOK0) (by omega) (by omega)
    have hbht21 : 0 ≤ (DT I F 7 0 0).1 ∧ (DT I F 7 0 0).1 ≤ 100000 := by unfold VB at hVht21; omega
    refine lv_istore_n (lv' := [(1, .int (iI ((DT I F 7 0 0).1))), (0, .ref o)]) hx hb dX0_enough_16 rfl hl (by decide) rfl (fun ls hl => ?_)
    refine lv_iconst (v := iI 0) hx hb dX0_enough_17 rfl ?_
    refine lv_istore_n (lv' := [(2, .int (iI 0)), (1, .int (iI ((DT I F 7 0 0).1))), (0, .ref o)]) hx hb dX0_enough_18 rfl hl (by decide) rfl (fun ls hl => ?_)
    refine w_loop (fun n25 H locs ls => ∃ (w_ : Nat) (g1 : Nat → Int) (g2 : Nat → Int) (g3 : Nat → Int), n25 = 7 - w_ ∧ (w_ ≤ 7) ∧ (enF I F 7 0 = enF I F (7 - w_) w_) ∧ xBB E (xA (wU w X) sz) s o Ad I (up3 F g1 g2 g3) X H locs ∧ lv_has ls 3 [(0, .ref o), (1, .int (iI ((DT I F 7 0 0).1))), (2, .int (iI ((w_ : Int))))]) _ ⟨0, _, _, _, rfl, by omega, rfl, hB, lv_sub hl [2, 1, 0] rfl⟩ ?_
    intro n25 H locs ls hI24 ih22
    obtain ⟨w_, g1, g2, g3, hn23, hw7, hen, hB, hl⟩ := hI24
    refine lv_aload_n hx hb dX0_enough_19 rfl (lv_at hl 0 rfl) ?_
    refine lv_iload_n hx hb dX0_enough_20 rfl (lv_at hl 2 rfl) ?_
    refine b_calli 0 0 (Nat.le_of_ble_eq_true rfl) (Nat.le_of_ble_eq_true rfl) hB (fun w hI hd hB => rV (As := [.int (iI ((w_ : Int)))]) (n := 1) C hZ hB (kX0_aligns l E o Ad I F g1 g2 g3 X ((w_ : Int)) (by omega) hOK0 w hI hd _) (lw_V q603 q432 qs13 q68 q433) (by decide +kernel) ⟨Nat.le_of_ble_eq_true rfl, Nat.le_of_ble_eq_true rfl⟩ (wU_l hI.x) rfl rfl rfl hl.1 rfl (Nat.le_of_ble_eq_true rfl) dX0_enough_21 ⟨Nat.le_of_ble_eq_true rfl, Nat.le_of_ble_eq_true rfl⟩) (fun z26 Ad27 I28 F29 X30 H locs hz31 hp32 hB => ?_)
    obtain ⟨hz31a, hz31b⟩ := hz31
    obtain ⟨rfl, rfl, rfl, g33, g34, g35, rfl, ht36, rfl⟩ := hp32
    have hVht36 : VB 840 (DT I F ((w_ : Int)) 0 0) := VBD (by omega) (by omega) (csM60 hOK0) (by omega) (by omega)
    have hbht36 : 0 ≤ (DT I F ((w_ : Int)) 0 0).1 ∧ (DT I F ((w_ : Int)) 0 0).1 ≤ 100000 := by unfold VB at hVht36; omega
    have hmo := DT_mono hOK0 (w := (w_ : Int)) (by omega)
    have hbw7 : 0 ≤ (DT I F 7 0 0).1 ∧ (DT I F 7 0 0).1 ≤ 100000 := by have hV7 : VB 840 (DT I F 7 0 0) := VBD (by omega) (by omega) (csM60 hOK0) (by omega) (by omega); unfold VB at hV7; omega
    have hrw : rBy I F (w_ : Int) = rBy I F 7 ↔ (DT I F (w_ : Int) 0 0).1 = (DT I F 7 0 0).1 := by unfold rBy; (repeat' split) <;> omega
    have hstep : (DT I F (w_ : Int) 0 0).1 ≠ (DT I F 7 0 0).1 → enF I F (7 - w_) w_ = enF I F (7 - (w_ + 1)) (w_ + 1) := by
      intro q
      have : w_ ≠ 7 := fun e => by subst e; exact q rfl
      rw [show 7 - w_ = (7 - (w_ + 1)) + 1 by omega, show enF I F (7 - (w_ + 1) + 1) w_ = if rBy I F (w_ : Int) = rBy I F 7 then w_ else enF I F (7 - (w_ + 1)) (w_ + 1) from rfl, if_neg (fun z => q (hrw.mp z))]
    have hstop : (DT I F (w_ : Int) 0 0).1 = (DT I F 7 0 0).1 → enF I F (7 - w_) w_ = w_ := by
      intro q
      by_cases e : w_ = 7
      · subst e; rfl
      · rw [show 7 - w_ = (7 - (w_ + 1)) + 1 by omega, show enF I F (7 - (w_ + 1) + 1) w_ = if rBy I F (w_ : Int) = rBy I F 7 then w_ else enF I F (7 - (w_ + 1)) (w_ + 1) from rfl, if_pos (hrw.mpr q)]
    have hw6 : (DT I F (w_ : Int) 0 0).1 ≠ (DT I F 7 0 0).1 → w_ < 7 := by
      intro q
      have : w_ ≠ 7 := fun e => by subst e; exact q rfl
      omega
    refine lv_iload_n hx hb dX0_enough_24 rfl (lv_at hl 1 rfl) ?_
    refine x_icmp_le (tgt := 34) hx hb dX0_enough_25 (by decide) ⟨by omega, by omega⟩ ⟨by omega, by omega⟩ (fun c37 => ?_) (fun c37 => ?_)
    · refine lv_iload_n hx hb dX0_enough_34 rfl (lv_at hl 2 rfl) ?_
      exact b_iret C hB hr hlocks rfl dX0_enough_35 (Nat.le_of_ble_eq_true rfl) (Nat.le_of_ble_eq_true rfl) ⟨by omega, by omega⟩ ⟨rfl, rfl, rfl, ⟨_, _, _, rfl⟩, by unfold rEnough; rw [if_neg (by omega), hen, hstop (by omega)]⟩
    · refine lv_iinc (v := iI ((w_ : Int) + 1)) (lv' := [(2, .int (iI ((w_ : Int) + 1))), (0, .ref o), (1, .int (iI ((DT I F 7 0 0).1)))]) hx hb dX0_enough_28 hl (k := 2) rfl (iI_add _ _) (by decide) rfl (fun ls hl => ?_)
      refine lv_goto (tgt := 19) hx hb dX0_enough_31 (by decide) ?_
      exact ih22 _ _ _ _ (by omega) ⟨w_ + 1, _, _, _, rfl, by omega, by rw [hen]; exact hstep (by omega), hB, lv_sub hl [1, 2, 0] rfl⟩
set_option maxHeartbeats 800000 in
set_option maxRecDepth 100000 in
theorem kX0_areSo (l : Launch) (E : xE) (o : Nat) (Ad : Nat → Nat) (I : Nat → Int) (F : Nat → Nat → Int) (f1 f2 f3 : Nat → Int) (X : xw) (hOK : mOK I F) : ci_ l E yX0_areSo cX0_areSo 3 (some .boolean) 8 186 0 0 [.ref o] o Ad I (up3 F f1 f2 f3) X (fun z Ad' I' F' X' => Ad = Ad' ∧ I = I' ∧ X = X' ∧ ∃ g1 g2 g3, up3 F g1 g2 g3 = F' ∧ ((z = 1 ∧ rSo I F = true) ∨ (z = 0 ∧ rSo I F = false))) := by
  intro w hI hd sz
  refine x_bodyz (by decide) (Nat.le_of_ble_eq_true rfl) ?_
  intro p e s m args below meth c ls hx hb C hr hlocks hin hsz hZ hB hl
  have C : xC E p s m args c cX0_areSo 3 RX0 := C
  replace hB : xBB E (xA (wU w X) sz) s o Ad I (up3 F f1 f2 f3) X s.heap [] := ⟨w, hI, hd, hB⟩
  have hl : lv_has ls 3 [(0, .ref o)] := hl
  have hOK0 := hOK
  obtain ⟨⟨hf1, hf2⟩, ⟨hl1, hl2⟩, ⟨hr1, hr2⟩, hlr, ⟨hs1, hs2⟩, ⟨hj1, hj2⟩, ⟨hb1, hb2⟩, ⟨hn1, hn2⟩, hL, hR, hN, hS, hC⟩ := hOK
  refine lv_iconst (v := iI 1) hx hb dX0_areSo_0 rfl ?_
  refine lv_istore_n (lv' := [(1, .int (iI 1)), (0, .ref o)]) hx hb dX0_areSo_1 rfl hl (by decide) rfl (fun ls hl => ?_)
  refine lv_iconst (v := iI 0) hx hb dX0_areSo_2 rfl ?_
  refine lv_istore_n (lv' := [(2, .int (iI 0)), (1, .int (iI 1)), (0, .ref o)]) hx hb dX0_areSo_3 rfl hl (by decide) rfl (fun ls hl => ?_)
  refine w_loop (fun n4 H locs ls => ∃ (q : Nat) (fl : Int) (g1 : Nat → Int) (g2 : Nat → Int) (g3 : Nat → Int), n4 = (I 29 - q).toNat ∧ ((q : Int) ≤ I 29) ∧ ((fl = 1 ∧ ∀ t, t < q → rBy I F (F 30 t) = F 31 t) ∨ (fl = 0 ∧ ∃ t : Nat, (t : Int) < I 29 ∧ rBy I F (F 30 t) ≠ F 31 t)) ∧ (fl = 0 ∨ fl = 1) ∧ xBB E (xA (wU w X) sz) s o Ad I (up3 F g1 g2 g3) X H locs ∧ lv_has ls 3 [(0, .ref o), (1, .int (iI fl)), (2, .int (iI ((q : Int))))]) _ ⟨0, 1, _, _, _, rfl, by omega, Or.inl ⟨rfl, fun t h => absurd h (Nat.not_lt_zero t)⟩, Or.inr rfl, hB, lv_sub hl [2, 1, 0] rfl⟩ ?_
  intro n4 H locs ls hI3 ih1
  obtain ⟨q, fl, g1, g2, g3, hn2, hq, hfl, hf01, hB, hl⟩ := hI3
  refine lv_iload_n hx hb dX0_areSo_4 rfl (lv_at hl 2 rfl) ?_
  refine lv_aload_n hx hb dX0_areSo_5 rfl (lv_at hl 0 rfl) ?_
  refine b_get C hB 16 (by decide) q312 (v := .ref (Ad 17)) rfl rfl dX0_areSo_6 ?_
  refine b_size C hZ hB (n := I 29) (ed := Ad 31) (fun w hI _ => wU_l (hI.at (r := 17) rfl)) (by omega) q242 ⟨Nat.le_of_ble_eq_true rfl, Nat.le_of_ble_eq_true rfl⟩ hl.1 (Nat.le_of_ble_eq_true rfl) dX0_areSo_9 ⟨Nat.le_of_ble_eq_true rfl, Nat.le_of_ble_eq_true rfl⟩ (fun H locs hB => ?_)
  refine x_icmp_ge (tgt := 75) hx hb dX0_areSo_14 (by decide) ⟨by omega, by omega⟩ ⟨by omega, by omega⟩ (fun c5 => ?_) (fun c5 => ?_)
  · refine lv_iload_n hx hb dX0_areSo_75 rfl (lv_at hl 1 rfl) ?_
    exact b_iret C hB hr hlocks (by rcases hf01 with rfl | rfl <;> rfl) dX0_areSo_76 (Nat.le_of_ble_eq_true rfl) (Nat.le_of_ble_eq_true rfl) ⟨by omega, by omega⟩ ⟨rfl, rfl, rfl, _, _, _, rfl, so_two hfl (by omega)⟩
  · refine lv_iload_n hx hb dX0_areSo_17 rfl (lv_at hl 1 rfl) ?_
    refine x_if_eq (tgt := 75) hx hb dX0_areSo_18 (by decide) ⟨by omega, by omega⟩ (fun c6 => ?_) (fun c6 => ?_)
    · refine lv_iload_n hx hb dX0_areSo_75 rfl (lv_at hl 1 rfl) ?_
      exact b_iret C hB hr hlocks (by rcases hf01 with rfl | rfl <;> rfl) dX0_areSo_76 (Nat.le_of_ble_eq_true rfl) (Nat.le_of_ble_eq_true rfl) ⟨by omega, by omega⟩ ⟨rfl, rfl, rfl, _, _, _, rfl, so_two hfl (by omega)⟩
    · have hNq := hN q (by omega)
      have hall : ∀ t, t < q → rBy I F (F 30 t) = F 31 t := by rcases hfl with z | z; exact z.2; omega
      refine lv_aload_n hx hb dX0_areSo_21 rfl (lv_at hl 0 rfl) ?_
      refine lv_aload_n hx hb dX0_areSo_22 rfl (lv_at hl 0 rfl) ?_
      refine b_get C hB 16 (by decide) q312 (v := .ref (Ad 17)) rfl rfl dX0_areSo_23 ?_
      refine lv_iload_n hx hb dX0_areSo_26 rfl (lv_at hl 2 rfl) ?_
      refine b_rget C hZ hB q rfl (show ((q : Nat) : Int) < I 29 by omega) (show I 29 ≤ 8 by omega) q156 ⟨Nat.le_of_ble_eq_true rfl, Nat.le_of_ble_eq_true rfl⟩ hl.1 (Nat.le_of_ble_eq_true rfl) dX0_areSo_27 ⟨Nat.le_of_ble_eq_true rfl, Nat.le_of_ble_eq_true rfl⟩ (fun H locs hB => ?_)
      refine r_castS C hB (200 + q) q657 (C0_rd (show ((q : Nat) : Int) < I 29 by omega) (show I 29 ≤ 8 by omega)) rfl rfl dX0_areSo_32 ?_
      refine r_getN C hB (200 + q) (C0_rd (show ((q : Nat) : Int) < I 29 by omega) (show I 29 ≤ 8 by omega)) rfl in_X16 0 (by decide) q664 (fun x h => h) rfl dX0_areSo_35 ?_
      refine b_calli 0 0 (Nat.le_of_ble_eq_true rfl) (Nat.le_of_ble_eq_true rfl) hB (fun w hI hd hB => rV (As := [.int (iI ((F 30) q))]) (n := 1) C hZ hB (kX0_aligns l E o Ad I F g1 g2 g3 X ((F 30) q) (by omega) hOK0 w hI hd _) (lw_V q603 q432 qs13 q68 q433) (by decide +kernel) ⟨Nat.le_of_ble_eq_true rfl, Nat.le_of_ble_eq_true rfl⟩ (wU_l hI.x) rfl rfl rfl hl.1 rfl (Nat.le_of_ble_eq_true rfl) dX0_areSo_38 ⟨Nat.le_of_ble_eq_true rfl, Nat.le_of_ble_eq_true rfl⟩) (fun z7 Ad8 I9 F10 X11 H locs hz12 hp13 hB => ?_)
      obtain ⟨hz12a, hz12b⟩ := hz12
      obtain ⟨rfl, rfl, rfl, g14, g15, g16, rfl, ht17, rfl⟩ := hp13
      have hVht17 : VB 840 (DT I F ((F 30) q) 0 0) := VBD (by omega) (by omega) (csM60 hOK0) (by omega) (by omega)
      have hbht17 : 0 ≤ (DT I F ((F 30) q) 0 0).1 ∧ (DT I F ((F 30) q) 0 0).1 ≤ 100000 := by unfold VB at hVht17; omega
      have hrb : rBy I F (F 30 q) = (if 100000 ≤ (DT I F (F 30 q) 0 0).1 then -9 else (DT I F (F 30 q) 0 0).1) := by unfold rBy; (repeat' split) <;> omega
      have hrr : -9 ≤ rBy I F (F 30 q) ∧ rBy I F (F 30 q) ≤ 100000 := by unfold rBy; split <;> omega
      refine bs_calli (n := 1) C hB (As := [.int (iI ((DT I F ((F 30) q) 0 0).1))]) (kX0_orNone l E ((DT I F ((F 30) q) 0 0).1) ⟨by omega, by omega⟩) (lw_S q623 q624 q68 q625) (by decide +kernel) ⟨Nat.le_of_ble_eq_true rfl, Nat.le_of_ble_eq_true rfl⟩ rfl hl.1 rfl (Nat.le_of_ble_eq_true rfl) dX0_areSo_41 ⟨Nat.le_of_ble_eq_true rfl, Nat.le_of_ble_eq_true rfl⟩ (fun z18 H locs hz19 hp20 hB => ?_)
      obtain ⟨hz19a, hz19b⟩ := hz19
      subst hp20
      refine x_nm (b := rBy I F (F 30 q)) hrb.symm ?_
      refine lv_aload_n hx hb dX0_areSo_44 rfl (lv_at hl 0 rfl) ?_
      refine b_get C hB 16 (by decide) q312 (v := .ref (Ad 17)) rfl rfl dX0_areSo_45 ?_
      refine lv_iload_n hx hb dX0_areSo_48 rfl (lv_at hl 2 rfl) ?_
      refine b_rget C hZ hB q rfl (show ((q : Nat) : Int) < I 29 by omega) (show I 29 ≤ 8 by omega) q156 ⟨Nat.le_of_ble_eq_true rfl, Nat.le_of_ble_eq_true rfl⟩ hl.1 (Nat.le_of_ble_eq_true rfl) dX0_areSo_49 ⟨Nat.le_of_ble_eq_true rfl, Nat.le_of_ble_eq_true rfl⟩ (fun H locs hB => ?_)
      refine r_castS C hB (200 + q) q657 (C0_rd (show ((q : Nat) : Int) < I 29 by omega) (show I 29 ≤ 8 by omega)) rfl rfl dX0_areSo_54 ?_
      refine r_getN C hB (200 + q) (C0_rd (show ((q : Nat) : Int) < I 29 by omega) (show I 29 ≤ 8 by omega)) rfl in_X16 1 (by decide) q666 (fun x h => h) rfl dX0_areSo_57 ?_
      refine x_nm (b := F 31 q) rfl ?_
      refine x_icmp_ne (tgt := 67) hx hb dX0_areSo_60 (by decide) ⟨by omega, by omega⟩ ⟨by omega, by omega⟩ (fun c21 => ?_) (fun c21 => ?_)
      · refine lv_iconst (v := iI 0) hx hb dX0_areSo_67 rfl ?_
        refine lv_istore_n (lv' := [(1, .int (iI 0)), (0, .ref o), (2, .int (iI ((q : Int))))]) hx hb dX0_areSo_68 rfl hl (by decide) rfl (fun ls hl => ?_)
        refine lv_iinc (v := iI ((q : Int) + 1)) (lv' := [(2, .int (iI ((q : Int) + 1))), (1, .int (iI 0)), (0, .ref o)]) hx hb dX0_areSo_69 hl (k := 2) rfl (iI_add _ _) (by decide) rfl (fun ls hl => ?_)
        refine lv_goto (tgt := 4) hx hb dX0_areSo_72 (by decide) ?_
        exact ih1 _ _ _ _ (by omega) ⟨q + 1, _, _, _, _, rfl, by omega, Or.inr ⟨rfl, q, by omega, by omega⟩, by omega, hB, lv_sub hl [2, 1, 0] rfl⟩
      · refine lv_iconst (v := iI 1) hx hb dX0_areSo_63 rfl ?_
        refine lv_goto (tgt := 68) hx hb dX0_areSo_64 (by decide) ?_
        refine lv_istore_n (lv' := [(1, .int (iI 1)), (0, .ref o), (2, .int (iI ((q : Int))))]) hx hb dX0_areSo_68 rfl hl (by decide) rfl (fun ls hl => ?_)
        refine lv_iinc (v := iI ((q : Int) + 1)) (lv' := [(2, .int (iI ((q : Int) + 1))), (1, .int (iI 1)), (0, .ref o)]) hx hb dX0_areSo_69 hl (k := 2) rfl (iI_add _ _) (by decide) rfl (fun ls hl => ?_)
        refine lv_goto (tgt := 4) hx hb dX0_areSo_72 (by decide) ?_
        exact ih1 _ _ _ _ (by omega) ⟨q + 1, _, _, _, _, rfl, by omega, Or.inl ⟨rfl, fun t h => by by_cases e : t = q; (subst e; omega); exact hall t (by omega)⟩, by omega, hB, lv_sub hl [2, 1, 0] rfl⟩
set_option maxHeartbeats 800000 in
set_option maxRecDepth 100000 in
theorem kX0_letterings (l : Launch) (E : xE) (o : Nat) (Ad : Nat → Nat) (I : Nat → Int) (F : Nat → Nat → Int) (X : xw) (ax : Int) (hax : rg ax) (hOK : mOK I F) : ci_ l E yX0_letterings cX0_letterings 6 (some .int) 9 208 0 0 [.ref o, .int (iI ax)] o Ad I F X (fun z Ad' I' F' X' => Ad = Ad' ∧ I = I' ∧ X = X' ∧ (∃ g1 g2 g3, up3 F g1 g2 g3 = F') ∧ z = rLetterings I F ax) := by
  intro w hI hd sz
  refine x_bodyz (by decide) (Nat.le_of_ble_eq_true rfl) ?_
  intro p e s m args below meth c ls hx hb C hr hlocks hin hsz hZ hB hl
  have C : xC E p s m args c cX0_letterings 6 RX0 := C
  replace hB : xBB E (xA (wU w X) sz) s o Ad I F X s.heap [] := ⟨w, hI, hd, hB⟩
  have hl : lv_has ls 6 [(0, .ref o), (1, .int (iI ax))] := hl
  have hOK0 := hOK
  obtain ⟨⟨hf1, hf2⟩, ⟨hl1, hl2⟩, ⟨hr1, hr2⟩, hlr, ⟨hs1, hs2⟩, ⟨hj1, hj2⟩, ⟨hb1, hb2⟩, ⟨hn1, hn2⟩, hL, hR, hN, hS, hC⟩ := hOK
  obtain ⟨hax1, hax2⟩ := hax
  rw [← up3_id F] at hB
  refine lv_aload_n hx hb dX0_letterings_0 rfl (lv_at hl 0 rfl) ?_
  refine lv_iload_n hx hb dX0_letterings_1 rfl (lv_at hl 1 rfl) ?_
  refine b_calli 0 0 (Nat.le_of_ble_eq_true rfl) (Nat.le_of_ble_eq_true rfl) hB (fun w hI hd hB => rV (As := [.int (iI ax)]) (n := 1) C hZ hB (kX0_noLeft l E o Ad I (up3 F (F 21) (F 22) (F 23)) X ax ⟨by omega, by omega⟩ hOK0 w hI hd _) (lw_V q237 q239 qs7 q68 q240) (by decide +kernel) ⟨Nat.le_of_ble_eq_true rfl, Nat.le_of_ble_eq_true rfl⟩ (wU_l hI.x) rfl rfl rfl hl.1 rfl (Nat.le_of_ble_eq_true rfl) dX0_letterings_2 ⟨Nat.le_of_ble_eq_true rfl, Nat.le_of_ble_eq_true rfl⟩) (fun z1 Ad2 I3 F4 X5 H locs hz6 hp7 hB => ?_)
  obtain ⟨hz6a, hz6b⟩ := hz6
  obtain ⟨rfl, rfl, rfl, rfl, ⟨rfl, h8⟩ | ⟨rfl, h8⟩⟩ := hp7
  · refine x_if_eq (tgt := 10) hx hb dX0_letterings_5 (by decide) ⟨by decide, by decide⟩ (fun c9 => by exfalso; omega) (fun c9 => ?_)
    refine lv_iconst (v := iI (-1)) hx hb dX0_letterings_8 rfl ?_
    exact b_iret C hB hr hlocks rfl dX0_letterings_9 (Nat.le_of_ble_eq_true rfl) (Nat.le_of_ble_eq_true rfl) ⟨by decide, by decide⟩ ⟨rfl, rfl, rfl, ⟨_, _, _, rfl⟩, by unfold rLetterings; rw [if_pos (by omega)]⟩
  · refine x_if_eq (tgt := 10) hx hb dX0_letterings_5 (by decide) ⟨by decide, by decide⟩ (fun c10 => ?_) (fun c10 => by exfalso; omega)
    obtain ⟨k, rfl⟩ : ∃ k : Nat, ax = (k : Int) := ⟨ax.toNat, by omega⟩
    refine lv_aload_n hx hb dX0_letterings_10 rfl (lv_at hl 0 rfl) ?_
    refine b_get C hB 3 (by decide) q296 (v := .ref (Ad 4)) rfl rfl dX0_letterings_11 ?_
    refine lv_iload_n hx hb dX0_letterings_14 rfl (lv_at hl 1 rfl) ?_
    refine b_lget C hZ hB k rfl (show ((k : Nat) : Int) < I 5 by omega) (show I 5 ≤ 7 by omega) q156 ⟨Nat.le_of_ble_eq_true rfl, Nat.le_of_ble_eq_true rfl⟩ hl.1 (Nat.le_of_ble_eq_true rfl) dX0_letterings_15 ⟨Nat.le_of_ble_eq_true rfl, Nat.le_of_ble_eq_true rfl⟩ (fun H locs hB => ?_)
    refine b_castP C hB k (show ((k : Nat) : Int) < I 5 by omega) (show I 5 ≤ 7 by omega) q175 dX0_letterings_20 ?_
    refine lv_astore_n (lv' := [(2, .ref (Ad (100 + k))), (0, .ref o), (1, .int (iI ((k : Int))))]) hx hb dX0_letterings_23 rfl hl (by decide) rfl (fun ls hl => ?_)
    refine lv_aload_n hx hb dX0_letterings_24 rfl (lv_at hl 0 rfl) ?_
    refine b_plL C hB k (show ((k : Nat) : Int) < I 5 by omega) (show I 5 ≤ 7 by omega) q786 dX0_letterings_25 ?_
    have := hL k (by omega)
    refine lv_istore_n (lv' := [(3, .int (iI ((F 11) k))), (2, .ref (Ad (100 + k))), (0, .ref o), (1, .int (iI ((k : Int))))]) hx hb dX0_letterings_28 rfl hl (by decide) rfl (fun ls hl => ?_)
    refine lv_iconst (v := iI 0) hx hb dX0_letterings_29 rfl ?_
    refine lv_istore (lv' := [(4, .int (iI 0)), (3, .int (iI ((F 11) k))), (2, .ref (Ad (100 + k))), (0, .ref o), (1, .int (iI ((k : Int))))]) hx hb dX0_letterings_30 hl (by decide) rfl (fun ls hl => ?_)
    refine lv_iconst (v := iI 1) hx hb dX0_letterings_32 rfl ?_
    refine lv_istore (lv' := [(5, .int (iI 1)), (4, .int (iI 0)), (3, .int (iI ((F 11) k))), (2, .ref (Ad (100 + k))), (0, .ref o), (1, .int (iI ((k : Int))))]) hx hb dX0_letterings_33 hl (by decide) rfl (fun ls hl => ?_)
    rw [show up3 F (F 21) (F 22) (F 23) = up3 (va_up F 11 (F 11)) (F 21) (F 22) (F 23) by rw [va_up_id]] at hB
    refine w_loop (fun n14 H locs ls => ∃ (v : Nat) (x : Int) (fk : Nat → Int) (g1 : Nat → Int) (g2 : Nat → Int) (g3 : Nat → Int), n14 = 9 - v ∧ (v ≤ 9) ∧ (x = lset I F k v) ∧ (∀ y, va_up fk k y = va_up (F 11) k y) ∧ xBB E (xA (wU w X) sz) s o Ad I (up3 (va_up F 11 fk) g1 g2 g3) X H locs ∧ lv_has ls 6 [(0, .ref o), (1, .int (iI ((k : Int)))), (2, .ref (Ad (100 + k))), (3, .int (iI (F 11 k))), (4, .int (iI x)), (5, .int (iI ((v : Int) + 1)))]) _ ⟨0, 0, _, _, _, _, rfl, by omega, rfl, fun y => rfl, hB, lv_sub hl [4, 5, 3, 2, 1, 0] rfl⟩ ?_
    intro n14 H locs ls hI13 ih11
    obtain ⟨v, x, fk, g1, g2, g3, hn12, hv, hxx, hfk, hB, hl⟩ := hI13
    have hxr : rg x := hxx ▸ rg_lset I F k v
    obtain ⟨hxr1, hxr2⟩ := hxr
    have hkdOK := fun h => mOK_kd11 hOK0 (a := k) (v := (v : Int) + 1) h
    refine lv_iload hx hb dX0_letterings_35 (lv_at hl 5 rfl) ?_
    refine lv_bipush (v := iI 9) hx hb dX0_letterings_37 rfl ?_
    refine x_icmp_gt (tgt := 74) hx hb dX0_letterings_39 (by decide) ⟨by omega, by omega⟩ ⟨by decide, by decide⟩ (fun c15 => ?_) (fun c15 => ?_)
    · refine lv_aload_n hx hb dX0_letterings_74 rfl (lv_at hl 2 rfl) ?_
      refine lv_iload_n hx hb dX0_letterings_75 rfl (lv_at hl 3 rfl) ?_
      refine b_plput C hB k (show ((k : Nat) : Int) < I 5 by omega) (show I 5 ≤ 7 by omega) q786 dX0_letterings_76 (fun H locs hB => ?_)
      replace hB : xBB E (xA (wU w X) sz) s o Ad I (va_up (up3 (va_up F 11 fk) g1 g2 g3) 11 (va_up fk k (F 11 k))) X _ _ := hB
      rw [up3_c (by decide), hfk, va_up_id, va_up_id] at hB
      refine lv_iload hx hb dX0_letterings_79 (lv_at hl 4 rfl) ?_
      exact b_iret C hB hr hlocks rfl dX0_letterings_81 (Nat.le_of_ble_eq_true rfl) (Nat.le_of_ble_eq_true rfl) ⟨by omega, by omega⟩ ⟨rfl, rfl, rfl, ⟨_, _, _, rfl⟩, by unfold rLetterings; rw [if_neg (by omega), hxx, show v = 9 by omega]; rfl⟩
    · refine lv_aload_n hx hb dX0_letterings_42 rfl (lv_at hl 2 rfl) ?_
      refine lv_iload hx hb dX0_letterings_43 (lv_at hl 5 rfl) ?_
      refine b_plput C hB k (show ((k : Nat) : Int) < I 5 by omega) (show I 5 ≤ 7 by omega) q786 dX0_letterings_45 (fun H locs hB => ?_)
      replace hB : xBB E (xA (wU w X) sz) s o Ad I (va_up (up3 (va_up F 11 fk) g1 g2 g3) 11 (va_up fk k ((v : Int) + 1))) X _ _ := hB
      rw [up3_c (by decide), hfk] at hB
      replace hB : xBB E (xA (wU w X) sz) s o Ad I (up3 (kd F 11 k ((v : Int) + 1)) g1 g2 g3) X _ _ := hB
      refine lv_iload hx hb dX0_letterings_48 (lv_at hl 4 rfl) ?_
      refine lv_aload_n hx hb dX0_letterings_50 rfl (lv_at hl 0 rfl) ?_
      refine b_calli 0 0 (Nat.le_of_ble_eq_true rfl) (Nat.le_of_ble_eq_true rfl) hB (fun w hI hd hB => rV (As := []) (n := 0) C hZ hB (kX0_areSo l E o Ad I (kd F 11 k ((v : Int) + 1)) g1 g2 g3 X (hkdOK (by omega)) w hI hd _) (lw_V q830 q832 qs26 q68 q833) (by decide +kernel) ⟨Nat.le_of_ble_eq_true rfl, Nat.le_of_ble_eq_true rfl⟩ (wU_l hI.x) rfl rfl rfl hl.1 rfl (Nat.le_of_ble_eq_true rfl) dX0_letterings_51 ⟨Nat.le_of_ble_eq_true rfl, Nat.le_of_ble_eq_true rfl⟩) (fun z16 Ad17 I18 F19 X20 H locs hz21 hp22 hB => ?_)
      obtain ⟨hz21a, hz21b⟩ := hz21
      obtain ⟨rfl, rfl, rfl, g23, g24, g25, rfl, ⟨rfl, h26⟩ | ⟨rfl, h26⟩⟩ := hp22
      · replace hB : xBB E (xA (wU w X) sz) s o Ad I (up3 (va_up F 11 (va_up (F 11) k ((v : Int) + 1))) g23 g24 g25) X _ _ := hB
        refine x_if_eq (tgt := 64) hx hb dX0_letterings_54 (by decide) ⟨by decide, by decide⟩ (fun c27 => by exfalso; omega) (fun c27 => ?_)
        refine lv_iconst (v := iI 1) hx hb dX0_letterings_57 rfl ?_
        refine lv_iload hx hb dX0_letterings_58 (lv_at hl 5 rfl) ?_
        refine x_ishl hx hb dX0_letterings_60 ?_
        refine lv_goto (tgt := 65) hx hb dX0_letterings_61 (by decide) ?_
        refine x_ior hx hb dX0_letterings_65 ?_
        refine lv_istore (lv' := [(4, .int (iI (bOr x (bShl 1 ((v : Int) + 1))))), (0, .ref o), (1, .int (iI ((k : Int)))), (2, .ref (Ad (100 + k))), (3, .int (iI (F 11 k))), (5, .int (iI ((v : Int) + 1)))]) hx hb dX0_letterings_66 hl (by decide) rfl (fun ls hl => ?_)
        refine lv_iinc (v := iI ((v : Int) + 1 + 1)) (lv' := [(5, .int (iI ((v : Int) + 1 + 1))), (4, .int (iI (bOr x (bShl 1 ((v : Int) + 1))))), (0, .ref o), (1, .int (iI ((k : Int)))), (2, .ref (Ad (100 + k))), (3, .int (iI (F 11 k)))]) hx hb dX0_letterings_68 hl (k := 5) rfl (iI_add _ _) (by decide) rfl (fun ls hl => ?_)
        rw [show ((v : Int) + 1 + 1 : Int) = (v : Int) + 2 by omega] at hl
        refine lv_goto (tgt := 35) hx hb dX0_letterings_71 (by decide) ?_
        exact ih11 _ _ _ _ (by omega) ⟨v + 1, _, _, _, _, _, rfl, by omega, by rw [show lset I F k (v + 1) = bOr (lset I F k v) (if rSo I (kd F 11 k ((v : Int) + 1)) = true then bShl 1 ((v : Int) + 1) else 0) from rfl, if_pos h26, ← hxx], fun y => bx_uu _ _ _ _, hB, lv_sub hl [2, 3, 4, 5, 1, 0] rfl⟩
      · replace hB : xBB E (xA (wU w X) sz) s o Ad I (up3 (va_up F 11 (va_up (F 11) k ((v : Int) + 1))) g23 g24 g25) X _ _ := hB
        refine x_if_eq (tgt := 64) hx hb dX0_letterings_54 (by decide) ⟨by decide, by decide⟩ (fun c28 => ?_) (fun c28 => by exfalso; omega)
        refine lv_iconst (v := iI 0) hx hb dX0_letterings_64 rfl ?_
        refine x_ior hx hb dX0_letterings_65 ?_
        refine lv_istore (lv' := [(4, .int (iI (bOr x 0))), (0, .ref o), (1, .int (iI ((k : Int)))), (2, .ref (Ad (100 + k))), (3, .int (iI (F 11 k))), (5, .int (iI ((v : Int) + 1)))]) hx hb dX0_letterings_66 hl (by decide) rfl (fun ls hl => ?_)
        refine lv_iinc (v := iI ((v : Int) + 1 + 1)) (lv' := [(5, .int (iI ((v : Int) + 1 + 1))), (4, .int (iI (bOr x 0))), (0, .ref o), (1, .int (iI ((k : Int)))), (2, .ref (Ad (100 + k))), (3, .int (iI (F 11 k)))]) hx hb dX0_letterings_68 hl (k := 5) rfl (iI_add _ _) (by decide) rfl (fun ls hl => ?_)
        rw [show ((v : Int) + 1 + 1 : Int) = (v : Int) + 2 by omega] at hl
        refine lv_goto (tgt := 35) hx hb dX0_letterings_71 (by decide) ?_
        exact ih11 _ _ _ _ (by omega) ⟨v + 1, _, _, _, _, _, rfl, by omega, by rw [show lset I F k (v + 1) = bOr (lset I F k v) (if rSo I (kd F 11 k ((v : Int) + 1)) = true then bShl 1 ((v : Int) + 1) else 0) from rfl, if_neg (by rw [h26]; decide), ← hxx], fun y => bx_uu _ _ _ _, hB, lv_sub hl [2, 3, 4, 5, 1, 0] rfl⟩
