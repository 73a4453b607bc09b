/-! THE COMPONENT: acts tried; looked, books, day, copy, as (the walks are printed) -/
set_option maxRecDepth 100000
theorem rCopy_rg {F : Nat → Nat → Int} {k i o j n : Int} (h : rg n) : rg (rCopy F k i o j n) := by
  obtain ⟨h1, h2⟩ := h
  unfold rCopy
  (repeat' split) <;> exact ⟨by omega, by omega⟩
theorem bk_1 {I : Nat → Int} {F : Nat → Nat → Int} {k so i n : Int} (h : ¬ (0 ≤ k ∧ k ≤ 3)) : -1 = rBooks F k so i n ∧ mAg (nBooksI I F k so i n) (nBooksF F k so i n) (va_up I 0 0) F := by
  have hr : rBooks F k so i n = -1 := if_pos h
  refine ⟨hr.symm, ?_⟩
  unfold nBooksI nBooksF
  rw [hr, if_neg (show ¬ (0 : Int) ≤ -1 by decide), if_neg (show ¬ (0 : Int) ≤ -1 by decide), if_pos (Or.inl h)]
  exact mAg_rfl _ _
theorem bk_2 {I : Nat → Int} {F : Nat → Nat → Int} {k so i n : Int} (h : 0 ≤ k ∧ k ≤ 3) (h2 : ¬ (0 ≤ so ∧ so ≤ 2)) : -2 = rBooks F k so i n ∧ mAg (nBooksI I F k so i n) (nBooksF F k so i n) (va_up I 0 0) F := by
  have hr : rBooks F k so i n = -2 := by
    unfold rBooks
    rw [if_neg (fun g => g h), if_pos h2]
  refine ⟨hr.symm, ?_⟩
  unfold nBooksI nBooksF
  rw [hr, if_neg (show ¬ (0 : Int) ≤ -2 by decide), if_neg (show ¬ (0 : Int) ≤ -2 by decide), if_pos (Or.inr h2)]
  exact mAg_rfl _ _
theorem bk_t {I I' : Nat → Int} {F F' : Nat → Nat → Int} {k : Nat} {so i n z : Int} (hk : k < 4) (hso : 0 ≤ so ∧ so ≤ 2) (h : (agn F k so i n = 0 ∧ mAg (nbI (fI I 0) (txt F (k : Int) i n) n.toNat) (nbF F (txt F (k : Int) i n) n.toNat) I' F' ∧ z = rText (txt F (k : Int) i n) n.toNat) ∨ (agn F k so i n ≠ 0 ∧ I' = fI I (agn F k so i n) ∧ F' = F ∧ z = -10 - agn F k so i n)) : z = rBooks F (k : Int) so i n ∧ mAg (nBooksI I F (k : Int) so i n) (nBooksF F (k : Int) so i n) I' F' := by
  have hk0 : ¬ ¬ (0 ≤ (k : Int) ∧ (k : Int) ≤ 3) := fun g => g ⟨by omega, by omega⟩
  have hs0 : ¬ ¬ (0 ≤ so ∧ so ≤ 2) := fun g => g hso
  have hc : ¬ (¬ (0 ≤ (k : Int) ∧ (k : Int) ≤ 3) ∨ ¬ (0 ≤ so ∧ so ≤ 2)) := fun g => g.elim hk0 hs0
  rcases h with ⟨h1, h2, h3⟩ | ⟨h1, h2, h3, h4⟩
  · have hr : rBooks F (k : Int) so i n = rText (txt F (k : Int) i n) n.toNat := by
      unfold rBooks
      simp only [Int.toNat_natCast]
      rw [if_neg hk0, if_neg hs0, if_neg (fun g => g h1)]
      rfl
    refine ⟨h3.trans hr.symm, ?_⟩
    have hI : nBooksI I F (k : Int) so i n = nbI (fI I 0) (txt F (k : Int) i n) n.toNat := by
      unfold nBooksI nbI
      simp only [Int.toNat_natCast]
      rw [hr, if_neg hc, h1]
    have hF : nBooksF F (k : Int) so i n = nbF F (txt F (k : Int) i n) n.toNat := by
      unfold nBooksF nbF
      rw [hr]
    rw [hI, hF]
    exact h2
  · have hb := agn_b F k so i n
    have hr : rBooks F (k : Int) so i n = -10 - agn F k so i n := by
      unfold rBooks
      simp only [Int.toNat_natCast]
      rw [if_neg hk0, if_neg hs0, if_pos h1]
    refine ⟨h4.trans hr.symm, ?_⟩
    rw [h2, h3]
    unfold nBooksI nBooksF
    simp only [Int.toNat_natCast]
    rw [hr, if_neg (show ¬ (0 : Int) ≤ -10 - agn F k so i n by omega), if_neg (show ¬ (0 : Int) ≤ -10 - agn F k so i n by omega), if_neg hc]
    exact mAg_rfl _ _
theorem dy_1 {I : Nat → Int} {F : Nat → Nat → Int} {k so i n wh : Int} (h : ¬ (0 ≤ k ∧ k ≤ 3)) : -1 = rDayO I F k so i n wh ∧ mAg (nDayI I F k so i n wh) F (va_up I 0 0) F := by
  have hr : rDayO I F k so i n wh = -1 := if_pos h
  refine ⟨hr.symm, ?_⟩
  unfold nDayI
  rw [if_pos (Or.inl h)]
  exact mAg_rfl _ _
theorem dy_2 {I : Nat → Int} {F : Nat → Nat → Int} {k so i n wh : Int} (h : 0 ≤ k ∧ k ≤ 3) (h2 : ¬ (0 ≤ so ∧ so ≤ 2)) : -2 = rDayO I F k so i n wh ∧ mAg (nDayI I F k so i n wh) F (va_up I 0 0) F := by
  have hr : rDayO I F k so i n wh = -2 := by
    unfold rDayO
    rw [if_neg (fun g => g h), if_pos (Or.inl h2)]
  refine ⟨hr.symm, ?_⟩
  unfold nDayI
  rw [if_pos (Or.inr (Or.inl h2))]
  exact mAg_rfl _ _
theorem dy_0 {I : Nat → Int} {F : Nat → Nat → Int} {k so i n wh z : Int} (h : ¬ (0 ≤ n ∧ n ≤ 20) ∨ ¬ ((0 ≤ wh ∧ wh ≤ 4) ∨ (10 ≤ wh ∧ wh ≤ 16))) (hz : z = (if ¬ (0 ≤ k ∧ k ≤ 3) then -1 else -2)) : z = rDayO I F k so i n wh ∧ mAg (nDayI I F k so i n wh) F (fI I 0) F := by
  refine ⟨?_, ?_⟩
  · rw [hz]
    unfold rDayO
    by_cases g : 0 ≤ k ∧ k ≤ 3
    · rw [if_neg (fun q => q g), if_neg (fun q => q g), if_pos (Or.inr h)]
    · rw [if_pos g, if_pos g]
  · unfold nDayI
    rw [if_pos (Or.inr (Or.inr h))]
    exact mAg_rfl _ _
theorem rDayB_at {I : Nat → Int} {F : Nat → Nat → Int} {k mm : Nat} {i wh : Int} : rDayB (fI I 0) F (gC F k i (2 * (mm : Int))) mm wh = if I 5 = 0 then -3 else @ite Int (∀ q : Nat, q < mm → isPr (F 4 (60 * k + i.toNat + 2 * q)) (F 4 (60 * k + i.toNat + 2 * q + 1))) (Classical.propDecidable _) (rDay I F (fun j => F 4 (60 * k + i.toNat + j)) mm wh) (-2) := by
  have hg : ∀ j, j < 2 * mm → gC F k i (2 * (mm : Int)) j = F 4 (60 * k + i.toNat + j) := fun j hj => by
    unfold gC
    rw [if_pos (by omega)]
  unfold rDayB
  show (if I 5 = 0 then _ else _) = _
  by_cases h5 : I 5 = 0
  · rw [if_pos h5, if_pos h5]
  · rw [if_neg h5, if_neg h5]
    have hp : (∀ q : Nat, q < mm → isPr (gC F k i (2 * (mm : Int)) (2 * q)) (gC F k i (2 * (mm : Int)) (2 * q + 1))) ↔ (∀ q : Nat, q < mm → isPr (F 4 (60 * k + i.toNat + 2 * q)) (F 4 (60 * k + i.toNat + 2 * q + 1))) := by
      constructor
      · intro h q hq
        have := h q hq
        rw [hg _ (by omega), hg _ (by omega)] at this
        exact this
      · intro h q hq
        rw [hg _ (by omega), hg _ (by omega)]
        exact h q hq
    by_cases h : ∀ q : Nat, q < mm → isPr (F 4 (60 * k + i.toNat + 2 * q)) (F 4 (60 * k + i.toNat + 2 * q + 1))
    · rw [if_pos h, if_pos (hp.mpr h)]
      show rDay (va_up I 0 0) F _ mm wh = _
      rw [rDay_z]
      exact rDay_congr hg
    · rw [if_neg h, if_neg (fun g => h (hp.mp g))]
theorem dy_t {I I' : Nat → Int} {F F' : Nat → Nat → Int} {k mm : Nat} {so i wh z : Int} (hk : k < 4) (hso : 0 ≤ so ∧ so ≤ 2) (hm : mm ≤ 20) (hwh : (0 ≤ wh ∧ wh ≤ 4) ∨ (10 ≤ wh ∧ wh ≤ 16)) (h : (agn F k so i (2 * (mm : Int)) = 0 ∧ mAg (fI I 0) F I' F' ∧ z = rDayB (fI I 0) F (gC F k i (2 * (mm : Int))) mm wh) ∨ (agn F k so i (2 * (mm : Int)) ≠ 0 ∧ I' = fI I (agn F k so i (2 * (mm : Int))) ∧ F' = F ∧ z = -10 - agn F k so i (2 * (mm : Int)))) : z = rDayO I F (k : Int) so i (mm : Int) wh ∧ mAg (nDayI I F (k : Int) so i (mm : Int) wh) F I' F' := by
  have hk0 : ¬ ¬ (0 ≤ (k : Int) ∧ (k : Int) ≤ 3) := fun g => g ⟨by omega, by omega⟩
  have hc : ¬ (¬ (0 ≤ so ∧ so ≤ 2) ∨ ¬ (0 ≤ (mm : Int) ∧ (mm : Int) ≤ 20) ∨ ¬ ((0 ≤ wh ∧ wh ≤ 4) ∨ (10 ≤ wh ∧ wh ≤ 16))) := by omega
  have hn : nDayI I F (k : Int) so i (mm : Int) wh = fI I (agn F k so i (2 * (mm : Int))) := by
    unfold nDayI
    simp only [Int.toNat_natCast]
    rw [if_neg (fun g => g.elim hk0 hc)]
  rcases h with ⟨h1, h2, h3⟩ | ⟨h1, h2, h3, h4⟩
  · refine ⟨?_, by rw [hn, h1]; exact h2⟩
    rw [h3, rDayB_at]
    unfold rDayO
    simp only [Int.toNat_natCast]
    rw [if_neg hk0, if_neg hc, if_neg (show ¬ (agn F k so i (2 * (mm : Int)) ≠ 0) from fun g => g h1)]
  · refine ⟨?_, by rw [hn, h2, h3]; exact mAg_rfl _ _⟩
    rw [h4]
    unfold rDayO
    simp only [Int.toNat_natCast]
    rw [if_neg hk0, if_neg hc, if_pos h1]
set_option maxHeartbeats 800000 in
set_option maxRecDepth 100000 in
theorem kX4_tried_B (l : Launch) (hfl : l.stackTraces = false) (E : xE) (o : Nat) (Ad : Nat → Nat) (I : Nat → Int) (F : Nat → Nat → Int) (X : xw) (a : Nat) (rd : Nat) (k : Nat) (so : Int) (i : Int) (n : Int) (ha : X a = some (xO 7 [.ref o, .int (iI ((k : Int))), .int (iI so), .int (iI i), .int (iI n), .ref rd, .ref o])) (hrd : X rd = some (lamE E o 8)) (hk : k < 4) (hso : 0 ≤ so ∧ so ≤ 2) (hi : rg i) (hn : rg n) (hOK : mOK I F) : zi_ l E yX4_tried (wsW_ yX4_tried cX4_tried 2 (some .int) [(8, 12, 13, 23), (8, 12, 23, 29), (8, 12, 23, 31), (8, 12, 33, 33), (8, 12, 43, 35)]) 12 10388 40 3200 [.ref a] o Ad I F X (fun z Ad' I' F' X' => (agn F k so i n = 0 ∧ mAg (nbI (fI I 0) (txt F (k : Int) i n) n.toNat) (nbF F (txt F (k : Int) i n) n.toNat) I' F' ∧ z = rText (txt F (k : Int) i n) n.toNat) ∨ (agn F k so i n ≠ 0 ∧ I' = fI I (agn F k so i n) ∧ F' = F ∧ z = -10 - agn F k so i n)) := by
  intro w hI hd sz
  refine x_bodyh (by decide) (Nat.le_of_ble_eq_true rfl) ?_
  intro p e s m args below meth c ls hx hb C hr hlocks htab hsz hV hB hl
  have hZ := hV.1
  have C : xC E p s m args c cX4_tried 2 RX4 := C
  replace hB : xBB E (xA (wU w X) sz) s o Ad I F X s.heap [] := ⟨w, hI, hd, hB⟩
  have hl : lv_has ls 2 [(0, .ref a)] := hl
  have hOK0 := hOK
  obtain ⟨⟨hf1, hf2⟩, ⟨hl1, hl2⟩, ⟨hr1, hr2⟩, hlr, ⟨hs1, hs2⟩, ⟨hj1, hj2⟩, ⟨hb1, hb2⟩, ⟨hn1, hn2⟩, hL, hR, hN, hS, hC⟩ := hOK
  have hi0 := hi
  have hn0 := hn
  obtain ⟨hi1, hi2⟩ := hi
  obtain ⟨hn1, hn2⟩ := hn
  refine lv_aload_n hx hb dX4_tried_0 rfl (lv_at hl 0 rfl) ?_
  refine t_get C hB ha rfl in_X5 0 (by decide) q1124 (fun x h => h) (v := .ref o) rfl dX4_tried_1 ?_
  refine lv_iconst (v := iI 0) hx hb dX4_tried_4 rfl ?_
  refine b_putN C hB 17 0 (by decide) rfl q313 rfl rfl rfl dX4_tried_5 (fun H locs hB => ?_)
  refine lv_aload_n hx hb dX4_tried_8 rfl (lv_at hl 0 rfl) ?_
  refine b_callXi 40 3100 (Nat.le_of_ble_eq_true rfl) (Nat.le_of_ble_eq_true rfl) hB (fun w hI hd hB => rXA (As := []) (n := 0) C hV hB ⟨"BookPairs$Act", "done", "()I"⟩ "BookPairs$Act" (kX5_done_B l hfl E o Ad (va_up I 0 0) F X a rd k so i n ha hrd hk hso hi0 hn0 (mOK_0 hOK0 ⟨by decide, by decide⟩) w hI hd _) q1168 q1170 q1176 q1177 q79 q1178 q1169 (by decide +kernel) ⟨Nat.le_of_ble_eq_true rfl, Nat.le_of_ble_eq_true rfl⟩ (wU_r hd ha) rfl rfl rfl hl.1 rfl (Nat.le_of_ble_eq_true rfl) dX4_tried_9 ⟨Nat.le_of_ble_eq_true rfl, Nat.le_of_ble_eq_true rfl⟩) (fun En qx8 Ad2 I3 F4 X5 H locs hp7 hB hE => ?_) (fun z1 Ad2 I3 F4 X5 H locs hz6 hp7 hB => ?_)
  · obtain ⟨rfl, rfl, rfl, rfl, hp7⟩ := hp7
    rcases hp7 with ⟨hp7, rfl⟩ | ⟨hp7, rfl⟩ | ⟨hp7, rfl⟩ | ⟨hp7, rfl⟩
    · refine e_catch C hV htab (pc := 9) hE [] [⟨8, 12, 23, 29⟩, ⟨8, 12, 23, 31⟩, ⟨8, 12, 33, 33⟩, ⟨8, 12, 43, 35⟩] ⟨8, 12, 13, 23⟩ rfl (fun z hz => by cases hz) (by decide) (by decide) q1150 q992 ?_
      refine lv_astore_n (lv' := [(1, .ref qx8), (0, .ref a)]) hx hb dX4_tried_13 rfl hl (by decide) rfl (fun ls hl => ?_)
      refine lv_aload_n hx hb dX4_tried_14 rfl (lv_at hl 1 rfl) ?_
      refine t_get C hB ha rfl in_X5 0 (by decide) q1124 (fun x h => h) (v := .ref o) rfl dX4_tried_15 ?_
      refine lv_iconst (v := iI 1) hx hb dX4_tried_18 rfl ?_
      refine b_calli 40 3100 (Nat.le_of_ble_eq_true rfl) (Nat.le_of_ble_eq_true rfl) hB (fun w hI hd hB => rVN (As := [.int (iI 1)]) (n := 1) C hZ hB (kX0_fails l E o Ad (va_up I 0 0) F X 1 (by omega) w hI hd _) q1210 qs30 q960 q68 q961 (by decide +kernel) ⟨Nat.le_of_ble_eq_true rfl, Nat.le_of_ble_eq_true rfl⟩ (wU_l hI.x) rfl rfl rfl hl.1 rfl (Nat.le_of_ble_eq_true rfl) dX4_tried_19 ⟨Nat.le_of_ble_eq_true rfl, Nat.le_of_ble_eq_true rfl⟩) (fun z10 Ad11 I12 F13 X14 H locs hz15 hp16 hB => ?_)
      obtain ⟨hz15a, hz15b⟩ := hz15
      obtain ⟨rfl, rfl, rfl, rfl, rfl⟩ := hp16
      replace hB : xBB E (xA (wU w X) sz) s o Ad (va_up (va_up I 0 0) 0 1) F X _ _ := hB
      refine vx_ret ?_
      exact b_iret C hB hr hlocks rfl dX4_tried_22 (Nat.le_of_ble_eq_true rfl) (Nat.le_of_ble_eq_true rfl) ⟨by decide, by decide⟩ (Or.inr ⟨by rw [hp7]; decide, by unfold fI; rw [hp7]; exact bx_uu _ _ _ _, rfl, by rw [hp7]⟩)
    · refine e_catch C hV htab (pc := 9) hE [⟨8, 12, 13, 23⟩] [⟨8, 12, 23, 31⟩, ⟨8, 12, 33, 33⟩, ⟨8, 12, 43, 35⟩] ⟨8, 12, 23, 29⟩ rfl (fun z hz => ?_) (by decide) (by decide) q1151 q1036 ?_
      · simp only [List.mem_cons, List.not_mem_nil, or_false] at hz
        rcases hz with rfl
        · exact Or.inr ⟨by decide, "java/lang/NullPointerException", q1150, by decide +kernel⟩
      refine lv_astore_n (lv' := [(1, .ref qx8), (0, .ref a)]) hx hb dX4_tried_23 rfl hl (by decide) rfl (fun ls hl => ?_)
      refine lv_aload_n hx hb dX4_tried_24 rfl (lv_at hl 1 rfl) ?_
      refine t_get C hB ha rfl in_X5 0 (by decide) q1124 (fun x h => h) (v := .ref o) rfl dX4_tried_25 ?_
      refine lv_iconst (v := iI 2) hx hb dX4_tried_28 rfl ?_
      refine b_calli 40 3100 (Nat.le_of_ble_eq_true rfl) (Nat.le_of_ble_eq_true rfl) hB (fun w hI hd hB => rVN (As := [.int (iI 2)]) (n := 1) C hZ hB (kX0_fails l E o Ad (va_up I 0 0) F X 2 (by omega) w hI hd _) q1210 qs30 q960 q68 q961 (by decide +kernel) ⟨Nat.le_of_ble_eq_true rfl, Nat.le_of_ble_eq_true rfl⟩ (wU_l hI.x) rfl rfl rfl hl.1 rfl (Nat.le_of_ble_eq_true rfl) dX4_tried_29 ⟨Nat.le_of_ble_eq_true rfl, Nat.le_of_ble_eq_true rfl⟩) (fun z18 Ad19 I20 F21 X22 H locs hz23 hp24 hB => ?_)
      obtain ⟨hz23a, hz23b⟩ := hz23
      obtain ⟨rfl, rfl, rfl, rfl, rfl⟩ := hp24
      replace hB : xBB E (xA (wU w X) sz) s o Ad (va_up (va_up I 0 0) 0 2) F X _ _ := hB
      refine vx_ret ?_
      exact b_iret C hB hr hlocks rfl dX4_tried_32 (Nat.le_of_ble_eq_true rfl) (Nat.le_of_ble_eq_true rfl) ⟨by decide, by decide⟩ (Or.inr ⟨by rw [hp7]; decide, by unfold fI; rw [hp7]; exact bx_uu _ _ _ _, rfl, by rw [hp7]⟩)
    · refine e_catch C hV htab (pc := 9) hE [⟨8, 12, 13, 23⟩, ⟨8, 12, 23, 29⟩, ⟨8, 12, 23, 31⟩] [⟨8, 12, 43, 35⟩] ⟨8, 12, 33, 33⟩ rfl (fun z hz => ?_) (by decide) (by decide) q1166 q914 ?_
      · simp only [List.mem_cons, List.not_mem_nil, or_false] at hz
        rcases hz with rfl | rfl | rfl
        · exact Or.inr ⟨by decide, "java/lang/NullPointerException", q1150, by decide +kernel⟩
        · exact Or.inr ⟨by decide, "java/lang/ClassCastException", q1151, by decide +kernel⟩
        · exact Or.inr ⟨by decide, "java/lang/ArrayStoreException", q1152, by decide +kernel⟩
      refine lv_astore_n (lv' := [(1, .ref qx8), (0, .ref a)]) hx hb dX4_tried_33 rfl hl (by decide) rfl (fun ls hl => ?_)
      refine lv_aload_n hx hb dX4_tried_34 rfl (lv_at hl 1 rfl) ?_
      refine t_get C hB ha rfl in_X5 0 (by decide) q1124 (fun x h => h) (v := .ref o) rfl dX4_tried_35 ?_
      refine lv_iconst (v := iI 4) hx hb dX4_tried_38 rfl ?_
      refine b_calli 40 3100 (Nat.le_of_ble_eq_true rfl) (Nat.le_of_ble_eq_true rfl) hB (fun w hI hd hB => rVN (As := [.int (iI 4)]) (n := 1) C hZ hB (kX0_fails l E o Ad (va_up I 0 0) F X 4 (by omega) w hI hd _) q1210 qs30 q960 q68 q961 (by decide +kernel) ⟨Nat.le_of_ble_eq_true rfl, Nat.le_of_ble_eq_true rfl⟩ (wU_l hI.x) rfl rfl rfl hl.1 rfl (Nat.le_of_ble_eq_true rfl) dX4_tried_39 ⟨Nat.le_of_ble_eq_true rfl, Nat.le_of_ble_eq_true rfl⟩) (fun z26 Ad27 I28 F29 X30 H locs hz31 hp32 hB => ?_)
      obtain ⟨hz31a, hz31b⟩ := hz31
      obtain ⟨rfl, rfl, rfl, rfl, rfl⟩ := hp32
      replace hB : xBB E (xA (wU w X) sz) s o Ad (va_up (va_up I 0 0) 0 4) F X _ _ := hB
      refine vx_ret ?_
      exact b_iret C hB hr hlocks rfl dX4_tried_42 (Nat.le_of_ble_eq_true rfl) (Nat.le_of_ble_eq_true rfl) ⟨by decide, by decide⟩ (Or.inr ⟨by rw [hp7]; decide, by unfold fI; rw [hp7]; exact bx_uu _ _ _ _, rfl, by rw [hp7]⟩)
    · refine e_catch C hV htab (pc := 9) hE [⟨8, 12, 13, 23⟩, ⟨8, 12, 23, 29⟩, ⟨8, 12, 23, 31⟩, ⟨8, 12, 33, 33⟩] [] ⟨8, 12, 43, 35⟩ rfl (fun z hz => ?_) (by decide) (by decide) q1167 q1190 ?_
      · simp only [List.mem_cons, List.not_mem_nil, or_false] at hz
        rcases hz with rfl | rfl | rfl | rfl
        · exact Or.inr ⟨by decide, "java/lang/NullPointerException", q1150, by decide +kernel⟩
        · exact Or.inr ⟨by decide, "java/lang/ClassCastException", q1151, by decide +kernel⟩
        · exact Or.inr ⟨by decide, "java/lang/ArrayStoreException", q1152, by decide +kernel⟩
        · exact Or.inr ⟨by decide, "java/lang/NegativeArraySizeException", q1166, by decide +kernel⟩
      refine lv_astore_n (lv' := [(1, .ref qx8), (0, .ref a)]) hx hb dX4_tried_43 rfl hl (by decide) rfl (fun ls hl => ?_)
      refine lv_aload_n hx hb dX4_tried_44 rfl (lv_at hl 1 rfl) ?_
      refine t_get C hB ha rfl in_X5 0 (by decide) q1124 (fun x h => h) (v := .ref o) rfl dX4_tried_45 ?_
      refine lv_iconst (v := iI 3) hx hb dX4_tried_48 rfl ?_
      refine b_calli 40 3100 (Nat.le_of_ble_eq_true rfl) (Nat.le_of_ble_eq_true rfl) hB (fun w hI hd hB => rVN (As := [.int (iI 3)]) (n := 1) C hZ hB (kX0_fails l E o Ad (va_up I 0 0) F X 3 (by omega) w hI hd _) q1210 qs30 q960 q68 q961 (by decide +kernel) ⟨Nat.le_of_ble_eq_true rfl, Nat.le_of_ble_eq_true rfl⟩ (wU_l hI.x) rfl rfl rfl hl.1 rfl (Nat.le_of_ble_eq_true rfl) dX4_tried_49 ⟨Nat.le_of_ble_eq_true rfl, Nat.le_of_ble_eq_true rfl⟩) (fun z34 Ad35 I36 F37 X38 H locs hz39 hp40 hB => ?_)
      obtain ⟨hz39a, hz39b⟩ := hz39
      obtain ⟨rfl, rfl, rfl, rfl, rfl⟩ := hp40
      replace hB : xBB E (xA (wU w X) sz) s o Ad (va_up (va_up I 0 0) 0 3) F X _ _ := hB
      refine vx_ret ?_
      exact b_iret C hB hr hlocks rfl dX4_tried_52 (Nat.le_of_ble_eq_true rfl) (Nat.le_of_ble_eq_true rfl) ⟨by decide, by decide⟩ (Or.inr ⟨by rw [hp7]; decide, by unfold fI; rw [hp7]; exact bx_uu _ _ _ _, rfl, by rw [hp7]⟩)
  · obtain ⟨hz6a, hz6b⟩ := hz6
    obtain ⟨hag0, hagm, hzv⟩ := hp7
    refine vx_ret ?_
    exact b_iret C hB hr hlocks rfl dX4_tried_12 (Nat.le_of_ble_eq_true rfl) (Nat.le_of_ble_eq_true rfl) ⟨by omega, by omega⟩ (Or.inl ⟨hag0, hagm, hzv⟩)
set_option maxHeartbeats 800000 in
set_option maxRecDepth 100000 in
theorem kX4_tried_D (l : Launch) (hfl : l.stackTraces = false) (E : xE) (o : Nat) (Ad : Nat → Nat) (I : Nat → Int) (F : Nat → Nat → Int) (X : xw) (a : Nat) (rd : Nat) (k : Nat) (so : Int) (i : Int) (mm : Nat) (wh : Int) (ha : X a = some (xO 7 [.ref o, .int (iI ((k : Int))), .int (iI so), .int (iI i), .int (iI (2 * (mm : Int))), .ref rd, .ref o])) (hrd : X rd = some (.inr { cls := E.2 19, slots := #[.ref o, .int (iI wh)], vm := .none })) (hk : k < 4) (hso : 0 ≤ so ∧ so ≤ 2) (hi : rg i) (hm : mm ≤ 20) (hwh : (0 ≤ wh ∧ wh ≤ 4) ∨ (10 ≤ wh ∧ wh ≤ 16)) (hOK : mOK I F) : zi_ l E yX4_tried (wsW_ yX4_tried cX4_tried 2 (some .int) [(8, 12, 13, 23), (8, 12, 23, 29), (8, 12, 23, 31), (8, 12, 33, 33), (8, 12, 43, 35)]) 17 10388 40 3200 [.ref a] o Ad I F X (fun z Ad' I' F' X' => (agn F k so i (2 * (mm : Int)) = 0 ∧ mAg (fI I 0) F I' F' ∧ z = rDayB (fI I 0) F (gC F k i (2 * (mm : Int))) mm wh) ∨ (agn F k so i (2 * (mm : Int)) ≠ 0 ∧ I' = fI I (agn F k so i (2 * (mm : Int))) ∧ F' = F ∧ z = -10 - agn F k so i (2 * (mm : Int)))) := by
  intro w hI hd sz
  refine x_bodyh (by decide) (Nat.le_of_ble_eq_true rfl) ?_
  intro p e s m args below meth c ls hx hb C hr hlocks htab hsz hV hB hl
  have hZ := hV.1
  have C : xC E p s m args c cX4_tried 2 RX4 := C
  replace hB : xBB E (xA (wU w X) sz) s o Ad I F X s.heap [] := ⟨w, hI, hd, hB⟩
  have hl : lv_has ls 2 [(0, .ref a)] := hl
  have hOK0 := hOK
  obtain ⟨⟨hf1, hf2⟩, ⟨hl1, hl2⟩, ⟨hr1, hr2⟩, hlr, ⟨hs1, hs2⟩, ⟨hj1, hj2⟩, ⟨hb1, hb2⟩, ⟨hn1, hn2⟩, hL, hR, hN, hS, hC⟩ := hOK
  have hi0 := hi
  obtain ⟨hi1, hi2⟩ := hi
  refine lv_aload_n hx hb dX4_tried_0 rfl (lv_at hl 0 rfl) ?_
  refine t_get C hB ha rfl in_X5 0 (by decide) q1124 (fun x h => h) (v := .ref o) rfl dX4_tried_1 ?_
  refine lv_iconst (v := iI 0) hx hb dX4_tried_4 rfl ?_
  refine b_putN C hB 17 0 (by decide) rfl q313 rfl rfl rfl dX4_tried_5 (fun H locs hB => ?_)
  refine lv_aload_n hx hb dX4_tried_8 rfl (lv_at hl 0 rfl) ?_
  refine b_callXi 40 3100 (Nat.le_of_ble_eq_true rfl) (Nat.le_of_ble_eq_true rfl) hB (fun w hI hd hB => rXA (As := []) (n := 0) C hV hB ⟨"BookPairs$Act", "done", "()I"⟩ "BookPairs$Act" (kX5_done_D l hfl E o Ad (va_up I 0 0) F X a rd k so i mm wh ha hrd hk hso hi0 hm hwh (mOK_0 hOK0 ⟨by decide, by decide⟩) w hI hd _) q1168 q1170 q1176 q1177 q79 q1178 q1169 (by decide +kernel) ⟨Nat.le_of_ble_eq_true rfl, Nat.le_of_ble_eq_true rfl⟩ (wU_r hd ha) rfl rfl rfl hl.1 rfl (Nat.le_of_ble_eq_true rfl) dX4_tried_9 ⟨Nat.le_of_ble_eq_true rfl, Nat.le_of_ble_eq_true rfl⟩) (fun En qx8 Ad2 I3 F4 X5 H locs hp7 hB hE => ?_) (fun z1 Ad2 I3 F4 X5 H locs hz6 hp7 hB => ?_)
  · obtain ⟨rfl, rfl, rfl, rfl, hp7⟩ := hp7
    rcases hp7 with ⟨hp7, rfl⟩ | ⟨hp7, rfl⟩ | ⟨hp7, rfl⟩ | ⟨hp7, rfl⟩
    · refine e_catch C hV htab (pc := 9) hE [] [⟨8, 12, 23, 29⟩, ⟨8, 12, 23, 31⟩, ⟨8, 12, 33, 33⟩, ⟨8, 12, 43, 35⟩] ⟨8, 12, 13, 23⟩ rfl (fun z hz => by cases hz) (by decide) (by decide) q1150 q992 ?_
      refine lv_astore_n (lv' := [(1, .ref qx8), (0, .ref a)]) hx hb dX4_tried_13 rfl hl (by decide) rfl (fun ls hl => ?_)
      refine lv_aload_n hx hb dX4_tried_14 rfl (lv_at hl 1 rfl) ?_
      refine t_get C hB ha rfl in_X5 0 (by decide) q1124 (fun x h => h) (v := .ref o) rfl dX4_tried_15 ?_
      refine lv_iconst (v := iI 1) hx hb dX4_tried_18 rfl ?_
      refine b_calli 40 3100 (Nat.le_of_ble_eq_true rfl) (Nat.le_of_ble_eq_true rfl) hB (fun w hI hd hB => rVN (As := [.int (iI 1)]) (n := 1) C hZ hB (kX0_fails l E o Ad (va_up I 0 0) F X 1 (by omega) w hI hd _) q1210 qs30 q960 q68 q961 (by decide +kernel) ⟨Nat.le_of_ble_eq_true rfl, Nat.le_of_ble_eq_true rfl⟩ (wU_l hI.x) rfl rfl rfl hl.1 rfl (Nat.le_of_ble_eq_true rfl) dX4_tried_19 ⟨Nat.le_of_ble_eq_true rfl, Nat.le_of_ble_eq_true rfl⟩) (fun z10 Ad11 I12 F13 X14 H locs hz15 hp16 hB => ?_)
      obtain ⟨hz15a, hz15b⟩ := hz15
      obtain ⟨rfl, rfl, rfl, rfl, rfl⟩ := hp16
      replace hB : xBB E (xA (wU w X) sz) s o Ad (va_up (va_up I 0 0) 0 1) F X _ _ := hB
      refine vx_ret ?_
      exact b_iret C hB hr hlocks rfl dX4_tried_22 (Nat.le_of_ble_eq_true rfl) (Nat.le_of_ble_eq_true rfl) ⟨by decide, by decide⟩ (Or.inr ⟨by rw [hp7]; decide, by unfold fI; rw [hp7]; exact bx_uu _ _ _ _, rfl, by rw [hp7]⟩)
    · refine e_catch C hV htab (pc := 9) hE [⟨8, 12, 13, 23⟩] [⟨8, 12, 23, 31⟩, ⟨8, 12, 33, 33⟩, ⟨8, 12, 43, 35⟩] ⟨8, 12, 23, 29⟩ rfl (fun z hz => ?_) (by decide) (by decide) q1151 q1036 ?_
      · simp only [List.mem_cons, List.not_mem_nil, or_false] at hz
        rcases hz with rfl
        · exact Or.inr ⟨by decide, "java/lang/NullPointerException", q1150, by decide +kernel⟩
      refine lv_astore_n (lv' := [(1, .ref qx8), (0, .ref a)]) hx hb dX4_tried_23 rfl hl (by decide) rfl (fun ls hl => ?_)
      refine lv_aload_n hx hb dX4_tried_24 rfl (lv_at hl 1 rfl) ?_
      refine t_get C hB ha rfl in_X5 0 (by decide) q1124 (fun x h => h) (v := .ref o) rfl dX4_tried_25 ?_
      refine lv_iconst (v := iI 2) hx hb dX4_tried_28 rfl ?_
      refine b_calli 40 3100 (Nat.le_of_ble_eq_true rfl) (Nat.le_of_ble_eq_true rfl) hB (fun w hI hd hB => rVN (As := [.int (iI 2)]) (n := 1) C hZ hB (kX0_fails l E o Ad (va_up I 0 0) F X 2 (by omega) w hI hd _) q1210 qs30 q960 q68 q961 (by decide +kernel) ⟨Nat.le_of_ble_eq_true rfl, Nat.le_of_ble_eq_true rfl⟩ (wU_l hI.x) rfl rfl rfl hl.1 rfl (Nat.le_of_ble_eq_true rfl) dX4_tried_29 ⟨Nat.le_of_ble_eq_true rfl, Nat.le_of_ble_eq_true rfl⟩) (fun z18 Ad19 I20 F21 X22 H locs hz23 hp24 hB => ?_)
      obtain ⟨hz23a, hz23b⟩ := hz23
      obtain ⟨rfl, rfl, rfl, rfl, rfl⟩ := hp24
      replace hB : xBB E (xA (wU w X) sz) s o Ad (va_up (va_up I 0 0) 0 2) F X _ _ := hB
      refine vx_ret ?_
      exact b_iret C hB hr hlocks rfl dX4_tried_32 (Nat.le_of_ble_eq_true rfl) (Nat.le_of_ble_eq_true rfl) ⟨by decide, by decide⟩ (Or.inr ⟨by rw [hp7]; decide, by unfold fI; rw [hp7]; exact bx_uu _ _ _ _, rfl, by rw [hp7]⟩)
    · refine e_catch C hV htab (pc := 9) hE [⟨8, 12, 13, 23⟩, ⟨8, 12, 23, 29⟩, ⟨8, 12, 23, 31⟩] [⟨8, 12, 43, 35⟩] ⟨8, 12, 33, 33⟩ rfl (fun z hz => ?_) (by decide) (by decide) q1166 q914 ?_
      · simp only [List.mem_cons, List.not_mem_nil, or_false] at hz
        rcases hz with rfl | rfl | rfl
        · exact Or.inr ⟨by decide, "java/lang/NullPointerException", q1150, by decide +kernel⟩
        · exact Or.inr ⟨by decide, "java/lang/ClassCastException", q1151, by decide +kernel⟩
        · exact Or.inr ⟨by decide, "java/lang/ArrayStoreException", q1152, by decide +kernel⟩
      refine lv_astore_n (lv' := [(1, .ref qx8), (0, .ref a)]) hx hb dX4_tried_33 rfl hl (by decide) rfl (fun ls hl => ?_)
      refine lv_aload_n hx hb dX4_tried_34 rfl (lv_at hl 1 rfl) ?_
      refine t_get C hB ha rfl in_X5 0 (by decide) q1124 (fun x h => h) (v := .ref o) rfl dX4_tried_35 ?_
      refine lv_iconst (v := iI 4) hx hb dX4_tried_38 rfl ?_
      refine b_calli 40 3100 (Nat.le_of_ble_eq_true rfl) (Nat.le_of_ble_eq_true rfl) hB (fun w hI hd hB => rVN (As := [.int (iI 4)]) (n := 1) C hZ hB (kX0_fails l E o Ad (va_up I 0 0) F X 4 (by omega) w hI hd _) q1210 qs30 q960 q68 q961 (by decide +kernel) ⟨Nat.le_of_ble_eq_true rfl, Nat.le_of_ble_eq_true rfl⟩ (wU_l hI.x) rfl rfl rfl hl.1 rfl (Nat.le_of_ble_eq_true rfl) dX4_tried_39 ⟨Nat.le_of_ble_eq_true rfl, Nat.le_of_ble_eq_true rfl⟩) (fun z26 Ad27 I28 F29 X30 H locs hz31 hp32 hB => ?_)
      obtain ⟨hz31a, hz31b⟩ := hz31
      obtain ⟨rfl, rfl, rfl, rfl, rfl⟩ := hp32
      replace hB : xBB E (xA (wU w X) sz) s o Ad (va_up (va_up I 0 0) 0 4) F X _ _ := hB
      refine vx_ret ?_
      exact b_iret C hB hr hlocks rfl dX4_tried_42 (Nat.le_of_ble_eq_true rfl) (Nat.le_of_ble_eq_true rfl) ⟨by decide, by decide⟩ (Or.inr ⟨by rw [hp7]; decide, by unfold fI; rw [hp7]; exact bx_uu _ _ _ _, rfl, by rw [hp7]⟩)
    · refine e_catch C hV htab (pc := 9) hE [⟨8, 12, 13, 23⟩, ⟨8, 12, 23, 29⟩, ⟨8, 12, 23, 31⟩, ⟨8, 12, 33, 33⟩] [] ⟨8, 12, 43, 35⟩ rfl (fun z hz => ?_) (by decide) (by decide) q1167 q1190 ?_
      · simp only [List.mem_cons, List.not_mem_nil, or_false] at hz
        rcases hz with rfl | rfl | rfl | rfl
        · exact Or.inr ⟨by decide, "java/lang/NullPointerException", q1150, by decide +kernel⟩
        · exact Or.inr ⟨by decide, "java/lang/ClassCastException", q1151, by decide +kernel⟩
        · exact Or.inr ⟨by decide, "java/lang/ArrayStoreException", q1152, by decide +kernel⟩
        · exact Or.inr ⟨by decide, "java/lang/NegativeArraySizeException", q1166, by decide +kernel⟩
      refine lv_astore_n (lv' := [(1, .ref qx8), (0, .ref a)]) hx hb dX4_tried_43 rfl hl (by decide) rfl (fun ls hl => ?_)
      refine lv_aload_n hx hb dX4_tried_44 rfl (lv_at hl 1 rfl) ?_
      refine t_get C hB ha rfl in_X5 0 (by decide) q1124 (fun x h => h) (v := .ref o) rfl dX4_tried_45 ?_
      refine lv_iconst (v := iI 3) hx hb dX4_tried_48 rfl ?_
      refine b_calli 40 3100 (Nat.le_of_ble_eq_true rfl) (Nat.le_of_ble_eq_true rfl) hB (fun w hI hd hB => rVN (As := [.int (iI 3)]) (n := 1) C hZ hB (kX0_fails l E o Ad (va_up I 0 0) F X 3 (by omega) w hI hd _) q1210 qs30 q960 q68 q961 (by decide +kernel) ⟨Nat.le_of_ble_eq_true rfl, Nat.le_of_ble_eq_true rfl⟩ (wU_l hI.x) rfl rfl rfl hl.1 rfl (Nat.le_of_ble_eq_true rfl) dX4_tried_49 ⟨Nat.le_of_ble_eq_true rfl, Nat.le_of_ble_eq_true rfl⟩) (fun z34 Ad35 I36 F37 X38 H locs hz39 hp40 hB => ?_)
      obtain ⟨hz39a, hz39b⟩ := hz39
      obtain ⟨rfl, rfl, rfl, rfl, rfl⟩ := hp40
      replace hB : xBB E (xA (wU w X) sz) s o Ad (va_up (va_up I 0 0) 0 3) F X _ _ := hB
      refine vx_ret ?_
      exact b_iret C hB hr hlocks rfl dX4_tried_52 (Nat.le_of_ble_eq_true rfl) (Nat.le_of_ble_eq_true rfl) ⟨by decide, by decide⟩ (Or.inr ⟨by rw [hp7]; decide, by unfold fI; rw [hp7]; exact bx_uu _ _ _ _, rfl, by rw [hp7]⟩)
  · obtain ⟨hz6a, hz6b⟩ := hz6
    obtain ⟨hag0, hagm, hzv⟩ := hp7
    refine vx_ret ?_
    exact b_iret C hB hr hlocks rfl dX4_tried_12 (Nat.le_of_ble_eq_true rfl) (Nat.le_of_ble_eq_true rfl) ⟨by omega, by omega⟩ (Or.inl ⟨hag0, hagm, hzv⟩)
set_option maxHeartbeats 800000 in
set_option maxRecDepth 100000 in
theorem kX4_tried_C (l : Launch) (hfl : l.stackTraces = false) (E : xE) (o : Nat) (Ad : Nat → Nat) (I : Nat → Int) (F : Nat → Nat → Int) (X : xw) (a : Nat) (k : Nat) (i : Int) (kj : Nat) (j : Int) (n : Int) (ha : X a = some (xO 16 [.ref o, .int (iI ((k : Int))), .int (iI i), .int (iI ((kj : Int))), .int (iI j), .int (iI n), .ref o])) (hk : k < 4) (hkj : kj < 4) (hi : rg i) (hj : rg j) (hn : rg n) (hXO : xOK F) (hOK : mOK I F) : zi_ l E yX4_tried (wsW_ yX4_tried cX4_tried 2 (some .int) [(8, 12, 13, 23), (8, 12, 23, 29), (8, 12, 23, 31), (8, 12, 33, 33), (8, 12, 43, 35)]) 10 10340 40 3200 [.ref a] o Ad I F X (fun z Ad' I' F' X' => I' = nCopyI I F (k : Int) i (kj : Int) j n ∧ F' = nCopyF F (k : Int) i (kj : Int) j n ∧ Ad = Ad' ∧ z = rCopy F (k : Int) i (kj : Int) j n) := by
  intro w hI hd sz
  refine x_bodyh (by decide) (Nat.le_of_ble_eq_true rfl) ?_
  intro p e s m args below meth c ls hx hb C hr hlocks htab hsz hV hB hl
  have hZ := hV.1
  have C : xC E p s m args c cX4_tried 2 RX4 := C
  replace hB : xBB E (xA (wU w X) sz) s o Ad I F X s.heap [] := ⟨w, hI, hd, hB⟩
  have hl : lv_has ls 2 [(0, .ref a)] := hl
  have hOK0 := hOK
  obtain ⟨⟨hf1, hf2⟩, ⟨hl1, hl2⟩, ⟨hr1, hr2⟩, hlr, ⟨hs1, hs2⟩, ⟨hj1, hj2⟩, ⟨hb1, hb2⟩, ⟨hn1, hn2⟩, hL, hR, hN, hS, hC⟩ := hOK
  have hi0 := hi
  have hj0 := hj
  have hn0 := hn
  obtain ⟨hi1, hi2⟩ := hi
  obtain ⟨hj1, hj2⟩ := hj
  obtain ⟨hn1, hn2⟩ := hn
  refine lv_aload_n hx hb dX4_tried_0 rfl (lv_at hl 0 rfl) ?_
  refine t_get C hB ha rfl in_X18 0 (by decide) q1124 (fun x h => h) (v := .ref o) rfl dX4_tried_1 ?_
  refine lv_iconst (v := iI 0) hx hb dX4_tried_4 rfl ?_
  refine b_putN C hB 17 0 (by decide) rfl q313 rfl rfl rfl dX4_tried_5 (fun H locs hB => ?_)
  refine lv_aload_n hx hb dX4_tried_8 rfl (lv_at hl 0 rfl) ?_
  refine b_callXi 3 890 (Nat.le_of_ble_eq_true rfl) (Nat.le_of_ble_eq_true rfl) hB (fun w hI hd hB => rXA (As := []) (n := 0) C hV hB ⟨"BookPairs$Act", "done", "()I"⟩ "BookPairs$Act" (kX18_done l hfl E o Ad (va_up I 0 0) F X a k i kj j n ha hk hkj hi0 hj0 hn0 hXO (mOK_0 hOK0 ⟨by decide, by decide⟩) w hI hd _) q1168 q1170 q1171 q1172 q105 q1173 q1169 (by decide +kernel) ⟨Nat.le_of_ble_eq_true rfl, Nat.le_of_ble_eq_true rfl⟩ (wU_r hd ha) rfl rfl rfl hl.1 rfl (Nat.le_of_ble_eq_true rfl) dX4_tried_9 ⟨Nat.le_of_ble_eq_true rfl, Nat.le_of_ble_eq_true rfl⟩) (fun En qx8 Ad2 I3 F4 X5 H locs hp7 hB hE => ?_) (fun z1 Ad2 I3 F4 X5 H locs hz6 hp7 hB => ?_)
  · obtain ⟨rfl, rfl, rfl, rfl, hp7⟩ := hp7
    rcases hp7 with ⟨hp7, rfl⟩ | ⟨hp7, rfl⟩ | ⟨hp7, rfl⟩
    · refine e_catch C hV htab (pc := 9) hE [] [⟨8, 12, 23, 29⟩, ⟨8, 12, 23, 31⟩, ⟨8, 12, 33, 33⟩, ⟨8, 12, 43, 35⟩] ⟨8, 12, 13, 23⟩ rfl (fun z hz => by cases hz) (by decide) (by decide) q1150 q992 ?_
      refine lv_astore_n (lv' := [(1, .ref qx8), (0, .ref a)]) hx hb dX4_tried_13 rfl hl (by decide) rfl (fun ls hl => ?_)
      refine lv_aload_n hx hb dX4_tried_14 rfl (lv_at hl 1 rfl) ?_
      refine t_get C hB ha rfl in_X18 0 (by decide) q1124 (fun x h => h) (v := .ref o) rfl dX4_tried_15 ?_
      refine lv_iconst (v := iI 1) hx hb dX4_tried_18 rfl ?_
      refine b_calli 3 890 (Nat.le_of_ble_eq_true rfl) (Nat.le_of_ble_eq_true rfl) hB (fun w hI hd hB => rVN (As := [.int (iI 1)]) (n := 1) C hZ hB (kX0_fails l E o Ad (va_up I 0 0) F X 1 (by omega) w hI hd _) q1210 qs30 q960 q68 q961 (by decide +kernel) ⟨Nat.le_of_ble_eq_true rfl, Nat.le_of_ble_eq_true rfl⟩ (wU_l hI.x) rfl rfl rfl hl.1 rfl (Nat.le_of_ble_eq_true rfl) dX4_tried_19 ⟨Nat.le_of_ble_eq_true rfl, Nat.le_of_ble_eq_true rfl⟩) (fun z10 Ad11 I12 F13 X14 H locs hz15 hp16 hB => ?_)
      obtain ⟨hz15a, hz15b⟩ := hz15
      obtain ⟨rfl, rfl, rfl, rfl, rfl⟩ := hp16
      replace hB : xBB E (xA (wU w X) sz) s o Ad (va_up (va_up I 0 0) 0 1) F X _ _ := hB
      refine vx_ret ?_
      exact b_iret C hB hr hlocks rfl dX4_tried_22 (Nat.le_of_ble_eq_true rfl) (Nat.le_of_ble_eq_true rfl) ⟨by decide, by decide⟩ (by have hrs : rCopy F (k : Int) i (kj : Int) j n = -11 := (by unfold rCopy; simp only [Int.toNat_natCast]; rw [if_neg (by omega), if_pos hp7]); exact ⟨by unfold nCopyI fI; rw [hrs]; exact bx_uu _ _ _ _, by unfold nCopyF; rw [if_neg (by rw [hrs]; decide)], rfl, hrs.symm⟩)
    · refine e_catch C hV htab (pc := 9) hE [⟨8, 12, 13, 23⟩, ⟨8, 12, 23, 29⟩] [⟨8, 12, 33, 33⟩, ⟨8, 12, 43, 35⟩] ⟨8, 12, 23, 31⟩ rfl (fun z hz => ?_) (by decide) (by decide) q1152 q1164 ?_
      · simp only [List.mem_cons, List.not_mem_nil, or_false] at hz
        rcases hz with rfl | rfl
        · exact Or.inr ⟨by decide, "java/lang/NullPointerException", q1150, by decide +kernel⟩
        · exact Or.inr ⟨by decide, "java/lang/ClassCastException", q1151, by decide +kernel⟩
      refine lv_astore_n (lv' := [(1, .ref qx8), (0, .ref a)]) hx hb dX4_tried_23 rfl hl (by decide) rfl (fun ls hl => ?_)
      refine lv_aload_n hx hb dX4_tried_24 rfl (lv_at hl 1 rfl) ?_
      refine t_get C hB ha rfl in_X18 0 (by decide) q1124 (fun x h => h) (v := .ref o) rfl dX4_tried_25 ?_
      refine lv_iconst (v := iI 2) hx hb dX4_tried_28 rfl ?_
      refine b_calli 3 890 (Nat.le_of_ble_eq_true rfl) (Nat.le_of_ble_eq_true rfl) hB (fun w hI hd hB => rVN (As := [.int (iI 2)]) (n := 1) C hZ hB (kX0_fails l E o Ad (va_up I 0 0) F X 2 (by omega) w hI hd _) q1210 qs30 q960 q68 q961 (by decide +kernel) ⟨Nat.le_of_ble_eq_true rfl, Nat.le_of_ble_eq_true rfl⟩ (wU_l hI.x) rfl rfl rfl hl.1 rfl (Nat.le_of_ble_eq_true rfl) dX4_tried_29 ⟨Nat.le_of_ble_eq_true rfl, Nat.le_of_ble_eq_true rfl⟩) (fun z18 Ad19 I20 F21 X22 H locs hz23 hp24 hB => ?_)
      obtain ⟨hz23a, hz23b⟩ := hz23
      obtain ⟨rfl, rfl, rfl, rfl, rfl⟩ := hp24
      replace hB : xBB E (xA (wU w X) sz) s o Ad (va_up (va_up I 0 0) 0 2) F X _ _ := hB
      refine vx_ret ?_
      exact b_iret C hB hr hlocks rfl dX4_tried_32 (Nat.le_of_ble_eq_true rfl) (Nat.le_of_ble_eq_true rfl) ⟨by decide, by decide⟩ (by have hrs : rCopy F (k : Int) i (kj : Int) j n = -12 := (by unfold rCopy; simp only [Int.toNat_natCast]; rw [if_neg (by omega), if_neg (by have := hp7; omega), if_pos hp7.2]); exact ⟨by unfold nCopyI fI; rw [hrs]; exact bx_uu _ _ _ _, by unfold nCopyF; rw [if_neg (by rw [hrs]; decide)], rfl, hrs.symm⟩)
    · refine e_catch C hV htab (pc := 9) hE [⟨8, 12, 13, 23⟩, ⟨8, 12, 23, 29⟩, ⟨8, 12, 23, 31⟩, ⟨8, 12, 33, 33⟩] [] ⟨8, 12, 43, 35⟩ rfl (fun z hz => ?_) (by decide) (by decide) q1167 q1748 ?_
      · simp only [List.mem_cons, List.not_mem_nil, or_false] at hz
        rcases hz with rfl | rfl | rfl | rfl
        · exact Or.inr ⟨by decide, "java/lang/NullPointerException", q1150, by decide +kernel⟩
        · exact Or.inr ⟨by decide, "java/lang/ClassCastException", q1151, by decide +kernel⟩
        · exact Or.inr ⟨by decide, "java/lang/ArrayStoreException", q1152, by decide +kernel⟩
        · exact Or.inr ⟨by decide, "java/lang/NegativeArraySizeException", q1166, by decide +kernel⟩
      refine lv_astore_n (lv' := [(1, .ref qx8), (0, .ref a)]) hx hb dX4_tried_43 rfl hl (by decide) rfl (fun ls hl => ?_)
      refine lv_aload_n hx hb dX4_tried_44 rfl (lv_at hl 1 rfl) ?_
      refine t_get C hB ha rfl in_X18 0 (by decide) q1124 (fun x h => h) (v := .ref o) rfl dX4_tried_45 ?_
      refine lv_iconst (v := iI 3) hx hb dX4_tried_48 rfl ?_
      refine b_calli 3 890 (Nat.le_of_ble_eq_true rfl) (Nat.le_of_ble_eq_true rfl) hB (fun w hI hd hB => rVN (As := [.int (iI 3)]) (n := 1) C hZ hB (kX0_fails l E o Ad (va_up I 0 0) F X 3 (by omega) w hI hd _) q1210 qs30 q960 q68 q961 (by decide +kernel) ⟨Nat.le_of_ble_eq_true rfl, Nat.le_of_ble_eq_true rfl⟩ (wU_l hI.x) rfl rfl rfl hl.1 rfl (Nat.le_of_ble_eq_true rfl) dX4_tried_49 ⟨Nat.le_of_ble_eq_true rfl, Nat.le_of_ble_eq_true rfl⟩) (fun z26 Ad27 I28 F29 X30 H locs hz31 hp32 hB => ?_)
      obtain ⟨hz31a, hz31b⟩ := hz31
      obtain ⟨rfl, rfl, rfl, rfl, rfl⟩ := hp32
      replace hB : xBB E (xA (wU w X) sz) s o Ad (va_up (va_up I 0 0) 0 3) F X _ _ := hB
      refine vx_ret ?_
      exact b_iret C hB hr hlocks rfl dX4_tried_52 (Nat.le_of_ble_eq_true rfl) (Nat.le_of_ble_eq_true rfl) ⟨by decide, by decide⟩ (by have hrs : rCopy F (k : Int) i (kj : Int) j n = -13 := (by unfold rCopy; simp only [Int.toNat_natCast]; rw [if_neg (by omega), if_neg (by have := hp7; omega), if_neg (by have := hp7; omega), if_pos (by have := hp7; omega)]); exact ⟨by unfold nCopyI fI; rw [hrs]; exact bx_uu _ _ _ _, by unfold nCopyF; rw [if_neg (by rw [hrs]; decide)], rfl, hrs.symm⟩)
  · obtain ⟨hz6a, hz6b⟩ := hz6
    obtain ⟨rfl, rfl, ⟨⟨h2a, h2b, h2c⟩, hbd⟩, rfl, hzn⟩ := hp7
    refine x_nm (b := n) hzn ?_
    replace hB : xBB E (xA (wU w X) sz) s o Ad (va_up I 0 0) (va_up F 4 (va_cpy (F 4) (F 4) (60 * k + i.toNat) (60 * kj + j.toNat) n.toNat)) X5 _ _ := hB
    refine vx_ret ?_
    exact b_iret C hB hr hlocks rfl dX4_tried_12 (Nat.le_of_ble_eq_true rfl) (Nat.le_of_ble_eq_true rfl) ⟨by omega, by omega⟩ (by have hrs : rCopy F (k : Int) i (kj : Int) j n = n := (by unfold rCopy; simp only [Int.toNat_natCast]; rw [if_neg (by omega), if_neg (by omega), if_neg (by omega), if_neg (by omega)]); exact ⟨by unfold nCopyI fI; rw [hrs, if_neg (by omega), if_neg (by omega), if_neg (by omega)], by unfold nCopyF; rw [hrs, if_pos (by omega)]; rfl, rfl, hrs.symm⟩)
set_option maxHeartbeats 800000 in
set_option maxRecDepth 100000 in
theorem kX4_tried_T (l : Launch) (hfl : l.stackTraces = false) (E : xE) (o : Nat) (Ad : Nat → Nat) (I : Nat → Int) (F : Nat → Nat → Int) (X : xw) (a : Nat) (k : Nat) (so : Int) (ha : X a = some (xO 17 [.ref o, .ref (Ad (100 + k)), .int (iI so), .ref o])) (hk : (k : Int) < I 5) (hso : 0 ≤ so ∧ so ≤ 2) (hOK : mOK I F) : zi_ l E yX4_tried (wsW_ yX4_tried cX4_tried 2 (some .int) [(8, 12, 13, 23), (8, 12, 23, 29), (8, 12, 23, 31), (8, 12, 33, 33), (8, 12, 43, 35)]) 10 10341 40 3200 [.ref a] o Ad I F X (fun z Ad' I' F' X' => I' = fI I (if so ≤ F 10 k then 0 else 2) ∧ F = F' ∧ Ad = Ad' ∧ z = (if so ≤ F 10 k then 1 else -12)) := by
  intro w hI hd sz
  refine x_bodyh (by decide) (Nat.le_of_ble_eq_true rfl) ?_
  intro p e s m args below meth c ls hx hb C hr hlocks htab hsz hV hB hl
  have hZ := hV.1
  have C : xC E p s m args c cX4_tried 2 RX4 := C
  replace hB : xBB E (xA (wU w X) sz) s o Ad I F X s.heap [] := ⟨w, hI, hd, hB⟩
  have hl : lv_has ls 2 [(0, .ref a)] := hl
  have hOK0 := hOK
  obtain ⟨⟨hf1, hf2⟩, ⟨hl1, hl2⟩, ⟨hr1, hr2⟩, hlr, ⟨hs1, hs2⟩, ⟨hj1, hj2⟩, ⟨hb1, hb2⟩, ⟨hn1, hn2⟩, hL, hR, hN, hS, hC⟩ := hOK
  
  refine lv_aload_n hx hb dX4_tried_0 rfl (lv_at hl 0 rfl) ?_
  refine t_get C hB ha rfl in_X19 0 (by decide) q1124 (fun x h => h) (v := .ref o) rfl dX4_tried_1 ?_
  refine lv_iconst (v := iI 0) hx hb dX4_tried_4 rfl ?_
  refine b_putN C hB 17 0 (by decide) rfl q313 rfl rfl rfl dX4_tried_5 (fun H locs hB => ?_)
  refine lv_aload_n hx hb dX4_tried_8 rfl (lv_at hl 0 rfl) ?_
  refine b_callXi 3 890 (Nat.le_of_ble_eq_true rfl) (Nat.le_of_ble_eq_true rfl) hB (fun w hI hd hB => rXA (As := []) (n := 0) C hV hB ⟨"BookPairs$Act", "done", "()I"⟩ "BookPairs$Act" (kX19_done l hfl E o Ad (va_up I 0 0) F X a k so ha hk hso (mOK_0 hOK0 ⟨by decide, by decide⟩) w hI hd _) q1168 q1170 q1205 q1206 q106 q1207 q1169 (by decide +kernel) ⟨Nat.le_of_ble_eq_true rfl, Nat.le_of_ble_eq_true rfl⟩ (wU_r hd ha) rfl rfl rfl hl.1 rfl (Nat.le_of_ble_eq_true rfl) dX4_tried_9 ⟨Nat.le_of_ble_eq_true rfl, Nat.le_of_ble_eq_true rfl⟩) (fun En qx8 Ad2 I3 F4 X5 H locs hp7 hB hE => ?_) (fun z1 Ad2 I3 F4 X5 H locs hz6 hp7 hB => ?_)
  · obtain ⟨rfl, rfl, rfl, rfl, hp7⟩ := hp7
    obtain ⟨hp7, rfl⟩ := hp7
    refine e_catch C hV htab (pc := 9) hE [⟨8, 12, 13, 23⟩] [⟨8, 12, 23, 31⟩, ⟨8, 12, 33, 33⟩, ⟨8, 12, 43, 35⟩] ⟨8, 12, 23, 29⟩ rfl (fun z hz => ?_) (by decide) (by decide) q1151 q1036 ?_
    · simp only [List.mem_cons, List.not_mem_nil, or_false] at hz
      rcases hz with rfl
      · exact Or.inr ⟨by decide, "java/lang/NullPointerException", q1150, by decide +kernel⟩
    refine lv_astore_n (lv' := [(1, .ref qx8), (0, .ref a)]) hx hb dX4_tried_23 rfl hl (by decide) rfl (fun ls hl => ?_)
    refine lv_aload_n hx hb dX4_tried_24 rfl (lv_at hl 1 rfl) ?_
    refine t_get C hB ha rfl in_X19 0 (by decide) q1124 (fun x h => h) (v := .ref o) rfl dX4_tried_25 ?_
    refine lv_iconst (v := iI 2) hx hb dX4_tried_28 rfl ?_
    refine b_calli 3 890 (Nat.le_of_ble_eq_true rfl) (Nat.le_of_ble_eq_true rfl) hB (fun w hI hd hB => rVN (As := [.int (iI 2)]) (n := 1) C hZ hB (kX0_fails l E o Ad (va_up I 0 0) F X 2 (by omega) w hI hd _) q1210 qs30 q960 q68 q961 (by decide +kernel) ⟨Nat.le_of_ble_eq_true rfl, Nat.le_of_ble_eq_true rfl⟩ (wU_l hI.x) rfl rfl rfl hl.1 rfl (Nat.le_of_ble_eq_true rfl) dX4_tried_29 ⟨Nat.le_of_ble_eq_true rfl, Nat.le_of_ble_eq_true rfl⟩) (fun z10 Ad11 I12 F13 X14 H locs hz15 hp16 hB => ?_)
    obtain ⟨hz15a, hz15b⟩ := hz15
    obtain ⟨rfl, rfl, rfl, rfl, rfl⟩ := hp16
    replace hB : xBB E (xA (wU w X) sz) s o Ad (va_up (va_up I 0 0) 0 2) F X _ _ := hB
    refine vx_ret ?_
    exact b_iret C hB hr hlocks rfl dX4_tried_32 (Nat.le_of_ble_eq_true rfl) (Nat.le_of_ble_eq_true rfl) ⟨by decide, by decide⟩ ⟨by rw [if_neg (by have := hp7; omega)]; unfold fI; exact bx_uu _ _ _ _, rfl, rfl, by rw [if_neg (by have := hp7; omega)]; rfl⟩
  · obtain ⟨hz6a, hz6b⟩ := hz6
    obtain ⟨rfl, rfl, rfl, hle, rfl⟩ := hp7
    replace hB : xBB E (xA (wU w X) sz) s o Ad (va_up I 0 0) F X5 _ _ := hB
    refine vx_ret ?_
    exact b_iret C hB hr hlocks rfl dX4_tried_12 (Nat.le_of_ble_eq_true rfl) (Nat.le_of_ble_eq_true rfl) ⟨by decide, by decide⟩ ⟨by rw [if_pos hle]; rfl, rfl, rfl, by rw [if_pos hle]⟩
set_option maxHeartbeats 800000 in
set_option maxRecDepth 100000 in
theorem kX0_looked_B (l : Launch) (hfl : l.stackTraces = false) (E : xE) (o : Nat) (Ad : Nat → Nat) (I : Nat → Int) (F : Nat → Nat → Int) (X : xw) (a : Nat) (rd : Nat) (k : Int) (so : Int) (i : Int) (n : Int) (ha : X a = some (xO 7 [.ref o, .int (iI k), .int (iI so), .int (iI i), .int (iI n), .ref rd, .ref o])) (hrd : X rd = some (lamE E o 8)) (hi : rg i) (hn : rg n) (hk : rg k) (hso : rg so) (hOK : mOK I F) : zi_ l E yX0_looked (ws_ yX0_looked cX0_looked 3 (some .int)) 13 10409 40 3200 [.ref o, .ref a, .int (iI 1)] o Ad I F X (fun z Ad' I' F' X' => z = rBooks F k so i n ∧ mAg (nBooksI I F k so i n) (nBooksF F k so i n) I' F') := by
  intro w hI hd sz
  refine x_bodyx (by decide) (Nat.le_of_ble_eq_true rfl) ?_
  intro p e s m args below meth c ls hx hb C hr hlocks hout hsz hV hB hl
  have hZ := hV.1
  have C : xC E p s m args c cX0_looked 3 RX0 := C
  replace hB : xBB E (xA (wU w X) sz) s o Ad I F X s.heap [] := ⟨w, hI, hd, hB⟩
  have hl : lv_has ls 3 [(0, .ref o), (1, .ref a), (2, .int (iI 1))] := hl
  have hOK0 := hOK
  obtain ⟨⟨hf1, hf2⟩, ⟨hl1, hl2⟩, ⟨hr1, hr2⟩, hlr, ⟨hs1, hs2⟩, ⟨hj1, hj2⟩, ⟨hb1, hb2⟩, ⟨hn1, hn2⟩, hL, hR, hN, hS, hC⟩ := hOK
  have hi0 := hi
  have hn0 := hn
  obtain ⟨hi1, hi2⟩ := hi
  obtain ⟨hk1, hk2⟩ := hk
  obtain ⟨hso1, hso2⟩ := hso
  obtain ⟨hn1, hn2⟩ := hn
  refine lv_aload_n hx hb dX0_looked_0 rfl (lv_at hl 1 rfl) ?_
  refine t_getN C hB ha rfl in_X5 1 (by decide) q1117 (fun x h => h) (v := .int (iI k)) rfl dX0_looked_1 ?_
  refine bs_calli (n := 1) C hB (As := [.int (iI k)]) (kX0_noSheet l E k ⟨by omega, by omega⟩) (lw_S q937 q938 q68 q939) (by decide +kernel) ⟨Nat.le_of_ble_eq_true rfl, Nat.le_of_ble_eq_true rfl⟩ rfl hl.1 rfl (Nat.le_of_ble_eq_true rfl) dX0_looked_4 ⟨Nat.le_of_ble_eq_true rfl, Nat.le_of_ble_eq_true rfl⟩ (fun z1 H locs hz2 hp3 hB => ?_)
  obtain ⟨hz2a, hz2b⟩ := hz2
  rcases hp3 with ⟨rfl, h4⟩ | ⟨rfl, h4⟩
  · refine x_if_eq (tgt := 16) hx hb dX0_looked_7 (by decide) ⟨by decide, by decide⟩ (fun c5 => by exfalso; omega) (fun c5 => ?_)
    refine lv_aload_n hx hb dX0_looked_10 rfl (lv_at hl 0 rfl) ?_
    refine lv_iconst (v := iI (-1)) hx hb dX0_looked_11 rfl ?_
    refine b_calli 0 0 (Nat.le_of_ble_eq_true rfl) (Nat.le_of_ble_eq_true rfl) hB (fun w hI hd hB => rV (As := [.int (iI (-1))]) (n := 1) C hZ hB (kX0_refused l E o Ad I F X (-1) ⟨by omega, by omega⟩ w hI hd _) (lw_V q940 q942 qs29 q68 q943) (by decide +kernel) ⟨Nat.le_of_ble_eq_true rfl, Nat.le_of_ble_eq_true rfl⟩ (wU_l hI.x) rfl rfl rfl hl.1 rfl (Nat.le_of_ble_eq_true rfl) dX0_looked_12 ⟨Nat.le_of_ble_eq_true rfl, Nat.le_of_ble_eq_true rfl⟩) (fun z6 Ad7 I8 F9 X10 H locs hz11 hp12 hB => ?_)
    obtain ⟨hz11a, hz11b⟩ := hz11
    obtain ⟨rfl, rfl, rfl, rfl, rfl⟩ := hp12
    replace hB : xBB E (xA (wU w X) sz) s o Ad (va_up I 0 0) F X _ _ := hB
    refine vx_ret ?_
    exact b_iret C hB hr hlocks rfl dX0_looked_15 (Nat.le_of_ble_eq_true rfl) (Nat.le_of_ble_eq_true rfl) ⟨by decide, by decide⟩ (bk_1 (by omega))
  · refine x_if_eq (tgt := 16) hx hb dX0_looked_7 (by decide) ⟨by decide, by decide⟩ (fun c13 => ?_) (fun c13 => by exfalso; omega)
    obtain ⟨kk, rfl⟩ : ∃ kk : Nat, k = (kk : Int) := ⟨k.toNat, by omega⟩
    refine lv_aload_n hx hb dX0_looked_16 rfl (lv_at hl 1 rfl) ?_
    refine t_getN C hB ha rfl in_X5 2 (by decide) q1119 (fun x h => h) (v := .int (iI so)) rfl dX0_looked_17 ?_
    refine x_i2l hx hb dX0_looked_20 ⟨by omega, by omega⟩ ?_
    refine lv_lconst (v := lI 0) hx hb dX0_looked_21 rfl ?_
    refine lv_ldc2 hx hb C.1.2.2.2.1 (C.1.2.2.2.2 _ q274) dX0_looked_22 ?_
    refine x_rwl (y := lI 2) (by decide) ?_
    refine bs_calli (n := 3) C hB (As := [.long (lI so), .long (lI 0), .long (lI 2)]) (kX0_in l E so 0 2 ⟨by omega, by omega⟩ ⟨by omega, by omega⟩ ⟨by omega, by omega⟩) (lw_S q234 q235 q68 q236) (by decide +kernel) ⟨Nat.le_of_ble_eq_true rfl, Nat.le_of_ble_eq_true rfl⟩ rfl hl.1 rfl (Nat.le_of_ble_eq_true rfl) dX0_looked_25 ⟨Nat.le_of_ble_eq_true rfl, Nat.le_of_ble_eq_true rfl⟩ (fun z14 H locs hz15 hp16 hB => ?_)
    obtain ⟨hz15a, hz15b⟩ := hz15
    rcases hp16 with ⟨rfl, h17⟩ | ⟨rfl, h17⟩
    · refine x_if_eq (tgt := 42) hx hb dX0_looked_28 (by decide) ⟨by decide, by decide⟩ (fun c18 => by exfalso; omega) (fun c18 => ?_)
      refine lv_iload_n hx hb dX0_looked_31 rfl (lv_at hl 2 rfl) ?_
      refine x_if_eq (tgt := 42) hx hb dX0_looked_32 (by decide) ⟨by decide, by decide⟩ (fun c19 => by exfalso; omega) (fun c19 => ?_)
      refine lv_aload_n hx hb dX0_looked_35 rfl (lv_at hl 1 rfl) ?_
      refine b_calli 40 3200 (Nat.le_of_ble_eq_true rfl) (Nat.le_of_ble_eq_true rfl) hB (fun w hI hd hB => run_nx (rXUW (As := []) (n := 0) C hV hB ⟨"BookPairs$Looking", "tried", "()I"⟩ "BookPairs$Act" (kX4_tried_B l hfl E o Ad I F X a rd kk so i n ha hrd (by omega) ⟨by omega, by omega⟩ hi0 hn0 hOK0 w hI hd _) q1144 q1145 q1147 q1148 q78 q1149 rfl (by decide +kernel) ⟨Nat.le_of_ble_eq_true rfl, Nat.le_of_ble_eq_true rfl⟩ (wU_r hd ha) rfl rfl rfl hl.1 rfl (Nat.le_of_ble_eq_true rfl) dX0_looked_36 ⟨Nat.le_of_ble_eq_true rfl, Nat.le_of_ble_eq_true rfl⟩)) (fun z20 Ad21 I22 F23 X24 H locs hz25 hp26 hB => ?_)
      obtain ⟨hz25a, hz25b⟩ := hz25
      refine lv_goto (tgt := 48) hx hb dX0_looked_39 (by decide) ?_
      refine vx_ret ?_
      exact b_iret C hB hr hlocks rfl dX0_looked_48 (Nat.le_of_ble_eq_true rfl) (Nat.le_of_ble_eq_true rfl) ⟨by omega, by omega⟩ (bk_t (by omega) (by omega) hp26)
    · refine x_if_eq (tgt := 42) hx hb dX0_looked_28 (by decide) ⟨by decide, by decide⟩ (fun c28 => ?_) (fun c28 => by exfalso; omega)
      refine lv_aload_n hx hb dX0_looked_42 rfl (lv_at hl 0 rfl) ?_
      refine lv_bipush (v := iI (-2)) hx hb dX0_looked_43 rfl ?_
      refine b_calli 0 0 (Nat.le_of_ble_eq_true rfl) (Nat.le_of_ble_eq_true rfl) hB (fun w hI hd hB => rV (As := [.int (iI (-2))]) (n := 1) C hZ hB (kX0_refused l E o Ad I F X (-2) ⟨by omega, by omega⟩ w hI hd _) (lw_V q940 q942 qs29 q68 q943) (by decide +kernel) ⟨Nat.le_of_ble_eq_true rfl, Nat.le_of_ble_eq_true rfl⟩ (wU_l hI.x) rfl rfl rfl hl.1 rfl (Nat.le_of_ble_eq_true rfl) dX0_looked_45 ⟨Nat.le_of_ble_eq_true rfl, Nat.le_of_ble_eq_true rfl⟩) (fun z29 Ad30 I31 F32 X33 H locs hz34 hp35 hB => ?_)
      obtain ⟨hz34a, hz34b⟩ := hz34
      obtain ⟨rfl, rfl, rfl, rfl, rfl⟩ := hp35
      replace hB : xBB E (xA (wU w X) sz) s o Ad (va_up I 0 0) F X _ _ := hB
      refine vx_ret ?_
      exact b_iret C hB hr hlocks rfl dX0_looked_48 (Nat.le_of_ble_eq_true rfl) (Nat.le_of_ble_eq_true rfl) ⟨by decide, by decide⟩ (bk_2 (by omega) (by omega))
set_option maxHeartbeats 800000 in
set_option maxRecDepth 100000 in
theorem kX0_looked_D (l : Launch) (hfl : l.stackTraces = false) (E : xE) (o : Nat) (Ad : Nat → Nat) (I : Nat → Int) (F : Nat → Nat → Int) (X : xw) (a : Nat) (rd : Nat) (k : Int) (so : Int) (i : Int) (mm : Nat) (wh : Int) (ha : X a = some (xO 7 [.ref o, .int (iI k), .int (iI so), .int (iI i), .int (iI (2 * (mm : Int))), .ref rd, .ref o])) (hrd : X rd = some (.inr { cls := E.2 19, slots := #[.ref o, .int (iI wh)], vm := .none })) (hi : rg i) (hm : mm ≤ 20) (hwh : (0 ≤ wh ∧ wh ≤ 4) ∨ (10 ≤ wh ∧ wh ≤ 16)) (hk : rg k) (hso : rg so) (hOK : mOK I F) : zi_ l E yX0_looked (ws_ yX0_looked cX0_looked 3 (some .int)) 18 10409 40 3200 [.ref o, .ref a, .int (iI 1)] o Ad I F X (fun z Ad' I' F' X' => z = rDayO I F k so i (mm : Int) wh ∧ mAg (nDayI I F k so i (mm : Int) wh) F I' F') := by
  intro w hI hd sz
  refine x_bodyx (by decide) (Nat.le_of_ble_eq_true rfl) ?_
  intro p e s m args below meth c ls hx hb C hr hlocks hout hsz hV hB hl
  have hZ := hV.1
  have C : xC E p s m args c cX0_looked 3 RX0 := C
  replace hB : xBB E (xA (wU w X) sz) s o Ad I F X s.heap [] := ⟨w, hI, hd, hB⟩
  have hl : lv_has ls 3 [(0, .ref o), (1, .ref a), (2, .int (iI 1))] := hl
  have hOK0 := hOK
  obtain ⟨⟨hf1, hf2⟩, ⟨hl1, hl2⟩, ⟨hr1, hr2⟩, hlr, ⟨hs1, hs2⟩, ⟨hj1, hj2⟩, ⟨hb1, hb2⟩, ⟨hn1, hn2⟩, hL, hR, hN, hS, hC⟩ := hOK
  have hi0 := hi
  obtain ⟨hi1, hi2⟩ := hi
  obtain ⟨hk1, hk2⟩ := hk
  obtain ⟨hso1, hso2⟩ := hso
  refine lv_aload_n hx hb dX0_looked_0 rfl (lv_at hl 1 rfl) ?_
  refine t_getN C hB ha rfl in_X5 1 (by decide) q1117 (fun x h => h) (v := .int (iI k)) rfl dX0_looked_1 ?_
  refine bs_calli (n := 1) C hB (As := [.int (iI k)]) (kX0_noSheet l E k ⟨by omega, by omega⟩) (lw_S q937 q938 q68 q939) (by decide +kernel) ⟨Nat.le_of_ble_eq_true rfl, Nat.le_of_ble_eq_true rfl⟩ rfl hl.1 rfl (Nat.le_of_ble_eq_true rfl) dX0_looked_4 ⟨Nat.le_of_ble_eq_true rfl, Nat.le_of_ble_eq_true rfl⟩ (fun z1 H locs hz2 hp3 hB => ?_)
  obtain ⟨hz2a, hz2b⟩ := hz2
  rcases hp3 with ⟨rfl, h4⟩ | ⟨rfl, h4⟩
  · refine x_if_eq (tgt := 16) hx hb dX0_looked_7 (by decide) ⟨by decide, by decide⟩ (fun c5 => by exfalso; omega) (fun c5 => ?_)
    refine lv_aload_n hx hb dX0_looked_10 rfl (lv_at hl 0 rfl) ?_
    refine lv_iconst (v := iI (-1)) hx hb dX0_looked_11 rfl ?_
    refine b_calli 0 0 (Nat.le_of_ble_eq_true rfl) (Nat.le_of_ble_eq_true rfl) hB (fun w hI hd hB => rV (As := [.int (iI (-1))]) (n := 1) C hZ hB (kX0_refused l E o Ad I F X (-1) ⟨by omega, by omega⟩ w hI hd _) (lw_V q940 q942 qs29 q68 q943) (by decide +kernel) ⟨Nat.le_of_ble_eq_true rfl, Nat.le_of_ble_eq_true rfl⟩ (wU_l hI.x) rfl rfl rfl hl.1 rfl (Nat.le_of_ble_eq_true rfl) dX0_looked_12 ⟨Nat.le_of_ble_eq_true rfl, Nat.le_of_ble_eq_true rfl⟩) (fun z6 Ad7 I8 F9 X10 H locs hz11 hp12 hB => ?_)
    obtain ⟨hz11a, hz11b⟩ := hz11
    obtain ⟨rfl, rfl, rfl, rfl, rfl⟩ := hp12
    replace hB : xBB E (xA (wU w X) sz) s o Ad (va_up I 0 0) F X _ _ := hB
    refine vx_ret ?_
    exact b_iret C hB hr hlocks rfl dX0_looked_15 (Nat.le_of_ble_eq_true rfl) (Nat.le_of_ble_eq_true rfl) ⟨by decide, by decide⟩ (dy_1 (by omega))
  · refine x_if_eq (tgt := 16) hx hb dX0_looked_7 (by decide) ⟨by decide, by decide⟩ (fun c13 => ?_) (fun c13 => by exfalso; omega)
    obtain ⟨kk, rfl⟩ : ∃ kk : Nat, k = (kk : Int) := ⟨k.toNat, by omega⟩
    refine lv_aload_n hx hb dX0_looked_16 rfl (lv_at hl 1 rfl) ?_
    refine t_getN C hB ha rfl in_X5 2 (by decide) q1119 (fun x h => h) (v := .int (iI so)) rfl dX0_looked_17 ?_
    refine x_i2l hx hb dX0_looked_20 ⟨by omega, by omega⟩ ?_
    refine lv_lconst (v := lI 0) hx hb dX0_looked_21 rfl ?_
    refine lv_ldc2 hx hb C.1.2.2.2.1 (C.1.2.2.2.2 _ q274) dX0_looked_22 ?_
    refine x_rwl (y := lI 2) (by decide) ?_
    refine bs_calli (n := 3) C hB (As := [.long (lI so), .long (lI 0), .long (lI 2)]) (kX0_in l E so 0 2 ⟨by omega, by omega⟩ ⟨by omega, by omega⟩ ⟨by omega, by omega⟩) (lw_S q234 q235 q68 q236) (by decide +kernel) ⟨Nat.le_of_ble_eq_true rfl, Nat.le_of_ble_eq_true rfl⟩ rfl hl.1 rfl (Nat.le_of_ble_eq_true rfl) dX0_looked_25 ⟨Nat.le_of_ble_eq_true rfl, Nat.le_of_ble_eq_true rfl⟩ (fun z14 H locs hz15 hp16 hB => ?_)
    obtain ⟨hz15a, hz15b⟩ := hz15
    rcases hp16 with ⟨rfl, h17⟩ | ⟨rfl, h17⟩
    · refine x_if_eq (tgt := 42) hx hb dX0_looked_28 (by decide) ⟨by decide, by decide⟩ (fun c18 => by exfalso; omega) (fun c18 => ?_)
      refine lv_iload_n hx hb dX0_looked_31 rfl (lv_at hl 2 rfl) ?_
      refine x_if_eq (tgt := 42) hx hb dX0_looked_32 (by decide) ⟨by decide, by decide⟩ (fun c19 => by exfalso; omega) (fun c19 => ?_)
      refine lv_aload_n hx hb dX0_looked_35 rfl (lv_at hl 1 rfl) ?_
      refine b_calli 40 3200 (Nat.le_of_ble_eq_true rfl) (Nat.le_of_ble_eq_true rfl) hB (fun w hI hd hB => run_nx (rXUW (As := []) (n := 0) C hV hB ⟨"BookPairs$Looking", "tried", "()I"⟩ "BookPairs$Act" (kX4_tried_D l hfl E o Ad I F X a rd kk so i mm wh ha hrd (by omega) ⟨by omega, by omega⟩ hi0 hm hwh hOK0 w hI hd _) q1144 q1145 q1147 q1148 q78 q1149 rfl (by decide +kernel) ⟨Nat.le_of_ble_eq_true rfl, Nat.le_of_ble_eq_true rfl⟩ (wU_r hd ha) rfl rfl rfl hl.1 rfl (Nat.le_of_ble_eq_true rfl) dX0_looked_36 ⟨Nat.le_of_ble_eq_true rfl, Nat.le_of_ble_eq_true rfl⟩)) (fun z20 Ad21 I22 F23 X24 H locs hz25 hp26 hB => ?_)
      obtain ⟨hz25a, hz25b⟩ := hz25
      refine lv_goto (tgt := 48) hx hb dX0_looked_39 (by decide) ?_
      refine vx_ret ?_
      exact b_iret C hB hr hlocks rfl dX0_looked_48 (Nat.le_of_ble_eq_true rfl) (Nat.le_of_ble_eq_true rfl) ⟨by omega, by omega⟩ (dy_t (by omega) (by omega) hm hwh hp26)
    · refine x_if_eq (tgt := 42) hx hb dX0_looked_28 (by decide) ⟨by decide, by decide⟩ (fun c28 => ?_) (fun c28 => by exfalso; omega)
      refine lv_aload_n hx hb dX0_looked_42 rfl (lv_at hl 0 rfl) ?_
      refine lv_bipush (v := iI (-2)) hx hb dX0_looked_43 rfl ?_
      refine b_calli 0 0 (Nat.le_of_ble_eq_true rfl) (Nat.le_of_ble_eq_true rfl) hB (fun w hI hd hB => rV (As := [.int (iI (-2))]) (n := 1) C hZ hB (kX0_refused l E o Ad I F X (-2) ⟨by omega, by omega⟩ w hI hd _) (lw_V q940 q942 qs29 q68 q943) (by decide +kernel) ⟨Nat.le_of_ble_eq_true rfl, Nat.le_of_ble_eq_true rfl⟩ (wU_l hI.x) rfl rfl rfl hl.1 rfl (Nat.le_of_ble_eq_true rfl) dX0_looked_45 ⟨Nat.le_of_ble_eq_true rfl, Nat.le_of_ble_eq_true rfl⟩) (fun z29 Ad30 I31 F32 X33 H locs hz34 hp35 hB => ?_)
      obtain ⟨hz34a, hz34b⟩ := hz34
      obtain ⟨rfl, rfl, rfl, rfl, rfl⟩ := hp35
      replace hB : xBB E (xA (wU w X) sz) s o Ad (va_up I 0 0) F X _ _ := hB
      refine vx_ret ?_
      exact b_iret C hB hr hlocks rfl dX0_looked_48 (Nat.le_of_ble_eq_true rfl) (Nat.le_of_ble_eq_true rfl) ⟨by decide, by decide⟩ (dy_2 (by omega) (by omega))
set_option maxHeartbeats 800000 in
set_option maxRecDepth 100000 in
theorem kX0_looked_0 (l : Launch) (hfl : l.stackTraces = false) (E : xE) (o : Nat) (Ad : Nat → Nat) (I : Nat → Int) (F : Nat → Nat → Int) (X : xw) (a : Nat) (rd : Nat) (k : Int) (so : Int) (i : Int) (n : Int) (ha : X a = some (xO 7 [.ref o, .int (iI k), .int (iI so), .int (iI i), .int (iI n), .ref rd, .ref o])) (hk : rg k) (hso : rg so) (hOK : mOK I F) : zi_ l E yX0_looked (ws_ yX0_looked cX0_looked 3 (some .int)) 2 45 0 0 [.ref o, .ref a, .int (iI 0)] o Ad I F X (fun z Ad' I' F' X' => I' = fI I 0 ∧ F = F' ∧ Ad = Ad' ∧ z = (if ¬ (0 ≤ k ∧ k ≤ 3) then -1 else -2)) := by
  intro w hI hd sz
  refine x_bodyx (by decide) (Nat.le_of_ble_eq_true rfl) ?_
  intro p e s m args below meth c ls hx hb C hr hlocks hout hsz hV hB hl
  have hZ := hV.1
  have C : xC E p s m args c cX0_looked 3 RX0 := C
  replace hB : xBB E (xA (wU w X) sz) s o Ad I F X s.heap [] := ⟨w, hI, hd, hB⟩
  have hl : lv_has ls 3 [(0, .ref o), (1, .ref a), (2, .int (iI 0))] := hl
  have hOK0 := hOK
  obtain ⟨⟨hf1, hf2⟩, ⟨hl1, hl2⟩, ⟨hr1, hr2⟩, hlr, ⟨hs1, hs2⟩, ⟨hj1, hj2⟩, ⟨hb1, hb2⟩, ⟨hn1, hn2⟩, hL, hR, hN, hS, hC⟩ := hOK
  obtain ⟨hk1, hk2⟩ := hk
  obtain ⟨hso1, hso2⟩ := hso
  refine lv_aload_n hx hb dX0_looked_0 rfl (lv_at hl 1 rfl) ?_
  refine t_getN C hB ha rfl in_X5 1 (by decide) q1117 (fun x h => h) (v := .int (iI k)) rfl dX0_looked_1 ?_
  refine bs_calli (n := 1) C hB (As := [.int (iI k)]) (kX0_noSheet l E k ⟨by omega, by omega⟩) (lw_S q937 q938 q68 q939) (by decide +kernel) ⟨Nat.le_of_ble_eq_true rfl, Nat.le_of_ble_eq_true rfl⟩ rfl hl.1 rfl (Nat.le_of_ble_eq_true rfl) dX0_looked_4 ⟨Nat.le_of_ble_eq_true rfl, Nat.le_of_ble_eq_true rfl⟩ (fun z1 H locs hz2 hp3 hB => ?_)
  obtain ⟨hz2a, hz2b⟩ := hz2
  rcases hp3 with ⟨rfl, h4⟩ | ⟨rfl, h4⟩
  · refine x_if_eq (tgt := 16) hx hb dX0_looked_7 (by decide) ⟨by decide, by decide⟩ (fun c5 => by exfalso; omega) (fun c5 => ?_)
    refine lv_aload_n hx hb dX0_looked_10 rfl (lv_at hl 0 rfl) ?_
    refine lv_iconst (v := iI (-1)) hx hb dX0_looked_11 rfl ?_
    refine b_calli 0 0 (Nat.le_of_ble_eq_true rfl) (Nat.le_of_ble_eq_true rfl) hB (fun w hI hd hB => rV (As := [.int (iI (-1))]) (n := 1) C hZ hB (kX0_refused l E o Ad I F X (-1) ⟨by omega, by omega⟩ w hI hd _) (lw_V q940 q942 qs29 q68 q943) (by decide +kernel) ⟨Nat.le_of_ble_eq_true rfl, Nat.le_of_ble_eq_true rfl⟩ (wU_l hI.x) rfl rfl rfl hl.1 rfl (Nat.le_of_ble_eq_true rfl) dX0_looked_12 ⟨Nat.le_of_ble_eq_true rfl, Nat.le_of_ble_eq_true rfl⟩) (fun z6 Ad7 I8 F9 X10 H locs hz11 hp12 hB => ?_)
    obtain ⟨hz11a, hz11b⟩ := hz11
    obtain ⟨rfl, rfl, rfl, rfl, rfl⟩ := hp12
    replace hB : xBB E (xA (wU w X) sz) s o Ad (va_up I 0 0) F X _ _ := hB
    refine vx_ret ?_
    exact b_iret C hB hr hlocks rfl dX0_looked_15 (Nat.le_of_ble_eq_true rfl) (Nat.le_of_ble_eq_true rfl) ⟨by decide, by decide⟩ ⟨rfl, rfl, rfl, by rw [if_pos (by omega)]⟩
  · refine x_if_eq (tgt := 16) hx hb dX0_looked_7 (by decide) ⟨by decide, by decide⟩ (fun c13 => ?_) (fun c13 => by exfalso; omega)
    refine lv_aload_n hx hb dX0_looked_16 rfl (lv_at hl 1 rfl) ?_
    refine t_getN C hB ha rfl in_X5 2 (by decide) q1119 (fun x h => h) (v := .int (iI so)) rfl dX0_looked_17 ?_
    refine x_i2l hx hb dX0_looked_20 ⟨by omega, by omega⟩ ?_
    refine lv_lconst (v := lI 0) hx hb dX0_looked_21 rfl ?_
    refine lv_ldc2 hx hb C.1.2.2.2.1 (C.1.2.2.2.2 _ q274) dX0_looked_22 ?_
    refine x_rwl (y := lI 2) (by decide) ?_
    refine bs_calli (n := 3) C hB (As := [.long (lI so), .long (lI 0), .long (lI 2)]) (kX0_in l E so 0 2 ⟨by omega, by omega⟩ ⟨by omega, by omega⟩ ⟨by omega, by omega⟩) (lw_S q234 q235 q68 q236) (by decide +kernel) ⟨Nat.le_of_ble_eq_true rfl, Nat.le_of_ble_eq_true rfl⟩ rfl hl.1 rfl (Nat.le_of_ble_eq_true rfl) dX0_looked_25 ⟨Nat.le_of_ble_eq_true rfl, Nat.le_of_ble_eq_true rfl⟩ (fun z14 H locs hz15 hp16 hB => ?_)
    obtain ⟨hz15a, hz15b⟩ := hz15
    rcases hp16 with ⟨rfl, h17⟩ | ⟨rfl, h17⟩
    · refine x_if_eq (tgt := 42) hx hb dX0_looked_28 (by decide) ⟨by decide, by decide⟩ (fun c18 => by exfalso; omega) (fun c18 => ?_)
      refine lv_iload_n hx hb dX0_looked_31 rfl (lv_at hl 2 rfl) ?_
      refine x_if_eq (tgt := 42) hx hb dX0_looked_32 (by decide) ⟨by decide, by decide⟩ (fun c19 => ?_) (fun c19 => by exfalso; omega)
      refine lv_aload_n hx hb dX0_looked_42 rfl (lv_at hl 0 rfl) ?_
      refine lv_bipush (v := iI (-2)) hx hb dX0_looked_43 rfl ?_
      refine b_calli 0 0 (Nat.le_of_ble_eq_true rfl) (Nat.le_of_ble_eq_true rfl) hB (fun w hI hd hB => rV (As := [.int (iI (-2))]) (n := 1) C hZ hB (kX0_refused l E o Ad I F X (-2) ⟨by omega, by omega⟩ w hI hd _) (lw_V q940 q942 qs29 q68 q943) (by decide +kernel) ⟨Nat.le_of_ble_eq_true rfl, Nat.le_of_ble_eq_true rfl⟩ (wU_l hI.x) rfl rfl rfl hl.1 rfl (Nat.le_of_ble_eq_true rfl) dX0_looked_45 ⟨Nat.le_of_ble_eq_true rfl, Nat.le_of_ble_eq_true rfl⟩) (fun z20 Ad21 I22 F23 X24 H locs hz25 hp26 hB => ?_)
      obtain ⟨hz25a, hz25b⟩ := hz25
      obtain ⟨rfl, rfl, rfl, rfl, rfl⟩ := hp26
      replace hB : xBB E (xA (wU w X) sz) s o Ad (va_up I 0 0) F X _ _ := hB
      refine vx_ret ?_
      exact b_iret C hB hr hlocks rfl dX0_looked_48 (Nat.le_of_ble_eq_true rfl) (Nat.le_of_ble_eq_true rfl) ⟨by decide, by decide⟩ ⟨rfl, rfl, rfl, by rw [if_neg (by omega)]⟩
    · refine x_if_eq (tgt := 42) hx hb dX0_looked_28 (by decide) ⟨by decide, by decide⟩ (fun c27 => ?_) (fun c27 => by exfalso; omega)
      refine lv_aload_n hx hb dX0_looked_42 rfl (lv_at hl 0 rfl) ?_
      refine lv_bipush (v := iI (-2)) hx hb dX0_looked_43 rfl ?_
      refine b_calli 0 0 (Nat.le_of_ble_eq_true rfl) (Nat.le_of_ble_eq_true rfl) hB (fun w hI hd hB => rV (As := [.int (iI (-2))]) (n := 1) C hZ hB (kX0_refused l E o Ad I F X (-2) ⟨by omega, by omega⟩ w hI hd _) (lw_V q940 q942 qs29 q68 q943) (by decide +kernel) ⟨Nat.le_of_ble_eq_true rfl, Nat.le_of_ble_eq_true rfl⟩ (wU_l hI.x) rfl rfl rfl hl.1 rfl (Nat.le_of_ble_eq_true rfl) dX0_looked_45 ⟨Nat.le_of_ble_eq_true rfl, Nat.le_of_ble_eq_true rfl⟩) (fun z28 Ad29 I30 F31 X32 H locs hz33 hp34 hB => ?_)
      obtain ⟨hz33a, hz33b⟩ := hz33
      obtain ⟨rfl, rfl, rfl, rfl, rfl⟩ := hp34
      replace hB : xBB E (xA (wU w X) sz) s o Ad (va_up I 0 0) F X _ _ := hB
      refine vx_ret ?_
      exact b_iret C hB hr hlocks rfl dX0_looked_48 (Nat.le_of_ble_eq_true rfl) (Nat.le_of_ble_eq_true rfl) ⟨by decide, by decide⟩ ⟨rfl, rfl, rfl, by rw [if_neg (by omega)]⟩
set_option maxHeartbeats 800000 in
set_option maxRecDepth 100000 in
theorem kX0_copy (l : Launch) (hfl : l.stackTraces = false) (E : xE) (o : Nat) (Ad : Nat → Nat) (I : Nat → Int) (F : Nat → Nat → Int) (X : xw) (k : Int) (i : Int) (o_ : Int) (j : Int) (n : Int) (hk : rg k) (hi : rg i) (ho_ : rg o_) (hj : rg j) (hn : rg n) (hXO : xOK F) (hOK : mOK I F) : zi_ l E yX0_copy (ws_ yX0_copy cX0_copy 6 (some .int)) 11 10361 60 3400 [.ref o, .int (iI k), .int (iI i), .int (iI o_), .int (iI j), .int (iI n)] o Ad I F X (fun z Ad' I' F' X' => I' = nCopyI I F k i o_ j n ∧ F' = nCopyF F k i o_ j n ∧ Ad = Ad' ∧ z = rCopy F k i o_ j n) := by
  intro w hI hd sz
  refine x_bodyx (by decide) (Nat.le_of_ble_eq_true rfl) ?_
  intro p e s m args below meth c ls hx hb C hr hlocks hout hsz hV hB hl
  have hZ := hV.1
  have C : xC E p s m args c cX0_copy 6 RX0 := C
  replace hB : xBB E (xA (wU w X) sz) s o Ad I F X s.heap [] := ⟨w, hI, hd, hB⟩
  have hl : lv_has ls 6 [(0, .ref o), (1, .int (iI k)), (2, .int (iI i)), (3, .int (iI o_)), (4, .int (iI j)), (5, .int (iI n))] := hl
  have hOK0 := hOK
  obtain ⟨⟨hf1, hf2⟩, ⟨hl1, hl2⟩, ⟨hr1, hr2⟩, hlr, ⟨hs1, hs2⟩, ⟨hj1, hj2⟩, ⟨hb1, hb2⟩, ⟨hn1, hn2⟩, hL, hR, hN, hS, hC⟩ := hOK
  have hi0 := hi
  have hj0 := hj
  have hn0 := hn
  obtain ⟨hk1, hk2⟩ := hk
  obtain ⟨hi1, hi2⟩ := hi
  obtain ⟨ho_1, ho_2⟩ := ho_
  obtain ⟨hj1, hj2⟩ := hj
  obtain ⟨hn1, hn2⟩ := hn
  refine lv_iload_n hx hb dX0_copy_0 rfl (lv_at hl 1 rfl) ?_
  refine bs_calli (n := 1) C hB (As := [.int (iI k)]) (kX0_noSheet l E k ⟨by omega, by omega⟩) (lw_S q937 q938 q68 q939) (by decide +kernel) ⟨Nat.le_of_ble_eq_true rfl, Nat.le_of_ble_eq_true rfl⟩ rfl hl.1 rfl (Nat.le_of_ble_eq_true rfl) dX0_copy_1 ⟨Nat.le_of_ble_eq_true rfl, Nat.le_of_ble_eq_true rfl⟩ (fun z1 H locs hz2 hp3 hB => ?_)
  obtain ⟨hz2a, hz2b⟩ := hz2
  rcases hp3 with ⟨rfl, h4⟩ | ⟨rfl, h4⟩
  · refine x_if_ne (tgt := 14) hx hb dX0_copy_4 (by decide) ⟨by decide, by decide⟩ (fun c5 => ?_) (fun c5 => by exfalso; omega)
    refine lv_aload_n hx hb dX0_copy_14 rfl (lv_at hl 0 rfl) ?_
    refine lv_iconst (v := iI (-1)) hx hb dX0_copy_15 rfl ?_
    refine b_calli 0 0 (Nat.le_of_ble_eq_true rfl) (Nat.le_of_ble_eq_true rfl) hB (fun w hI hd hB => rV (As := [.int (iI (-1))]) (n := 1) C hZ hB (kX0_refused l E o Ad I F X (-1) ⟨by omega, by omega⟩ w hI hd _) (lw_V q940 q942 qs29 q68 q943) (by decide +kernel) ⟨Nat.le_of_ble_eq_true rfl, Nat.le_of_ble_eq_true rfl⟩ (wU_l hI.x) rfl rfl rfl hl.1 rfl (Nat.le_of_ble_eq_true rfl) dX0_copy_16 ⟨Nat.le_of_ble_eq_true rfl, Nat.le_of_ble_eq_true rfl⟩) (fun z6 Ad7 I8 F9 X10 H locs hz11 hp12 hB => ?_)
    obtain ⟨hz11a, hz11b⟩ := hz11
    obtain ⟨rfl, rfl, rfl, rfl, rfl⟩ := hp12
    replace hB : xBB E (xA (wU w X) sz) s o Ad (va_up I 0 0) F X _ _ := hB
    refine lv_goto (tgt := 40) hx hb dX0_copy_19 (by decide) ?_
    refine vx_ret ?_
    exact b_iret C hB hr hlocks rfl dX0_copy_40 (Nat.le_of_ble_eq_true rfl) (Nat.le_of_ble_eq_true rfl) ⟨by decide, by decide⟩ (by have hrs : rCopy F k i o_ j n = -1 := (by unfold rCopy; rw [if_pos (by omega)]); exact ⟨by unfold nCopyI; rw [hrs]; rfl, by unfold nCopyF; rw [if_neg (by rw [hrs]; decide)], rfl, hrs.symm⟩)
  · refine x_if_ne (tgt := 14) hx hb dX0_copy_4 (by decide) ⟨by decide, by decide⟩ (fun c13 => by exfalso; omega) (fun c13 => ?_)
    refine lv_iload_n hx hb dX0_copy_7 rfl (lv_at hl 3 rfl) ?_
    refine bs_calli (n := 1) C hB (As := [.int (iI o_)]) (kX0_noSheet l E o_ ⟨by omega, by omega⟩) (lw_S q937 q938 q68 q939) (by decide +kernel) ⟨Nat.le_of_ble_eq_true rfl, Nat.le_of_ble_eq_true rfl⟩ rfl hl.1 rfl (Nat.le_of_ble_eq_true rfl) dX0_copy_8 ⟨Nat.le_of_ble_eq_true rfl, Nat.le_of_ble_eq_true rfl⟩ (fun z14 H locs hz15 hp16 hB => ?_)
    obtain ⟨hz15a, hz15b⟩ := hz15
    rcases hp16 with ⟨rfl, h17⟩ | ⟨rfl, h17⟩
    · refine x_if_eq (tgt := 22) hx hb dX0_copy_11 (by decide) ⟨by decide, by decide⟩ (fun c18 => by exfalso; omega) (fun c18 => ?_)
      refine lv_aload_n hx hb dX0_copy_14 rfl (lv_at hl 0 rfl) ?_
      refine lv_iconst (v := iI (-1)) hx hb dX0_copy_15 rfl ?_
      refine b_calli 0 0 (Nat.le_of_ble_eq_true rfl) (Nat.le_of_ble_eq_true rfl) hB (fun w hI hd hB => rV (As := [.int (iI (-1))]) (n := 1) C hZ hB (kX0_refused l E o Ad I F X (-1) ⟨by omega, by omega⟩ w hI hd _) (lw_V q940 q942 qs29 q68 q943) (by decide +kernel) ⟨Nat.le_of_ble_eq_true rfl, Nat.le_of_ble_eq_true rfl⟩ (wU_l hI.x) rfl rfl rfl hl.1 rfl (Nat.le_of_ble_eq_true rfl) dX0_copy_16 ⟨Nat.le_of_ble_eq_true rfl, Nat.le_of_ble_eq_true rfl⟩) (fun z19 Ad20 I21 F22 X23 H locs hz24 hp25 hB => ?_)
      obtain ⟨hz24a, hz24b⟩ := hz24
      obtain ⟨rfl, rfl, rfl, rfl, rfl⟩ := hp25
      replace hB : xBB E (xA (wU w X) sz) s o Ad (va_up I 0 0) F X _ _ := hB
      refine lv_goto (tgt := 40) hx hb dX0_copy_19 (by decide) ?_
      refine vx_ret ?_
      exact b_iret C hB hr hlocks rfl dX0_copy_40 (Nat.le_of_ble_eq_true rfl) (Nat.le_of_ble_eq_true rfl) ⟨by decide, by decide⟩ (by have hrs : rCopy F k i o_ j n = -1 := (by unfold rCopy; rw [if_pos (by omega)]); exact ⟨by unfold nCopyI; rw [hrs]; rfl, by unfold nCopyF; rw [if_neg (by rw [hrs]; decide)], rfl, hrs.symm⟩)
    · refine x_if_eq (tgt := 22) hx hb dX0_copy_11 (by decide) ⟨by decide, by decide⟩ (fun c26 => ?_) (fun c26 => by exfalso; omega)
      obtain ⟨kk, rfl⟩ : ∃ kk : Nat, k = (kk : Int) := ⟨k.toNat, by omega⟩
      obtain ⟨kj, rfl⟩ : ∃ kj : Nat, o_ = (kj : Int) := ⟨o_.toNat, by omega⟩
      refine t_new C hB (ci := 16) (fs := [.null, .int (iI 0), .int (iI 0), .int (iI 0), .int (iI 0), .int (iI 0), .null]) rfl in_X18 tyX18_ok q1243 q1244 q105 dvX18 (Nat.le_of_ble_eq_true rfl) (Nat.le_of_ble_eq_true rfl) dX0_copy_22 (fun q27 H hq28 hs29 hB => ?_)
      refine x_up (c2 := 1) (s2 := 7) (Nat.le_of_ble_eq_true rfl) (Nat.le_of_ble_eq_true rfl) ?_
      replace hB : xBB E (xA (wU w X) sz) s o Ad I F (va_up X q27 (some (xO 16 [.null, .int (iI 0), .int (iI 0), .int (iI 0), .int (iI 0), .int (iI 0), .null]))) _ _ := hB
      refine lv_dup hx hb dX0_copy_25 rfl ?_
      refine lv_aload_n hx hb dX0_copy_26 rfl (lv_at hl 0 rfl) ?_
      refine lv_iload_n hx hb dX0_copy_27 rfl (lv_at hl 1 rfl) ?_
      refine lv_iload_n hx hb dX0_copy_28 rfl (lv_at hl 2 rfl) ?_
      refine lv_iload_n hx hb dX0_copy_29 rfl (lv_at hl 3 rfl) ?_
      refine lv_iload hx hb dX0_copy_30 (lv_at hl 4 rfl) ?_
      refine lv_iload hx hb dX0_copy_32 (lv_at hl 5 rfl) ?_
      obtain ⟨wq, hIq, hdq, hB⟩ := hB
      refine g_callv 1 7 (Nat.le_of_ble_eq_true rfl) (Nat.le_of_ble_eq_true rfl) hB (rI (As := [.ref o, .int (iI ((kk : Int))), .int (iI i), .int (iI ((kj : Int))), .int (iI j), .int (iI n)]) (n := 6) C hZ hB (kX18_init l E (wU wq (va_up X q27 (some (xO 16 [.null, .int (iI 0), .int (iI 0), .int (iI 0), .int (iI 0), .int (iI 0), .null])))) q27 o ((kk : Int)) i ((kj : Int)) j n (wU_r hdq (va_up_s _ _ _)) _) (lw_meth q1247) q105 q1245 q1246 rfl (by decide +kernel) ⟨Nat.le_of_ble_eq_true rfl, Nat.le_of_ble_eq_true rfl⟩ rfl hl.1 rfl (Nat.le_of_ble_eq_true rfl) dX0_copy_34 ⟨Nat.le_of_ble_eq_true rfl, Nat.le_of_ble_eq_true rfl⟩) (fun w31 H locs hp33 hB => ?_)
      subst hp33
      rw [(hdq.put_t (xO 16 [.ref o, .int (iI ((kk : Int))), .int (iI i), .int (iI ((kj : Int))), .int (iI j), .int (iI n), .ref o]) (va_up_s _ _ _)).2] at hB
      replace hB : xBB E (xA (wU w X) sz) s o Ad I F (va_up (va_up X q27 (some (xO 16 [.null, .int (iI 0), .int (iI 0), .int (iI 0), .int (iI 0), .int (iI 0), .null]))) q27 (some (xO 16 [.ref o, .int (iI ((kk : Int))), .int (iI i), .int (iI ((kj : Int))), .int (iI j), .int (iI n), .ref o]))) _ _ := ⟨wq, hIq, (hdq.put_t _ (va_up_s _ _ _)).1, hB⟩
      rw [bx_uu] at hB
      replace hB : xBB E (xA (wU w X) sz) s o Ad I F (va_up X q27 (some (xO 16 [.ref o, .int (iI ((kk : Int))), .int (iI i), .int (iI ((kj : Int))), .int (iI j), .int (iI n), .ref o]))) _ _ := hB
      refine b_calli 41 3207 (Nat.le_of_ble_eq_true rfl) (Nat.le_of_ble_eq_true rfl) hB (fun w hI hd hB => run_nx (rXUW (As := []) (n := 0) C hV hB ⟨"BookPairs$Copying", "tried", "()I"⟩ "BookPairs$Act" (kX4_tried_C l hfl E o Ad I F (va_up X q27 (some (xO 16 [.ref o, .int (iI ((kk : Int))), .int (iI i), .int (iI ((kj : Int))), .int (iI j), .int (iI n), .ref o]))) q27 kk i kj j n (va_up_s _ _ _) (by omega) (by omega) hi0 hj0 hn0 hXO hOK0 w hI hd _) q1269 q1270 q1271 q1148 q78 q1149 rfl (by decide +kernel) ⟨Nat.le_of_ble_eq_true rfl, Nat.le_of_ble_eq_true rfl⟩ (wU_r hd (va_up_s _ _ _)) rfl rfl rfl hl.1 rfl (Nat.le_of_ble_eq_true rfl) dX0_copy_37 ⟨Nat.le_of_ble_eq_true rfl, Nat.le_of_ble_eq_true rfl⟩)) (fun z34 Ad35 I36 F37 X38 H locs hz39 hp40 hB => ?_)
      obtain ⟨hz39a, hz39b⟩ := hz39
      obtain ⟨rfl, rfl, rfl, rfl⟩ := hp40
      obtain ⟨hrc1, hrc2⟩ := rCopy_rg (F := F) (k := (kk : Int)) (i := i) (o := (kj : Int)) (j := j) (n := n) hn0
      replace hB : xBB E (xA (wU w X) sz) s o Ad (nCopyI I F (kk : Int) i (kj : Int) j n) (nCopyF F (kk : Int) i (kj : Int) j n) X38 _ _ := hB
      refine vx_ret ?_
      exact b_iret C hB hr hlocks rfl dX0_copy_40 (Nat.le_of_ble_eq_true rfl) (Nat.le_of_ble_eq_true rfl) ⟨by omega, by omega⟩ ⟨rfl, rfl, rfl, rfl⟩
set_option maxHeartbeats 800000 in
set_option maxRecDepth 100000 in
theorem kX0_as (l : Launch) (hfl : l.stackTraces = false) (E : xE) (o : Nat) (Ad : Nat → Nat) (I : Nat → Int) (F : Nat → Nat → Int) (X : xw) (a : Int) (so : Int) (ha : rg a) (hso : rg so) (hOK : mOK I F) : zi_ l E yX0_as (ws_ yX0_as cX0_as 3 (some .int)) 11 10362 60 3400 [.ref o, .int (iI a), .int (iI so)] o Ad I F X (fun z Ad' I' F' X' => I' = nAs I F a so ∧ F = F' ∧ Ad = Ad' ∧ z = rAs I F a so) := by
  intro w hI hd sz
  refine x_bodyx (by decide) (Nat.le_of_ble_eq_true rfl) ?_
  intro p e s m args below meth c ls hx hb C hr hlocks hout hsz hV hB hl
  have hZ := hV.1
  have C : xC E p s m args c cX0_as 3 RX0 := C
  replace hB : xBB E (xA (wU w X) sz) s o Ad I F X s.heap [] := ⟨w, hI, hd, hB⟩
  have hl : lv_has ls 3 [(0, .ref o), (1, .int (iI a)), (2, .int (iI so))] := hl
  have hOK0 := hOK
  obtain ⟨⟨hf1, hf2⟩, ⟨hl1, hl2⟩, ⟨hr1, hr2⟩, hlr, ⟨hs1, hs2⟩, ⟨hj1, hj2⟩, ⟨hb1, hb2⟩, ⟨hn1, hn2⟩, hL, hR, hN, hS, hC⟩ := hOK
  obtain ⟨ha1, ha2⟩ := ha
  obtain ⟨hso1, hso2⟩ := hso
  refine lv_aload_n hx hb dX0_as_0 rfl (lv_at hl 0 rfl) ?_
  refine lv_iload_n hx hb dX0_as_1 rfl (lv_at hl 1 rfl) ?_
  refine b_calli 0 0 (Nat.le_of_ble_eq_true rfl) (Nat.le_of_ble_eq_true rfl) hB (fun w hI hd hB => rV (As := [.int (iI a)]) (n := 1) C hZ hB (kX0_noLeft l E o Ad I F X a ⟨by omega, by omega⟩ hOK0 w hI hd _) (lw_V q237 q239 qs7 q68 q240) (by decide +kernel) ⟨Nat.le_of_ble_eq_true rfl, Nat.le_of_ble_eq_true rfl⟩ (wU_l hI.x) rfl rfl rfl hl.1 rfl (Nat.le_of_ble_eq_true rfl) dX0_as_2 ⟨Nat.le_of_ble_eq_true rfl, Nat.le_of_ble_eq_true rfl⟩) (fun z1 Ad2 I3 F4 X5 H locs hz6 hp7 hB => ?_)
  obtain ⟨hz6a, hz6b⟩ := hz6
  obtain ⟨rfl, rfl, rfl, rfl, ⟨rfl, h8⟩ | ⟨rfl, h8⟩⟩ := hp7
  · refine x_if_eq (tgt := 14) hx hb dX0_as_5 (by decide) ⟨by decide, by decide⟩ (fun c9 => by exfalso; omega) (fun c9 => ?_)
    refine lv_aload_n hx hb dX0_as_8 rfl (lv_at hl 0 rfl) ?_
    refine lv_iconst (v := iI (-1)) hx hb dX0_as_9 rfl ?_
    refine b_calli 0 0 (Nat.le_of_ble_eq_true rfl) (Nat.le_of_ble_eq_true rfl) hB (fun w hI hd hB => rV (As := [.int (iI (-1))]) (n := 1) C hZ hB (kX0_refused l E o Ad I F X (-1) ⟨by omega, by omega⟩ w hI hd _) (lw_V q940 q942 qs29 q68 q943) (by decide +kernel) ⟨Nat.le_of_ble_eq_true rfl, Nat.le_of_ble_eq_true rfl⟩ (wU_l hI.x) rfl rfl rfl hl.1 rfl (Nat.le_of_ble_eq_true rfl) dX0_as_10 ⟨Nat.le_of_ble_eq_true rfl, Nat.le_of_ble_eq_true rfl⟩) (fun z10 Ad11 I12 F13 X14 H locs hz15 hp16 hB => ?_)
    obtain ⟨hz15a, hz15b⟩ := hz15
    obtain ⟨rfl, rfl, rfl, rfl, rfl⟩ := hp16
    replace hB : xBB E (xA (wU w X) sz) s o Ad (va_up I 0 0) F X _ _ := hB
    refine vx_ret ?_
    exact b_iret C hB hr hlocks rfl dX0_as_13 (Nat.le_of_ble_eq_true rfl) (Nat.le_of_ble_eq_true rfl) ⟨by decide, by decide⟩ (by have hrs : rAs I F a so = -1 := (by unfold rAs; rw [if_pos (by omega)]); exact ⟨by unfold nAs; rw [hrs]; rfl, rfl, rfl, hrs.symm⟩)
  · refine x_if_eq (tgt := 14) hx hb dX0_as_5 (by decide) ⟨by decide, by decide⟩ (fun c17 => ?_) (fun c17 => by exfalso; omega)
    obtain ⟨kk, rfl⟩ : ∃ kk : Nat, a = (kk : Int) := ⟨a.toNat, by omega⟩
    refine lv_iload_n hx hb dX0_as_14 rfl (lv_at hl 2 rfl) ?_
    refine x_i2l hx hb dX0_as_15 ⟨by omega, by omega⟩ ?_
    refine lv_lconst (v := lI 0) hx hb dX0_as_16 rfl ?_
    refine lv_ldc2 hx hb C.1.2.2.2.1 (C.1.2.2.2.2 _ q274) dX0_as_17 ?_
    refine x_rwl (y := lI 2) (by decide) ?_
    refine bs_calli (n := 3) C hB (As := [.long (lI so), .long (lI 0), .long (lI 2)]) (kX0_in l E so 0 2 ⟨by omega, by omega⟩ ⟨by omega, by omega⟩ ⟨by omega, by omega⟩) (lw_S q234 q235 q68 q236) (by decide +kernel) ⟨Nat.le_of_ble_eq_true rfl, Nat.le_of_ble_eq_true rfl⟩ rfl hl.1 rfl (Nat.le_of_ble_eq_true rfl) dX0_as_20 ⟨Nat.le_of_ble_eq_true rfl, Nat.le_of_ble_eq_true rfl⟩ (fun z18 H locs hz19 hp20 hB => ?_)
    obtain ⟨hz19a, hz19b⟩ := hz19
    rcases hp20 with ⟨rfl, h21⟩ | ⟨rfl, h21⟩
    · refine x_if_eq (tgt := 54) hx hb dX0_as_23 (by decide) ⟨by decide, by decide⟩ (fun c22 => by exfalso; omega) (fun c22 => ?_)
      refine t_new C hB (ci := 17) (fs := [.null, .null, .int (iI 0), .null]) rfl in_X19 tyX19_ok q1356 q1357 q106 dvX19 (Nat.le_of_ble_eq_true rfl) (Nat.le_of_ble_eq_true rfl) dX0_as_26 (fun q23 H hq24 hs25 hB => ?_)
      refine x_up (c2 := 1) (s2 := 4) (Nat.le_of_ble_eq_true rfl) (Nat.le_of_ble_eq_true rfl) ?_
      replace hB : xBB E (xA (wU w X) sz) s o Ad I F (va_up X q23 (some (xO 17 [.null, .null, .int (iI 0), .null]))) _ _ := hB
      refine lv_dup hx hb dX0_as_29 rfl ?_
      refine lv_aload_n hx hb dX0_as_30 rfl (lv_at hl 0 rfl) ?_
      refine lv_aload_n hx hb dX0_as_31 rfl (lv_at hl 0 rfl) ?_
      refine b_get C hB 3 (by decide) q296 (v := .ref (Ad 4)) rfl rfl dX0_as_32 ?_
      refine lv_iload_n hx hb dX0_as_35 rfl (lv_at hl 1 rfl) ?_
      refine b_lget C hZ hB kk rfl (show ((kk : Nat) : Int) < I 5 by omega) (show I 5 ≤ 7 by omega) q156 ⟨Nat.le_of_ble_eq_true rfl, Nat.le_of_ble_eq_true rfl⟩ hl.1 (Nat.le_of_ble_eq_true rfl) dX0_as_36 ⟨Nat.le_of_ble_eq_true rfl, Nat.le_of_ble_eq_true rfl⟩ (fun H locs hB => ?_)
      refine b_castP C hB kk (show ((kk : Nat) : Int) < I 5 by omega) (show I 5 ≤ 7 by omega) q175 dX0_as_41 ?_
      refine lv_iload_n hx hb dX0_as_44 rfl (lv_at hl 2 rfl) ?_
      obtain ⟨wq, hIq, hdq, hB⟩ := hB
      refine g_callv 1 4 (Nat.le_of_ble_eq_true rfl) (Nat.le_of_ble_eq_true rfl) hB (rI (As := [.ref o, .ref (Ad (100 + kk)), .int (iI so)]) (n := 3) C hZ hB (kX19_init l E (wU wq (va_up X q23 (some (xO 17 [.null, .null, .int (iI 0), .null])))) q23 o (Ad (100 + kk)) so (wU_r hdq (va_up_s _ _ _)) _) (lw_meth q1360) q106 q1358 q1359 rfl (by decide +kernel) ⟨Nat.le_of_ble_eq_true rfl, Nat.le_of_ble_eq_true rfl⟩ rfl hl.1 rfl (Nat.le_of_ble_eq_true rfl) dX0_as_45 ⟨Nat.le_of_ble_eq_true rfl, Nat.le_of_ble_eq_true rfl⟩) (fun w27 H locs hp29 hB => ?_)
      subst hp29
      rw [(hdq.put_t (xO 17 [.ref o, .ref (Ad (100 + kk)), .int (iI so), .ref o]) (va_up_s _ _ _)).2] at hB
      replace hB : xBB E (xA (wU w X) sz) s o Ad I F (va_up (va_up X q23 (some (xO 17 [.null, .null, .int (iI 0), .null]))) q23 (some (xO 17 [.ref o, .ref (Ad (100 + kk)), .int (iI so), .ref o]))) _ _ := ⟨wq, hIq, (hdq.put_t _ (va_up_s _ _ _)).1, hB⟩
      rw [bx_uu] at hB
      replace hB : xBB E (xA (wU w X) sz) s o Ad I F (va_up X q23 (some (xO 17 [.ref o, .ref (Ad (100 + kk)), .int (iI so), .ref o]))) _ _ := hB
      refine b_calli 41 3204 (Nat.le_of_ble_eq_true rfl) (Nat.le_of_ble_eq_true rfl) hB (fun w hI hd hB => run_nx (rXUW (As := []) (n := 0) C hV hB ⟨"BookPairs$Taking", "tried", "()I"⟩ "BookPairs$Act" (kX4_tried_T l hfl E o Ad I F (va_up X q23 (some (xO 17 [.ref o, .ref (Ad (100 + kk)), .int (iI so), .ref o]))) q23 kk so (va_up_s _ _ _) (by omega) (by omega) hOK0 w hI hd _) q1373 q1374 q1375 q1148 q78 q1149 rfl (by decide +kernel) ⟨Nat.le_of_ble_eq_true rfl, Nat.le_of_ble_eq_true rfl⟩ (wU_r hd (va_up_s _ _ _)) rfl rfl rfl hl.1 rfl (Nat.le_of_ble_eq_true rfl) dX0_as_48 ⟨Nat.le_of_ble_eq_true rfl, Nat.le_of_ble_eq_true rfl⟩)) (fun z30 Ad31 I32 F33 X34 H locs hz35 hp36 hB => ?_)
      obtain ⟨hz35a, hz35b⟩ := hz35
      obtain ⟨rfl, rfl, rfl, hzv⟩ := hp36
      replace hB : xBB E (xA (wU w X) sz) s o Ad (fI I (if so ≤ F 10 kk then 0 else 2)) F X34 _ _ := hB
      have hz9 : z30 = 1 ∨ z30 = -12 := by rw [hzv]; split <;> omega
      refine lv_goto (tgt := 60) hx hb dX0_as_51 (by decide) ?_
      refine vx_ret ?_
      exact b_iret C hB hr hlocks rfl dX0_as_60 (Nat.le_of_ble_eq_true rfl) (Nat.le_of_ble_eq_true rfl) ⟨by omega, by omega⟩ (by have hrs : rAs I F (kk : Int) so = (if so ≤ F 10 kk then 1 else -12) := (by unfold rAs; simp only [Int.toNat_natCast]; rw [if_neg (by omega), if_neg (by omega)]); exact ⟨by unfold nAs; rw [hrs]; by_cases g : so ≤ F 10 kk; rw [if_pos g, if_pos g]; rfl; rw [if_neg g, if_neg g]; rfl, rfl, rfl, hzv.trans hrs.symm⟩)
    · refine x_if_eq (tgt := 54) hx hb dX0_as_23 (by decide) ⟨by decide, by decide⟩ (fun c38 => ?_) (fun c38 => by exfalso; omega)
      refine lv_aload_n hx hb dX0_as_54 rfl (lv_at hl 0 rfl) ?_
      refine lv_bipush (v := iI (-2)) hx hb dX0_as_55 rfl ?_
      refine b_calli 0 0 (Nat.le_of_ble_eq_true rfl) (Nat.le_of_ble_eq_true rfl) hB (fun w hI hd hB => rV (As := [.int (iI (-2))]) (n := 1) C hZ hB (kX0_refused l E o Ad I F X (-2) ⟨by omega, by omega⟩ w hI hd _) (lw_V q940 q942 qs29 q68 q943) (by decide +kernel) ⟨Nat.le_of_ble_eq_true rfl, Nat.le_of_ble_eq_true rfl⟩ (wU_l hI.x) rfl rfl rfl hl.1 rfl (Nat.le_of_ble_eq_true rfl) dX0_as_57 ⟨Nat.le_of_ble_eq_true rfl, Nat.le_of_ble_eq_true rfl⟩) (fun z39 Ad40 I41 F42 X43 H locs hz44 hp45 hB => ?_)
      obtain ⟨hz44a, hz44b⟩ := hz44
      obtain ⟨rfl, rfl, rfl, rfl, rfl⟩ := hp45
      replace hB : xBB E (xA (wU w X) sz) s o Ad (va_up I 0 0) F X _ _ := hB
      refine vx_ret ?_
      exact b_iret C hB hr hlocks rfl dX0_as_60 (Nat.le_of_ble_eq_true rfl) (Nat.le_of_ble_eq_true rfl) ⟨by decide, by decide⟩ (by have hrs : rAs I F (kk : Int) so = -2 := (by unfold rAs; rw [if_neg (by omega), if_pos (by omega)]); exact ⟨by unfold nAs; rw [hrs]; rfl, rfl, rfl, hrs.symm⟩)
set_option maxHeartbeats 800000 in
set_option maxRecDepth 100000 in
theorem kX0_books (l : Launch) (hfl : l.stackTraces = false) (E : xE) (o : Nat) (Ad : Nat → Nat) (I : Nat → Int) (F : Nat → Nat → Int) (X : xw) (k : Int) (so : Int) (i : Int) (n : Int) (hk : rg k) (hso : rg so) (hi : rg i) (hn : rg n) (hOK : mOK I F) : zi_ l E yX0_books (ws_ yX0_books cX0_books 5 (some .int)) 14 10431 60 3400 [.ref o, .int (iI k), .int (iI so), .int (iI i), .int (iI n)] o Ad I F X (fun z Ad' I' F' X' => z = rBooks F k so i n ∧ mAg (nBooksI I F k so i n) (nBooksF F k so i n) I' F') := by
  intro w hI hd sz
  refine x_bodyxn (by decide) (Nat.le_of_ble_eq_true rfl) ?_
  intro p e s m args below meth c ls hx hb C hr hlocks hnm hsz hV hB hl
  have hZ := hV.1
  have C : xC E p s m args c cX0_books 5 RX0 := C
  replace hB : xBB E (xA (wU w X) sz) s o Ad I F X s.heap [] := ⟨w, hI, hd, hB⟩
  have hl : lv_has ls 5 [(0, .ref o), (1, .int (iI k)), (2, .int (iI so)), (3, .int (iI i)), (4, .int (iI n))] := hl
  have hOK0 := hOK
  obtain ⟨⟨hf1, hf2⟩, ⟨hl1, hl2⟩, ⟨hr1, hr2⟩, hlr, ⟨hs1, hs2⟩, ⟨hj1, hj2⟩, ⟨hb1, hb2⟩, ⟨hn1, hn2⟩, hL, hR, hN, hS, hC⟩ := hOK
  have hk0 := hk
  have hso0 := hso
  have hi0 := hi
  have hn0 := hn
  obtain ⟨hk1, hk2⟩ := hk
  obtain ⟨hso1, hso2⟩ := hso
  obtain ⟨hi1, hi2⟩ := hi
  obtain ⟨hn1, hn2⟩ := hn
  refine lv_aload_n hx hb dX0_books_0 rfl (lv_at hl 0 rfl) ?_
  refine t_new C hB (ci := 7) (fs := [.null, .int (iI 0), .int (iI 0), .int (iI 0), .int (iI 0), .null, .null]) rfl in_X5 tyX5_ok q1053 q1054 q79 dvX5 (Nat.le_of_ble_eq_true rfl) (Nat.le_of_ble_eq_true rfl) dX0_books_1 (fun q1 H hq2 hs3 hB => ?_)
  refine x_up (c2 := 1) (s2 := 7) (Nat.le_of_ble_eq_true rfl) (Nat.le_of_ble_eq_true rfl) ?_
  replace hB : xBB E (xA (wU w X) sz) s o Ad I F (va_up X q1 (some (xO 7 [.null, .int (iI 0), .int (iI 0), .int (iI 0), .int (iI 0), .null, .null]))) _ _ := hB
  refine lv_dup hx hb dX0_books_4 rfl ?_
  refine lv_aload_n hx hb dX0_books_5 rfl (lv_at hl 0 rfl) ?_
  refine lv_iload_n hx hb dX0_books_6 rfl (lv_at hl 1 rfl) ?_
  refine lv_iload_n hx hb dX0_books_7 rfl (lv_at hl 2 rfl) ?_
  refine lv_iload_n hx hb dX0_books_8 rfl (lv_at hl 3 rfl) ?_
  refine lv_iload hx hb dX0_books_9 (lv_at hl 4 rfl) ?_
  refine lv_aload_n hx hb dX0_books_11 rfl (lv_at hl 0 rfl) ?_
  refine t_lam1 (x := ⟨"BookPairs", "books", "(IIII)I"⟩) (i := 8) (by decide) C hZ hB hnm (by decide +kernel) hl.1 (Nat.le_of_ble_eq_true rfl) (Nat.le_of_ble_eq_true rfl) (Nat.le_of_ble_eq_true rfl) dX0_books_12 (fun q4 H hq5 hB => ?_)
  have hne6 : q1 ≠ q4 := fun e => by cases (hq5.symm.trans ((congrArg _ e.symm).trans (va_up_s _ _ _)))
  refine x_up (c2 := 2) (s2 := 8) (Nat.le_of_ble_eq_true rfl) (Nat.le_of_ble_eq_true rfl) ?_
  replace hB : xBB E (xA (wU w X) sz) s o Ad I F (va_up (va_up X q1 (some (xO 7 [.null, .int (iI 0), .int (iI 0), .int (iI 0), .int (iI 0), .null, .null]))) q4 (some (lamE E o 8))) _ _ := hB
  obtain ⟨wq, hIq, hdq, hB⟩ := hB
  refine g_callv 2 8 (Nat.le_of_ble_eq_true rfl) (Nat.le_of_ble_eq_true rfl) hB (rI (As := [.ref o, .int (iI k), .int (iI so), .int (iI i), .int (iI n), .ref q4]) (n := 6) C hZ hB (kX5_init l E (wU wq (va_up (va_up X q1 (some (xO 7 [.null, .int (iI 0), .int (iI 0), .int (iI 0), .int (iI 0), .null, .null]))) q4 (some (lamE E o 8)))) q1 o k so i n q4 (wU_r hdq ((va_up_n _ _ hne6).trans (va_up_s _ _ _))) _) (lw_meth q1111) q79 q1109 q1110 rfl (by decide +kernel) ⟨Nat.le_of_ble_eq_true rfl, Nat.le_of_ble_eq_true rfl⟩ rfl hl.1 rfl (Nat.le_of_ble_eq_true rfl) dX0_books_17 ⟨Nat.le_of_ble_eq_true rfl, Nat.le_of_ble_eq_true rfl⟩) (fun w8 H locs hp10 hB => ?_)
  subst hp10
  rw [(hdq.put_t (xO 7 [.ref o, .int (iI k), .int (iI so), .int (iI i), .int (iI n), .ref q4, .ref o]) ((va_up_n _ _ hne6).trans (va_up_s _ _ _))).2] at hB
  replace hB : xBB E (xA (wU w X) sz) s o Ad I F (va_up (va_up (va_up X q1 (some (xO 7 [.null, .int (iI 0), .int (iI 0), .int (iI 0), .int (iI 0), .null, .null]))) q4 (some (lamE E o 8))) q1 (some (xO 7 [.ref o, .int (iI k), .int (iI so), .int (iI i), .int (iI n), .ref q4, .ref o]))) _ _ := ⟨wq, hIq, (hdq.put_t _ ((va_up_n _ _ hne6).trans (va_up_s _ _ _))).1, hB⟩
  rw [up_aba] at hB
  replace hB : xBB E (xA (wU w X) sz) s o Ad I F (va_up (va_up X q4 (some (lamE E o 8))) q1 (some (xO 7 [.ref o, .int (iI k), .int (iI so), .int (iI i), .int (iI n), .ref q4, .ref o]))) _ _ := hB
  refine lv_iconst (v := iI 1) hx hb dX0_books_20 rfl ?_
  refine b_calli 42 3208 (Nat.le_of_ble_eq_true rfl) (Nat.le_of_ble_eq_true rfl) hB (fun w hI hd hB => run_nx (rXV (As := [.ref q1, .int (iI 1)]) (n := 2) C hV hB (kX0_looked_B l hfl E o Ad I F (va_up (va_up X q4 (some (lamE E o 8))) q1 (some (xO 7 [.ref o, .int (iI k), .int (iI so), .int (iI i), .int (iI n), .ref q4, .ref o]))) q1 q4 k so i n (va_up_s _ _ _) ((va_up_n _ _ (Ne.symm hne6)).trans (va_up_s _ _ _)) hi0 hn0 hk0 hso0 hOK0 w hI hd _) (lw_V q1140 q1142 qs36 q68 q1143) (by decide +kernel) ⟨Nat.le_of_ble_eq_true rfl, Nat.le_of_ble_eq_true rfl⟩ (wU_l hI.x) rfl rfl rfl hl.1 rfl (Nat.le_of_ble_eq_true rfl) dX0_books_21 ⟨Nat.le_of_ble_eq_true rfl, Nat.le_of_ble_eq_true rfl⟩)) (fun z11 Ad12 I13 F14 X15 H locs hz16 hp17 hB => ?_)
  obtain ⟨hz16a, hz16b⟩ := hz16
  obtain ⟨hzv, hagm⟩ := hp17
  refine vx_ret ?_
  exact b_iret C hB hr hlocks rfl dX0_books_24 (Nat.le_of_ble_eq_true rfl) (Nat.le_of_ble_eq_true rfl) ⟨by omega, by omega⟩ ⟨hzv, hagm⟩
set_option maxHeartbeats 800000 in
set_option maxRecDepth 100000 in
theorem kX0_day (l : Launch) (hfl : l.stackTraces = false) (E : xE) (o : Nat) (Ad : Nat → Nat) (I : Nat → Int) (F : Nat → Nat → Int) (X : xw) (k : Int) (so : Int) (i : Int) (n : Int) (wh : Int) (hk : rg k) (hso : rg so) (hi : rg i) (hn : rg n) (hwh : rg wh) (hOK : mOK I F) : zi_ l E yX0_day (ws_ yX0_day cX0_day 7 (some .int)) 19 10431 60 3400 [.ref o, .int (iI k), .int (iI so), .int (iI i), .int (iI n), .int (iI wh)] o Ad I F X (fun z Ad' I' F' X' => z = rDayO I F k so i n wh ∧ mAg (nDayI I F k so i n wh) F I' F') := by
  intro w hI hd sz
  refine x_bodyxn (by decide) (Nat.le_of_ble_eq_true rfl) ?_
  intro p e s m args below meth c ls hx hb C hr hlocks hnm hsz hV hB hl
  have hZ := hV.1
  have C : xC E p s m args c cX0_day 7 RX0 := C
  replace hB : xBB E (xA (wU w X) sz) s o Ad I F X s.heap [] := ⟨w, hI, hd, hB⟩
  have hl : lv_has ls 7 [(0, .ref o), (1, .int (iI k)), (2, .int (iI so)), (3, .int (iI i)), (4, .int (iI n)), (5, .int (iI wh))] := hl
  have hOK0 := hOK
  obtain ⟨⟨hf1, hf2⟩, ⟨hl1, hl2⟩, ⟨hr1, hr2⟩, hlr, ⟨hs1, hs2⟩, ⟨hj1, hj2⟩, ⟨hb1, hb2⟩, ⟨hn1, hn2⟩, hL, hR, hN, hS, hC⟩ := hOK
  have hk0 := hk
  have hso0 := hso
  have hi0 := hi
  obtain ⟨hk1, hk2⟩ := hk
  obtain ⟨hso1, hso2⟩ := hso
  obtain ⟨hi1, hi2⟩ := hi
  obtain ⟨hn1, hn2⟩ := hn
  obtain ⟨hwh1, hwh2⟩ := hwh
  refine lv_iload hx hb dX0_day_0 (lv_at hl 4 rfl) ?_
  refine x_i2l hx hb dX0_day_2 ⟨by omega, by omega⟩ ?_
  refine lv_lconst (v := lI 0) hx hb dX0_day_3 rfl ?_
  refine lv_ldc2 hx hb C.1.2.2.2.1 (C.1.2.2.2.2 _ q1215) dX0_day_4 ?_
  refine x_rwl (y := lI 20) (by decide) ?_
  refine bs_calli (n := 3) C hB (As := [.long (lI n), .long (lI 0), .long (lI 20)]) (kX0_in l E n 0 20 ⟨by omega, by omega⟩ ⟨by omega, by omega⟩ ⟨by omega, by omega⟩) (lw_S q234 q235 q68 q236) (by decide +kernel) ⟨Nat.le_of_ble_eq_true rfl, Nat.le_of_ble_eq_true rfl⟩ rfl hl.1 rfl (Nat.le_of_ble_eq_true rfl) dX0_day_7 ⟨Nat.le_of_ble_eq_true rfl, Nat.le_of_ble_eq_true rfl⟩ (fun z1 H locs hz2 hp3 hB => ?_)
  obtain ⟨hz2a, hz2b⟩ := hz2
  rcases hp3 with ⟨rfl, h4⟩ | ⟨rfl, h4⟩
  · refine x_if_eq (tgt := 45) hx hb dX0_day_10 (by decide) ⟨by decide, by decide⟩ (fun c5 => by exfalso; omega) (fun c5 => ?_)
    refine lv_iload hx hb dX0_day_13 (lv_at hl 5 rfl) ?_
    refine x_i2l hx hb dX0_day_15 ⟨by omega, by omega⟩ ?_
    refine lv_lconst (v := lI 0) hx hb dX0_day_16 rfl ?_
    refine lv_ldc2 hx hb C.1.2.2.2.1 (C.1.2.2.2.2 _ q359) dX0_day_17 ?_
    refine x_rwl (y := lI 4) (by decide) ?_
    refine bs_calli (n := 3) C hB (As := [.long (lI wh), .long (lI 0), .long (lI 4)]) (kX0_in l E wh 0 4 ⟨by omega, by omega⟩ ⟨by omega, by omega⟩ ⟨by omega, by omega⟩) (lw_S q234 q235 q68 q236) (by decide +kernel) ⟨Nat.le_of_ble_eq_true rfl, Nat.le_of_ble_eq_true rfl⟩ rfl hl.1 rfl (Nat.le_of_ble_eq_true rfl) dX0_day_20 ⟨Nat.le_of_ble_eq_true rfl, Nat.le_of_ble_eq_true rfl⟩ (fun z6 H locs hz7 hp8 hB => ?_)
    obtain ⟨hz7a, hz7b⟩ := hz7
    rcases hp8 with ⟨rfl, h9⟩ | ⟨rfl, h9⟩
    · refine x_if_ne (tgt := 41) hx hb dX0_day_23 (by decide) ⟨by decide, by decide⟩ (fun c10 => ?_) (fun c10 => by exfalso; omega)
      refine lv_iconst (v := iI 1) hx hb dX0_day_41 rfl ?_
      refine lv_goto (tgt := 46) hx hb dX0_day_42 (by decide) ?_
      refine lv_istore (lv' := [(6, .int (iI 1)), (0, .ref o), (1, .int (iI k)), (2, .int (iI so)), (3, .int (iI i)), (4, .int (iI n)), (5, .int (iI wh))]) hx hb dX0_day_46 hl (by decide) rfl (fun ls hl => ?_)
      refine lv_aload_n hx hb dX0_day_48 rfl (lv_at hl 1 rfl) ?_
      refine t_new C hB (ci := 7) (fs := [.null, .int (iI 0), .int (iI 0), .int (iI 0), .int (iI 0), .null, .null]) rfl in_X5 tyX5_ok q1053 q1054 q79 dvX5 (Nat.le_of_ble_eq_true rfl) (Nat.le_of_ble_eq_true rfl) dX0_day_49 (fun q11 H hq12 hs13 hB => ?_)
      refine x_up (c2 := 1) (s2 := 7) (Nat.le_of_ble_eq_true rfl) (Nat.le_of_ble_eq_true rfl) ?_
      replace hB : xBB E (xA (wU w X) sz) s o Ad I F (va_up X q11 (some (xO 7 [.null, .int (iI 0), .int (iI 0), .int (iI 0), .int (iI 0), .null, .null]))) _ _ := hB
      refine lv_dup hx hb dX0_day_52 rfl ?_
      refine lv_aload_n hx hb dX0_day_53 rfl (lv_at hl 1 rfl) ?_
      refine lv_iload_n hx hb dX0_day_54 rfl (lv_at hl 2 rfl) ?_
      refine lv_iload_n hx hb dX0_day_55 rfl (lv_at hl 3 rfl) ?_
      refine lv_iload_n hx hb dX0_day_56 rfl (lv_at hl 4 rfl) ?_
      refine lv_iload hx hb dX0_day_57 (lv_at hl 0 rfl) ?_
      refine x_if_eq (tgt := 69) hx hb dX0_day_59 (by decide) ⟨by decide, by decide⟩ (fun c14 => by exfalso; omega) (fun c14 => ?_)
      obtain ⟨mm, rfl⟩ : ∃ mm : Nat, n = (mm : Int) := ⟨n.toNat, by omega⟩
      refine lv_iconst (v := iI 2) hx hb dX0_day_62 rfl ?_
      refine lv_iload hx hb dX0_day_63 (lv_at hl 5 rfl) ?_
      refine x_imul (z := 2 * (mm : Int)) hx hb dX0_day_65 (by omega) ?_
      refine lv_goto (tgt := 70) hx hb dX0_day_66 (by decide) ?_
      refine lv_aload_n hx hb dX0_day_70 rfl (lv_at hl 1 rfl) ?_
      refine lv_iload hx hb dX0_day_71 (lv_at hl 6 rfl) ?_
      refine t_lam2 (x := ⟨"BookPairs", "day", "(IIIII)I"⟩) (i := 9) (by decide) C hZ hB hnm (by decide +kernel) hl.1 (Nat.le_of_ble_eq_true rfl) (Nat.le_of_ble_eq_true rfl) (Nat.le_of_ble_eq_true rfl) dX0_day_73 (fun q15 H hq16 hB => ?_)
      have hne17 : q11 ≠ q15 := fun e => by cases (hq16.symm.trans ((congrArg _ e.symm).trans (va_up_s _ _ _)))
      refine x_up (c2 := 2) (s2 := 9) (Nat.le_of_ble_eq_true rfl) (Nat.le_of_ble_eq_true rfl) ?_
      replace hB : xBB E (xA (wU w X) sz) s o Ad I F (va_up (va_up X q11 (some (xO 7 [.null, .int (iI 0), .int (iI 0), .int (iI 0), .int (iI 0), .null, .null]))) q15 (some (.inr { cls := E.2 19, slots := #[.ref o, .int (iI wh)], vm := .none }))) _ _ := hB
      obtain ⟨wq, hIq, hdq, hB⟩ := hB
      refine g_callv 2 9 (Nat.le_of_ble_eq_true rfl) (Nat.le_of_ble_eq_true rfl) hB (rI (As := [.ref o, .int (iI k), .int (iI so), .int (iI i), .int (iI (2 * (mm : Int))), .ref q15]) (n := 6) C hZ hB (kX5_init l E (wU wq (va_up (va_up X q11 (some (xO 7 [.null, .int (iI 0), .int (iI 0), .int (iI 0), .int (iI 0), .null, .null]))) q15 (some (.inr { cls := E.2 19, slots := #[.ref o, .int (iI wh)], vm := .none })))) q11 o k so i (2 * (mm : Int)) q15 (wU_r hdq ((va_up_n _ _ hne17).trans (va_up_s _ _ _))) _) (lw_meth q1111) q79 q1109 q1110 rfl (by decide +kernel) ⟨Nat.le_of_ble_eq_true rfl, Nat.le_of_ble_eq_true rfl⟩ rfl hl.1 rfl (Nat.le_of_ble_eq_true rfl) dX0_day_78 ⟨Nat.le_of_ble_eq_true rfl, Nat.le_of_ble_eq_true rfl⟩) (fun w19 H locs hp21 hB => ?_)
      subst hp21
      rw [(hdq.put_t (xO 7 [.ref o, .int (iI k), .int (iI so), .int (iI i), .int (iI (2 * (mm : Int))), .ref q15, .ref o]) ((va_up_n _ _ hne17).trans (va_up_s _ _ _))).2] at hB
      replace hB : xBB E (xA (wU w X) sz) s o Ad I F (va_up (va_up (va_up X q11 (some (xO 7 [.null, .int (iI 0), .int (iI 0), .int (iI 0), .int (iI 0), .null, .null]))) q15 (some (.inr { cls := E.2 19, slots := #[.ref o, .int (iI wh)], vm := .none }))) q11 (some (xO 7 [.ref o, .int (iI k), .int (iI so), .int (iI i), .int (iI (2 * (mm : Int))), .ref q15, .ref o]))) _ _ := ⟨wq, hIq, (hdq.put_t _ ((va_up_n _ _ hne17).trans (va_up_s _ _ _))).1, hB⟩
      rw [up_aba] at hB
      replace hB : xBB E (xA (wU w X) sz) s o Ad I F (va_up (va_up X q15 (some (.inr { cls := E.2 19, slots := #[.ref o, .int (iI wh)], vm := .none }))) q11 (some (xO 7 [.ref o, .int (iI k), .int (iI so), .int (iI i), .int (iI (2 * (mm : Int))), .ref q15, .ref o]))) _ _ := hB
      refine lv_iload hx hb dX0_day_81 (lv_at hl 0 rfl) ?_
      refine b_calli 42 3209 (Nat.le_of_ble_eq_true rfl) (Nat.le_of_ble_eq_true rfl) hB (fun w hI hd hB => run_nx (rXV (As := [.ref q11, .int (iI 1)]) (n := 2) C hV hB (kX0_looked_D l hfl E o Ad I F (va_up (va_up X q15 (some (.inr { cls := E.2 19, slots := #[.ref o, .int (iI wh)], vm := .none }))) q11 (some (xO 7 [.ref o, .int (iI k), .int (iI so), .int (iI i), .int (iI (2 * (mm : Int))), .ref q15, .ref o]))) q11 q15 k so i mm wh (va_up_s _ _ _) ((va_up_n _ _ (Ne.symm hne17)).trans (va_up_s _ _ _)) hi0 (by omega) (by omega) hk0 hso0 hOK0 w hI hd _) (lw_V q1140 q1142 qs36 q68 q1143) (by decide +kernel) ⟨Nat.le_of_ble_eq_true rfl, Nat.le_of_ble_eq_true rfl⟩ (wU_l hI.x) rfl rfl rfl hl.1 rfl (Nat.le_of_ble_eq_true rfl) dX0_day_83 ⟨Nat.le_of_ble_eq_true rfl, Nat.le_of_ble_eq_true rfl⟩)) (fun z22 Ad23 I24 F25 X26 H locs hz27 hp28 hB => ?_)
      obtain ⟨hz27a, hz27b⟩ := hz27
      obtain ⟨hzv, hagm⟩ := hp28
      refine vx_ret ?_
      exact b_iret C hB hr hlocks rfl dX0_day_86 (Nat.le_of_ble_eq_true rfl) (Nat.le_of_ble_eq_true rfl) ⟨by omega, by omega⟩ ⟨hzv, hagm⟩
    · refine x_if_ne (tgt := 41) hx hb dX0_day_23 (by decide) ⟨by decide, by decide⟩ (fun c30 => by exfalso; omega) (fun c30 => ?_)
      refine lv_iload hx hb dX0_day_26 (lv_at hl 5 rfl) ?_
      refine x_i2l hx hb dX0_day_28 ⟨by omega, by omega⟩ ?_
      refine lv_ldc2 hx hb C.1.2.2.2.1 (C.1.2.2.2.2 _ q1216) dX0_day_29 ?_
      refine x_rwl (y := lI 10) (by decide) ?_
      refine lv_ldc2 hx hb C.1.2.2.2.1 (C.1.2.2.2.2 _ q1217) dX0_day_32 ?_
      refine x_rwl (y := lI 16) (by decide) ?_
      refine bs_calli (n := 3) C hB (As := [.long (lI wh), .long (lI 10), .long (lI 16)]) (kX0_in l E wh 10 16 ⟨by omega, by omega⟩ ⟨by omega, by omega⟩ ⟨by omega, by omega⟩) (lw_S q234 q235 q68 q236) (by decide +kernel) ⟨Nat.le_of_ble_eq_true rfl, Nat.le_of_ble_eq_true rfl⟩ rfl hl.1 rfl (Nat.le_of_ble_eq_true rfl) dX0_day_35 ⟨Nat.le_of_ble_eq_true rfl, Nat.le_of_ble_eq_true rfl⟩ (fun z31 H locs hz32 hp33 hB => ?_)
      obtain ⟨hz32a, hz32b⟩ := hz32
      rcases hp33 with ⟨rfl, h34⟩ | ⟨rfl, h34⟩
      · refine x_if_eq (tgt := 45) hx hb dX0_day_38 (by decide) ⟨by decide, by decide⟩ (fun c35 => by exfalso; omega) (fun c35 => ?_)
        refine lv_iconst (v := iI 1) hx hb dX0_day_41 rfl ?_
        refine lv_goto (tgt := 46) hx hb dX0_day_42 (by decide) ?_
        refine lv_istore (lv' := [(6, .int (iI 1)), (0, .ref o), (1, .int (iI k)), (2, .int (iI so)), (3, .int (iI i)), (4, .int (iI n)), (5, .int (iI wh))]) hx hb dX0_day_46 hl (by decide) rfl (fun ls hl => ?_)
        refine lv_aload_n hx hb dX0_day_48 rfl (lv_at hl 1 rfl) ?_
        refine t_new C hB (ci := 7) (fs := [.null, .int (iI 0), .int (iI 0), .int (iI 0), .int (iI 0), .null, .null]) rfl in_X5 tyX5_ok q1053 q1054 q79 dvX5 (Nat.le_of_ble_eq_true rfl) (Nat.le_of_ble_eq_true rfl) dX0_day_49 (fun q36 H hq37 hs38 hB => ?_)
        refine x_up (c2 := 1) (s2 := 7) (Nat.le_of_ble_eq_true rfl) (Nat.le_of_ble_eq_true rfl) ?_
        replace hB : xBB E (xA (wU w X) sz) s o Ad I F (va_up X q36 (some (xO 7 [.null, .int (iI 0), .int (iI 0), .int (iI 0), .int (iI 0), .null, .null]))) _ _ := hB
        refine lv_dup hx hb dX0_day_52 rfl ?_
        refine lv_aload_n hx hb dX0_day_53 rfl (lv_at hl 1 rfl) ?_
        refine lv_iload_n hx hb dX0_day_54 rfl (lv_at hl 2 rfl) ?_
        refine lv_iload_n hx hb dX0_day_55 rfl (lv_at hl 3 rfl) ?_
        refine lv_iload_n hx hb dX0_day_56 rfl (lv_at hl 4 rfl) ?_
        refine lv_iload hx hb dX0_day_57 (lv_at hl 0 rfl) ?_
        refine x_if_eq (tgt := 69) hx hb dX0_day_59 (by decide) ⟨by decide, by decide⟩ (fun c39 => by exfalso; omega) (fun c39 => ?_)
        obtain ⟨mm, rfl⟩ : ∃ mm : Nat, n = (mm : Int) := ⟨n.toNat, by omega⟩
        refine lv_iconst (v := iI 2) hx hb dX0_day_62 rfl ?_
        refine lv_iload hx hb dX0_day_63 (lv_at hl 5 rfl) ?_
        refine x_imul (z := 2 * (mm : Int)) hx hb dX0_day_65 (by omega) ?_
        refine lv_goto (tgt := 70) hx hb dX0_day_66 (by decide) ?_
        refine lv_aload_n hx hb dX0_day_70 rfl (lv_at hl 1 rfl) ?_
        refine lv_iload hx hb dX0_day_71 (lv_at hl 6 rfl) ?_
        refine t_lam2 (x := ⟨"BookPairs", "day", "(IIIII)I"⟩) (i := 9) (by decide) C hZ hB hnm (by decide +kernel) hl.1 (Nat.le_of_ble_eq_true rfl) (Nat.le_of_ble_eq_true rfl) (Nat.le_of_ble_eq_true rfl) dX0_day_73 (fun q40 H hq41 hB => ?_)
        have hne42 : q36 ≠ q40 := fun e => by cases (hq41.symm.trans ((congrArg _ e.symm).trans (va_up_s _ _ _)))
        refine x_up (c2 := 2) (s2 := 9) (Nat.le_of_ble_eq_true rfl) (Nat.le_of_ble_eq_true rfl) ?_
        replace hB : xBB E (xA (wU w X) sz) s o Ad I F (va_up (va_up X q36 (some (xO 7 [.null, .int (iI 0), .int (iI 0), .int (iI 0), .int (iI 0), .null, .null]))) q40 (some (.inr { cls := E.2 19, slots := #[.ref o, .int (iI wh)], vm := .none }))) _ _ := hB
        obtain ⟨wq, hIq, hdq, hB⟩ := hB
        refine g_callv 2 9 (Nat.le_of_ble_eq_true rfl) (Nat.le_of_ble_eq_true rfl) hB (rI (As := [.ref o, .int (iI k), .int (iI so), .int (iI i), .int (iI (2 * (mm : Int))), .ref q40]) (n := 6) C hZ hB (kX5_init l E (wU wq (va_up (va_up X q36 (some (xO 7 [.null, .int (iI 0), .int (iI 0), .int (iI 0), .int (iI 0), .null, .null]))) q40 (some (.inr { cls := E.2 19, slots := #[.ref o, .int (iI wh)], vm := .none })))) q36 o k so i (2 * (mm : Int)) q40 (wU_r hdq ((va_up_n _ _ hne42).trans (va_up_s _ _ _))) _) (lw_meth q1111) q79 q1109 q1110 rfl (by decide +kernel) ⟨Nat.le_of_ble_eq_true rfl, Nat.le_of_ble_eq_true rfl⟩ rfl hl.1 rfl (Nat.le_of_ble_eq_true rfl) dX0_day_78 ⟨Nat.le_of_ble_eq_true rfl, Nat.le_of_ble_eq_true rfl⟩) (fun w44 H locs hp46 hB => ?_)
        subst hp46
        rw [(hdq.put_t (xO 7 [.ref o, .int (iI k), .int (iI so), .int (iI i), .int (iI (2 * (mm : Int))), .ref q40, .ref o]) ((va_up_n _ _ hne42).trans (va_up_s _ _ _))).2] at hB
        replace hB : xBB E (xA (wU w X) sz) s o Ad I F (va_up (va_up (va_up X q36 (some (xO 7 [.null, .int (iI 0), .int (iI 0), .int (iI 0), .int (iI 0), .null, .null]))) q40 (some (.inr { cls := E.2 19, slots := #[.ref o, .int (iI wh)], vm := .none }))) q36 (some (xO 7 [.ref o, .int (iI k), .int (iI so), .int (iI i), .int (iI (2 * (mm : Int))), .ref q40, .ref o]))) _ _ := ⟨wq, hIq, (hdq.put_t _ ((va_up_n _ _ hne42).trans (va_up_s _ _ _))).1, hB⟩
        rw [up_aba] at hB
        replace hB : xBB E (xA (wU w X) sz) s o Ad I F (va_up (va_up X q40 (some (.inr { cls := E.2 19, slots := #[.ref o, .int (iI wh)], vm := .none }))) q36 (some (xO 7 [.ref o, .int (iI k), .int (iI so), .int (iI i), .int (iI (2 * (mm : Int))), .ref q40, .ref o]))) _ _ := hB
        refine lv_iload hx hb dX0_day_81 (lv_at hl 0 rfl) ?_
        refine b_calli 42 3209 (Nat.le_of_ble_eq_true rfl) (Nat.le_of_ble_eq_true rfl) hB (fun w hI hd hB => run_nx (rXV (As := [.ref q36, .int (iI 1)]) (n := 2) C hV hB (kX0_looked_D l hfl E o Ad I F (va_up (va_up X q40 (some (.inr { cls := E.2 19, slots := #[.ref o, .int (iI wh)], vm := .none }))) q36 (some (xO 7 [.ref o, .int (iI k), .int (iI so), .int (iI i), .int (iI (2 * (mm : Int))), .ref q40, .ref o]))) q36 q40 k so i mm wh (va_up_s _ _ _) ((va_up_n _ _ (Ne.symm hne42)).trans (va_up_s _ _ _)) hi0 (by omega) (by omega) hk0 hso0 hOK0 w hI hd _) (lw_V q1140 q1142 qs36 q68 q1143) (by decide +kernel) ⟨Nat.le_of_ble_eq_true rfl, Nat.le_of_ble_eq_true rfl⟩ (wU_l hI.x) rfl rfl rfl hl.1 rfl (Nat.le_of_ble_eq_true rfl) dX0_day_83 ⟨Nat.le_of_ble_eq_true rfl, Nat.le_of_ble_eq_true rfl⟩)) (fun z47 Ad48 I49 F50 X51 H locs hz52 hp53 hB => ?_)
        obtain ⟨hz52a, hz52b⟩ := hz52
        obtain ⟨hzv, hagm⟩ := hp53
        refine vx_ret ?_
        exact b_iret C hB hr hlocks rfl dX0_day_86 (Nat.le_of_ble_eq_true rfl) (Nat.le_of_ble_eq_true rfl) ⟨by omega, by omega⟩ ⟨hzv, hagm⟩
      · refine x_if_eq (tgt := 45) hx hb dX0_day_38 (by decide) ⟨by decide, by decide⟩ (fun c55 => ?_) (fun c55 => by exfalso; omega)
        refine lv_iconst (v := iI 0) hx hb dX0_day_45 rfl ?_
        refine lv_istore (lv' := [(6, .int (iI 0)), (0, .ref o), (1, .int (iI k)), (2, .int (iI so)), (3, .int (iI i)), (4, .int (iI n)), (5, .int (iI wh))]) hx hb dX0_day_46 hl (by decide) rfl (fun ls hl => ?_)
        refine lv_aload_n hx hb dX0_day_48 rfl (lv_at hl 1 rfl) ?_
        refine t_new C hB (ci := 7) (fs := [.null, .int (iI 0), .int (iI 0), .int (iI 0), .int (iI 0), .null, .null]) rfl in_X5 tyX5_ok q1053 q1054 q79 dvX5 (Nat.le_of_ble_eq_true rfl) (Nat.le_of_ble_eq_true rfl) dX0_day_49 (fun q56 H hq57 hs58 hB => ?_)
        refine x_up (c2 := 1) (s2 := 7) (Nat.le_of_ble_eq_true rfl) (Nat.le_of_ble_eq_true rfl) ?_
        replace hB : xBB E (xA (wU w X) sz) s o Ad I F (va_up X q56 (some (xO 7 [.null, .int (iI 0), .int (iI 0), .int (iI 0), .int (iI 0), .null, .null]))) _ _ := hB
        refine lv_dup hx hb dX0_day_52 rfl ?_
        refine lv_aload_n hx hb dX0_day_53 rfl (lv_at hl 1 rfl) ?_
        refine lv_iload_n hx hb dX0_day_54 rfl (lv_at hl 2 rfl) ?_
        refine lv_iload_n hx hb dX0_day_55 rfl (lv_at hl 3 rfl) ?_
        refine lv_iload_n hx hb dX0_day_56 rfl (lv_at hl 4 rfl) ?_
        refine lv_iload hx hb dX0_day_57 (lv_at hl 0 rfl) ?_
        refine x_if_eq (tgt := 69) hx hb dX0_day_59 (by decide) ⟨by decide, by decide⟩ (fun c59 => ?_) (fun c59 => by exfalso; omega)
        refine lv_iconst (v := iI 0) hx hb dX0_day_69 rfl ?_
        refine lv_aload_n hx hb dX0_day_70 rfl (lv_at hl 1 rfl) ?_
        refine lv_iload hx hb dX0_day_71 (lv_at hl 6 rfl) ?_
        refine t_lam2 (x := ⟨"BookPairs", "day", "(IIIII)I"⟩) (i := 9) (by decide) C hZ hB hnm (by decide +kernel) hl.1 (Nat.le_of_ble_eq_true rfl) (Nat.le_of_ble_eq_true rfl) (Nat.le_of_ble_eq_true rfl) dX0_day_73 (fun q60 H hq61 hB => ?_)
        have hne62 : q56 ≠ q60 := fun e => by cases (hq61.symm.trans ((congrArg _ e.symm).trans (va_up_s _ _ _)))
        refine x_up (c2 := 2) (s2 := 9) (Nat.le_of_ble_eq_true rfl) (Nat.le_of_ble_eq_true rfl) ?_
        replace hB : xBB E (xA (wU w X) sz) s o Ad I F (va_up (va_up X q56 (some (xO 7 [.null, .int (iI 0), .int (iI 0), .int (iI 0), .int (iI 0), .null, .null]))) q60 (some (.inr { cls := E.2 19, slots := #[.ref o, .int (iI wh)], vm := .none }))) _ _ := hB
        obtain ⟨wq, hIq, hdq, hB⟩ := hB
        refine g_callv 2 9 (Nat.le_of_ble_eq_true rfl) (Nat.le_of_ble_eq_true rfl) hB (rI (As := [.ref o, .int (iI k), .int (iI so), .int (iI i), .int (iI 0), .ref q60]) (n := 6) C hZ hB (kX5_init l E (wU wq (va_up (va_up X q56 (some (xO 7 [.null, .int (iI 0), .int (iI 0), .int (iI 0), .int (iI 0), .null, .null]))) q60 (some (.inr { cls := E.2 19, slots := #[.ref o, .int (iI wh)], vm := .none })))) q56 o k so i 0 q60 (wU_r hdq ((va_up_n _ _ hne62).trans (va_up_s _ _ _))) _) (lw_meth q1111) q79 q1109 q1110 rfl (by decide +kernel) ⟨Nat.le_of_ble_eq_true rfl, Nat.le_of_ble_eq_true rfl⟩ rfl hl.1 rfl (Nat.le_of_ble_eq_true rfl) dX0_day_78 ⟨Nat.le_of_ble_eq_true rfl, Nat.le_of_ble_eq_true rfl⟩) (fun w64 H locs hp66 hB => ?_)
        subst hp66
        rw [(hdq.put_t (xO 7 [.ref o, .int (iI k), .int (iI so), .int (iI i), .int (iI 0), .ref q60, .ref o]) ((va_up_n _ _ hne62).trans (va_up_s _ _ _))).2] at hB
        replace hB : xBB E (xA (wU w X) sz) s o Ad I F (va_up (va_up (va_up X q56 (some (xO 7 [.null, .int (iI 0), .int (iI 0), .int (iI 0), .int (iI 0), .null, .null]))) q60 (some (.inr { cls := E.2 19, slots := #[.ref o, .int (iI wh)], vm := .none }))) q56 (some (xO 7 [.ref o, .int (iI k), .int (iI so), .int (iI i), .int (iI 0), .ref q60, .ref o]))) _ _ := ⟨wq, hIq, (hdq.put_t _ ((va_up_n _ _ hne62).trans (va_up_s _ _ _))).1, hB⟩
        rw [up_aba] at hB
        replace hB : xBB E (xA (wU w X) sz) s o Ad I F (va_up (va_up X q60 (some (.inr { cls := E.2 19, slots := #[.ref o, .int (iI wh)], vm := .none }))) q56 (some (xO 7 [.ref o, .int (iI k), .int (iI so), .int (iI i), .int (iI 0), .ref q60, .ref o]))) _ _ := hB
        refine lv_iload hx hb dX0_day_81 (lv_at hl 0 rfl) ?_
        refine b_calli 2 9 (Nat.le_of_ble_eq_true rfl) (Nat.le_of_ble_eq_true rfl) hB (fun w hI hd hB => run_nx (rXV (As := [.ref q56, .int (iI 0)]) (n := 2) C hV hB (kX0_looked_0 l hfl E o Ad I F (va_up (va_up X q60 (some (.inr { cls := E.2 19, slots := #[.ref o, .int (iI wh)], vm := .none }))) q56 (some (xO 7 [.ref o, .int (iI k), .int (iI so), .int (iI i), .int (iI 0), .ref q60, .ref o]))) q56 q60 k so i 0 (va_up_s _ _ _) hk0 hso0 hOK0 w hI hd _) (lw_V q1140 q1142 qs36 q68 q1143) (by decide +kernel) ⟨Nat.le_of_ble_eq_true rfl, Nat.le_of_ble_eq_true rfl⟩ (wU_l hI.x) rfl rfl rfl hl.1 rfl (Nat.le_of_ble_eq_true rfl) dX0_day_83 ⟨Nat.le_of_ble_eq_true rfl, Nat.le_of_ble_eq_true rfl⟩)) (fun z67 Ad68 I69 F70 X71 H locs hz72 hp73 hB => ?_)
        obtain ⟨hz72a, hz72b⟩ := hz72
        obtain ⟨rfl, rfl, rfl, hzv⟩ := hp73
        replace hB : xBB E (xA (wU w X) sz) s o Ad (fI I 0) F X71 _ _ := hB
        refine vx_ret ?_
        exact b_iret C hB hr hlocks rfl dX0_day_86 (Nat.le_of_ble_eq_true rfl) (Nat.le_of_ble_eq_true rfl) ⟨by omega, by omega⟩ (dy_0 (by omega) hzv)
  · refine x_if_eq (tgt := 45) hx hb dX0_day_10 (by decide) ⟨by decide, by decide⟩ (fun c75 => ?_) (fun c75 => by exfalso; omega)
    refine lv_iconst (v := iI 0) hx hb dX0_day_45 rfl ?_
    refine lv_istore (lv' := [(6, .int (iI 0)), (0, .ref o), (1, .int (iI k)), (2, .int (iI so)), (3, .int (iI i)), (4, .int (iI n)), (5, .int (iI wh))]) hx hb dX0_day_46 hl (by decide) rfl (fun ls hl => ?_)
    refine lv_aload_n hx hb dX0_day_48 rfl (lv_at hl 1 rfl) ?_
    refine t_new C hB (ci := 7) (fs := [.null, .int (iI 0), .int (iI 0), .int (iI 0), .int (iI 0), .null, .null]) rfl in_X5 tyX5_ok q1053 q1054 q79 dvX5 (Nat.le_of_ble_eq_true rfl) (Nat.le_of_ble_eq_true rfl) dX0_day_49 (fun q76 H hq77 hs78 hB => ?_)
    refine x_up (c2 := 1) (s2 := 7) (Nat.le_of_ble_eq_true rfl) (Nat.le_of_ble_eq_true rfl) ?_
    replace hB : xBB E (xA (wU w X) sz) s o Ad I F (va_up X q76 (some (xO 7 [.null, .int (iI 0), .int (iI 0), .int (iI 0), .int (iI 0), .null, .null]))) _ _ := hB
    refine lv_dup hx hb dX0_day_52 rfl ?_
    refine lv_aload_n hx hb dX0_day_53 rfl (lv_at hl 1 rfl) ?_
    refine lv_iload_n hx hb dX0_day_54 rfl (lv_at hl 2 rfl) ?_
    refine lv_iload_n hx hb dX0_day_55 rfl (lv_at hl 3 rfl) ?_
    refine lv_iload_n hx hb dX0_day_56 rfl (lv_at hl 4 rfl) ?_
    refine lv_iload hx hb dX0_day_57 (lv_at hl 0 rfl) ?_
    refine x_if_eq (tgt := 69) hx hb dX0_day_59 (by decide) ⟨by decide, by decide⟩ (fun c79 => ?_) (fun c79 => by exfalso; omega)
    refine lv_iconst (v := iI 0) hx hb dX0_day_69 rfl ?_
    refine lv_aload_n hx hb dX0_day_70 rfl (lv_at hl 1 rfl) ?_
    refine lv_iload hx hb dX0_day_71 (lv_at hl 6 rfl) ?_
    refine t_lam2 (x := ⟨"BookPairs", "day", "(IIIII)I"⟩) (i := 9) (by decide) C hZ hB hnm (by decide +kernel) hl.1 (Nat.le_of_ble_eq_true rfl) (Nat.le_of_ble_eq_true rfl) (Nat.le_of_ble_eq_true rfl) dX0_day_73 (fun q80 H hq81 hB => ?_)
    have hne82 : q76 ≠ q80 := fun e => by cases (hq81.symm.trans ((congrArg _ e.symm).trans (va_up_s _ _ _)))
    refine x_up (c2 := 2) (s2 := 9) (Nat.le_of_ble_eq_true rfl) (Nat.le_of_ble_eq_true rfl) ?_
    replace hB : xBB E (xA (wU w X) sz) s o Ad I F (va_up (va_up X q76 (some (xO 7 [.null, .int (iI 0), .int (iI 0), .int (iI 0), .int (iI 0), .null, .null]))) q80 (some (.inr { cls := E.2 19, slots := #[.ref o, .int (iI wh)], vm := .none }))) _ _ := hB
    obtain ⟨wq, hIq, hdq, hB⟩ := hB
    refine g_callv 2 9 (Nat.le_of_ble_eq_true rfl) (Nat.le_of_ble_eq_true rfl) hB (rI (As := [.ref o, .int (iI k), .int (iI so), .int (iI i), .int (iI 0), .ref q80]) (n := 6) C hZ hB (kX5_init l E (wU wq (va_up (va_up X q76 (some (xO 7 [.null, .int (iI 0), .int (iI 0), .int (iI 0), .int (iI 0), .null, .null]))) q80 (some (.inr { cls := E.2 19, slots := #[.ref o, .int (iI wh)], vm := .none })))) q76 o k so i 0 q80 (wU_r hdq ((va_up_n _ _ hne82).trans (va_up_s _ _ _))) _) (lw_meth q1111) q79 q1109 q1110 rfl (by decide +kernel) ⟨Nat.le_of_ble_eq_true rfl, Nat.le_of_ble_eq_true rfl⟩ rfl hl.1 rfl (Nat.le_of_ble_eq_true rfl) dX0_day_78 ⟨Nat.le_of_ble_eq_true rfl, Nat.le_of_ble_eq_true rfl⟩) (fun w84 H locs hp86 hB => ?_)
    subst hp86
    rw [(hdq.put_t (xO 7 [.ref o, .int (iI k), .int (iI so), .int (iI i), .int (iI 0), .ref q80, .ref o]) ((va_up_n _ _ hne82).trans (va_up_s _ _ _))).2] at hB
    replace hB : xBB E (xA (wU w X) sz) s o Ad I F (va_up (va_up (va_up X q76 (some (xO 7 [.null, .int (iI 0), .int (iI 0), .int (iI 0), .int (iI 0), .null, .null]))) q80 (some (.inr { cls := E.2 19, slots := #[.ref o, .int (iI wh)], vm := .none }))) q76 (some (xO 7 [.ref o, .int (iI k), .int (iI so), .int (iI i), .int (iI 0), .ref q80, .ref o]))) _ _ := ⟨wq, hIq, (hdq.put_t _ ((va_up_n _ _ hne82).trans (va_up_s _ _ _))).1, hB⟩
    rw [up_aba] at hB
    replace hB : xBB E (xA (wU w X) sz) s o Ad I F (va_up (va_up X q80 (some (.inr { cls := E.2 19, slots := #[.ref o, .int (iI wh)], vm := .none }))) q76 (some (xO 7 [.ref o, .int (iI k), .int (iI so), .int (iI i), .int (iI 0), .ref q80, .ref o]))) _ _ := hB
    refine lv_iload hx hb dX0_day_81 (lv_at hl 0 rfl) ?_
    refine b_calli 2 9 (Nat.le_of_ble_eq_true rfl) (Nat.le_of_ble_eq_true rfl) hB (fun w hI hd hB => run_nx (rXV (As := [.ref q76, .int (iI 0)]) (n := 2) C hV hB (kX0_looked_0 l hfl E o Ad I F (va_up (va_up X q80 (some (.inr { cls := E.2 19, slots := #[.ref o, .int (iI wh)], vm := .none }))) q76 (some (xO 7 [.ref o, .int (iI k), .int (iI so), .int (iI i), .int (iI 0), .ref q80, .ref o]))) q76 q80 k so i 0 (va_up_s _ _ _) hk0 hso0 hOK0 w hI hd _) (lw_V q1140 q1142 qs36 q68 q1143) (by decide +kernel) ⟨Nat.le_of_ble_eq_true rfl, Nat.le_of_ble_eq_true rfl⟩ (wU_l hI.x) rfl rfl rfl hl.1 rfl (Nat.le_of_ble_eq_true rfl) dX0_day_83 ⟨Nat.le_of_ble_eq_true rfl, Nat.le_of_ble_eq_true rfl⟩)) (fun z87 Ad88 I89 F90 X91 H locs hz92 hp93 hB => ?_)
    obtain ⟨hz92a, hz92b⟩ := hz92
    obtain ⟨rfl, rfl, rfl, hzv⟩ := hp93
    replace hB : xBB E (xA (wU w X) sz) s o Ad (fI I 0) F X91 _ _ := hB
    refine vx_ret ?_
    exact b_iret C hB hr hlocks rfl dX0_day_86 (Nat.le_of_ble_eq_true rfl) (Nat.le_of_ble_eq_true rfl) ⟨by omega, by omega⟩ (dy_0 (by omega) hzv)
