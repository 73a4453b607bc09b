/-! THE COMPONENT: acts (the walks are printed) -/
set_option maxRecDepth 100000
theorem lnN_ne {a b : Int} (ha : 0 ≤ a ∧ a ≤ 2) (hb : 0 ≤ b ∧ b ≤ 2) (h : a ≠ b) : lnN a ≠ lnN b := by
  rcases (show a = 0 ∨ a = 1 ∨ a = 2 by omega) with rfl | rfl | rfl <;> rcases (show b = 0 ∨ b = 1 ∨ b = 2 by omega) with rfl | rfl | rfl <;> first | exact absurd rfl h | decide +kernel
theorem rowF_q {F : Nat → Nat → Int} {k q : Nat} (h : (q : Int) < F 3 k) : rowF F k q = F 4 (60 * k + q) := by
  unfold rowF
  rw [if_pos h]
theorem cpy_out {f : Nat → Int} {sp dp n x : Nat} (h : ¬ (dp ≤ x ∧ x < dp + n)) : va_cpy f f sp dp n x = f x := if_neg h
theorem cpy_row {F : Nat → Nat → Int} {k k2 i j n : Nat} (hi : (i : Int) + n ≤ F 3 k) : ∀ q, q < (F 3 k2).toNat → va_cpy (rowF F k) (rowF F k2) i j n q = va_cpy (F 4) (F 4) (60 * k + i) (60 * k2 + j) n (60 * k2 + q) := by
  intro q hq
  unfold va_cpy
  by_cases h : j ≤ q ∧ q < j + n
  · rw [if_pos h, if_pos (by omega)]
    unfold rowF
    rw [if_pos (by omega)]
    congr 1
    omega
  · rw [if_neg h, if_neg (by omega)]
    unfold rowF
    rw [if_pos (by omega)]
set_option maxHeartbeats 800000 in
set_option maxRecDepth 100000 in
theorem kX5_done_B (l : Launch) (hfl : l.stackTraces = false) (E : xE) (o : Nat) (Ad : Nat → Nat) (I : Nat → Int) (F : Nat → Nat → Int) (X : xw) (a : Nat) (rd : Nat) (k : Nat) (so : Int) (i : Int) (n : Int) (ha : X a = some (xO 7 [.ref o, .int (iI ((k : Int))), .int (iI so), .int (iI i), .int (iI n), .ref rd, .ref o])) (hrd : X rd = some (lamE E o 8)) (hk : k < 4) (hso : 0 ≤ so ∧ so ≤ 2) (hi : rg i) (hn : rg n) (hOK : mOK I F) : yi_ l E yX5_done (ws_ yX5_done cX5_done 1 (some .int)) 11 10368 40 3100 [.ref a] o Ad I F X (fun z Ad' I' F' X' => agn F k so i n = 0 ∧ mAg (nbI I (txt F (k : Int) i n) n.toNat) (nbF F (txt F (k : Int) i n) n.toNat) I' F' ∧ z = rText (txt F (k : Int) i n) n.toNat) (fun En Ad' I' F' X' => Ad = Ad' ∧ I = I' ∧ F = F' ∧ X = X' ∧ (((agn F k so i n = 1) ∧ En = "java/lang/NullPointerException") ∨ ((agn F k so i n = 2) ∧ En = "java/lang/ClassCastException") ∨ ((agn F k so i n = 4) ∧ En = "java/lang/NegativeArraySizeException") ∨ ((agn F k so i n = 3) ∧ En = "java/lang/IndexOutOfBoundsException"))) := by
  intro w hI hd sz
  refine x_bodyx (by decide) (Nat.le_of_ble_eq_true rfl) ?_
  intro p e s m args below meth c ls hx hb C hr hlocks hout hsz hV hB hl
  have hZ := hV.1
  have C : xC E p s m args c cX5_done 1 RX5 := C
  replace hB : xBB E (xA (wU w X) sz) s o Ad I F X s.heap [] := ⟨w, hI, hd, hB⟩
  have hl : lv_has ls 1 [(0, .ref a)] := hl
  have hOK0 := hOK
  obtain ⟨⟨hf1, hf2⟩, ⟨hl1, hl2⟩, ⟨hr1, hr2⟩, hlr, ⟨hs1, hs2⟩, ⟨hj1, hj2⟩, ⟨hb1, hb2⟩, ⟨hn1, hn2⟩, hL, hR, hN, hS, hC⟩ := hOK
  obtain ⟨hi1, hi2⟩ := hi
  obtain ⟨hn1, hn2⟩ := hn
  have h60 : ∀ k : Nat, k < 4 → F 3 k ≤ 60 := fun k hk => (hS k hk).2.2
  have hk60 := h60 k hk
  refine lv_aload_n hx hb dX5_done_0 rfl (lv_at hl 0 rfl) ?_
  refine t_get C hB ha rfl in_X5 5 (by decide) q1122 (fun x h => h) (v := .ref rd) rfl dX5_done_1 ?_
  refine lv_aload_n hx hb dX5_done_4 rfl (lv_at hl 0 rfl) ?_
  refine t_get C hB ha rfl in_X5 6 (by decide) q1123 (fun x h => h) (v := .ref o) rfl dX5_done_5 ?_
  refine lv_aload_n hx hb dX5_done_8 rfl (lv_at hl 0 rfl) ?_
  refine t_get C hB ha rfl in_X5 1 (by decide) q1116 (fun x h => h) (v := .int (iI ((k : Int)))) rfl dX5_done_9 ?_
  refine b_callq 0 0 (Nat.le_of_ble_eq_true rfl) (Nat.le_of_ble_eq_true rfl) hB (fun w hI hd hB => rVN (As := [.int (iI ((k : Int)))]) (n := 1) C hZ hB (kX0_rowIn l E o Ad I F X k (by omega) w hI hd _) q1179 qs31 q1040 q68 q1041 (by decide +kernel) ⟨Nat.le_of_ble_eq_true rfl, Nat.le_of_ble_eq_true rfl⟩ (wU_l hI.x) rfl rfl rfl hl.1 rfl (Nat.le_of_ble_eq_true rfl) dX5_done_12 ⟨Nat.le_of_ble_eq_true rfl, Nat.le_of_ble_eq_true rfl⟩) (fun z1 Ad2 I3 F4 X5 H locs hp7 hB => ?_)
  obtain ⟨rfl, rfl, rfl, rfl, ⟨hs9, rfl⟩ | ⟨hs9, rfl⟩⟩ := hp7
  · refine lv_aload_n hx hb dX5_done_15 rfl (lv_at hl 0 rfl) ?_
    refine t_get C hB ha rfl in_X5 2 (by decide) q1118 (fun x h => h) (v := .int (iI so)) rfl dX5_done_16 ?_
    refine lv_aload_n hx hb dX5_done_19 rfl (lv_at hl 0 rfl) ?_
    refine t_get C hB ha rfl in_X5 3 (by decide) q1120 (fun x h => h) (v := .int (iI i)) rfl dX5_done_20 ?_
    refine lv_aload_n hx hb dX5_done_23 rfl (lv_at hl 0 rfl) ?_
    refine t_get C hB ha rfl in_X5 4 (by decide) q1121 (fun x h => h) (v := .int (iI n)) rfl dX5_done_24 ?_
    obtain ⟨wq, hIq, hdq, hB⟩ := hB
    refine g_callXq 12 2900 (Nat.le_of_ble_eq_true rfl) (Nat.le_of_ble_eq_true rfl) hB (rXSN (As := [.null, .int (iI so), .int (iI i), .int (iI n)]) (n := 4) C hV hB (kX0_cellsOf l hfl E (wU wq X) none 0 0 (fun _ => 0) so i n (Or.inl rfl) (by omega) (by omega) (by omega) ⟨by omega, by omega⟩ ⟨by omega, by omega⟩ (fun j hj => by omega) _) q1180 q1181 q68 q1182 (by decide +kernel) ⟨Nat.le_of_ble_eq_true rfl, Nat.le_of_ble_eq_true rfl⟩ rfl hl.1 rfl (Nat.le_of_ble_eq_true rfl) dX5_done_27 ⟨Nat.le_of_ble_eq_true rfl, Nat.le_of_ble_eq_true rfl⟩) (fun En qx12 w9 H locs hp11 hB hE => ?_) (fun z8 w9 H locs hp11 hB => ?_)
    · obtain ⟨rfl, hp11⟩ := hp11
      replace hB : xBB E (xA (wU w X) sz) s o Ad I F X _ _ := ⟨wq, hIq, hdq, hB⟩
      rcases hp11 with ⟨hp11, rfl⟩ | ⟨hp11, rfl⟩ | ⟨hp11, rfl⟩ | ⟨hp11, rfl⟩
      · exact b_out hB hE hout hlocks ⟨rfl, rfl, rfl, rfl, (Or.inl ⟨(agn_1 hs9), rfl⟩)⟩ (Nat.le_of_ble_eq_true rfl) (Nat.le_of_ble_eq_true rfl)
      · exact absurd rfl hp11.1
      · exact absurd rfl hp11.1
      · exact absurd rfl hp11.1
    · exact absurd rfl hp11.1
  · refine lv_aload_n hx hb dX5_done_15 rfl (lv_at hl 0 rfl) ?_
    refine t_get C hB ha rfl in_X5 2 (by decide) q1118 (fun x h => h) (v := .int (iI so)) rfl dX5_done_16 ?_
    refine lv_aload_n hx hb dX5_done_19 rfl (lv_at hl 0 rfl) ?_
    refine t_get C hB ha rfl in_X5 3 (by decide) q1120 (fun x h => h) (v := .int (iI i)) rfl dX5_done_20 ?_
    refine lv_aload_n hx hb dX5_done_23 rfl (lv_at hl 0 rfl) ?_
    refine t_get C hB ha rfl in_X5 4 (by decide) q1121 (fun x h => h) (v := .int (iI n)) rfl dX5_done_24 ?_
    obtain ⟨wq, hIq, hdq, hB⟩ := hB
    refine g_callXq 12 2900 (Nat.le_of_ble_eq_true rfl) (Nat.le_of_ble_eq_true rfl) hB (rXSN (As := [.ref (Ad (310 + k)), .int (iI so), .int (iI i), .int (iI n)]) (n := 4) C hV hB (kX0_cellsOf l hfl E (wU wq X) (some (Ad (310 + k))) (F 2 k) (F 3 k) (rowF F k) so i n (Or.inr ⟨_, rfl, wU_l (hIq.at (C0_row (by omega) hs9))⟩) (by have := hS k (by omega); omega) (hS k (by omega)).2 (by omega) ⟨by omega, by omega⟩ ⟨by omega, by omega⟩ (rowF_rg hC (by omega) (h60 k (by omega))) _) q1180 q1181 q68 q1182 (by decide +kernel) ⟨Nat.le_of_ble_eq_true rfl, Nat.le_of_ble_eq_true rfl⟩ rfl hl.1 rfl (Nat.le_of_ble_eq_true rfl) dX5_done_27 ⟨Nat.le_of_ble_eq_true rfl, Nat.le_of_ble_eq_true rfl⟩) (fun En qx17 w14 H locs hp16 hB hE => ?_) (fun z13 w14 H locs hp16 hB => ?_)
    · obtain ⟨rfl, hp16⟩ := hp16
      replace hB : xBB E (xA (wU w X) sz) s o Ad I F X _ _ := ⟨wq, hIq, hdq, hB⟩
      rcases hp16 with ⟨hp16, rfl⟩ | ⟨hp16, rfl⟩ | ⟨hp16, rfl⟩ | ⟨hp16, rfl⟩
      · cases hp16
      · exact b_out hB hE hout hlocks ⟨rfl, rfl, rfl, rfl, (Or.inr (Or.inl ⟨(agn_2 hs9 hp16.2), rfl⟩))⟩ (Nat.le_of_ble_eq_true rfl) (Nat.le_of_ble_eq_true rfl)
      · exact b_out hB hE hout hlocks ⟨rfl, rfl, rfl, rfl, (Or.inr (Or.inr (Or.inl ⟨(agn_4 hs9 hp16.2.1 hp16.2.2), rfl⟩)))⟩ (Nat.le_of_ble_eq_true rfl) (Nat.le_of_ble_eq_true rfl)
      · exact b_out hB hE hout hlocks ⟨rfl, rfl, rfl, rfl, (Or.inr (Or.inr (Or.inr (⟨(agn_3 hs9 hp16.2.1 hp16.2.2.1 (hS k hk).2 hp16.2.2.2), rfl⟩))))⟩ (Nat.le_of_ble_eq_true rfl) (Nat.le_of_ble_eq_true rfl)
    · obtain ⟨hrn, hlt, ⟨hn1, hn2, hi1, hi2⟩, q18, g9, rfl, hq19, rfl, hg9⟩ := hp16
      obtain ⟨hq19a, hq19b⟩ := wU_n hq19
      replace hB := hB.arrI (va_up_s _ _ _) (g := gC F k i n) (gC_of hi1 hn1 (by omega) hg9)
      rw [bx_uu, wU_up_r hq19a] at hB
      have hne20 : a ≠ q18 := fun e => by cases (hq19b.symm.trans ((congrArg _ e.symm).trans ha))
      have hne21 : rd ≠ q18 := fun e => by cases (hq19b.symm.trans ((congrArg _ e.symm).trans hrd))
      replace hB : xBB E (xA (wU w X) sz) s o Ad I F (va_up X q18 (some (xI E n.toNat ((gC F k i n))))) _ _ := ⟨wq, hIq, hdq.put_r hq19a, hB⟩
      refine b_readC l C hZ hB ((va_up_n _ _ hne21).trans hrd) (va_up_s _ _ _) (by omega) (gC_rg hC hk (by omega) (by omega)) hOK0 q1202 ⟨Nat.le_of_ble_eq_true rfl, Nat.le_of_ble_eq_true rfl⟩ hl.1 (Nat.le_of_ble_eq_true rfl) dX5_done_30 ⟨Nat.le_of_ble_eq_true rfl, Nat.le_of_ble_eq_true rfl⟩ (fun z22 Ad1 I1 F1 X1 H locs hz23 hag hzv hB => ?_)
      obtain ⟨hz23a, hz23b⟩ := hz23
      rw [xt_gC (by omega)] at hag hzv
      refine vx_ret ?_
      exact b_iret C hB hr hlocks rfl dX5_done_35 (Nat.le_of_ble_eq_true rfl) (Nat.le_of_ble_eq_true rfl) ⟨by omega, by omega⟩ ⟨agn_0 hs9 hlt (by omega) ⟨by omega, by omega⟩, hag, hzv⟩
set_option maxHeartbeats 800000 in
set_option maxRecDepth 100000 in
theorem kX5_done_D (l : Launch) (hfl : l.stackTraces = false) (E : xE) (o : Nat) (Ad : Nat → Nat) (I : Nat → Int) (F : Nat → Nat → Int) (X : xw) (a : Nat) (rd : Nat) (k : Nat) (so : Int) (i : Int) (mm : Nat) (wh : Int) (ha : X a = some (xO 7 [.ref o, .int (iI ((k : Int))), .int (iI so), .int (iI i), .int (iI (2 * (mm : Int))), .ref rd, .ref o])) (hrd : X rd = some (.inr { cls := E.2 19, slots := #[.ref o, .int (iI wh)], vm := .none })) (hk : k < 4) (hso : 0 ≤ so ∧ so ≤ 2) (hi : rg i) (hm : mm ≤ 20) (hwh : (0 ≤ wh ∧ wh ≤ 4) ∨ (10 ≤ wh ∧ wh ≤ 16)) (hOK : mOK I F) : yi_ l E yX5_done (ws_ yX5_done cX5_done 1 (some .int)) 16 10368 40 3100 [.ref a] o Ad I F X (fun z Ad' I' F' X' => agn F k so i (2 * (mm : Int)) = 0 ∧ mAg I F I' F' ∧ z = rDayB I F (gC F k i (2 * (mm : Int))) mm wh) (fun En Ad' I' F' X' => Ad = Ad' ∧ I = I' ∧ F = F' ∧ X = X' ∧ (((agn F k so i (2 * (mm : Int)) = 1) ∧ En = "java/lang/NullPointerException") ∨ ((agn F k so i (2 * (mm : Int)) = 2) ∧ En = "java/lang/ClassCastException") ∨ ((agn F k so i (2 * (mm : Int)) = 4) ∧ En = "java/lang/NegativeArraySizeException") ∨ ((agn F k so i (2 * (mm : Int)) = 3) ∧ En = "java/lang/IndexOutOfBoundsException"))) := by
  intro w hI hd sz
  refine x_bodyx (by decide) (Nat.le_of_ble_eq_true rfl) ?_
  intro p e s m args below meth c ls hx hb C hr hlocks hout hsz hV hB hl
  have hZ := hV.1
  have C : xC E p s m args c cX5_done 1 RX5 := C
  replace hB : xBB E (xA (wU w X) sz) s o Ad I F X s.heap [] := ⟨w, hI, hd, hB⟩
  have hl : lv_has ls 1 [(0, .ref a)] := hl
  have hOK0 := hOK
  obtain ⟨⟨hf1, hf2⟩, ⟨hl1, hl2⟩, ⟨hr1, hr2⟩, hlr, ⟨hs1, hs2⟩, ⟨hj1, hj2⟩, ⟨hb1, hb2⟩, ⟨hn1, hn2⟩, hL, hR, hN, hS, hC⟩ := hOK
  obtain ⟨hi1, hi2⟩ := hi
  have h60 : ∀ k : Nat, k < 4 → F 3 k ≤ 60 := fun k hk => (hS k hk).2.2
  have hk60 := h60 k hk
  refine lv_aload_n hx hb dX5_done_0 rfl (lv_at hl 0 rfl) ?_
  refine t_get C hB ha rfl in_X5 5 (by decide) q1122 (fun x h => h) (v := .ref rd) rfl dX5_done_1 ?_
  refine lv_aload_n hx hb dX5_done_4 rfl (lv_at hl 0 rfl) ?_
  refine t_get C hB ha rfl in_X5 6 (by decide) q1123 (fun x h => h) (v := .ref o) rfl dX5_done_5 ?_
  refine lv_aload_n hx hb dX5_done_8 rfl (lv_at hl 0 rfl) ?_
  refine t_get C hB ha rfl in_X5 1 (by decide) q1116 (fun x h => h) (v := .int (iI ((k : Int)))) rfl dX5_done_9 ?_
  refine b_callq 0 0 (Nat.le_of_ble_eq_true rfl) (Nat.le_of_ble_eq_true rfl) hB (fun w hI hd hB => rVN (As := [.int (iI ((k : Int)))]) (n := 1) C hZ hB (kX0_rowIn l E o Ad I F X k (by omega) w hI hd _) q1179 qs31 q1040 q68 q1041 (by decide +kernel) ⟨Nat.le_of_ble_eq_true rfl, Nat.le_of_ble_eq_true rfl⟩ (wU_l hI.x) rfl rfl rfl hl.1 rfl (Nat.le_of_ble_eq_true rfl) dX5_done_12 ⟨Nat.le_of_ble_eq_true rfl, Nat.le_of_ble_eq_true rfl⟩) (fun z1 Ad2 I3 F4 X5 H locs hp7 hB => ?_)
  obtain ⟨rfl, rfl, rfl, rfl, ⟨hs9, rfl⟩ | ⟨hs9, rfl⟩⟩ := hp7
  · refine lv_aload_n hx hb dX5_done_15 rfl (lv_at hl 0 rfl) ?_
    refine t_get C hB ha rfl in_X5 2 (by decide) q1118 (fun x h => h) (v := .int (iI so)) rfl dX5_done_16 ?_
    refine lv_aload_n hx hb dX5_done_19 rfl (lv_at hl 0 rfl) ?_
    refine t_get C hB ha rfl in_X5 3 (by decide) q1120 (fun x h => h) (v := .int (iI i)) rfl dX5_done_20 ?_
    refine lv_aload_n hx hb dX5_done_23 rfl (lv_at hl 0 rfl) ?_
    refine t_get C hB ha rfl in_X5 4 (by decide) q1121 (fun x h => h) (v := .int (iI (2 * (mm : Int)))) rfl dX5_done_24 ?_
    obtain ⟨wq, hIq, hdq, hB⟩ := hB
    refine g_callXq 12 2900 (Nat.le_of_ble_eq_true rfl) (Nat.le_of_ble_eq_true rfl) hB (rXSN (As := [.null, .int (iI so), .int (iI i), .int (iI (2 * (mm : Int)))]) (n := 4) C hV hB (kX0_cellsOf l hfl E (wU wq X) none 0 0 (fun _ => 0) so i (2 * (mm : Int)) (Or.inl rfl) (by omega) (by omega) (by omega) ⟨by omega, by omega⟩ ⟨by omega, by omega⟩ (fun j hj => by omega) _) q1180 q1181 q68 q1182 (by decide +kernel) ⟨Nat.le_of_ble_eq_true rfl, Nat.le_of_ble_eq_true rfl⟩ rfl hl.1 rfl (Nat.le_of_ble_eq_true rfl) dX5_done_27 ⟨Nat.le_of_ble_eq_true rfl, Nat.le_of_ble_eq_true rfl⟩) (fun En qx12 w9 H locs hp11 hB hE => ?_) (fun z8 w9 H locs hp11 hB => ?_)
    · obtain ⟨rfl, hp11⟩ := hp11
      replace hB : xBB E (xA (wU w X) sz) s o Ad I F X _ _ := ⟨wq, hIq, hdq, hB⟩
      rcases hp11 with ⟨hp11, rfl⟩ | ⟨hp11, rfl⟩ | ⟨hp11, rfl⟩ | ⟨hp11, rfl⟩
      · exact b_out hB hE hout hlocks ⟨rfl, rfl, rfl, rfl, (Or.inl ⟨(agn_1 hs9), rfl⟩)⟩ (Nat.le_of_ble_eq_true rfl) (Nat.le_of_ble_eq_true rfl)
      · exact absurd rfl hp11.1
      · exact absurd rfl hp11.1
      · exact absurd rfl hp11.1
    · exact absurd rfl hp11.1
  · refine lv_aload_n hx hb dX5_done_15 rfl (lv_at hl 0 rfl) ?_
    refine t_get C hB ha rfl in_X5 2 (by decide) q1118 (fun x h => h) (v := .int (iI so)) rfl dX5_done_16 ?_
    refine lv_aload_n hx hb dX5_done_19 rfl (lv_at hl 0 rfl) ?_
    refine t_get C hB ha rfl in_X5 3 (by decide) q1120 (fun x h => h) (v := .int (iI i)) rfl dX5_done_20 ?_
    refine lv_aload_n hx hb dX5_done_23 rfl (lv_at hl 0 rfl) ?_
    refine t_get C hB ha rfl in_X5 4 (by decide) q1121 (fun x h => h) (v := .int (iI (2 * (mm : Int)))) rfl dX5_done_24 ?_
    obtain ⟨wq, hIq, hdq, hB⟩ := hB
    refine g_callXq 12 2900 (Nat.le_of_ble_eq_true rfl) (Nat.le_of_ble_eq_true rfl) hB (rXSN (As := [.ref (Ad (310 + k)), .int (iI so), .int (iI i), .int (iI (2 * (mm : Int)))]) (n := 4) C hV hB (kX0_cellsOf l hfl E (wU wq X) (some (Ad (310 + k))) (F 2 k) (F 3 k) (rowF F k) so i (2 * (mm : Int)) (Or.inr ⟨_, rfl, wU_l (hIq.at (C0_row (by omega) hs9))⟩) (by have := hS k (by omega); omega) (hS k (by omega)).2 (by omega) ⟨by omega, by omega⟩ ⟨by omega, by omega⟩ (rowF_rg hC (by omega) (h60 k (by omega))) _) q1180 q1181 q68 q1182 (by decide +kernel) ⟨Nat.le_of_ble_eq_true rfl, Nat.le_of_ble_eq_true rfl⟩ rfl hl.1 rfl (Nat.le_of_ble_eq_true rfl) dX5_done_27 ⟨Nat.le_of_ble_eq_true rfl, Nat.le_of_ble_eq_true rfl⟩) (fun En qx17 w14 H locs hp16 hB hE => ?_) (fun z13 w14 H locs hp16 hB => ?_)
    · obtain ⟨rfl, hp16⟩ := hp16
      replace hB : xBB E (xA (wU w X) sz) s o Ad I F X _ _ := ⟨wq, hIq, hdq, hB⟩
      rcases hp16 with ⟨hp16, rfl⟩ | ⟨hp16, rfl⟩ | ⟨hp16, rfl⟩ | ⟨hp16, rfl⟩
      · cases hp16
      · exact b_out hB hE hout hlocks ⟨rfl, rfl, rfl, rfl, (Or.inr (Or.inl ⟨(agn_2 hs9 hp16.2), rfl⟩))⟩ (Nat.le_of_ble_eq_true rfl) (Nat.le_of_ble_eq_true rfl)
      · exact b_out hB hE hout hlocks ⟨rfl, rfl, rfl, rfl, (Or.inr (Or.inr (Or.inl ⟨(agn_4 hs9 hp16.2.1 hp16.2.2), rfl⟩)))⟩ (Nat.le_of_ble_eq_true rfl) (Nat.le_of_ble_eq_true rfl)
      · exact b_out hB hE hout hlocks ⟨rfl, rfl, rfl, rfl, (Or.inr (Or.inr (Or.inr (⟨(agn_3 hs9 hp16.2.1 hp16.2.2.1 (hS k hk).2 hp16.2.2.2), rfl⟩))))⟩ (Nat.le_of_ble_eq_true rfl) (Nat.le_of_ble_eq_true rfl)
    · obtain ⟨hrn, hlt, ⟨hn1, hn2, hi1, hi2⟩, q18, g9, rfl, hq19, rfl, hg9⟩ := hp16
      obtain ⟨hq19a, hq19b⟩ := wU_n hq19
      replace hB := hB.arrI (va_up_s _ _ _) (g := gC F k i (2 * (mm : Int))) (gC_of hi1 hn1 (by omega) hg9)
      rw [bx_uu, wU_up_r hq19a] at hB
      rw [show (2 * (mm : Int)).toNat = 2 * mm by omega] at hB
      have hne20 : a ≠ q18 := fun e => by cases (hq19b.symm.trans ((congrArg _ e.symm).trans ha))
      have hne21 : rd ≠ q18 := fun e => by cases (hq19b.symm.trans ((congrArg _ e.symm).trans hrd))
      replace hB : xBB E (xA (wU w X) sz) s o Ad I F (va_up X q18 (some (xI E ((2 * mm)) ((gC F k i (2 * (mm : Int))))))) _ _ := ⟨wq, hIq, hdq.put_r hq19a, hB⟩
      refine b_readD l C hZ hB ((va_up_n _ _ hne21).trans hrd) (va_up_s _ _ _) hm (fun j _ => gC_rg hC hk (by omega) (by omega) j) hwh hOK0 q1202 ⟨Nat.le_of_ble_eq_true rfl, Nat.le_of_ble_eq_true rfl⟩ hl.1 (Nat.le_of_ble_eq_true rfl) dX5_done_30 ⟨Nat.le_of_ble_eq_true rfl, Nat.le_of_ble_eq_true rfl⟩ (fun z22 Ad1 I1 F1 X1 H locs hz23 hag hzv hB => ?_)
      obtain ⟨hz23a, hz23b⟩ := hz23
      refine vx_ret ?_
      exact b_iret C hB hr hlocks rfl dX5_done_35 (Nat.le_of_ble_eq_true rfl) (Nat.le_of_ble_eq_true rfl) ⟨by omega, by omega⟩ ⟨agn_0 hs9 hlt (by omega) ⟨by omega, by omega⟩, hag, hzv⟩
set_option maxHeartbeats 800000 in
set_option maxRecDepth 100000 in
theorem kX18_done (l : Launch) (hfl : l.stackTraces = false) (E : xE) (o : Nat) (Ad : Nat → Nat) (I : Nat → Int) (F : Nat → Nat → Int) (X : xw) (a : Nat) (k : Nat) (i : Int) (kj : Nat) (j : Int) (n : Int) (ha : X a = some (xO 16 [.ref o, .int (iI ((k : Int))), .int (iI i), .int (iI ((kj : Int))), .int (iI j), .int (iI n), .ref o])) (hk : k < 4) (hkj : kj < 4) (hi : rg i) (hj : rg j) (hn : rg n) (hXO : xOK F) (hOK : mOK I F) : yi_ l E yX18_done (ws_ yX18_done cX18_done 1 (some .int)) 9 10320 3 890 [.ref a] o Ad I F X (fun z Ad' I' F' X' => Ad = Ad' ∧ I = I' ∧ ((F 2 k ≠ -9 ∧ F 2 kj ≠ -9 ∧ F 2 k = F 2 kj) ∧ 0 ≤ i ∧ 0 ≤ j ∧ 0 ≤ n ∧ i + n ≤ F 3 k ∧ j + n ≤ F 3 kj) ∧ va_up F 4 (va_cpy (F 4) (F 4) (60 * k + i.toNat) (60 * kj + j.toNat) n.toNat) = F' ∧ z = n) (fun En Ad' I' F' X' => Ad = Ad' ∧ I = I' ∧ F = F' ∧ X = X' ∧ (((F 2 k = -9 ∨ F 2 kj = -9) ∧ En = "java/lang/NullPointerException") ∨ (((F 2 k ≠ -9 ∧ F 2 kj ≠ -9) ∧ F 2 k ≠ F 2 kj) ∧ En = "java/lang/ArrayStoreException") ∨ (((F 2 k ≠ -9 ∧ F 2 kj ≠ -9 ∧ F 2 k = F 2 kj) ∧ ¬ (0 ≤ i ∧ 0 ≤ j ∧ 0 ≤ n ∧ i + n ≤ F 3 k ∧ j + n ≤ F 3 kj)) ∧ En = "java/lang/ArrayIndexOutOfBoundsException"))) := by
  intro w hI hd sz
  refine x_bodyx (by decide) (Nat.le_of_ble_eq_true rfl) ?_
  intro p e s m args below meth c ls hx hb C hr hlocks hout hsz hV hB hl
  have hZ := hV.1
  have C : xC E p s m args c cX18_done 1 RX18 := C
  replace hB : xBB E (xA (wU w X) sz) s o Ad I F X s.heap [] := ⟨w, hI, hd, hB⟩
  have hl : lv_has ls 1 [(0, .ref a)] := hl
  have hOK0 := hOK
  obtain ⟨⟨hf1, hf2⟩, ⟨hl1, hl2⟩, ⟨hr1, hr2⟩, hlr, ⟨hs1, hs2⟩, ⟨hj1, hj2⟩, ⟨hb1, hb2⟩, ⟨hn1, hn2⟩, hL, hR, hN, hS, hC⟩ := hOK
  obtain ⟨hi1, hi2⟩ := hi
  obtain ⟨hj1, hj2⟩ := hj
  obtain ⟨hn1, hn2⟩ := hn
  have h60 : ∀ k : Nat, k < 4 → F 3 k ≤ 60 := fun k hk => (hS k hk).2.2
  refine lv_aload_n hx hb dX18_done_0 rfl (lv_at hl 0 rfl) ?_
  refine t_get C hB ha rfl in_X18 6 (by decide) q1254 (fun x h => h) (v := .ref o) rfl dX18_done_1 ?_
  refine lv_aload_n hx hb dX18_done_4 rfl (lv_at hl 0 rfl) ?_
  refine t_get C hB ha rfl in_X18 1 (by decide) q1249 (fun x h => h) (v := .int (iI ((k : Int)))) rfl dX18_done_5 ?_
  refine b_callq 0 0 (Nat.le_of_ble_eq_true rfl) (Nat.le_of_ble_eq_true rfl) hB (fun w hI hd hB => rVN (As := [.int (iI ((k : Int)))]) (n := 1) C hZ hB (kX0_rowIn l E o Ad I F X k (by omega) w hI hd _) q1174 qs31 q1040 q68 q1041 (by decide +kernel) ⟨Nat.le_of_ble_eq_true rfl, Nat.le_of_ble_eq_true rfl⟩ (wU_l hI.x) rfl rfl rfl hl.1 rfl (Nat.le_of_ble_eq_true rfl) dX18_done_8 ⟨Nat.le_of_ble_eq_true rfl, Nat.le_of_ble_eq_true rfl⟩) (fun z1 Ad2 I3 F4 X5 H locs hp7 hB => ?_)
  obtain ⟨rfl, rfl, rfl, rfl, ⟨hs9, rfl⟩ | ⟨hs9, rfl⟩⟩ := hp7
  · refine lv_aload_n hx hb dX18_done_11 rfl (lv_at hl 0 rfl) ?_
    refine t_get C hB ha rfl in_X18 2 (by decide) q1250 (fun x h => h) (v := .int (iI i)) rfl dX18_done_12 ?_
    refine lv_aload_n hx hb dX18_done_15 rfl (lv_at hl 0 rfl) ?_
    refine t_get C hB ha rfl in_X18 6 (by decide) q1254 (fun x h => h) (v := .ref o) rfl dX18_done_16 ?_
    refine lv_aload_n hx hb dX18_done_19 rfl (lv_at hl 0 rfl) ?_
    refine t_get C hB ha rfl in_X18 3 (by decide) q1251 (fun x h => h) (v := .int (iI ((kj : Int)))) rfl dX18_done_20 ?_
    refine b_callq 0 0 (Nat.le_of_ble_eq_true rfl) (Nat.le_of_ble_eq_true rfl) hB (fun w hI hd hB => rVN (As := [.int (iI ((kj : Int)))]) (n := 1) C hZ hB (kX0_rowIn l E o Ad I F X kj (by omega) w hI hd _) q1174 qs31 q1040 q68 q1041 (by decide +kernel) ⟨Nat.le_of_ble_eq_true rfl, Nat.le_of_ble_eq_true rfl⟩ (wU_l hI.x) rfl rfl rfl hl.1 rfl (Nat.le_of_ble_eq_true rfl) dX18_done_23 ⟨Nat.le_of_ble_eq_true rfl, Nat.le_of_ble_eq_true rfl⟩) (fun z8 Ad9 I10 F11 X12 H locs hp14 hB => ?_)
    obtain ⟨rfl, rfl, rfl, rfl, ⟨hs9b, rfl⟩ | ⟨hs9b, rfl⟩⟩ := hp14
    · refine lv_aload_n hx hb dX18_done_26 rfl (lv_at hl 0 rfl) ?_
      refine t_get C hB ha rfl in_X18 4 (by decide) q1252 (fun x h => h) (v := .int (iI j)) rfl dX18_done_27 ?_
      refine lv_aload_n hx hb dX18_done_30 rfl (lv_at hl 0 rfl) ?_
      refine t_get C hB ha rfl in_X18 5 (by decide) q1253 (fun x h => h) (v := .int (iI n)) rfl dX18_done_31 ?_
      obtain ⟨wq, hIq, hdq, hB⟩ := hB
      refine x_copyN hfl C hV hB ⟨q1175, q744, q743, q85⟩ (r1 := none) (r2 := none) (Or.inl rfl) hl.1 ⟨hlocks, Nat.le_of_ble_eq_true rfl, Nat.le_of_ble_eq_true rfl, Nat.le_of_ble_eq_true rfl, Nat.le_of_ble_eq_true rfl⟩ dX18_done_34 (fun H qx15 hB hE => ?_)
      replace hB : xBB E (xA (wU w X) sz) s o Ad I F X _ _ := ⟨wq, hIq, hdq, hB⟩
      exact b_out hB hE hout hlocks ⟨rfl, rfl, rfl, rfl, (Or.inl ⟨(by first | exact Or.inl hs9 | exact Or.inr hs9b), rfl⟩)⟩ (Nat.le_of_ble_eq_true rfl) (Nat.le_of_ble_eq_true rfl)
    · refine lv_aload_n hx hb dX18_done_26 rfl (lv_at hl 0 rfl) ?_
      refine t_get C hB ha rfl in_X18 4 (by decide) q1252 (fun x h => h) (v := .int (iI j)) rfl dX18_done_27 ?_
      refine lv_aload_n hx hb dX18_done_30 rfl (lv_at hl 0 rfl) ?_
      refine t_get C hB ha rfl in_X18 5 (by decide) q1253 (fun x h => h) (v := .int (iI n)) rfl dX18_done_31 ?_
      obtain ⟨wq, hIq, hdq, hB⟩ := hB
      refine x_copyN hfl C hV hB ⟨q1175, q744, q743, q85⟩ (r1 := none) (r2 := (some (Ad (310 + kj)))) (Or.inl rfl) hl.1 ⟨hlocks, Nat.le_of_ble_eq_true rfl, Nat.le_of_ble_eq_true rfl, Nat.le_of_ble_eq_true rfl, Nat.le_of_ble_eq_true rfl⟩ dX18_done_34 (fun H qx16 hB hE => ?_)
      replace hB : xBB E (xA (wU w X) sz) s o Ad I F X _ _ := ⟨wq, hIq, hdq, hB⟩
      exact b_out hB hE hout hlocks ⟨rfl, rfl, rfl, rfl, (Or.inl ⟨(by first | exact Or.inl hs9 | exact Or.inr hs9b), rfl⟩)⟩ (Nat.le_of_ble_eq_true rfl) (Nat.le_of_ble_eq_true rfl)
  · refine lv_aload_n hx hb dX18_done_11 rfl (lv_at hl 0 rfl) ?_
    refine t_get C hB ha rfl in_X18 2 (by decide) q1250 (fun x h => h) (v := .int (iI i)) rfl dX18_done_12 ?_
    refine lv_aload_n hx hb dX18_done_15 rfl (lv_at hl 0 rfl) ?_
    refine t_get C hB ha rfl in_X18 6 (by decide) q1254 (fun x h => h) (v := .ref o) rfl dX18_done_16 ?_
    refine lv_aload_n hx hb dX18_done_19 rfl (lv_at hl 0 rfl) ?_
    refine t_get C hB ha rfl in_X18 3 (by decide) q1251 (fun x h => h) (v := .int (iI ((kj : Int)))) rfl dX18_done_20 ?_
    refine b_callq 0 0 (Nat.le_of_ble_eq_true rfl) (Nat.le_of_ble_eq_true rfl) hB (fun w hI hd hB => rVN (As := [.int (iI ((kj : Int)))]) (n := 1) C hZ hB (kX0_rowIn l E o Ad I F X kj (by omega) w hI hd _) q1174 qs31 q1040 q68 q1041 (by decide +kernel) ⟨Nat.le_of_ble_eq_true rfl, Nat.le_of_ble_eq_true rfl⟩ (wU_l hI.x) rfl rfl rfl hl.1 rfl (Nat.le_of_ble_eq_true rfl) dX18_done_23 ⟨Nat.le_of_ble_eq_true rfl, Nat.le_of_ble_eq_true rfl⟩) (fun z17 Ad18 I19 F20 X21 H locs hp23 hB => ?_)
    obtain ⟨rfl, rfl, rfl, rfl, ⟨hs9b, rfl⟩ | ⟨hs9b, rfl⟩⟩ := hp23
    · refine lv_aload_n hx hb dX18_done_26 rfl (lv_at hl 0 rfl) ?_
      refine t_get C hB ha rfl in_X18 4 (by decide) q1252 (fun x h => h) (v := .int (iI j)) rfl dX18_done_27 ?_
      refine lv_aload_n hx hb dX18_done_30 rfl (lv_at hl 0 rfl) ?_
      refine t_get C hB ha rfl in_X18 5 (by decide) q1253 (fun x h => h) (v := .int (iI n)) rfl dX18_done_31 ?_
      obtain ⟨wq, hIq, hdq, hB⟩ := hB
      refine x_copyN hfl C hV hB ⟨q1175, q744, q743, q85⟩ (r1 := (some (Ad (310 + k)))) (r2 := none) (Or.inr rfl) hl.1 ⟨hlocks, Nat.le_of_ble_eq_true rfl, Nat.le_of_ble_eq_true rfl, Nat.le_of_ble_eq_true rfl, Nat.le_of_ble_eq_true rfl⟩ dX18_done_34 (fun H qx24 hB hE => ?_)
      replace hB : xBB E (xA (wU w X) sz) s o Ad I F X _ _ := ⟨wq, hIq, hdq, hB⟩
      exact b_out hB hE hout hlocks ⟨rfl, rfl, rfl, rfl, (Or.inl ⟨(by first | exact Or.inl hs9 | exact Or.inr hs9b), rfl⟩)⟩ (Nat.le_of_ble_eq_true rfl) (Nat.le_of_ble_eq_true rfl)
    · refine lv_aload_n hx hb dX18_done_26 rfl (lv_at hl 0 rfl) ?_
      refine t_get C hB ha rfl in_X18 4 (by decide) q1252 (fun x h => h) (v := .int (iI j)) rfl dX18_done_27 ?_
      refine lv_aload_n hx hb dX18_done_30 rfl (lv_at hl 0 rfl) ?_
      refine t_get C hB ha rfl in_X18 5 (by decide) q1253 (fun x h => h) (v := .int (iI n)) rfl dX18_done_31 ?_
      by_cases heq : F 2 k = F 2 kj
      · by_cases hbd : 0 ≤ i ∧ 0 ≤ j ∧ 0 ≤ n ∧ i + n ≤ F 3 k ∧ j + n ≤ F 3 kj
        · have hsa := hS k (by omega)
          have hsb := hS kj (by omega)
          obtain ⟨wq, hIq, hdq, hB⟩ := hB
          refine x_copyR C hB ⟨q1175, q744, q743, q85⟩ (wU_l (hIq.at (C0_row (by omega) hs9))) (show wU wq X (Ad (310 + kj)) = some (rowE E (F 2 k) (F 3 kj) (rowF F kj)) by rw [heq]; exact (wU_l (hIq.at (C0_row (by omega) hs9b)))) (by omega) ⟨by omega, by omega⟩ ⟨by omega, by omega⟩ ⟨by omega, by omega, by omega⟩ (by omega) (by omega) (fun q hq => by rw [rowF_q hq]; exact hXO k q (by omega) hq) hl.1 (Nat.le_of_ble_eq_true rfl) (Nat.le_of_ble_eq_true rfl) dX18_done_34 (fun H locs hB => ?_)
          rw [heq] at hB
          replace hB := b_row2 hIq hdq (k := kj) (by omega) hs9b h60 (va_cpy (F 4) (F 4) (60 * k + (i).toNat) (60 * kj + (j).toNat) (n).toNat) (fun k2 j2 h1 h2 h3 => cpy_out (by omega)) (cpy_row (k := k) (k2 := kj) (by omega)) hB
          replace hB : xBB E (xA (wU w X) sz) s o Ad I (va_up F 4 (va_cpy (F 4) (F 4) (60 * k + (i).toNat) (60 * kj + (j).toNat) (n).toNat)) X _ _ := hB
          refine lv_aload_n hx hb dX18_done_37 rfl (lv_at hl 0 rfl) ?_
          refine t_get C hB ha rfl in_X18 5 (by decide) q1253 (fun x h => h) (v := .int (iI n)) rfl dX18_done_38 ?_
          refine vx_ret ?_
          exact b_iret C hB hr hlocks rfl dX18_done_41 (Nat.le_of_ble_eq_true rfl) (Nat.le_of_ble_eq_true rfl) ⟨by omega, by omega⟩ ⟨rfl, rfl, ⟨⟨hs9, hs9b, heq⟩, hbd⟩, rfl, rfl⟩
        · have hsa := hS k (by omega)
          have hsb := hS kj (by omega)
          obtain ⟨wq, hIq, hdq, hB⟩ := hB
          refine x_copyZ hfl C hV hB ⟨q1175, q744, q743, q85⟩ (wU_l (hIq.at (C0_row (by omega) hs9))) (wU_l (hIq.at (C0_row (by omega) hs9b))) (by rw [heq]) ⟨by omega, by omega⟩ ⟨by omega, by omega⟩ ⟨by omega, by omega⟩ ⟨by omega, by omega⟩ ⟨by omega, by omega⟩ (by omega) hl.1 ⟨hlocks, Nat.le_of_ble_eq_true rfl, Nat.le_of_ble_eq_true rfl, Nat.le_of_ble_eq_true rfl, Nat.le_of_ble_eq_true rfl⟩ dX18_done_34 (fun H qx25 hB hE => ?_)
          replace hB : xBB E (xA (wU w X) sz) s o Ad I F X _ _ := ⟨wq, hIq, hdq, hB⟩
          exact b_out hB hE hout hlocks ⟨rfl, rfl, rfl, rfl, (Or.inr (Or.inr (⟨⟨⟨hs9, hs9b, heq⟩, hbd⟩, rfl⟩)))⟩ (Nat.le_of_ble_eq_true rfl) (Nat.le_of_ble_eq_true rfl)
      · obtain ⟨wq, hIq, hdq, hB⟩ := hB
        refine x_copyT hfl C hV hB ⟨q1175, q744, q743, q85⟩ (wU_l (hIq.at (C0_row (by omega) hs9))) (wU_l (hIq.at (C0_row (by omega) hs9b))) (lnN_ne (by have := hS k (by omega); omega) (by have := hS kj (by omega); omega) heq) hl.1 ⟨hlocks, Nat.le_of_ble_eq_true rfl, Nat.le_of_ble_eq_true rfl, Nat.le_of_ble_eq_true rfl, Nat.le_of_ble_eq_true rfl⟩ dX18_done_34 (fun H qx26 hB hE => ?_)
        replace hB : xBB E (xA (wU w X) sz) s o Ad I F X _ _ := ⟨wq, hIq, hdq, hB⟩
        exact b_out hB hE hout hlocks ⟨rfl, rfl, rfl, rfl, (Or.inr (Or.inl ⟨⟨⟨hs9, hs9b⟩, heq⟩, rfl⟩))⟩ (Nat.le_of_ble_eq_true rfl) (Nat.le_of_ble_eq_true rfl)
set_option maxHeartbeats 800000 in
set_option maxRecDepth 100000 in
theorem kX19_done (l : Launch) (hfl : l.stackTraces = false) (E : xE) (o : Nat) (Ad : Nat → Nat) (I : Nat → Int) (F : Nat → Nat → Int) (X : xw) (a : Nat) (k : Nat) (so : Int) (ha : X a = some (xO 17 [.ref o, .ref (Ad (100 + k)), .int (iI so), .ref o])) (hk : (k : Int) < I 5) (hso : 0 ≤ so ∧ so ≤ 2) (hOK : mOK I F) : yi_ l E yX19_done (ws_ yX19_done cX19_done 2 (some .int)) 9 10320 3 890 [.ref a] o Ad I F X (fun z Ad' I' F' X' => Ad = Ad' ∧ I = I' ∧ F = F' ∧ so ≤ F 10 k ∧ z = 1) (fun En Ad' I' F' X' => Ad = Ad' ∧ I = I' ∧ F = F' ∧ X = X' ∧ (((F 10 k < so) ∧ En = "java/lang/ClassCastException"))) := by
  intro w hI hd sz
  refine x_bodyx (by decide) (Nat.le_of_ble_eq_true rfl) ?_
  intro p e s m args below meth c ls hx hb C hr hlocks hout hsz hV hB hl
  have hZ := hV.1
  have C : xC E p s m args c cX19_done 2 RX19 := C
  replace hB : xBB E (xA (wU w X) sz) s o Ad I F X s.heap [] := ⟨w, hI, hd, hB⟩
  have hl : lv_has ls 2 [(0, .ref a)] := hl
  have hOK0 := hOK
  obtain ⟨⟨hf1, hf2⟩, ⟨hl1, hl2⟩, ⟨hr1, hr2⟩, hlr, ⟨hs1, hs2⟩, ⟨hj1, hj2⟩, ⟨hb1, hb2⟩, ⟨hn1, hn2⟩, hL, hR, hN, hS, hC⟩ := hOK
  have hLk := hL k hk
  refine lv_aload_n hx hb dX19_done_0 rfl (lv_at hl 0 rfl) ?_
  refine t_get C hB ha rfl in_X19 2 (by decide) q1363 (fun x h => h) (v := .int (iI so)) rfl dX19_done_1 ?_
  refine x_if_ne (tgt := 17) hx hb dX19_done_4 (by decide) ⟨by omega, by omega⟩ (fun c1 => ?_) (fun c1 => ?_)
  · refine lv_aload_n hx hb dX19_done_17 rfl (lv_at hl 0 rfl) ?_
    refine t_get C hB ha rfl in_X19 2 (by decide) q1363 (fun x h => h) (v := .int (iI so)) rfl dX19_done_18 ?_
    refine lv_iconst (v := iI 1) hx hb dX19_done_21 rfl ?_
    refine x_icmp_ne (tgt := 38) hx hb dX19_done_22 (by decide) ⟨by omega, by omega⟩ ⟨by decide, by decide⟩ (fun c2 => ?_) (fun c2 => ?_)
    · refine lv_aload_n hx hb dX19_done_38 rfl (lv_at hl 0 rfl) ?_
      refine t_get C hB ha rfl in_X19 1 (by decide) q1362 (fun x h => h) (v := .ref (Ad (100 + k))) rfl dX19_done_39 ?_
      rcases (show (F 10) k = 0 ∨ (F 10) k = 1 ∨ (F 10) k = 2 by omega) with hk10 | hk10 | hk10
      · obtain ⟨wq, hIq, hdq, hB⟩ := hB
        refine x_castOX hfl C hV hB (wU_l (X := X) (pl_at0 hIq (show ((k : Nat) : Int) < I 5 by omega) (show I 5 ≤ 7 by omega) hk10)) rfl (by decide +kernel) (by decide +kernel) (by decide +kernel) q1209 hl.1 ⟨hlocks, Nat.le_of_ble_eq_true rfl, Nat.le_of_ble_eq_true rfl, Nat.le_of_ble_eq_true rfl, Nat.le_of_ble_eq_true rfl⟩ dX19_done_42 (fun H qx3 hB hE => ?_)
        replace hB : xBB E (xA (wU w X) sz) s o Ad I F X _ _ := ⟨wq, hIq, hdq, hB⟩
        exact b_out hB hE hout hlocks ⟨rfl, rfl, rfl, rfl, ⟨by omega, rfl⟩⟩ (Nat.le_of_ble_eq_true rfl) (Nat.le_of_ble_eq_true rfl)
      · obtain ⟨wq, hIq, hdq, hB⟩ := hB
        refine x_castOX hfl C hV hB (wU_l (X := X) (pl_at1 hIq (show ((k : Nat) : Int) < I 5 by omega) (show I 5 ≤ 7 by omega) hk10)) rfl (by decide +kernel) (by decide +kernel) (by decide +kernel) q1209 hl.1 ⟨hlocks, Nat.le_of_ble_eq_true rfl, Nat.le_of_ble_eq_true rfl, Nat.le_of_ble_eq_true rfl, Nat.le_of_ble_eq_true rfl⟩ dX19_done_42 (fun H qx4 hB hE => ?_)
        replace hB : xBB E (xA (wU w X) sz) s o Ad I F X _ _ := ⟨wq, hIq, hdq, hB⟩
        exact b_out hB hE hout hlocks ⟨rfl, rfl, rfl, rfl, ⟨by omega, rfl⟩⟩ (Nat.le_of_ble_eq_true rfl) (Nat.le_of_ble_eq_true rfl)
      · refine b_castDb C hB k (show ((k : Nat) : Int) < I 5 by omega) (show I 5 ≤ 7 by omega) hk10 q1209 dX19_done_42 ?_
        refine b_plDb C hB k (show ((k : Nat) : Int) < I 5 by omega) (show I 5 ≤ 7 by omega) hk10 q784 dX19_done_45 ?_
        refine lv_istore_n (lv' := [(1, .int (iI ((F 11) k))), (0, .ref a)]) hx hb dX19_done_48 rfl hl (by decide) rfl (fun ls hl => ?_)
        refine lv_iload_n hx hb dX19_done_49 rfl (lv_at hl 0 rfl) ?_
        refine x_if_ge (tgt := 57) hx hb dX19_done_50 (by decide) ⟨by omega, by omega⟩ (fun c5 => ?_) (fun c5 => by exfalso; omega)
        refine lv_iconst (v := iI 1) hx hb dX19_done_57 rfl ?_
        refine vx_ret ?_
        exact b_iret C hB hr hlocks rfl dX19_done_58 (Nat.le_of_ble_eq_true rfl) (Nat.le_of_ble_eq_true rfl) ⟨by decide, by decide⟩ ⟨rfl, rfl, rfl, by omega, rfl⟩
    · refine lv_aload_n hx hb dX19_done_25 rfl (lv_at hl 0 rfl) ?_
      refine t_get C hB ha rfl in_X19 1 (by decide) q1362 (fun x h => h) (v := .ref (Ad (100 + k))) rfl dX19_done_26 ?_
      rcases (show (F 10) k = 0 ∨ ((F 10) k = 1 ∨ (F 10) k = 2) by omega) with hk10 | hk10
      · obtain ⟨wq, hIq, hdq, hB⟩ := hB
        refine x_castOX hfl C hV hB (wU_l (X := X) (pl_at0 hIq (show ((k : Nat) : Int) < I 5 by omega) (show I 5 ≤ 7 by omega) hk10)) rfl (by decide +kernel) (by decide +kernel) (by decide +kernel) q1208 hl.1 ⟨hlocks, Nat.le_of_ble_eq_true rfl, Nat.le_of_ble_eq_true rfl, Nat.le_of_ble_eq_true rfl, Nat.le_of_ble_eq_true rfl⟩ dX19_done_29 (fun H qx6 hB hE => ?_)
        replace hB : xBB E (xA (wU w X) sz) s o Ad I F X _ _ := ⟨wq, hIq, hdq, hB⟩
        exact b_out hB hE hout hlocks ⟨rfl, rfl, rfl, rfl, ⟨by omega, rfl⟩⟩ (Nat.le_of_ble_eq_true rfl) (Nat.le_of_ble_eq_true rfl)
      · refine b_castLg C hB k (show ((k : Nat) : Int) < I 5 by omega) (show I 5 ≤ 7 by omega) hk10 q1208 dX19_done_29 ?_
        refine b_plLg C hB k (show ((k : Nat) : Int) < I 5 by omega) (show I 5 ≤ 7 by omega) hk10 q782 dX19_done_32 ?_
        refine lv_goto (tgt := 48) hx hb dX19_done_35 (by decide) ?_
        refine lv_istore_n (lv' := [(1, .int (iI ((F 11) k))), (0, .ref a)]) hx hb dX19_done_48 rfl hl (by decide) rfl (fun ls hl => ?_)
        refine lv_iload_n hx hb dX19_done_49 rfl (lv_at hl 0 rfl) ?_
        refine x_if_ge (tgt := 57) hx hb dX19_done_50 (by decide) ⟨by omega, by omega⟩ (fun c7 => ?_) (fun c7 => by exfalso; omega)
        refine lv_iconst (v := iI 1) hx hb dX19_done_57 rfl ?_
        refine vx_ret ?_
        exact b_iret C hB hr hlocks rfl dX19_done_58 (Nat.le_of_ble_eq_true rfl) (Nat.le_of_ble_eq_true rfl) ⟨by decide, by decide⟩ ⟨rfl, rfl, rfl, by omega, rfl⟩
  · refine lv_aload_n hx hb dX19_done_7 rfl (lv_at hl 0 rfl) ?_
    refine t_get C hB ha rfl in_X19 1 (by decide) q1362 (fun x h => h) (v := .ref (Ad (100 + k))) rfl dX19_done_8 ?_
    refine b_plL C hB k (show ((k : Nat) : Int) < I 5 by omega) (show I 5 ≤ 7 by omega) q781 dX19_done_11 ?_
    have := hL k (by omega)
    refine lv_goto (tgt := 48) hx hb dX19_done_14 (by decide) ?_
    refine lv_istore_n (lv' := [(1, .int (iI ((F 11) k))), (0, .ref a)]) hx hb dX19_done_48 rfl hl (by decide) rfl (fun ls hl => ?_)
    refine lv_iload_n hx hb dX19_done_49 rfl (lv_at hl 0 rfl) ?_
    refine x_if_ge (tgt := 57) hx hb dX19_done_50 (by decide) ⟨by omega, by omega⟩ (fun c8 => ?_) (fun c8 => by exfalso; omega)
    refine lv_iconst (v := iI 1) hx hb dX19_done_57 rfl ?_
    refine vx_ret ?_
    exact b_iret C hB hr hlocks rfl dX19_done_58 (Nat.le_of_ble_eq_true rfl) (Nat.le_of_ble_eq_true rfl) ⟨by decide, by decide⟩ ⟨rfl, rfl, rfl, by omega, rfl⟩
