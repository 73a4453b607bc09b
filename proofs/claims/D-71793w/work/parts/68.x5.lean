/-! THE COMPONENT: what pairs cost -/
set_option maxRecDepth 100000
/-- a cost is a small number -/
theorem cst_rg {I : Nat → Int} {F : Nat → Nat → Int} (h : mOK I F) {so : Int} {a b : Nat} (hso : 0 ≤ so ∧ so ≤ 4) (ha : so ≠ 2 → (a : Int) + lo so ≤ I 5) (hb : so ≠ 1 → (b : Int) + ro so ≤ I 6) : 0 ≤ cst I F so a b ∧ cst I F so a b ≤ 60 := by
  have h5 := csM60 h
  unfold cs60 csM at h5
  rcases (show so = 0 ∨ so = 1 ∨ so = 2 ∨ so = 3 ∨ so = 4 by omega) with rfl | rfl | rfl | rfl | rfl
  · have h1 := ha (by decide)
    have h2 := hb (by decide)
    exact h5 0 a b (by decide) (by show a + 1 ≤ _; have : (a : Int) + 1 ≤ I 5 := h1; omega) (by show b + 1 ≤ _; have : (b : Int) + 1 ≤ I 6 := h2; omega)
  · have h1 := ha (by decide)
    have e : cst I F 1 a b = cst I F 1 a 0 := by rw [cst_1, cst_1]
    rw [e]
    exact h5 1 a 0 (by decide) (by show a + 1 ≤ _; have : (a : Int) + 1 ≤ I 5 := h1; omega) (by show 0 + 0 ≤ _; omega)
  · have h2 := hb (by decide)
    have e : cst I F 2 a b = cst I F 2 0 b := by rw [cst_2, cst_2]
    rw [e]
    exact h5 2 0 b (by decide) (by show 0 + 0 ≤ _; omega) (by show b + 1 ≤ _; have : (b : Int) + 1 ≤ I 6 := h2; omega)
  · have h1 := ha (by decide)
    have h2 := hb (by decide)
    exact h5 3 a b (by decide) (by show a + 2 ≤ _; have : (a : Int) + 2 ≤ I 5 := h1; omega) (by show b + 1 ≤ _; have : (b : Int) + 1 ≤ I 6 := h2; omega)
  · have h1 := ha (by decide)
    have h2 := hb (by decide)
    exact h5 4 a b (by decide) (by show a + 1 ≤ _; have : (a : Int) + 1 ≤ I 5 := h1; omega) (by show b + 2 ≤ _; have : (b : Int) + 2 ≤ I 6 := h2; omega)
theorem aabs_b (x : Int) : 0 ≤ aabs x ∧ (aabs x = x ∨ aabs x = -x) := by
  unfold aabs
  split <;> omega
set_option maxHeartbeats 800000 in
set_option maxRecDepth 100000 in
theorem kX0_noBooks (l : Launch) (E : xE) (o : Nat) (Ad : Nat → Nat) (I : Nat → Int) (F : Nat → Nat → Int) (X : xw) (hOK : mOK I F) : ci_ l E yX0_noBooks cX0_noBooks 1 (some .boolean) 1 20 0 0 [.ref o] o Ad I F X (fun z Ad' I' F' X' => Ad = Ad' ∧ I = I' ∧ F = F' ∧ X = X' ∧ ((z = 1 ∧ I 5 = 0) ∨ (z = 0 ∧ ¬ (I 5 = 0)))) := by
  intro w hI hd sz
  refine x_bodyz (by decide) (Nat.le_of_ble_eq_true rfl) ?_
  intro p e s m args below meth c ls hx hb C hr hlocks hin hsz hZ hB hl
  have C : xC E p s m args c cX0_noBooks 1 RX0 := C
  replace hB : xBB E (xA (wU w X) sz) s o Ad I F X s.heap [] := ⟨w, hI, hd, hB⟩
  have hl : lv_has ls 1 [(0, .ref o)] := hl
  have hOK0 := hOK
  obtain ⟨⟨hf1, hf2⟩, ⟨hl1, hl2⟩, ⟨hr1, hr2⟩, hlr, ⟨hs1, hs2⟩, ⟨hj1, hj2⟩, ⟨hb1, hb2⟩, ⟨hn1, hn2⟩, hL, hR, hN, hS, hC⟩ := hOK
  
  refine lv_aload_n hx hb dX0_noBooks_0 rfl (lv_at hl 0 rfl) ?_
  refine b_get C hB 3 (by decide) q296 (v := .ref (Ad 4)) rfl rfl dX0_noBooks_1 ?_
  refine b_empty C hZ hB (n := I 5) (ed := Ad 30) (fun w hI _ => wU_l (hI.at (r := 4) rfl)) (by omega) q280 ⟨Nat.le_of_ble_eq_true rfl, Nat.le_of_ble_eq_true rfl⟩ hl.1 (Nat.le_of_ble_eq_true rfl) dX0_noBooks_4 ⟨Nat.le_of_ble_eq_true rfl, Nat.le_of_ble_eq_true rfl⟩ (fun z1 H locs h2 hB => ?_)
  rcases h2 with ⟨rfl, h2⟩ | ⟨rfl, h2⟩
  · exact b_iret C hB hr hlocks rfl dX0_noBooks_9 (Nat.le_of_ble_eq_true rfl) (Nat.le_of_ble_eq_true rfl) ⟨by decide, by decide⟩ ⟨rfl, rfl, rfl, rfl, by omega⟩
  · exact b_iret C hB hr hlocks rfl dX0_noBooks_9 (Nat.le_of_ble_eq_true rfl) (Nat.le_of_ble_eq_true rfl) ⟨by decide, by decide⟩ ⟨rfl, rfl, rfl, rfl, by omega⟩
set_option maxHeartbeats 800000 in
set_option maxRecDepth 100000 in
theorem kX0_noLeft (l : Launch) (E : xE) (o : Nat) (Ad : Nat → Nat) (I : Nat → Int) (F : Nat → Nat → Int) (X : xw) (a : Int) (ha : rg a) (hOK : mOK I F) : ci_ l E yX0_noLeft cX0_noLeft 2 (some .boolean) 1 25 0 0 [.ref o, .int (iI a)] o Ad I F X (fun z Ad' I' F' X' => Ad = Ad' ∧ I = I' ∧ F = F' ∧ X = X' ∧ ((z = 1 ∧ ¬ (0 ≤ a ∧ a < I 5)) ∨ (z = 0 ∧ (0 ≤ a ∧ a < I 5)))) := by
  intro w hI hd sz
  refine x_bodyz (by decide) (Nat.le_of_ble_eq_true rfl) ?_
  intro p e s m args below meth c ls hx hb C hr hlocks hin hsz hZ hB hl
  have C : xC E p s m args c cX0_noLeft 2 RX0 := C
  replace hB : xBB E (xA (wU w X) sz) s o Ad I F X s.heap [] := ⟨w, hI, hd, hB⟩
  have hl : lv_has ls 2 [(0, .ref o), (1, .int (iI a))] := hl
  have hOK0 := hOK
  obtain ⟨⟨hf1, hf2⟩, ⟨hl1, hl2⟩, ⟨hr1, hr2⟩, hlr, ⟨hs1, hs2⟩, ⟨hj1, hj2⟩, ⟨hb1, hb2⟩, ⟨hn1, hn2⟩, hL, hR, hN, hS, hC⟩ := hOK
  obtain ⟨ha1, ha2⟩ := ha
  refine lv_iload_n hx hb dX0_noLeft_0 rfl (lv_at hl 1 rfl) ?_
  refine x_i2l hx hb dX0_noLeft_1 ⟨by omega, by omega⟩ ?_
  refine lv_lconst (v := lI 0) hx hb dX0_noLeft_2 rfl ?_
  refine lv_aload_n hx hb dX0_noLeft_3 rfl (lv_at hl 0 rfl) ?_
  refine b_get C hB 3 (by decide) q296 (v := .ref (Ad 4)) rfl rfl dX0_noLeft_4 ?_
  refine b_size C hZ hB (n := I 5) (ed := Ad 30) (fun w hI _ => wU_l (hI.at (r := 4) rfl)) (by omega) q242 ⟨Nat.le_of_ble_eq_true rfl, Nat.le_of_ble_eq_true rfl⟩ hl.1 (Nat.le_of_ble_eq_true rfl) dX0_noLeft_7 ⟨Nat.le_of_ble_eq_true rfl, Nat.le_of_ble_eq_true rfl⟩ (fun H locs hB => ?_)
  refine lv_iconst (v := iI 1) hx hb dX0_noLeft_12 rfl ?_
  refine x_isub (z := I 5 - 1) hx hb dX0_noLeft_13 (by omega) ?_
  refine x_i2l hx hb dX0_noLeft_14 ⟨by omega, by omega⟩ ?_
  refine bs_calli (n := 3) C hB (As := [.long (lI a), .long (lI 0), .long (lI (I 5 - 1))]) (kX0_in l E a 0 (I 5 - 1) ⟨by omega, by omega⟩ ⟨by omega, by omega⟩ ⟨by omega, by omega⟩) (lw_S q234 q235 q68 q236) (by decide +kernel) ⟨Nat.le_of_ble_eq_true rfl, Nat.le_of_ble_eq_true rfl⟩ rfl hl.1 rfl (Nat.le_of_ble_eq_true rfl) dX0_noLeft_15 ⟨Nat.le_of_ble_eq_true rfl, Nat.le_of_ble_eq_true rfl⟩ (fun z1 H locs hz2 hp3 hB => ?_)
  obtain ⟨hz2a, hz2b⟩ := hz2
  rcases hp3 with ⟨rfl, h4⟩ | ⟨rfl, h4⟩
  · refine x_if_ne (tgt := 25) hx hb dX0_noLeft_18 (by decide) ⟨by decide, by decide⟩ (fun c5 => ?_) (fun c5 => by exfalso; omega)
    refine lv_iconst (v := iI 0) hx hb dX0_noLeft_25 rfl ?_
    exact b_iret C hB hr hlocks rfl dX0_noLeft_26 (Nat.le_of_ble_eq_true rfl) (Nat.le_of_ble_eq_true rfl) ⟨by decide, by decide⟩ ⟨rfl, rfl, rfl, rfl, by omega⟩
  · refine x_if_ne (tgt := 25) hx hb dX0_noLeft_18 (by decide) ⟨by decide, by decide⟩ (fun c6 => by exfalso; omega) (fun c6 => ?_)
    refine lv_iconst (v := iI 1) hx hb dX0_noLeft_21 rfl ?_
    refine lv_goto (tgt := 26) hx hb dX0_noLeft_22 (by decide) ?_
    exact b_iret C hB hr hlocks rfl dX0_noLeft_26 (Nat.le_of_ble_eq_true rfl) (Nat.le_of_ble_eq_true rfl) ⟨by decide, by decide⟩ ⟨rfl, rfl, rfl, rfl, by omega⟩
set_option maxHeartbeats 800000 in
set_option maxRecDepth 100000 in
theorem kX0_noRight (l : Launch) (E : xE) (o : Nat) (Ad : Nat → Nat) (I : Nat → Int) (F : Nat → Nat → Int) (X : xw) (a : Int) (ha : rg a) (hOK : mOK I F) : ci_ l E yX0_noRight cX0_noRight 2 (some .boolean) 1 25 0 0 [.ref o, .int (iI a)] o Ad I F X (fun z Ad' I' F' X' => Ad = Ad' ∧ I = I' ∧ F = F' ∧ X = X' ∧ ((z = 1 ∧ ¬ (0 ≤ a ∧ a < I 6)) ∨ (z = 0 ∧ (0 ≤ a ∧ a < I 6)))) := by
  intro w hI hd sz
  refine x_bodyz (by decide) (Nat.le_of_ble_eq_true rfl) ?_
  intro p e s m args below meth c ls hx hb C hr hlocks hin hsz hZ hB hl
  have C : xC E p s m args c cX0_noRight 2 RX0 := C
  replace hB : xBB E (xA (wU w X) sz) s o Ad I F X s.heap [] := ⟨w, hI, hd, hB⟩
  have hl : lv_has ls 2 [(0, .ref o), (1, .int (iI a))] := hl
  have hOK0 := hOK
  obtain ⟨⟨hf1, hf2⟩, ⟨hl1, hl2⟩, ⟨hr1, hr2⟩, hlr, ⟨hs1, hs2⟩, ⟨hj1, hj2⟩, ⟨hb1, hb2⟩, ⟨hn1, hn2⟩, hL, hR, hN, hS, hC⟩ := hOK
  obtain ⟨ha1, ha2⟩ := ha
  refine lv_iload_n hx hb dX0_noRight_0 rfl (lv_at hl 1 rfl) ?_
  refine x_i2l hx hb dX0_noRight_1 ⟨by omega, by omega⟩ ?_
  refine lv_lconst (v := lI 0) hx hb dX0_noRight_2 rfl ?_
  refine lv_aload_n hx hb dX0_noRight_3 rfl (lv_at hl 0 rfl) ?_
  refine b_get C hB 4 (by decide) q298 (v := .int (iI (I 6))) rfl rfl dX0_noRight_4 ?_
  refine lv_iconst (v := iI 1) hx hb dX0_noRight_7 rfl ?_
  refine x_isub (z := I 6 - 1) hx hb dX0_noRight_8 (by omega) ?_
  refine x_i2l hx hb dX0_noRight_9 ⟨by omega, by omega⟩ ?_
  refine bs_calli (n := 3) C hB (As := [.long (lI a), .long (lI 0), .long (lI (I 6 - 1))]) (kX0_in l E a 0 (I 6 - 1) ⟨by omega, by omega⟩ ⟨by omega, by omega⟩ ⟨by omega, by omega⟩) (lw_S q234 q235 q68 q236) (by decide +kernel) ⟨Nat.le_of_ble_eq_true rfl, Nat.le_of_ble_eq_true rfl⟩ rfl hl.1 rfl (Nat.le_of_ble_eq_true rfl) dX0_noRight_10 ⟨Nat.le_of_ble_eq_true rfl, Nat.le_of_ble_eq_true rfl⟩ (fun z1 H locs hz2 hp3 hB => ?_)
  obtain ⟨hz2a, hz2b⟩ := hz2
  rcases hp3 with ⟨rfl, h4⟩ | ⟨rfl, h4⟩
  · refine x_if_ne (tgt := 20) hx hb dX0_noRight_13 (by decide) ⟨by decide, by decide⟩ (fun c5 => ?_) (fun c5 => by exfalso; omega)
    refine lv_iconst (v := iI 0) hx hb dX0_noRight_20 rfl ?_
    exact b_iret C hB hr hlocks rfl dX0_noRight_21 (Nat.le_of_ble_eq_true rfl) (Nat.le_of_ble_eq_true rfl) ⟨by decide, by decide⟩ ⟨rfl, rfl, rfl, rfl, by omega⟩
  · refine x_if_ne (tgt := 20) hx hb dX0_noRight_13 (by decide) ⟨by decide, by decide⟩ (fun c6 => by exfalso; omega) (fun c6 => ?_)
    refine lv_iconst (v := iI 1) hx hb dX0_noRight_16 rfl ?_
    refine lv_goto (tgt := 21) hx hb dX0_noRight_17 (by decide) ?_
    exact b_iret C hB hr hlocks rfl dX0_noRight_21 (Nat.le_of_ble_eq_true rfl) (Nat.le_of_ble_eq_true rfl) ⟨by decide, by decide⟩ ⟨rfl, rfl, rfl, rfl, by omega⟩
set_option maxHeartbeats 800000 in
set_option maxRecDepth 100000 in
theorem kX0_differs_11 (l : Launch) (E : xE) (o : Nat) (Ad : Nat → Nat) (I : Nat → Int) (F : Nat → Nat → Int) (X : xw) (a : Nat) (b : Nat) (ha : (a : Int) + 1 ≤ I 5) (hbb : (b : Int) + 1 ≤ I 6) (hOK : mOK I F) : ci_ l E yX0_differs cX0_differs 9 (some .int) 3 64 0 0 [.ref o, .int (iI ((a : Int))), .int (iI 1), .int (iI ((b : Int))), .int (iI 1)] o Ad I F X (fun z Ad' I' F' X' => Ad = Ad' ∧ I = I' ∧ F = F' ∧ X = X' ∧ z = cst I F 0 a b) := by
  intro w hI hd sz
  refine x_bodyz (by decide) (Nat.le_of_ble_eq_true rfl) ?_
  intro p e s m args below meth c ls hx hb C hr hlocks hin hsz hZ hB hl
  have C : xC E p s m args c cX0_differs 9 RX0 := C
  replace hB : xBB E (xA (wU w X) sz) s o Ad I F X s.heap [] := ⟨w, hI, hd, hB⟩
  have hl : lv_has ls 9 [(0, .ref o), (1, .int (iI ((a : Int)))), (2, .int (iI 1)), (3, .int (iI ((b : Int)))), (4, .int (iI 1))] := hl
  have hOK0 := hOK
  obtain ⟨⟨hf1, hf2⟩, ⟨hl1, hl2⟩, ⟨hr1, hr2⟩, hlr, ⟨hs1, hs2⟩, ⟨hj1, hj2⟩, ⟨hb1, hb2⟩, ⟨hn1, hn2⟩, hL, hR, hN, hS, hC⟩ := hOK
  
  refine lv_iconst (v := iI 0) hx hb dX0_differs_0 rfl ?_
  refine lv_istore (lv' := [(5, .int (iI 0)), (0, .ref o), (1, .int (iI ((a : Int)))), (2, .int (iI 1)), (3, .int (iI ((b : Int)))), (4, .int (iI 1))]) hx hb dX0_differs_1 hl (by decide) rfl (fun ls hl => ?_)
  refine lv_iconst (v := iI 0) hx hb dX0_differs_3 rfl ?_
  refine lv_istore (lv' := [(6, .int (iI 0)), (5, .int (iI 0)), (0, .ref o), (1, .int (iI ((a : Int)))), (2, .int (iI 1)), (3, .int (iI ((b : Int)))), (4, .int (iI 1))]) hx hb dX0_differs_4 hl (by decide) rfl (fun ls hl => ?_)
  refine lv_iconst (v := iI 0) hx hb dX0_differs_6 rfl ?_
  refine lv_istore (lv' := [(7, .int (iI 0)), (6, .int (iI 0)), (5, .int (iI 0)), (0, .ref o), (1, .int (iI ((a : Int)))), (2, .int (iI 1)), (3, .int (iI ((b : Int)))), (4, .int (iI 1))]) hx hb dX0_differs_7 hl (by decide) rfl (fun ls hl => ?_)
  refine lv_iload_n hx hb dX0_differs_9 rfl (lv_at hl 4 rfl) ?_
  refine lv_istore (lv' := [(8, .int (iI ((a : Int)))), (7, .int (iI 0)), (6, .int (iI 0)), (5, .int (iI 0)), (0, .ref o), (1, .int (iI ((a : Int)))), (2, .int (iI 1)), (3, .int (iI ((b : Int)))), (4, .int (iI 1))]) hx hb dX0_differs_10 hl (by decide) rfl (fun ls hl => ?_)
  refine lv_iload hx hb dX0_differs_12 (lv_at hl 0 rfl) ?_
  refine lv_iload_n hx hb dX0_differs_14 rfl (lv_at hl 5 rfl) ?_
  refine lv_iload_n hx hb dX0_differs_15 rfl (lv_at hl 6 rfl) ?_
  refine x_iadd (z := (a : Int) + 1) hx hb dX0_differs_16 (by omega) ?_
  refine x_icmp_ge (tgt := 73) hx hb dX0_differs_17 (by decide) ⟨by omega, by omega⟩ ⟨by omega, by omega⟩ (fun c1 => by exfalso; omega) (fun c1 => ?_)
  refine lv_iload hx hb dX0_differs_20 (lv_at hl 3 rfl) ?_
  refine lv_aload_n hx hb dX0_differs_22 rfl (lv_at hl 4 rfl) ?_
  refine b_get C hB 3 (by decide) q296 (v := .ref (Ad 4)) rfl rfl dX0_differs_23 ?_
  refine lv_iload hx hb dX0_differs_26 (lv_at hl 0 rfl) ?_
  refine b_lget C hZ hB a rfl (show ((a : Nat) : Int) < I 5 by omega) (show I 5 ≤ 7 by omega) q156 ⟨Nat.le_of_ble_eq_true rfl, Nat.le_of_ble_eq_true rfl⟩ hl.1 (Nat.le_of_ble_eq_true rfl) dX0_differs_28 ⟨Nat.le_of_ble_eq_true rfl, Nat.le_of_ble_eq_true rfl⟩ (fun H locs hB => ?_)
  refine b_castP C hB a (show ((a : Nat) : Int) < I 5 by omega) (show I 5 ≤ 7 by omega) q175 dX0_differs_33 ?_
  have hLi := hL a (by omega)
  refine b_plen l C hZ hB a (show ((a : Nat) : Int) < I 5 by omega) (show I 5 ≤ 7 by omega) (show 0 ≤ (F 10) a ∧ (F 10) a ≤ 2 by omega) (show 1 ≤ (F 11) a ∧ (F 11) a ≤ 9 by omega) q176 ⟨Nat.le_of_ble_eq_true rfl, Nat.le_of_ble_eq_true rfl⟩ hl.1 (Nat.le_of_ble_eq_true rfl) dX0_differs_36 ⟨Nat.le_of_ble_eq_true rfl, Nat.le_of_ble_eq_true rfl⟩ (fun H locs h2a h2b hB => ?_)
  refine x_iadd (z := lenF F a) hx hb dX0_differs_39 (by omega) ?_
  refine lv_istore (lv' := [(5, .int (iI (lenF F a))), (8, .int (iI ((a : Int)))), (7, .int (iI 0)), (6, .int (iI 0)), (0, .ref o), (1, .int (iI ((a : Int)))), (2, .int (iI 1)), (3, .int (iI ((b : Int)))), (4, .int (iI 1))]) hx hb dX0_differs_40 hl (by decide) rfl (fun ls hl => ?_)
  refine lv_iload hx hb dX0_differs_42 (lv_at hl 3 rfl) ?_
  refine lv_aload_n hx hb dX0_differs_44 rfl (lv_at hl 4 rfl) ?_
  refine b_get C hB 3 (by decide) q296 (v := .ref (Ad 4)) rfl rfl dX0_differs_45 ?_
  refine lv_iload hx hb dX0_differs_48 (lv_at hl 1 rfl) ?_
  refine b_lget C hZ hB a rfl (show ((a : Nat) : Int) < I 5 by omega) (show I 5 ≤ 7 by omega) q156 ⟨Nat.le_of_ble_eq_true rfl, Nat.le_of_ble_eq_true rfl⟩ hl.1 (Nat.le_of_ble_eq_true rfl) dX0_differs_50 ⟨Nat.le_of_ble_eq_true rfl, Nat.le_of_ble_eq_true rfl⟩ (fun H locs hB => ?_)
  refine b_castP C hB a (show ((a : Nat) : Int) < I 5 by omega) (show I 5 ≤ 7 by omega) q175 dX0_differs_55 ?_
  refine b_plA C hB a (show ((a : Nat) : Int) < I 5 by omega) (show I 5 ≤ 7 by omega) q779 dX0_differs_58 ?_
  have := hL a (by omega)
  refine bs_calli (n := 1) C hB (As := [.int (iI ((F 12) a))]) (kX0_anchorBit l E ((F 12) a) (by omega)) (lw_S q196 q197 q68 q198) (by decide +kernel) ⟨Nat.le_of_ble_eq_true rfl, Nat.le_of_ble_eq_true rfl⟩ rfl hl.1 rfl (Nat.le_of_ble_eq_true rfl) dX0_differs_61 ⟨Nat.le_of_ble_eq_true rfl, Nat.le_of_ble_eq_true rfl⟩ (fun z3 H locs hz4 hp5 hB => ?_)
  obtain ⟨hz4a, hz4b⟩ := hz4
  subst hp5
  have := rg_or 0 (aset ((F 12) a))
  refine x_ior hx hb dX0_differs_64 ?_
  refine lv_istore (lv' := [(6, .int (iI (bOr 0 (aset ((F 12) a))))), (5, .int (iI (lenF F a))), (8, .int (iI ((a : Int)))), (7, .int (iI 0)), (0, .ref o), (1, .int (iI ((a : Int)))), (2, .int (iI 1)), (3, .int (iI ((b : Int)))), (4, .int (iI 1))]) hx hb dX0_differs_65 hl (by decide) rfl (fun ls hl => ?_)
  refine lv_iinc (v := iI ((a : Int) + 1)) (lv' := [(8, .int (iI ((a : Int) + 1))), (6, .int (iI (bOr 0 (aset ((F 12) a))))), (5, .int (iI (lenF F a))), (7, .int (iI 0)), (0, .ref o), (1, .int (iI ((a : Int)))), (2, .int (iI 1)), (3, .int (iI ((b : Int)))), (4, .int (iI 1))]) hx hb dX0_differs_67 hl (k := 2) rfl (iI_add _ _) (by decide) rfl (fun ls hl => ?_)
  refine lv_goto (tgt := 12) hx hb dX0_differs_70 (by decide) ?_
  refine lv_iload hx hb dX0_differs_12 (lv_at hl 0 rfl) ?_
  refine lv_iload_n hx hb dX0_differs_14 rfl (lv_at hl 5 rfl) ?_
  refine lv_iload_n hx hb dX0_differs_15 rfl (lv_at hl 6 rfl) ?_
  refine x_iadd (z := (a : Int) + 1) hx hb dX0_differs_16 (by omega) ?_
  refine x_icmp_ge (tgt := 73) hx hb dX0_differs_17 (by decide) ⟨by omega, by omega⟩ ⟨by omega, by omega⟩ (fun c6 => ?_) (fun c6 => by exfalso; omega)
  refine lv_iload_n hx hb dX0_differs_73 rfl (lv_at hl 7 rfl) ?_
  refine lv_istore (lv' := [(8, .int (iI ((b : Int)))), (6, .int (iI (bOr 0 (aset ((F 12) a))))), (5, .int (iI (lenF F a))), (7, .int (iI 0)), (0, .ref o), (1, .int (iI ((a : Int)))), (2, .int (iI 1)), (3, .int (iI ((b : Int)))), (4, .int (iI 1))]) hx hb dX0_differs_74 hl (by decide) rfl (fun ls hl => ?_)
  refine lv_iload hx hb dX0_differs_76 (lv_at hl 0 rfl) ?_
  refine lv_iload_n hx hb dX0_differs_78 rfl (lv_at hl 7 rfl) ?_
  refine lv_iload hx hb dX0_differs_79 (lv_at hl 8 rfl) ?_
  refine x_iadd (z := (b : Int) + 1) hx hb dX0_differs_81 (by omega) ?_
  refine x_icmp_ge (tgt := 118) hx hb dX0_differs_82 (by decide) ⟨by omega, by omega⟩ ⟨by omega, by omega⟩ (fun c7 => by exfalso; omega) (fun c7 => ?_)
  refine lv_iload hx hb dX0_differs_85 (lv_at hl 2 rfl) ?_
  refine lv_aload_n hx hb dX0_differs_87 rfl (lv_at hl 4 rfl) ?_
  refine b_get C hB 5 (by decide) q299 (v := .ref (Ad 6)) rfl rfl dX0_differs_88 ?_
  refine lv_iload hx hb dX0_differs_91 (lv_at hl 0 rfl) ?_
  refine b_ald C hB 6 13 7 rfl (v := (F 13) b) b rfl (by omega) (by omega) rfl dX0_differs_93 ?_
  have := hR b (by omega)
  refine x_isub (z := lenF F a - (F 13) b) hx hb dX0_differs_94 (by omega) ?_
  refine lv_istore (lv' := [(5, .int (iI (lenF F a - (F 13) b))), (8, .int (iI ((b : Int)))), (6, .int (iI (bOr 0 (aset ((F 12) a))))), (7, .int (iI 0)), (0, .ref o), (1, .int (iI ((a : Int)))), (2, .int (iI 1)), (3, .int (iI ((b : Int)))), (4, .int (iI 1))]) hx hb dX0_differs_95 hl (by decide) rfl (fun ls hl => ?_)
  refine lv_iload hx hb dX0_differs_97 (lv_at hl 3 rfl) ?_
  refine lv_aload_n hx hb dX0_differs_99 rfl (lv_at hl 4 rfl) ?_
  refine b_get C hB 6 (by decide) q300 (v := .ref (Ad 7)) rfl rfl dX0_differs_100 ?_
  refine lv_iload hx hb dX0_differs_103 (lv_at hl 1 rfl) ?_
  refine b_ald C hB 7 14 7 rfl (v := (F 14) b) b rfl (by omega) (by omega) rfl dX0_differs_105 ?_
  have := hR b (by omega)
  refine bs_calli (n := 1) C hB (As := [.int (iI ((F 14) b))]) (kX0_anchorBit l E ((F 14) b) (by omega)) (lw_S q196 q197 q68 q198) (by decide +kernel) ⟨Nat.le_of_ble_eq_true rfl, Nat.le_of_ble_eq_true rfl⟩ rfl hl.1 rfl (Nat.le_of_ble_eq_true rfl) dX0_differs_106 ⟨Nat.le_of_ble_eq_true rfl, Nat.le_of_ble_eq_true rfl⟩ (fun z8 H locs hz9 hp10 hB => ?_)
  obtain ⟨hz9a, hz9b⟩ := hz9
  subst hp10
  have := rg_or 0 (aset ((F 14) b))
  refine x_ior hx hb dX0_differs_109 ?_
  refine lv_istore (lv' := [(7, .int (iI (bOr 0 (aset ((F 14) b))))), (5, .int (iI (lenF F a - (F 13) b))), (8, .int (iI ((b : Int)))), (6, .int (iI (bOr 0 (aset ((F 12) a))))), (0, .ref o), (1, .int (iI ((a : Int)))), (2, .int (iI 1)), (3, .int (iI ((b : Int)))), (4, .int (iI 1))]) hx hb dX0_differs_110 hl (by decide) rfl (fun ls hl => ?_)
  refine lv_iinc (v := iI ((b : Int) + 1)) (lv' := [(8, .int (iI ((b : Int) + 1))), (7, .int (iI (bOr 0 (aset ((F 14) b))))), (5, .int (iI (lenF F a - (F 13) b))), (6, .int (iI (bOr 0 (aset ((F 12) a))))), (0, .ref o), (1, .int (iI ((a : Int)))), (2, .int (iI 1)), (3, .int (iI ((b : Int)))), (4, .int (iI 1))]) hx hb dX0_differs_112 hl (k := 2) rfl (iI_add _ _) (by decide) rfl (fun ls hl => ?_)
  refine lv_goto (tgt := 76) hx hb dX0_differs_115 (by decide) ?_
  refine lv_iload hx hb dX0_differs_76 (lv_at hl 0 rfl) ?_
  refine lv_iload_n hx hb dX0_differs_78 rfl (lv_at hl 7 rfl) ?_
  refine lv_iload hx hb dX0_differs_79 (lv_at hl 8 rfl) ?_
  refine x_iadd (z := (b : Int) + 1) hx hb dX0_differs_81 (by omega) ?_
  refine x_icmp_ge (tgt := 118) hx hb dX0_differs_82 (by decide) ⟨by omega, by omega⟩ ⟨by omega, by omega⟩ (fun c11 => ?_) (fun c11 => by exfalso; omega)
  refine lv_iload hx hb dX0_differs_118 (lv_at hl 2 rfl) ?_
  refine x_mabs C q199 q200 q75 q201 hl.1 (Nat.le_of_ble_eq_true rfl) (Nat.le_of_ble_eq_true rfl) (Nat.le_of_ble_eq_true rfl) (Nat.le_of_ble_eq_true rfl) ⟨by omega, by omega⟩ dX0_differs_120 ?_
  have := aabs_b (lenF F a - (F 13) b)
  refine lv_iload hx hb dX0_differs_123 (lv_at hl 3 rfl) ?_
  refine lv_iload hx hb dX0_differs_125 (lv_at hl 1 rfl) ?_
  refine x_icmp_ne (tgt := 134) hx hb dX0_differs_127 (by decide) ⟨by omega, by omega⟩ ⟨by omega, by omega⟩ (fun c12 => ?_) (fun c12 => ?_)
  · refine lv_iconst (v := iI 3) hx hb dX0_differs_134 rfl ?_
    refine x_iadd (z := aabs (lenF F a - (F 13) b) + 3) hx hb dX0_differs_135 (by omega) ?_
    exact b_iret C hB hr hlocks rfl dX0_differs_136 (Nat.le_of_ble_eq_true rfl) (Nat.le_of_ble_eq_true rfl) ⟨by omega, by omega⟩ ⟨rfl, rfl, rfl, rfl, by rw [cst_0]; unfold aabs miss; (repeat' split) <;> omega⟩
  · refine lv_iconst (v := iI 0) hx hb dX0_differs_130 rfl ?_
    refine lv_goto (tgt := 135) hx hb dX0_differs_131 (by decide) ?_
    refine x_iadd (z := aabs (lenF F a - (F 13) b)) hx hb dX0_differs_135 (by omega) ?_
    exact b_iret C hB hr hlocks rfl dX0_differs_136 (Nat.le_of_ble_eq_true rfl) (Nat.le_of_ble_eq_true rfl) ⟨by omega, by omega⟩ ⟨rfl, rfl, rfl, rfl, by rw [cst_0]; unfold aabs miss; (repeat' split) <;> omega⟩
set_option maxHeartbeats 800000 in
set_option maxRecDepth 100000 in
theorem kX0_differs_21 (l : Launch) (E : xE) (o : Nat) (Ad : Nat → Nat) (I : Nat → Int) (F : Nat → Nat → Int) (X : xw) (a : Nat) (b : Nat) (ha : (a : Int) + 2 ≤ I 5) (hbb : (b : Int) + 1 ≤ I 6) (hOK : mOK I F) : ci_ l E yX0_differs cX0_differs 9 (some .int) 3 64 0 0 [.ref o, .int (iI ((a : Int))), .int (iI 2), .int (iI ((b : Int))), .int (iI 1)] o Ad I F X (fun z Ad' I' F' X' => Ad = Ad' ∧ I = I' ∧ F = F' ∧ X = X' ∧ z = cst I F 3 a b - I 8) := by
  intro w hI hd sz
  refine x_bodyz (by decide) (Nat.le_of_ble_eq_true rfl) ?_
  intro p e s m args below meth c ls hx hb C hr hlocks hin hsz hZ hB hl
  have C : xC E p s m args c cX0_differs 9 RX0 := C
  replace hB : xBB E (xA (wU w X) sz) s o Ad I F X s.heap [] := ⟨w, hI, hd, hB⟩
  have hl : lv_has ls 9 [(0, .ref o), (1, .int (iI ((a : Int)))), (2, .int (iI 2)), (3, .int (iI ((b : Int)))), (4, .int (iI 1))] := hl
  have hOK0 := hOK
  obtain ⟨⟨hf1, hf2⟩, ⟨hl1, hl2⟩, ⟨hr1, hr2⟩, hlr, ⟨hs1, hs2⟩, ⟨hj1, hj2⟩, ⟨hb1, hb2⟩, ⟨hn1, hn2⟩, hL, hR, hN, hS, hC⟩ := hOK
  
  refine lv_iconst (v := iI 0) hx hb dX0_differs_0 rfl ?_
  refine lv_istore (lv' := [(5, .int (iI 0)), (0, .ref o), (1, .int (iI ((a : Int)))), (2, .int (iI 2)), (3, .int (iI ((b : Int)))), (4, .int (iI 1))]) hx hb dX0_differs_1 hl (by decide) rfl (fun ls hl => ?_)
  refine lv_iconst (v := iI 0) hx hb dX0_differs_3 rfl ?_
  refine lv_istore (lv' := [(6, .int (iI 0)), (5, .int (iI 0)), (0, .ref o), (1, .int (iI ((a : Int)))), (2, .int (iI 2)), (3, .int (iI ((b : Int)))), (4, .int (iI 1))]) hx hb dX0_differs_4 hl (by decide) rfl (fun ls hl => ?_)
  refine lv_iconst (v := iI 0) hx hb dX0_differs_6 rfl ?_
  refine lv_istore (lv' := [(7, .int (iI 0)), (6, .int (iI 0)), (5, .int (iI 0)), (0, .ref o), (1, .int (iI ((a : Int)))), (2, .int (iI 2)), (3, .int (iI ((b : Int)))), (4, .int (iI 1))]) hx hb dX0_differs_7 hl (by decide) rfl (fun ls hl => ?_)
  refine lv_iload_n hx hb dX0_differs_9 rfl (lv_at hl 4 rfl) ?_
  refine lv_istore (lv' := [(8, .int (iI ((a : Int)))), (7, .int (iI 0)), (6, .int (iI 0)), (5, .int (iI 0)), (0, .ref o), (1, .int (iI ((a : Int)))), (2, .int (iI 2)), (3, .int (iI ((b : Int)))), (4, .int (iI 1))]) hx hb dX0_differs_10 hl (by decide) rfl (fun ls hl => ?_)
  refine lv_iload hx hb dX0_differs_12 (lv_at hl 0 rfl) ?_
  refine lv_iload_n hx hb dX0_differs_14 rfl (lv_at hl 5 rfl) ?_
  refine lv_iload_n hx hb dX0_differs_15 rfl (lv_at hl 6 rfl) ?_
  refine x_iadd (z := (a : Int) + 2) hx hb dX0_differs_16 (by omega) ?_
  refine x_icmp_ge (tgt := 73) hx hb dX0_differs_17 (by decide) ⟨by omega, by omega⟩ ⟨by omega, by omega⟩ (fun c1 => by exfalso; omega) (fun c1 => ?_)
  refine lv_iload hx hb dX0_differs_20 (lv_at hl 3 rfl) ?_
  refine lv_aload_n hx hb dX0_differs_22 rfl (lv_at hl 4 rfl) ?_
  refine b_get C hB 3 (by decide) q296 (v := .ref (Ad 4)) rfl rfl dX0_differs_23 ?_
  refine lv_iload hx hb dX0_differs_26 (lv_at hl 0 rfl) ?_
  refine b_lget C hZ hB a rfl (show ((a : Nat) : Int) < I 5 by omega) (show I 5 ≤ 7 by omega) q156 ⟨Nat.le_of_ble_eq_true rfl, Nat.le_of_ble_eq_true rfl⟩ hl.1 (Nat.le_of_ble_eq_true rfl) dX0_differs_28 ⟨Nat.le_of_ble_eq_true rfl, Nat.le_of_ble_eq_true rfl⟩ (fun H locs hB => ?_)
  refine b_castP C hB a (show ((a : Nat) : Int) < I 5 by omega) (show I 5 ≤ 7 by omega) q175 dX0_differs_33 ?_
  have hLi := hL a (by omega)
  refine b_plen l C hZ hB a (show ((a : Nat) : Int) < I 5 by omega) (show I 5 ≤ 7 by omega) (show 0 ≤ (F 10) a ∧ (F 10) a ≤ 2 by omega) (show 1 ≤ (F 11) a ∧ (F 11) a ≤ 9 by omega) q176 ⟨Nat.le_of_ble_eq_true rfl, Nat.le_of_ble_eq_true rfl⟩ hl.1 (Nat.le_of_ble_eq_true rfl) dX0_differs_36 ⟨Nat.le_of_ble_eq_true rfl, Nat.le_of_ble_eq_true rfl⟩ (fun H locs h2a h2b hB => ?_)
  refine x_iadd (z := lenF F a) hx hb dX0_differs_39 (by omega) ?_
  refine lv_istore (lv' := [(5, .int (iI (lenF F a))), (8, .int (iI ((a : Int)))), (7, .int (iI 0)), (6, .int (iI 0)), (0, .ref o), (1, .int (iI ((a : Int)))), (2, .int (iI 2)), (3, .int (iI ((b : Int)))), (4, .int (iI 1))]) hx hb dX0_differs_40 hl (by decide) rfl (fun ls hl => ?_)
  refine lv_iload hx hb dX0_differs_42 (lv_at hl 3 rfl) ?_
  refine lv_aload_n hx hb dX0_differs_44 rfl (lv_at hl 4 rfl) ?_
  refine b_get C hB 3 (by decide) q296 (v := .ref (Ad 4)) rfl rfl dX0_differs_45 ?_
  refine lv_iload hx hb dX0_differs_48 (lv_at hl 1 rfl) ?_
  refine b_lget C hZ hB a rfl (show ((a : Nat) : Int) < I 5 by omega) (show I 5 ≤ 7 by omega) q156 ⟨Nat.le_of_ble_eq_true rfl, Nat.le_of_ble_eq_true rfl⟩ hl.1 (Nat.le_of_ble_eq_true rfl) dX0_differs_50 ⟨Nat.le_of_ble_eq_true rfl, Nat.le_of_ble_eq_true rfl⟩ (fun H locs hB => ?_)
  refine b_castP C hB a (show ((a : Nat) : Int) < I 5 by omega) (show I 5 ≤ 7 by omega) q175 dX0_differs_55 ?_
  refine b_plA C hB a (show ((a : Nat) : Int) < I 5 by omega) (show I 5 ≤ 7 by omega) q779 dX0_differs_58 ?_
  have := hL a (by omega)
  refine bs_calli (n := 1) C hB (As := [.int (iI ((F 12) a))]) (kX0_anchorBit l E ((F 12) a) (by omega)) (lw_S q196 q197 q68 q198) (by decide +kernel) ⟨Nat.le_of_ble_eq_true rfl, Nat.le_of_ble_eq_true rfl⟩ rfl hl.1 rfl (Nat.le_of_ble_eq_true rfl) dX0_differs_61 ⟨Nat.le_of_ble_eq_true rfl, Nat.le_of_ble_eq_true rfl⟩ (fun z3 H locs hz4 hp5 hB => ?_)
  obtain ⟨hz4a, hz4b⟩ := hz4
  subst hp5
  have := rg_or 0 (aset ((F 12) a))
  refine x_ior hx hb dX0_differs_64 ?_
  refine lv_istore (lv' := [(6, .int (iI (bOr 0 (aset ((F 12) a))))), (5, .int (iI (lenF F a))), (8, .int (iI ((a : Int)))), (7, .int (iI 0)), (0, .ref o), (1, .int (iI ((a : Int)))), (2, .int (iI 2)), (3, .int (iI ((b : Int)))), (4, .int (iI 1))]) hx hb dX0_differs_65 hl (by decide) rfl (fun ls hl => ?_)
  refine lv_iinc (v := iI ((a : Int) + 1)) (lv' := [(8, .int (iI ((a : Int) + 1))), (6, .int (iI (bOr 0 (aset ((F 12) a))))), (5, .int (iI (lenF F a))), (7, .int (iI 0)), (0, .ref o), (1, .int (iI ((a : Int)))), (2, .int (iI 2)), (3, .int (iI ((b : Int)))), (4, .int (iI 1))]) hx hb dX0_differs_67 hl (k := 2) rfl (iI_add _ _) (by decide) rfl (fun ls hl => ?_)
  refine lv_goto (tgt := 12) hx hb dX0_differs_70 (by decide) ?_
  refine lv_iload hx hb dX0_differs_12 (lv_at hl 0 rfl) ?_
  refine lv_iload_n hx hb dX0_differs_14 rfl (lv_at hl 5 rfl) ?_
  refine lv_iload_n hx hb dX0_differs_15 rfl (lv_at hl 6 rfl) ?_
  refine x_iadd (z := (a : Int) + 2) hx hb dX0_differs_16 (by omega) ?_
  refine x_icmp_ge (tgt := 73) hx hb dX0_differs_17 (by decide) ⟨by omega, by omega⟩ ⟨by omega, by omega⟩ (fun c6 => by exfalso; omega) (fun c6 => ?_)
  refine lv_iload hx hb dX0_differs_20 (lv_at hl 2 rfl) ?_
  refine lv_aload_n hx hb dX0_differs_22 rfl (lv_at hl 4 rfl) ?_
  refine b_get C hB 3 (by decide) q296 (v := .ref (Ad 4)) rfl rfl dX0_differs_23 ?_
  refine lv_iload hx hb dX0_differs_26 (lv_at hl 0 rfl) ?_
  refine b_lget C hZ hB (a + 1) (by omega) (show (((a + 1) : Nat) : Int) < I 5 by omega) (show I 5 ≤ 7 by omega) q156 ⟨Nat.le_of_ble_eq_true rfl, Nat.le_of_ble_eq_true rfl⟩ hl.1 (Nat.le_of_ble_eq_true rfl) dX0_differs_28 ⟨Nat.le_of_ble_eq_true rfl, Nat.le_of_ble_eq_true rfl⟩ (fun H locs hB => ?_)
  refine b_castP C hB (a + 1) (show (((a + 1) : Nat) : Int) < I 5 by omega) (show I 5 ≤ 7 by omega) q175 dX0_differs_33 ?_
  have hLi := hL ((a + 1)) (by omega)
  refine b_plen l C hZ hB ((a + 1)) (show (((a + 1) : Nat) : Int) < I 5 by omega) (show I 5 ≤ 7 by omega) (show 0 ≤ (F 10) ((a + 1)) ∧ (F 10) ((a + 1)) ≤ 2 by omega) (show 1 ≤ (F 11) ((a + 1)) ∧ (F 11) ((a + 1)) ≤ 9 by omega) q176 ⟨Nat.le_of_ble_eq_true rfl, Nat.le_of_ble_eq_true rfl⟩ hl.1 (Nat.le_of_ble_eq_true rfl) dX0_differs_36 ⟨Nat.le_of_ble_eq_true rfl, Nat.le_of_ble_eq_true rfl⟩ (fun H locs h7a h7b hB => ?_)
  refine x_iadd (z := lenF F a + lenF F ((a + 1))) hx hb dX0_differs_39 (by omega) ?_
  refine lv_istore (lv' := [(5, .int (iI (lenF F a + lenF F ((a + 1))))), (8, .int (iI ((a : Int) + 1))), (6, .int (iI (bOr 0 (aset ((F 12) a))))), (7, .int (iI 0)), (0, .ref o), (1, .int (iI ((a : Int)))), (2, .int (iI 2)), (3, .int (iI ((b : Int)))), (4, .int (iI 1))]) hx hb dX0_differs_40 hl (by decide) rfl (fun ls hl => ?_)
  refine lv_iload hx hb dX0_differs_42 (lv_at hl 2 rfl) ?_
  refine lv_aload_n hx hb dX0_differs_44 rfl (lv_at hl 4 rfl) ?_
  refine b_get C hB 3 (by decide) q296 (v := .ref (Ad 4)) rfl rfl dX0_differs_45 ?_
  refine lv_iload hx hb dX0_differs_48 (lv_at hl 1 rfl) ?_
  refine b_lget C hZ hB (a + 1) (by omega) (show (((a + 1) : Nat) : Int) < I 5 by omega) (show I 5 ≤ 7 by omega) q156 ⟨Nat.le_of_ble_eq_true rfl, Nat.le_of_ble_eq_true rfl⟩ hl.1 (Nat.le_of_ble_eq_true rfl) dX0_differs_50 ⟨Nat.le_of_ble_eq_true rfl, Nat.le_of_ble_eq_true rfl⟩ (fun H locs hB => ?_)
  refine b_castP C hB (a + 1) (show (((a + 1) : Nat) : Int) < I 5 by omega) (show I 5 ≤ 7 by omega) q175 dX0_differs_55 ?_
  refine b_plA C hB (a + 1) (show (((a + 1) : Nat) : Int) < I 5 by omega) (show I 5 ≤ 7 by omega) q779 dX0_differs_58 ?_
  have := hL (a + 1) (by omega)
  refine bs_calli (n := 1) C hB (As := [.int (iI ((F 12) (a + 1)))]) (kX0_anchorBit l E ((F 12) (a + 1)) (by omega)) (lw_S q196 q197 q68 q198) (by decide +kernel) ⟨Nat.le_of_ble_eq_true rfl, Nat.le_of_ble_eq_true rfl⟩ rfl hl.1 rfl (Nat.le_of_ble_eq_true rfl) dX0_differs_61 ⟨Nat.le_of_ble_eq_true rfl, Nat.le_of_ble_eq_true rfl⟩ (fun z8 H locs hz9 hp10 hB => ?_)
  obtain ⟨hz9a, hz9b⟩ := hz9
  subst hp10
  have := rg_or (bOr 0 (aset ((F 12) a))) (aset ((F 12) (a + 1)))
  refine x_ior hx hb dX0_differs_64 ?_
  refine lv_istore (lv' := [(6, .int (iI (bOr (bOr 0 (aset ((F 12) a))) (aset ((F 12) (a + 1)))))), (5, .int (iI (lenF F a + lenF F ((a + 1))))), (8, .int (iI ((a : Int) + 1))), (7, .int (iI 0)), (0, .ref o), (1, .int (iI ((a : Int)))), (2, .int (iI 2)), (3, .int (iI ((b : Int)))), (4, .int (iI 1))]) hx hb dX0_differs_65 hl (by decide) rfl (fun ls hl => ?_)
  refine lv_iinc (v := iI ((a : Int) + 1 + 1)) (lv' := [(8, .int (iI ((a : Int) + 1 + 1))), (6, .int (iI (bOr (bOr 0 (aset ((F 12) a))) (aset ((F 12) (a + 1)))))), (5, .int (iI (lenF F a + lenF F ((a + 1))))), (7, .int (iI 0)), (0, .ref o), (1, .int (iI ((a : Int)))), (2, .int (iI 2)), (3, .int (iI ((b : Int)))), (4, .int (iI 1))]) hx hb dX0_differs_67 hl (k := 2) rfl (iI_add _ _) (by decide) rfl (fun ls hl => ?_)
  rw [show ((a : Int) + 1 + 1 : Int) = (a : Int) + 2 by omega] at hl
  refine lv_goto (tgt := 12) hx hb dX0_differs_70 (by decide) ?_
  refine lv_iload hx hb dX0_differs_12 (lv_at hl 0 rfl) ?_
  refine lv_iload_n hx hb dX0_differs_14 rfl (lv_at hl 5 rfl) ?_
  refine lv_iload_n hx hb dX0_differs_15 rfl (lv_at hl 6 rfl) ?_
  refine x_iadd (z := (a : Int) + 2) hx hb dX0_differs_16 (by omega) ?_
  refine x_icmp_ge (tgt := 73) hx hb dX0_differs_17 (by decide) ⟨by omega, by omega⟩ ⟨by omega, by omega⟩ (fun c11 => ?_) (fun c11 => by exfalso; omega)
  refine lv_iload_n hx hb dX0_differs_73 rfl (lv_at hl 7 rfl) ?_
  refine lv_istore (lv' := [(8, .int (iI ((b : Int)))), (6, .int (iI (bOr (bOr 0 (aset ((F 12) a))) (aset ((F 12) (a + 1)))))), (5, .int (iI (lenF F a + lenF F ((a + 1))))), (7, .int (iI 0)), (0, .ref o), (1, .int (iI ((a : Int)))), (2, .int (iI 2)), (3, .int (iI ((b : Int)))), (4, .int (iI 1))]) hx hb dX0_differs_74 hl (by decide) rfl (fun ls hl => ?_)
  refine lv_iload hx hb dX0_differs_76 (lv_at hl 0 rfl) ?_
  refine lv_iload_n hx hb dX0_differs_78 rfl (lv_at hl 7 rfl) ?_
  refine lv_iload hx hb dX0_differs_79 (lv_at hl 8 rfl) ?_
  refine x_iadd (z := (b : Int) + 1) hx hb dX0_differs_81 (by omega) ?_
  refine x_icmp_ge (tgt := 118) hx hb dX0_differs_82 (by decide) ⟨by omega, by omega⟩ ⟨by omega, by omega⟩ (fun c12 => by exfalso; omega) (fun c12 => ?_)
  refine lv_iload hx hb dX0_differs_85 (lv_at hl 2 rfl) ?_
  refine lv_aload_n hx hb dX0_differs_87 rfl (lv_at hl 4 rfl) ?_
  refine b_get C hB 5 (by decide) q299 (v := .ref (Ad 6)) rfl rfl dX0_differs_88 ?_
  refine lv_iload hx hb dX0_differs_91 (lv_at hl 0 rfl) ?_
  refine b_ald C hB 6 13 7 rfl (v := (F 13) b) b rfl (by omega) (by omega) rfl dX0_differs_93 ?_
  have := hR b (by omega)
  refine x_isub (z := lenF F a + lenF F ((a + 1)) - (F 13) b) hx hb dX0_differs_94 (by omega) ?_
  refine lv_istore (lv' := [(5, .int (iI (lenF F a + lenF F ((a + 1)) - (F 13) b))), (8, .int (iI ((b : Int)))), (6, .int (iI (bOr (bOr 0 (aset ((F 12) a))) (aset ((F 12) (a + 1)))))), (7, .int (iI 0)), (0, .ref o), (1, .int (iI ((a : Int)))), (2, .int (iI 2)), (3, .int (iI ((b : Int)))), (4, .int (iI 1))]) hx hb dX0_differs_95 hl (by decide) rfl (fun ls hl => ?_)
  refine lv_iload hx hb dX0_differs_97 (lv_at hl 3 rfl) ?_
  refine lv_aload_n hx hb dX0_differs_99 rfl (lv_at hl 4 rfl) ?_
  refine b_get C hB 6 (by decide) q300 (v := .ref (Ad 7)) rfl rfl dX0_differs_100 ?_
  refine lv_iload hx hb dX0_differs_103 (lv_at hl 1 rfl) ?_
  refine b_ald C hB 7 14 7 rfl (v := (F 14) b) b rfl (by omega) (by omega) rfl dX0_differs_105 ?_
  have := hR b (by omega)
  refine bs_calli (n := 1) C hB (As := [.int (iI ((F 14) b))]) (kX0_anchorBit l E ((F 14) b) (by omega)) (lw_S q196 q197 q68 q198) (by decide +kernel) ⟨Nat.le_of_ble_eq_true rfl, Nat.le_of_ble_eq_true rfl⟩ rfl hl.1 rfl (Nat.le_of_ble_eq_true rfl) dX0_differs_106 ⟨Nat.le_of_ble_eq_true rfl, Nat.le_of_ble_eq_true rfl⟩ (fun z13 H locs hz14 hp15 hB => ?_)
  obtain ⟨hz14a, hz14b⟩ := hz14
  subst hp15
  have := rg_or 0 (aset ((F 14) b))
  refine x_ior hx hb dX0_differs_109 ?_
  refine lv_istore (lv' := [(7, .int (iI (bOr 0 (aset ((F 14) b))))), (5, .int (iI (lenF F a + lenF F ((a + 1)) - (F 13) b))), (8, .int (iI ((b : Int)))), (6, .int (iI (bOr (bOr 0 (aset ((F 12) a))) (aset ((F 12) (a + 1)))))), (0, .ref o), (1, .int (iI ((a : Int)))), (2, .int (iI 2)), (3, .int (iI ((b : Int)))), (4, .int (iI 1))]) hx hb dX0_differs_110 hl (by decide) rfl (fun ls hl => ?_)
  refine lv_iinc (v := iI ((b : Int) + 1)) (lv' := [(8, .int (iI ((b : Int) + 1))), (7, .int (iI (bOr 0 (aset ((F 14) b))))), (5, .int (iI (lenF F a + lenF F ((a + 1)) - (F 13) b))), (6, .int (iI (bOr (bOr 0 (aset ((F 12) a))) (aset ((F 12) (a + 1)))))), (0, .ref o), (1, .int (iI ((a : Int)))), (2, .int (iI 2)), (3, .int (iI ((b : Int)))), (4, .int (iI 1))]) hx hb dX0_differs_112 hl (k := 2) rfl (iI_add _ _) (by decide) rfl (fun ls hl => ?_)
  refine lv_goto (tgt := 76) hx hb dX0_differs_115 (by decide) ?_
  refine lv_iload hx hb dX0_differs_76 (lv_at hl 0 rfl) ?_
  refine lv_iload_n hx hb dX0_differs_78 rfl (lv_at hl 7 rfl) ?_
  refine lv_iload hx hb dX0_differs_79 (lv_at hl 8 rfl) ?_
  refine x_iadd (z := (b : Int) + 1) hx hb dX0_differs_81 (by omega) ?_
  refine x_icmp_ge (tgt := 118) hx hb dX0_differs_82 (by decide) ⟨by omega, by omega⟩ ⟨by omega, by omega⟩ (fun c16 => ?_) (fun c16 => by exfalso; omega)
  refine lv_iload hx hb dX0_differs_118 (lv_at hl 2 rfl) ?_
  refine x_mabs C q199 q200 q75 q201 hl.1 (Nat.le_of_ble_eq_true rfl) (Nat.le_of_ble_eq_true rfl) (Nat.le_of_ble_eq_true rfl) (Nat.le_of_ble_eq_true rfl) ⟨by omega, by omega⟩ dX0_differs_120 ?_
  have := aabs_b (lenF F a + lenF F ((a + 1)) - (F 13) b)
  refine lv_iload hx hb dX0_differs_123 (lv_at hl 3 rfl) ?_
  refine lv_iload hx hb dX0_differs_125 (lv_at hl 1 rfl) ?_
  refine x_icmp_ne (tgt := 134) hx hb dX0_differs_127 (by decide) ⟨by omega, by omega⟩ ⟨by omega, by omega⟩ (fun c17 => ?_) (fun c17 => ?_)
  · refine lv_iconst (v := iI 3) hx hb dX0_differs_134 rfl ?_
    refine x_iadd (z := aabs (lenF F a + lenF F ((a + 1)) - (F 13) b) + 3) hx hb dX0_differs_135 (by omega) ?_
    exact b_iret C hB hr hlocks rfl dX0_differs_136 (Nat.le_of_ble_eq_true rfl) (Nat.le_of_ble_eq_true rfl) ⟨by omega, by omega⟩ ⟨rfl, rfl, rfl, rfl, by rw [cst_3]; unfold aabs miss; (repeat' split) <;> omega⟩
  · refine lv_iconst (v := iI 0) hx hb dX0_differs_130 rfl ?_
    refine lv_goto (tgt := 135) hx hb dX0_differs_131 (by decide) ?_
    refine x_iadd (z := aabs (lenF F a + lenF F ((a + 1)) - (F 13) b)) hx hb dX0_differs_135 (by omega) ?_
    exact b_iret C hB hr hlocks rfl dX0_differs_136 (Nat.le_of_ble_eq_true rfl) (Nat.le_of_ble_eq_true rfl) ⟨by omega, by omega⟩ ⟨rfl, rfl, rfl, rfl, by rw [cst_3]; unfold aabs miss; (repeat' split) <;> omega⟩
set_option maxHeartbeats 800000 in
set_option maxRecDepth 100000 in
theorem kX0_differs_12 (l : Launch) (E : xE) (o : Nat) (Ad : Nat → Nat) (I : Nat → Int) (F : Nat → Nat → Int) (X : xw) (a : Nat) (b : Nat) (ha : (a : Int) + 1 ≤ I 5) (hbb : (b : Int) + 2 ≤ I 6) (hOK : mOK I F) : ci_ l E yX0_differs cX0_differs 9 (some .int) 3 64 0 0 [.ref o, .int (iI ((a : Int))), .int (iI 1), .int (iI ((b : Int))), .int (iI 2)] o Ad I F X (fun z Ad' I' F' X' => Ad = Ad' ∧ I = I' ∧ F = F' ∧ X = X' ∧ z = cst I F 4 a b - I 8) := by
  intro w hI hd sz
  refine x_bodyz (by decide) (Nat.le_of_ble_eq_true rfl) ?_
  intro p e s m args below meth c ls hx hb C hr hlocks hin hsz hZ hB hl
  have C : xC E p s m args c cX0_differs 9 RX0 := C
  replace hB : xBB E (xA (wU w X) sz) s o Ad I F X s.heap [] := ⟨w, hI, hd, hB⟩
  have hl : lv_has ls 9 [(0, .ref o), (1, .int (iI ((a : Int)))), (2, .int (iI 1)), (3, .int (iI ((b : Int)))), (4, .int (iI 2))] := hl
  have hOK0 := hOK
  obtain ⟨⟨hf1, hf2⟩, ⟨hl1, hl2⟩, ⟨hr1, hr2⟩, hlr, ⟨hs1, hs2⟩, ⟨hj1, hj2⟩, ⟨hb1, hb2⟩, ⟨hn1, hn2⟩, hL, hR, hN, hS, hC⟩ := hOK
  
  refine lv_iconst (v := iI 0) hx hb dX0_differs_0 rfl ?_
  refine lv_istore (lv' := [(5, .int (iI 0)), (0, .ref o), (1, .int (iI ((a : Int)))), (2, .int (iI 1)), (3, .int (iI ((b : Int)))), (4, .int (iI 2))]) hx hb dX0_differs_1 hl (by decide) rfl (fun ls hl => ?_)
  refine lv_iconst (v := iI 0) hx hb dX0_differs_3 rfl ?_
  refine lv_istore (lv' := [(6, .int (iI 0)), (5, .int (iI 0)), (0, .ref o), (1, .int (iI ((a : Int)))), (2, .int (iI 1)), (3, .int (iI ((b : Int)))), (4, .int (iI 2))]) hx hb dX0_differs_4 hl (by decide) rfl (fun ls hl => ?_)
  refine lv_iconst (v := iI 0) hx hb dX0_differs_6 rfl ?_
  refine lv_istore (lv' := [(7, .int (iI 0)), (6, .int (iI 0)), (5, .int (iI 0)), (0, .ref o), (1, .int (iI ((a : Int)))), (2, .int (iI 1)), (3, .int (iI ((b : Int)))), (4, .int (iI 2))]) hx hb dX0_differs_7 hl (by decide) rfl (fun ls hl => ?_)
  refine lv_iload_n hx hb dX0_differs_9 rfl (lv_at hl 4 rfl) ?_
  refine lv_istore (lv' := [(8, .int (iI ((a : Int)))), (7, .int (iI 0)), (6, .int (iI 0)), (5, .int (iI 0)), (0, .ref o), (1, .int (iI ((a : Int)))), (2, .int (iI 1)), (3, .int (iI ((b : Int)))), (4, .int (iI 2))]) hx hb dX0_differs_10 hl (by decide) rfl (fun ls hl => ?_)
  refine lv_iload hx hb dX0_differs_12 (lv_at hl 0 rfl) ?_
  refine lv_iload_n hx hb dX0_differs_14 rfl (lv_at hl 5 rfl) ?_
  refine lv_iload_n hx hb dX0_differs_15 rfl (lv_at hl 6 rfl) ?_
  refine x_iadd (z := (a : Int) + 1) hx hb dX0_differs_16 (by omega) ?_
  refine x_icmp_ge (tgt := 73) hx hb dX0_differs_17 (by decide) ⟨by omega, by omega⟩ ⟨by omega, by omega⟩ (fun c1 => by exfalso; omega) (fun c1 => ?_)
  refine lv_iload hx hb dX0_differs_20 (lv_at hl 3 rfl) ?_
  refine lv_aload_n hx hb dX0_differs_22 rfl (lv_at hl 4 rfl) ?_
  refine b_get C hB 3 (by decide) q296 (v := .ref (Ad 4)) rfl rfl dX0_differs_23 ?_
  refine lv_iload hx hb dX0_differs_26 (lv_at hl 0 rfl) ?_
  refine b_lget C hZ hB a rfl (show ((a : Nat) : Int) < I 5 by omega) (show I 5 ≤ 7 by omega) q156 ⟨Nat.le_of_ble_eq_true rfl, Nat.le_of_ble_eq_true rfl⟩ hl.1 (Nat.le_of_ble_eq_true rfl) dX0_differs_28 ⟨Nat.le_of_ble_eq_true rfl, Nat.le_of_ble_eq_true rfl⟩ (fun H locs hB => ?_)
  refine b_castP C hB a (show ((a : Nat) : Int) < I 5 by omega) (show I 5 ≤ 7 by omega) q175 dX0_differs_33 ?_
  have hLi := hL a (by omega)
  refine b_plen l C hZ hB a (show ((a : Nat) : Int) < I 5 by omega) (show I 5 ≤ 7 by omega) (show 0 ≤ (F 10) a ∧ (F 10) a ≤ 2 by omega) (show 1 ≤ (F 11) a ∧ (F 11) a ≤ 9 by omega) q176 ⟨Nat.le_of_ble_eq_true rfl, Nat.le_of_ble_eq_true rfl⟩ hl.1 (Nat.le_of_ble_eq_true rfl) dX0_differs_36 ⟨Nat.le_of_ble_eq_true rfl, Nat.le_of_ble_eq_true rfl⟩ (fun H locs h2a h2b hB => ?_)
  refine x_iadd (z := lenF F a) hx hb dX0_differs_39 (by omega) ?_
  refine lv_istore (lv' := [(5, .int (iI (lenF F a))), (8, .int (iI ((a : Int)))), (7, .int (iI 0)), (6, .int (iI 0)), (0, .ref o), (1, .int (iI ((a : Int)))), (2, .int (iI 1)), (3, .int (iI ((b : Int)))), (4, .int (iI 2))]) hx hb dX0_differs_40 hl (by decide) rfl (fun ls hl => ?_)
  refine lv_iload hx hb dX0_differs_42 (lv_at hl 3 rfl) ?_
  refine lv_aload_n hx hb dX0_differs_44 rfl (lv_at hl 4 rfl) ?_
  refine b_get C hB 3 (by decide) q296 (v := .ref (Ad 4)) rfl rfl dX0_differs_45 ?_
  refine lv_iload hx hb dX0_differs_48 (lv_at hl 1 rfl) ?_
  refine b_lget C hZ hB a rfl (show ((a : Nat) : Int) < I 5 by omega) (show I 5 ≤ 7 by omega) q156 ⟨Nat.le_of_ble_eq_true rfl, Nat.le_of_ble_eq_true rfl⟩ hl.1 (Nat.le_of_ble_eq_true rfl) dX0_differs_50 ⟨Nat.le_of_ble_eq_true rfl, Nat.le_of_ble_eq_true rfl⟩ (fun H locs hB => ?_)
  refine b_castP C hB a (show ((a : Nat) : Int) < I 5 by omega) (show I 5 ≤ 7 by omega) q175 dX0_differs_55 ?_
  refine b_plA C hB a (show ((a : Nat) : Int) < I 5 by omega) (show I 5 ≤ 7 by omega) q779 dX0_differs_58 ?_
  have := hL a (by omega)
  refine bs_calli (n := 1) C hB (As := [.int (iI ((F 12) a))]) (kX0_anchorBit l E ((F 12) a) (by omega)) (lw_S q196 q197 q68 q198) (by decide +kernel) ⟨Nat.le_of_ble_eq_true rfl, Nat.le_of_ble_eq_true rfl⟩ rfl hl.1 rfl (Nat.le_of_ble_eq_true rfl) dX0_differs_61 ⟨Nat.le_of_ble_eq_true rfl, Nat.le_of_ble_eq_true rfl⟩ (fun z3 H locs hz4 hp5 hB => ?_)
  obtain ⟨hz4a, hz4b⟩ := hz4
  subst hp5
  have := rg_or 0 (aset ((F 12) a))
  refine x_ior hx hb dX0_differs_64 ?_
  refine lv_istore (lv' := [(6, .int (iI (bOr 0 (aset ((F 12) a))))), (5, .int (iI (lenF F a))), (8, .int (iI ((a : Int)))), (7, .int (iI 0)), (0, .ref o), (1, .int (iI ((a : Int)))), (2, .int (iI 1)), (3, .int (iI ((b : Int)))), (4, .int (iI 2))]) hx hb dX0_differs_65 hl (by decide) rfl (fun ls hl => ?_)
  refine lv_iinc (v := iI ((a : Int) + 1)) (lv' := [(8, .int (iI ((a : Int) + 1))), (6, .int (iI (bOr 0 (aset ((F 12) a))))), (5, .int (iI (lenF F a))), (7, .int (iI 0)), (0, .ref o), (1, .int (iI ((a : Int)))), (2, .int (iI 1)), (3, .int (iI ((b : Int)))), (4, .int (iI 2))]) hx hb dX0_differs_67 hl (k := 2) rfl (iI_add _ _) (by decide) rfl (fun ls hl => ?_)
  refine lv_goto (tgt := 12) hx hb dX0_differs_70 (by decide) ?_
  refine lv_iload hx hb dX0_differs_12 (lv_at hl 0 rfl) ?_
  refine lv_iload_n hx hb dX0_differs_14 rfl (lv_at hl 5 rfl) ?_
  refine lv_iload_n hx hb dX0_differs_15 rfl (lv_at hl 6 rfl) ?_
  refine x_iadd (z := (a : Int) + 1) hx hb dX0_differs_16 (by omega) ?_
  refine x_icmp_ge (tgt := 73) hx hb dX0_differs_17 (by decide) ⟨by omega, by omega⟩ ⟨by omega, by omega⟩ (fun c6 => ?_) (fun c6 => by exfalso; omega)
  refine lv_iload_n hx hb dX0_differs_73 rfl (lv_at hl 7 rfl) ?_
  refine lv_istore (lv' := [(8, .int (iI ((b : Int)))), (6, .int (iI (bOr 0 (aset ((F 12) a))))), (5, .int (iI (lenF F a))), (7, .int (iI 0)), (0, .ref o), (1, .int (iI ((a : Int)))), (2, .int (iI 1)), (3, .int (iI ((b : Int)))), (4, .int (iI 2))]) hx hb dX0_differs_74 hl (by decide) rfl (fun ls hl => ?_)
  refine lv_iload hx hb dX0_differs_76 (lv_at hl 0 rfl) ?_
  refine lv_iload_n hx hb dX0_differs_78 rfl (lv_at hl 7 rfl) ?_
  refine lv_iload hx hb dX0_differs_79 (lv_at hl 8 rfl) ?_
  refine x_iadd (z := (b : Int) + 2) hx hb dX0_differs_81 (by omega) ?_
  refine x_icmp_ge (tgt := 118) hx hb dX0_differs_82 (by decide) ⟨by omega, by omega⟩ ⟨by omega, by omega⟩ (fun c7 => by exfalso; omega) (fun c7 => ?_)
  refine lv_iload hx hb dX0_differs_85 (lv_at hl 2 rfl) ?_
  refine lv_aload_n hx hb dX0_differs_87 rfl (lv_at hl 4 rfl) ?_
  refine b_get C hB 5 (by decide) q299 (v := .ref (Ad 6)) rfl rfl dX0_differs_88 ?_
  refine lv_iload hx hb dX0_differs_91 (lv_at hl 0 rfl) ?_
  refine b_ald C hB 6 13 7 rfl (v := (F 13) b) b rfl (by omega) (by omega) rfl dX0_differs_93 ?_
  have := hR b (by omega)
  refine x_isub (z := lenF F a - (F 13) b) hx hb dX0_differs_94 (by omega) ?_
  refine lv_istore (lv' := [(5, .int (iI (lenF F a - (F 13) b))), (8, .int (iI ((b : Int)))), (6, .int (iI (bOr 0 (aset ((F 12) a))))), (7, .int (iI 0)), (0, .ref o), (1, .int (iI ((a : Int)))), (2, .int (iI 1)), (3, .int (iI ((b : Int)))), (4, .int (iI 2))]) hx hb dX0_differs_95 hl (by decide) rfl (fun ls hl => ?_)
  refine lv_iload hx hb dX0_differs_97 (lv_at hl 3 rfl) ?_
  refine lv_aload_n hx hb dX0_differs_99 rfl (lv_at hl 4 rfl) ?_
  refine b_get C hB 6 (by decide) q300 (v := .ref (Ad 7)) rfl rfl dX0_differs_100 ?_
  refine lv_iload hx hb dX0_differs_103 (lv_at hl 1 rfl) ?_
  refine b_ald C hB 7 14 7 rfl (v := (F 14) b) b rfl (by omega) (by omega) rfl dX0_differs_105 ?_
  have := hR b (by omega)
  refine bs_calli (n := 1) C hB (As := [.int (iI ((F 14) b))]) (kX0_anchorBit l E ((F 14) b) (by omega)) (lw_S q196 q197 q68 q198) (by decide +kernel) ⟨Nat.le_of_ble_eq_true rfl, Nat.le_of_ble_eq_true rfl⟩ rfl hl.1 rfl (Nat.le_of_ble_eq_true rfl) dX0_differs_106 ⟨Nat.le_of_ble_eq_true rfl, Nat.le_of_ble_eq_true rfl⟩ (fun z8 H locs hz9 hp10 hB => ?_)
  obtain ⟨hz9a, hz9b⟩ := hz9
  subst hp10
  have := rg_or 0 (aset ((F 14) b))
  refine x_ior hx hb dX0_differs_109 ?_
  refine lv_istore (lv' := [(7, .int (iI (bOr 0 (aset ((F 14) b))))), (5, .int (iI (lenF F a - (F 13) b))), (8, .int (iI ((b : Int)))), (6, .int (iI (bOr 0 (aset ((F 12) a))))), (0, .ref o), (1, .int (iI ((a : Int)))), (2, .int (iI 1)), (3, .int (iI ((b : Int)))), (4, .int (iI 2))]) hx hb dX0_differs_110 hl (by decide) rfl (fun ls hl => ?_)
  refine lv_iinc (v := iI ((b : Int) + 1)) (lv' := [(8, .int (iI ((b : Int) + 1))), (7, .int (iI (bOr 0 (aset ((F 14) b))))), (5, .int (iI (lenF F a - (F 13) b))), (6, .int (iI (bOr 0 (aset ((F 12) a))))), (0, .ref o), (1, .int (iI ((a : Int)))), (2, .int (iI 1)), (3, .int (iI ((b : Int)))), (4, .int (iI 2))]) hx hb dX0_differs_112 hl (k := 2) rfl (iI_add _ _) (by decide) rfl (fun ls hl => ?_)
  refine lv_goto (tgt := 76) hx hb dX0_differs_115 (by decide) ?_
  refine lv_iload hx hb dX0_differs_76 (lv_at hl 0 rfl) ?_
  refine lv_iload_n hx hb dX0_differs_78 rfl (lv_at hl 7 rfl) ?_
  refine lv_iload hx hb dX0_differs_79 (lv_at hl 8 rfl) ?_
  refine x_iadd (z := (b : Int) + 2) hx hb dX0_differs_81 (by omega) ?_
  refine x_icmp_ge (tgt := 118) hx hb dX0_differs_82 (by decide) ⟨by omega, by omega⟩ ⟨by omega, by omega⟩ (fun c11 => by exfalso; omega) (fun c11 => ?_)
  refine lv_iload hx hb dX0_differs_85 (lv_at hl 2 rfl) ?_
  refine lv_aload_n hx hb dX0_differs_87 rfl (lv_at hl 4 rfl) ?_
  refine b_get C hB 5 (by decide) q299 (v := .ref (Ad 6)) rfl rfl dX0_differs_88 ?_
  refine lv_iload hx hb dX0_differs_91 (lv_at hl 0 rfl) ?_
  refine b_ald C hB 6 13 7 rfl (v := (F 13) (b + 1)) (b + 1) (by omega) (by omega) (by omega) rfl dX0_differs_93 ?_
  have := hR (b + 1) (by omega)
  refine x_isub (z := lenF F a - (F 13) b - (F 13) (b + 1)) hx hb dX0_differs_94 (by omega) ?_
  refine lv_istore (lv' := [(5, .int (iI (lenF F a - (F 13) b - (F 13) (b + 1)))), (8, .int (iI ((b : Int) + 1))), (7, .int (iI (bOr 0 (aset ((F 14) b))))), (6, .int (iI (bOr 0 (aset ((F 12) a))))), (0, .ref o), (1, .int (iI ((a : Int)))), (2, .int (iI 1)), (3, .int (iI ((b : Int)))), (4, .int (iI 2))]) hx hb dX0_differs_95 hl (by decide) rfl (fun ls hl => ?_)
  refine lv_iload hx hb dX0_differs_97 (lv_at hl 2 rfl) ?_
  refine lv_aload_n hx hb dX0_differs_99 rfl (lv_at hl 4 rfl) ?_
  refine b_get C hB 6 (by decide) q300 (v := .ref (Ad 7)) rfl rfl dX0_differs_100 ?_
  refine lv_iload hx hb dX0_differs_103 (lv_at hl 1 rfl) ?_
  refine b_ald C hB 7 14 7 rfl (v := (F 14) (b + 1)) (b + 1) (by omega) (by omega) (by omega) rfl dX0_differs_105 ?_
  have := hR (b + 1) (by omega)
  refine bs_calli (n := 1) C hB (As := [.int (iI ((F 14) (b + 1)))]) (kX0_anchorBit l E ((F 14) (b + 1)) (by omega)) (lw_S q196 q197 q68 q198) (by decide +kernel) ⟨Nat.le_of_ble_eq_true rfl, Nat.le_of_ble_eq_true rfl⟩ rfl hl.1 rfl (Nat.le_of_ble_eq_true rfl) dX0_differs_106 ⟨Nat.le_of_ble_eq_true rfl, Nat.le_of_ble_eq_true rfl⟩ (fun z12 H locs hz13 hp14 hB => ?_)
  obtain ⟨hz13a, hz13b⟩ := hz13
  subst hp14
  have := rg_or (bOr 0 (aset ((F 14) b))) (aset ((F 14) (b + 1)))
  refine x_ior hx hb dX0_differs_109 ?_
  refine lv_istore (lv' := [(7, .int (iI (bOr (bOr 0 (aset ((F 14) b))) (aset ((F 14) (b + 1)))))), (5, .int (iI (lenF F a - (F 13) b - (F 13) (b + 1)))), (8, .int (iI ((b : Int) + 1))), (6, .int (iI (bOr 0 (aset ((F 12) a))))), (0, .ref o), (1, .int (iI ((a : Int)))), (2, .int (iI 1)), (3, .int (iI ((b : Int)))), (4, .int (iI 2))]) hx hb dX0_differs_110 hl (by decide) rfl (fun ls hl => ?_)
  refine lv_iinc (v := iI ((b : Int) + 1 + 1)) (lv' := [(8, .int (iI ((b : Int) + 1 + 1))), (7, .int (iI (bOr (bOr 0 (aset ((F 14) b))) (aset ((F 14) (b + 1)))))), (5, .int (iI (lenF F a - (F 13) b - (F 13) (b + 1)))), (6, .int (iI (bOr 0 (aset ((F 12) a))))), (0, .ref o), (1, .int (iI ((a : Int)))), (2, .int (iI 1)), (3, .int (iI ((b : Int)))), (4, .int (iI 2))]) hx hb dX0_differs_112 hl (k := 2) rfl (iI_add _ _) (by decide) rfl (fun ls hl => ?_)
  rw [show ((b : Int) + 1 + 1 : Int) = (b : Int) + 2 by omega] at hl
  refine lv_goto (tgt := 76) hx hb dX0_differs_115 (by decide) ?_
  refine lv_iload hx hb dX0_differs_76 (lv_at hl 0 rfl) ?_
  refine lv_iload_n hx hb dX0_differs_78 rfl (lv_at hl 7 rfl) ?_
  refine lv_iload hx hb dX0_differs_79 (lv_at hl 8 rfl) ?_
  refine x_iadd (z := (b : Int) + 2) hx hb dX0_differs_81 (by omega) ?_
  refine x_icmp_ge (tgt := 118) hx hb dX0_differs_82 (by decide) ⟨by omega, by omega⟩ ⟨by omega, by omega⟩ (fun c15 => ?_) (fun c15 => by exfalso; omega)
  refine lv_iload hx hb dX0_differs_118 (lv_at hl 2 rfl) ?_
  refine x_mabs C q199 q200 q75 q201 hl.1 (Nat.le_of_ble_eq_true rfl) (Nat.le_of_ble_eq_true rfl) (Nat.le_of_ble_eq_true rfl) (Nat.le_of_ble_eq_true rfl) ⟨by omega, by omega⟩ dX0_differs_120 ?_
  have := aabs_b (lenF F a - (F 13) b - (F 13) (b + 1))
  refine lv_iload hx hb dX0_differs_123 (lv_at hl 3 rfl) ?_
  refine lv_iload hx hb dX0_differs_125 (lv_at hl 1 rfl) ?_
  refine x_icmp_ne (tgt := 134) hx hb dX0_differs_127 (by decide) ⟨by omega, by omega⟩ ⟨by omega, by omega⟩ (fun c16 => ?_) (fun c16 => ?_)
  · refine lv_iconst (v := iI 3) hx hb dX0_differs_134 rfl ?_
    refine x_iadd (z := aabs (lenF F a - (F 13) b - (F 13) (b + 1)) + 3) hx hb dX0_differs_135 (by omega) ?_
    exact b_iret C hB hr hlocks rfl dX0_differs_136 (Nat.le_of_ble_eq_true rfl) (Nat.le_of_ble_eq_true rfl) ⟨by omega, by omega⟩ ⟨rfl, rfl, rfl, rfl, by rw [cst_4]; unfold aabs miss; (repeat' split) <;> omega⟩
  · refine lv_iconst (v := iI 0) hx hb dX0_differs_130 rfl ?_
    refine lv_goto (tgt := 135) hx hb dX0_differs_131 (by decide) ?_
    refine x_iadd (z := aabs (lenF F a - (F 13) b - (F 13) (b + 1))) hx hb dX0_differs_135 (by omega) ?_
    exact b_iret C hB hr hlocks rfl dX0_differs_136 (Nat.le_of_ble_eq_true rfl) (Nat.le_of_ble_eq_true rfl) ⟨by omega, by omega⟩ ⟨rfl, rfl, rfl, rfl, by rw [cst_4]; unfold aabs miss; (repeat' split) <;> omega⟩
set_option maxHeartbeats 800000 in
set_option maxRecDepth 100000 in
theorem kX0_lambda_new_0 (l : Launch) (E : xE) (o : Nat) (Ad : Nat → Nat) (I : Nat → Int) (F : Nat → Nat → Int) (X : xw) (a : Nat) (b : Nat) (ha : (a : Int) + 1 ≤ I 5) (hbb : (b : Int) + 1 ≤ I 6) (hOK : mOK I F) : ci_ l E yX0_lambda_new_0 cX0_lambda_new_0 3 (some .int) 4 92 0 0 [.ref o, .int (iI ((a : Int))), .int (iI ((b : Int)))] o Ad I F X (fun z Ad' I' F' X' => Ad = Ad' ∧ I = I' ∧ F = F' ∧ X = X' ∧ z = cst I F 0 a b) := by
  intro w hI hd sz
  refine x_bodyz (by decide) (Nat.le_of_ble_eq_true rfl) ?_
  intro p e s m args below meth c ls hx hb C hr hlocks hin hsz hZ hB hl
  have C : xC E p s m args c cX0_lambda_new_0 3 RX0 := C
  replace hB : xBB E (xA (wU w X) sz) s o Ad I F X s.heap [] := ⟨w, hI, hd, hB⟩
  have hl : lv_has ls 3 [(0, .ref o), (1, .int (iI ((a : Int)))), (2, .int (iI ((b : Int))))] := hl
  have hOK0 := hOK
  obtain ⟨⟨hf1, hf2⟩, ⟨hl1, hl2⟩, ⟨hr1, hr2⟩, hlr, ⟨hs1, hs2⟩, ⟨hj1, hj2⟩, ⟨hb1, hb2⟩, ⟨hn1, hn2⟩, hL, hR, hN, hS, hC⟩ := hOK
  have hcr := cst_rg hOK0 (so := 0) (a := a) (b := b) (by omega) (by intro _; unfold lo; omega) (by intro _; unfold ro; omega)
  refine lv_aload_n hx hb dX0_lambda_new_0_0 rfl (lv_at hl 0 rfl) ?_
  refine lv_iload_n hx hb dX0_lambda_new_0_1 rfl (lv_at hl 1 rfl) ?_
  refine lv_iconst (v := iI 1) hx hb dX0_lambda_new_0_2 rfl ?_
  refine lv_iload_n hx hb dX0_lambda_new_0_3 rfl (lv_at hl 2 rfl) ?_
  refine lv_iconst (v := iI 1) hx hb dX0_lambda_new_0_4 rfl ?_
  refine b_calli 0 0 (Nat.le_of_ble_eq_true rfl) (Nat.le_of_ble_eq_true rfl) hB (fun w hI hd hB => rV (As := [.int (iI ((a : Int))), .int (iI 1), .int (iI ((b : Int))), .int (iI 1)]) (n := 4) C hZ hB (kX0_differs_11 l E o Ad I F X a b (by omega) (by omega) hOK0 w hI hd _) (lw_V q151 q153 qs1 q68 q154) (by decide +kernel) ⟨Nat.le_of_ble_eq_true rfl, Nat.le_of_ble_eq_true rfl⟩ (wU_l hI.x) rfl rfl rfl hl.1 rfl (Nat.le_of_ble_eq_true rfl) dX0_lambda_new_0_5 ⟨Nat.le_of_ble_eq_true rfl, Nat.le_of_ble_eq_true rfl⟩) (fun z1 Ad2 I3 F4 X5 H locs hz6 hp7 hB => ?_)
  obtain ⟨hz6a, hz6b⟩ := hz6
  obtain ⟨rfl, rfl, rfl, rfl, rfl⟩ := hp7
  exact b_iret C hB hr hlocks rfl dX0_lambda_new_0_8 (Nat.le_of_ble_eq_true rfl) (Nat.le_of_ble_eq_true rfl) ⟨by omega, by omega⟩ ⟨rfl, rfl, rfl, rfl, by omega⟩
set_option maxHeartbeats 800000 in
set_option maxRecDepth 100000 in
theorem kX0_lambda_new_3 (l : Launch) (E : xE) (o : Nat) (Ad : Nat → Nat) (I : Nat → Int) (F : Nat → Nat → Int) (X : xw) (a : Nat) (b : Nat) (ha : (a : Int) + 2 ≤ I 5) (hbb : (b : Int) + 1 ≤ I 6) (hOK : mOK I F) : ci_ l E yX0_lambda_new_3 cX0_lambda_new_3 3 (some .int) 4 92 0 0 [.ref o, .int (iI ((a : Int))), .int (iI ((b : Int)))] o Ad I F X (fun z Ad' I' F' X' => Ad = Ad' ∧ I = I' ∧ F = F' ∧ X = X' ∧ z = cst I F 3 a b) := by
  intro w hI hd sz
  refine x_bodyz (by decide) (Nat.le_of_ble_eq_true rfl) ?_
  intro p e s m args below meth c ls hx hb C hr hlocks hin hsz hZ hB hl
  have C : xC E p s m args c cX0_lambda_new_3 3 RX0 := C
  replace hB : xBB E (xA (wU w X) sz) s o Ad I F X s.heap [] := ⟨w, hI, hd, hB⟩
  have hl : lv_has ls 3 [(0, .ref o), (1, .int (iI ((a : Int)))), (2, .int (iI ((b : Int))))] := hl
  have hOK0 := hOK
  obtain ⟨⟨hf1, hf2⟩, ⟨hl1, hl2⟩, ⟨hr1, hr2⟩, hlr, ⟨hs1, hs2⟩, ⟨hj1, hj2⟩, ⟨hb1, hb2⟩, ⟨hn1, hn2⟩, hL, hR, hN, hS, hC⟩ := hOK
  have hcr := cst_rg hOK0 (so := 3) (a := a) (b := b) (by omega) (by intro _; unfold lo; omega) (by intro _; unfold ro; omega)
  refine lv_aload_n hx hb dX0_lambda_new_3_0 rfl (lv_at hl 0 rfl) ?_
  refine lv_iload_n hx hb dX0_lambda_new_3_1 rfl (lv_at hl 1 rfl) ?_
  refine lv_iconst (v := iI 2) hx hb dX0_lambda_new_3_2 rfl ?_
  refine lv_iload_n hx hb dX0_lambda_new_3_3 rfl (lv_at hl 2 rfl) ?_
  refine lv_iconst (v := iI 1) hx hb dX0_lambda_new_3_4 rfl ?_
  refine b_calli 0 0 (Nat.le_of_ble_eq_true rfl) (Nat.le_of_ble_eq_true rfl) hB (fun w hI hd hB => rV (As := [.int (iI ((a : Int))), .int (iI 2), .int (iI ((b : Int))), .int (iI 1)]) (n := 4) C hZ hB (kX0_differs_21 l E o Ad I F X a b (by omega) (by omega) hOK0 w hI hd _) (lw_V q151 q153 qs1 q68 q154) (by decide +kernel) ⟨Nat.le_of_ble_eq_true rfl, Nat.le_of_ble_eq_true rfl⟩ (wU_l hI.x) rfl rfl rfl hl.1 rfl (Nat.le_of_ble_eq_true rfl) dX0_lambda_new_3_5 ⟨Nat.le_of_ble_eq_true rfl, Nat.le_of_ble_eq_true rfl⟩) (fun z1 Ad2 I3 F4 X5 H locs hz6 hp7 hB => ?_)
  obtain ⟨hz6a, hz6b⟩ := hz6
  obtain ⟨rfl, rfl, rfl, rfl, rfl⟩ := hp7
  refine lv_aload_n hx hb dX0_lambda_new_3_8 rfl (lv_at hl 0 rfl) ?_
  refine b_get C hB 8 (by decide) q302 (v := .int (iI (I 8))) rfl rfl dX0_lambda_new_3_9 ?_
  refine x_iadd (z := cst I F 3 a b - I 8 + I 8) hx hb dX0_lambda_new_3_12 (by omega) ?_
  exact b_iret C hB hr hlocks rfl dX0_lambda_new_3_13 (Nat.le_of_ble_eq_true rfl) (Nat.le_of_ble_eq_true rfl) ⟨by omega, by omega⟩ ⟨rfl, rfl, rfl, rfl, by omega⟩
set_option maxHeartbeats 800000 in
set_option maxRecDepth 100000 in
theorem kX0_lambda_new_4 (l : Launch) (E : xE) (o : Nat) (Ad : Nat → Nat) (I : Nat → Int) (F : Nat → Nat → Int) (X : xw) (a : Nat) (b : Nat) (ha : (a : Int) + 1 ≤ I 5) (hbb : (b : Int) + 2 ≤ I 6) (hOK : mOK I F) : ci_ l E yX0_lambda_new_4 cX0_lambda_new_4 3 (some .int) 4 92 0 0 [.ref o, .int (iI ((a : Int))), .int (iI ((b : Int)))] o Ad I F X (fun z Ad' I' F' X' => Ad = Ad' ∧ I = I' ∧ F = F' ∧ X = X' ∧ z = cst I F 4 a b) := by
  intro w hI hd sz
  refine x_bodyz (by decide) (Nat.le_of_ble_eq_true rfl) ?_
  intro p e s m args below meth c ls hx hb C hr hlocks hin hsz hZ hB hl
  have C : xC E p s m args c cX0_lambda_new_4 3 RX0 := C
  replace hB : xBB E (xA (wU w X) sz) s o Ad I F X s.heap [] := ⟨w, hI, hd, hB⟩
  have hl : lv_has ls 3 [(0, .ref o), (1, .int (iI ((a : Int)))), (2, .int (iI ((b : Int))))] := hl
  have hOK0 := hOK
  obtain ⟨⟨hf1, hf2⟩, ⟨hl1, hl2⟩, ⟨hr1, hr2⟩, hlr, ⟨hs1, hs2⟩, ⟨hj1, hj2⟩, ⟨hb1, hb2⟩, ⟨hn1, hn2⟩, hL, hR, hN, hS, hC⟩ := hOK
  have hcr := cst_rg hOK0 (so := 4) (a := a) (b := b) (by omega) (by intro _; unfold lo; omega) (by intro _; unfold ro; omega)
  refine lv_aload_n hx hb dX0_lambda_new_4_0 rfl (lv_at hl 0 rfl) ?_
  refine lv_iload_n hx hb dX0_lambda_new_4_1 rfl (lv_at hl 1 rfl) ?_
  refine lv_iconst (v := iI 1) hx hb dX0_lambda_new_4_2 rfl ?_
  refine lv_iload_n hx hb dX0_lambda_new_4_3 rfl (lv_at hl 2 rfl) ?_
  refine lv_iconst (v := iI 2) hx hb dX0_lambda_new_4_4 rfl ?_
  refine b_calli 0 0 (Nat.le_of_ble_eq_true rfl) (Nat.le_of_ble_eq_true rfl) hB (fun w hI hd hB => rV (As := [.int (iI ((a : Int))), .int (iI 1), .int (iI ((b : Int))), .int (iI 2)]) (n := 4) C hZ hB (kX0_differs_12 l E o Ad I F X a b (by omega) (by omega) hOK0 w hI hd _) (lw_V q151 q153 qs1 q68 q154) (by decide +kernel) ⟨Nat.le_of_ble_eq_true rfl, Nat.le_of_ble_eq_true rfl⟩ (wU_l hI.x) rfl rfl rfl hl.1 rfl (Nat.le_of_ble_eq_true rfl) dX0_lambda_new_4_5 ⟨Nat.le_of_ble_eq_true rfl, Nat.le_of_ble_eq_true rfl⟩) (fun z1 Ad2 I3 F4 X5 H locs hz6 hp7 hB => ?_)
  obtain ⟨hz6a, hz6b⟩ := hz6
  obtain ⟨rfl, rfl, rfl, rfl, rfl⟩ := hp7
  refine lv_aload_n hx hb dX0_lambda_new_4_8 rfl (lv_at hl 0 rfl) ?_
  refine b_get C hB 8 (by decide) q302 (v := .int (iI (I 8))) rfl rfl dX0_lambda_new_4_9 ?_
  refine x_iadd (z := cst I F 4 a b - I 8 + I 8) hx hb dX0_lambda_new_4_12 (by omega) ?_
  exact b_iret C hB hr hlocks rfl dX0_lambda_new_4_13 (Nat.le_of_ble_eq_true rfl) (Nat.le_of_ble_eq_true rfl) ⟨by omega, by omega⟩ ⟨rfl, rfl, rfl, rfl, by omega⟩
set_option maxHeartbeats 800000 in
set_option maxRecDepth 100000 in
theorem kX0_lambda_new_1 (l : Launch) (E : xE) (o : Nat) (Ad : Nat → Nat) (I : Nat → Int) (F : Nat → Nat → Int) (X : xw) (a : Nat) (b : Nat) (ha : (a : Int) + 1 ≤ I 5) (hOK : mOK I F) : ci_ l E yX0_lambda_new_1 cX0_lambda_new_1 3 (some .int) 3 64 0 0 [.ref o, .int (iI ((a : Int))), .int (iI ((b : Int)))] o Ad I F X (fun z Ad' I' F' X' => Ad = Ad' ∧ I = I' ∧ F = F' ∧ X = X' ∧ z = cst I F 1 a b) := by
  intro w hI hd sz
  refine x_bodyz (by decide) (Nat.le_of_ble_eq_true rfl) ?_
  intro p e s m args below meth c ls hx hb C hr hlocks hin hsz hZ hB hl
  have C : xC E p s m args c cX0_lambda_new_1 3 RX0 := C
  replace hB : xBB E (xA (wU w X) sz) s o Ad I F X s.heap [] := ⟨w, hI, hd, hB⟩
  have hl : lv_has ls 3 [(0, .ref o), (1, .int (iI ((a : Int)))), (2, .int (iI ((b : Int))))] := hl
  have hOK0 := hOK
  obtain ⟨⟨hf1, hf2⟩, ⟨hl1, hl2⟩, ⟨hr1, hr2⟩, hlr, ⟨hs1, hs2⟩, ⟨hj1, hj2⟩, ⟨hb1, hb2⟩, ⟨hn1, hn2⟩, hL, hR, hN, hS, hC⟩ := hOK
  
  refine lv_aload_n hx hb dX0_lambda_new_1_0 rfl (lv_at hl 0 rfl) ?_
  refine b_get C hB 7 (by decide) q301 (v := .int (iI (I 7))) rfl rfl dX0_lambda_new_1_1 ?_
  refine lv_aload_n hx hb dX0_lambda_new_1_4 rfl (lv_at hl 0 rfl) ?_
  refine b_get C hB 3 (by decide) q296 (v := .ref (Ad 4)) rfl rfl dX0_lambda_new_1_5 ?_
  refine lv_iload_n hx hb dX0_lambda_new_1_8 rfl (lv_at hl 1 rfl) ?_
  refine b_lget C hZ hB a rfl (show ((a : Nat) : Int) < I 5 by omega) (show I 5 ≤ 7 by omega) q156 ⟨Nat.le_of_ble_eq_true rfl, Nat.le_of_ble_eq_true rfl⟩ hl.1 (Nat.le_of_ble_eq_true rfl) dX0_lambda_new_1_9 ⟨Nat.le_of_ble_eq_true rfl, Nat.le_of_ble_eq_true rfl⟩ (fun H locs hB => ?_)
  refine b_castP C hB a (show ((a : Nat) : Int) < I 5 by omega) (show I 5 ≤ 7 by omega) q175 dX0_lambda_new_1_14 ?_
  have hLi := hL a (by omega)
  refine b_plen l C hZ hB a (show ((a : Nat) : Int) < I 5 by omega) (show I 5 ≤ 7 by omega) (show 0 ≤ (F 10) a ∧ (F 10) a ≤ 2 by omega) (show 1 ≤ (F 11) a ∧ (F 11) a ≤ 9 by omega) q176 ⟨Nat.le_of_ble_eq_true rfl, Nat.le_of_ble_eq_true rfl⟩ hl.1 (Nat.le_of_ble_eq_true rfl) dX0_lambda_new_1_17 ⟨Nat.le_of_ble_eq_true rfl, Nat.le_of_ble_eq_true rfl⟩ (fun H locs h1a h1b hB => ?_)
  refine x_iadd (z := I 7 + lenF F a) hx hb dX0_lambda_new_1_20 (by omega) ?_
  exact b_iret C hB hr hlocks rfl dX0_lambda_new_1_21 (Nat.le_of_ble_eq_true rfl) (Nat.le_of_ble_eq_true rfl) ⟨by omega, by omega⟩ ⟨rfl, rfl, rfl, rfl, by rw [cst_1]⟩
set_option maxHeartbeats 800000 in
set_option maxRecDepth 100000 in
theorem kX0_lambda_new_2 (l : Launch) (E : xE) (o : Nat) (Ad : Nat → Nat) (I : Nat → Int) (F : Nat → Nat → Int) (X : xw) (a : Nat) (b : Nat) (hbb : (b : Int) + 1 ≤ I 6) (hOK : mOK I F) : ci_ l E yX0_lambda_new_2 cX0_lambda_new_2 3 (some .int) 0 0 0 0 [.ref o, .int (iI ((a : Int))), .int (iI ((b : Int)))] o Ad I F X (fun z Ad' I' F' X' => Ad = Ad' ∧ I = I' ∧ F = F' ∧ X = X' ∧ z = cst I F 2 a b) := by
  intro w hI hd sz
  refine x_bodyz (by decide) (Nat.le_of_ble_eq_true rfl) ?_
  intro p e s m args below meth c ls hx hb C hr hlocks hin hsz hZ hB hl
  have C : xC E p s m args c cX0_lambda_new_2 3 RX0 := C
  replace hB : xBB E (xA (wU w X) sz) s o Ad I F X s.heap [] := ⟨w, hI, hd, hB⟩
  have hl : lv_has ls 3 [(0, .ref o), (1, .int (iI ((a : Int)))), (2, .int (iI ((b : Int))))] := hl
  have hOK0 := hOK
  obtain ⟨⟨hf1, hf2⟩, ⟨hl1, hl2⟩, ⟨hr1, hr2⟩, hlr, ⟨hs1, hs2⟩, ⟨hj1, hj2⟩, ⟨hb1, hb2⟩, ⟨hn1, hn2⟩, hL, hR, hN, hS, hC⟩ := hOK
  
  refine lv_aload_n hx hb dX0_lambda_new_2_0 rfl (lv_at hl 0 rfl) ?_
  refine b_get C hB 7 (by decide) q301 (v := .int (iI (I 7))) rfl rfl dX0_lambda_new_2_1 ?_
  refine lv_aload_n hx hb dX0_lambda_new_2_4 rfl (lv_at hl 0 rfl) ?_
  refine b_get C hB 5 (by decide) q299 (v := .ref (Ad 6)) rfl rfl dX0_lambda_new_2_5 ?_
  refine lv_iload_n hx hb dX0_lambda_new_2_8 rfl (lv_at hl 2 rfl) ?_
  refine b_ald C hB 6 13 7 rfl (v := (F 13) b) b rfl (by omega) (by omega) rfl dX0_lambda_new_2_9 ?_
  have := hR b (by omega)
  refine x_iadd (z := I 7 + (F 13) b) hx hb dX0_lambda_new_2_10 (by omega) ?_
  exact b_iret C hB hr hlocks rfl dX0_lambda_new_2_11 (Nat.le_of_ble_eq_true rfl) (Nat.le_of_ble_eq_true rfl) ⟨by omega, by omega⟩ ⟨rfl, rfl, rfl, rfl, by rw [cst_2]⟩
set_option maxHeartbeats 800000 in
set_option maxRecDepth 100000 in
theorem kX0_lambda_new_1i (l : Launch) (E : xE) (o : Nat) (Ad : Nat → Nat) (I : Nat → Int) (F : Nat → Nat → Int) (X : xw) (a : Nat) (y : Int) (ha : (a : Int) + 1 ≤ I 5) (hOK : mOK I F) : ci_ l E yX0_lambda_new_1 cX0_lambda_new_1 3 (some .int) 3 64 0 0 [.ref o, .int (iI ((a : Int))), .int (iI y)] o Ad I F X (fun z Ad' I' F' X' => Ad = Ad' ∧ I = I' ∧ F = F' ∧ X = X' ∧ z = I 7 + lenF F a) := by
  intro w hI hd sz
  refine x_bodyz (by decide) (Nat.le_of_ble_eq_true rfl) ?_
  intro p e s m args below meth c ls hx hb C hr hlocks hin hsz hZ hB hl
  have C : xC E p s m args c cX0_lambda_new_1 3 RX0 := C
  replace hB : xBB E (xA (wU w X) sz) s o Ad I F X s.heap [] := ⟨w, hI, hd, hB⟩
  have hl : lv_has ls 3 [(0, .ref o), (1, .int (iI ((a : Int)))), (2, .int (iI y))] := hl
  have hOK0 := hOK
  obtain ⟨⟨hf1, hf2⟩, ⟨hl1, hl2⟩, ⟨hr1, hr2⟩, hlr, ⟨hs1, hs2⟩, ⟨hj1, hj2⟩, ⟨hb1, hb2⟩, ⟨hn1, hn2⟩, hL, hR, hN, hS, hC⟩ := hOK
  
  refine lv_aload_n hx hb dX0_lambda_new_1_0 rfl (lv_at hl 0 rfl) ?_
  refine b_get C hB 7 (by decide) q301 (v := .int (iI (I 7))) rfl rfl dX0_lambda_new_1_1 ?_
  refine lv_aload_n hx hb dX0_lambda_new_1_4 rfl (lv_at hl 0 rfl) ?_
  refine b_get C hB 3 (by decide) q296 (v := .ref (Ad 4)) rfl rfl dX0_lambda_new_1_5 ?_
  refine lv_iload_n hx hb dX0_lambda_new_1_8 rfl (lv_at hl 1 rfl) ?_
  refine b_lget C hZ hB a rfl (show ((a : Nat) : Int) < I 5 by omega) (show I 5 ≤ 7 by omega) q156 ⟨Nat.le_of_ble_eq_true rfl, Nat.le_of_ble_eq_true rfl⟩ hl.1 (Nat.le_of_ble_eq_true rfl) dX0_lambda_new_1_9 ⟨Nat.le_of_ble_eq_true rfl, Nat.le_of_ble_eq_true rfl⟩ (fun H locs hB => ?_)
  refine b_castP C hB a (show ((a : Nat) : Int) < I 5 by omega) (show I 5 ≤ 7 by omega) q175 dX0_lambda_new_1_14 ?_
  have hLi := hL a (by omega)
  refine b_plen l C hZ hB a (show ((a : Nat) : Int) < I 5 by omega) (show I 5 ≤ 7 by omega) (show 0 ≤ (F 10) a ∧ (F 10) a ≤ 2 by omega) (show 1 ≤ (F 11) a ∧ (F 11) a ≤ 9 by omega) q176 ⟨Nat.le_of_ble_eq_true rfl, Nat.le_of_ble_eq_true rfl⟩ hl.1 (Nat.le_of_ble_eq_true rfl) dX0_lambda_new_1_17 ⟨Nat.le_of_ble_eq_true rfl, Nat.le_of_ble_eq_true rfl⟩ (fun H locs h1a h1b hB => ?_)
  refine x_iadd (z := I 7 + lenF F a) hx hb dX0_lambda_new_1_20 (by omega) ?_
  exact b_iret C hB hr hlocks rfl dX0_lambda_new_1_21 (Nat.le_of_ble_eq_true rfl) (Nat.le_of_ble_eq_true rfl) ⟨by omega, by omega⟩ ⟨rfl, rfl, rfl, rfl, rfl⟩
set_option maxHeartbeats 800000 in
set_option maxRecDepth 100000 in
theorem kX0_lambda_new_2i (l : Launch) (E : xE) (o : Nat) (Ad : Nat → Nat) (I : Nat → Int) (F : Nat → Nat → Int) (X : xw) (y : Int) (b : Nat) (hbb : (b : Int) + 1 ≤ I 6) (hOK : mOK I F) : ci_ l E yX0_lambda_new_2 cX0_lambda_new_2 3 (some .int) 0 0 0 0 [.ref o, .int (iI y), .int (iI ((b : Int)))] o Ad I F X (fun z Ad' I' F' X' => Ad = Ad' ∧ I = I' ∧ F = F' ∧ X = X' ∧ z = I 7 + F 13 b) := by
  intro w hI hd sz
  refine x_bodyz (by decide) (Nat.le_of_ble_eq_true rfl) ?_
  intro p e s m args below meth c ls hx hb C hr hlocks hin hsz hZ hB hl
  have C : xC E p s m args c cX0_lambda_new_2 3 RX0 := C
  replace hB : xBB E (xA (wU w X) sz) s o Ad I F X s.heap [] := ⟨w, hI, hd, hB⟩
  have hl : lv_has ls 3 [(0, .ref o), (1, .int (iI y)), (2, .int (iI ((b : Int))))] := hl
  have hOK0 := hOK
  obtain ⟨⟨hf1, hf2⟩, ⟨hl1, hl2⟩, ⟨hr1, hr2⟩, hlr, ⟨hs1, hs2⟩, ⟨hj1, hj2⟩, ⟨hb1, hb2⟩, ⟨hn1, hn2⟩, hL, hR, hN, hS, hC⟩ := hOK
  
  refine lv_aload_n hx hb dX0_lambda_new_2_0 rfl (lv_at hl 0 rfl) ?_
  refine b_get C hB 7 (by decide) q301 (v := .int (iI (I 7))) rfl rfl dX0_lambda_new_2_1 ?_
  refine lv_aload_n hx hb dX0_lambda_new_2_4 rfl (lv_at hl 0 rfl) ?_
  refine b_get C hB 5 (by decide) q299 (v := .ref (Ad 6)) rfl rfl dX0_lambda_new_2_5 ?_
  refine lv_iload_n hx hb dX0_lambda_new_2_8 rfl (lv_at hl 2 rfl) ?_
  refine b_ald C hB 6 13 7 rfl (v := (F 13) b) b rfl (by omega) (by omega) rfl dX0_lambda_new_2_9 ?_
  have := hR b (by omega)
  refine x_iadd (z := I 7 + (F 13) b) hx hb dX0_lambda_new_2_10 (by omega) ?_
  exact b_iret C hB hr hlocks rfl dX0_lambda_new_2_11 (Nat.le_of_ble_eq_true rfl) (Nat.le_of_ble_eq_true rfl) ⟨by omega, by omega⟩ ⟨rfl, rfl, rfl, rfl, rfl⟩
