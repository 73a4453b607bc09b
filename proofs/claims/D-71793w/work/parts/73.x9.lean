/-! THE COMPONENT: the best alignment, pair by pair -/
set_option maxRecDepth 100000
theorem ones_loN {s i a : Nat} (hs : s ≤ 4) (hi : i ≤ 7) (ha : a ≤ 7) : bAnd (bShr (bShl (bShl 1 (loN s : Int) - 1) (i : Int)) (a : Int)) 1 = 1 ↔ i ≤ a ∧ a < i + loN s := by
  have h : ∀ s : Nat, s < 5 → ∀ i : Nat, i < 8 → ∀ a : Nat, a < 8 → (bAnd (bShr (bShl (bShl 1 (loN s : Int) - 1) (i : Int)) (a : Int)) 1 = 1 ↔ i ≤ a ∧ a < i + loN s) := by decide +kernel
  exact h s (by omega) i (by omega) a (by omega)
theorem ones_roN {s i a : Nat} (hs : s ≤ 4) (hi : i ≤ 7) (ha : a ≤ 7) : bAnd (bShr (bShl (bShl 1 (roN s : Int) - 1) (i : Int)) (a : Int)) 1 = 1 ↔ i ≤ a ∧ a < i + roN s := by
  have h : ∀ s : Nat, s < 5 → ∀ i : Nat, i < 8 → ∀ a : Nat, a < 8 → (bAnd (bShr (bShl (bShl 1 (roN s : Int) - 1) (i : Int)) (a : Int)) 1 = 1 ↔ i ≤ a ∧ a < i + roN s) := by decide +kernel
  exact h s (by omega) i (by omega) a (by omega)
set_option maxHeartbeats 800000 in
set_option maxRecDepth 100000 in
theorem kX12_hasNext (l : Launch) (E : xE) (o : Nat) (Ad : Nat → Nat) (I : Nat → Int) (F : Nat → Nat → Int) (X : xw) (wy : Nat) (i : Nat) (j : Nat) (u : Nat) (iz : Int) (hwy : X wy = some (xO 10 [.int (iI ((i : Int))), .int (iI ((j : Int))), .ref u])) (hu : X u = some (xO 9 [.int (iI iz), .ref o])) (hiz : iz = 0 ∨ iz = 1) (hij : i ≤ 100 ∧ j ≤ 100) (hOK : mOK I F) : ci_ l E yX12_hasNext cX12_hasNext 1 (some .boolean) 1 20 0 0 [.ref wy] o Ad I F X (fun z Ad' I' F' X' => Ad = Ad' ∧ I = I' ∧ F = F' ∧ X = X' ∧ ((z = 1 ∧ iz = 1 ∧ ((i : Int) < I 5 ∨ (j : Int) < I 6)) ∨ (z = 0 ∧ ¬ (iz = 1 ∧ ((i : Int) < I 5 ∨ (j : Int) < I 6))))) := by
  intro w hI hd sz
  refine x_bodyz (by decide) (Nat.le_of_ble_eq_true rfl) ?_
  intro p e s m args below meth c ls hx hb C hr hlocks hin hsz hZ hB hl
  have C : xC E p s m args c cX12_hasNext 1 RX12 := C
  replace hB : xBB E (xA (wU w X) sz) s o Ad I F X s.heap [] := ⟨w, hI, hd, hB⟩
  have hl : lv_has ls 1 [(0, .ref wy)] := hl
  have hOK0 := hOK
  obtain ⟨⟨hf1, hf2⟩, ⟨hl1, hl2⟩, ⟨hr1, hr2⟩, hlr, ⟨hs1, hs2⟩, ⟨hj1, hj2⟩, ⟨hb1, hb2⟩, ⟨hn1, hn2⟩, hL, hR, hN, hS, hC⟩ := hOK
  
  refine lv_aload_n hx hb dX12_hasNext_0 rfl (lv_at hl 0 rfl) ?_
  refine t_get C hB hwy rfl in_X12 2 (by decide) q472 (fun x h => h) (v := .ref u) rfl dX12_hasNext_1 ?_
  refine t_getN C hB hu rfl in_X11 0 (by decide) q452 (fun x h => h) (v := .int (iI iz)) rfl dX12_hasNext_4 ?_
  refine x_if_eq (tgt := 53) hx hb dX12_hasNext_7 (by decide) ⟨by omega, by omega⟩ (fun c1 => ?_) (fun c1 => ?_)
  · refine lv_iconst (v := iI 0) hx hb dX12_hasNext_53 rfl ?_
    exact b_iret C hB hr hlocks rfl dX12_hasNext_54 (Nat.le_of_ble_eq_true rfl) (Nat.le_of_ble_eq_true rfl) ⟨by decide, by decide⟩ ⟨rfl, rfl, rfl, rfl, by omega⟩
  · refine lv_aload_n hx hb dX12_hasNext_10 rfl (lv_at hl 0 rfl) ?_
    refine t_get C hB hwy rfl in_X12 0 (by decide) q470 (fun x h => h) (v := .int (iI ((i : Int)))) rfl dX12_hasNext_11 ?_
    refine lv_aload_n hx hb dX12_hasNext_14 rfl (lv_at hl 0 rfl) ?_
    refine t_get C hB hwy rfl in_X12 2 (by decide) q472 (fun x h => h) (v := .ref u) rfl dX12_hasNext_15 ?_
    refine t_get C hB hu rfl in_X11 1 (by decide) q454 (fun x h => h) (v := .ref o) rfl dX12_hasNext_18 ?_
    refine b_getN C hB 3 (by decide) q295 (v := .ref (Ad 4)) rfl rfl dX12_hasNext_21 ?_
    refine b_size C hZ hB (n := I 5) (ed := Ad 30) (fun w hI _ => wU_l (hI.at (r := 4) rfl)) (by omega) q491 ⟨Nat.le_of_ble_eq_true rfl, Nat.le_of_ble_eq_true rfl⟩ hl.1 (Nat.le_of_ble_eq_true rfl) dX12_hasNext_24 ⟨Nat.le_of_ble_eq_true rfl, Nat.le_of_ble_eq_true rfl⟩ (fun H locs hB => ?_)
    refine x_icmp_lt (tgt := 49) hx hb dX12_hasNext_29 (by decide) ⟨by omega, by omega⟩ ⟨by omega, by omega⟩ (fun c2 => ?_) (fun c2 => ?_)
    · refine lv_iconst (v := iI 1) hx hb dX12_hasNext_49 rfl ?_
      refine lv_goto (tgt := 54) hx hb dX12_hasNext_50 (by decide) ?_
      exact b_iret C hB hr hlocks rfl dX12_hasNext_54 (Nat.le_of_ble_eq_true rfl) (Nat.le_of_ble_eq_true rfl) ⟨by decide, by decide⟩ ⟨rfl, rfl, rfl, rfl, by omega⟩
    · refine lv_aload_n hx hb dX12_hasNext_32 rfl (lv_at hl 0 rfl) ?_
      refine t_get C hB hwy rfl in_X12 1 (by decide) q471 (fun x h => h) (v := .int (iI ((j : Int)))) rfl dX12_hasNext_33 ?_
      refine lv_aload_n hx hb dX12_hasNext_36 rfl (lv_at hl 0 rfl) ?_
      refine t_get C hB hwy rfl in_X12 2 (by decide) q472 (fun x h => h) (v := .ref u) rfl dX12_hasNext_37 ?_
      refine t_get C hB hu rfl in_X11 1 (by decide) q454 (fun x h => h) (v := .ref o) rfl dX12_hasNext_40 ?_
      refine b_getN C hB 4 (by decide) q297 (v := .int (iI (I 6))) rfl rfl dX12_hasNext_43 ?_
      refine x_icmp_ge (tgt := 53) hx hb dX12_hasNext_46 (by decide) ⟨by omega, by omega⟩ ⟨by omega, by omega⟩ (fun c3 => ?_) (fun c3 => ?_)
      · refine lv_iconst (v := iI 0) hx hb dX12_hasNext_53 rfl ?_
        exact b_iret C hB hr hlocks rfl dX12_hasNext_54 (Nat.le_of_ble_eq_true rfl) (Nat.le_of_ble_eq_true rfl) ⟨by decide, by decide⟩ ⟨rfl, rfl, rfl, rfl, by omega⟩
      · refine lv_iconst (v := iI 1) hx hb dX12_hasNext_49 rfl ?_
        refine lv_goto (tgt := 54) hx hb dX12_hasNext_50 (by decide) ?_
        exact b_iret C hB hr hlocks rfl dX12_hasNext_54 (Nat.le_of_ble_eq_true rfl) (Nat.le_of_ble_eq_true rfl) ⟨by decide, by decide⟩ ⟨rfl, rfl, rfl, rfl, by omega⟩
set_option maxHeartbeats 800000 in
set_option maxRecDepth 100000 in
theorem kX12_isLeast (l : Launch) (E : xE) (o : Nat) (Ad : Nat → Nat) (I : Nat → Int) (F : Nat → Nat → Int) (X : xw) (wy : Nat) (i : Nat) (j : Nat) (u : Nat) (iz : Int) (k : Nat) (wd : Int) (hwy : X wy = some (xO 10 [.int (iI ((i : Int))), .int (iI ((j : Int))), .ref u])) (hu : X u = some (xO 9 [.int (iI iz), .ref o])) (ha : (i : Int) ≤ I 5) (hbb : (j : Int) ≤ I 6) (hk : k < 5) (hw : 0 ≤ wd ∧ wd ≤ 7) (hT : ∀ i j : Nat, (i : Int) ≤ I 5 → (j : Int) ≤ I 6 → F 21 (8 * i + j) = (DT I F wd i j).1) (hOK : mOK I F) : ci_ l E yX12_isLeast cX12_isLeast 2 (some .boolean) 6 136 0 0 [.ref wy, .int (iI ((k : Int)))] o Ad I F X (fun z Ad' I' F' X' => Ad = Ad' ∧ I = I' ∧ F = F' ∧ X = X' ∧ ((z = 1 ∧ onB I F wd i j k = true) ∨ (z = 0 ∧ ¬ onB I F wd i j k = true))) := by
  intro w hI hd sz
  refine x_bodyz (by decide) (Nat.le_of_ble_eq_true rfl) ?_
  intro p e s m args below meth c ls hx hb C hr hlocks hin hsz hZ hB hl
  have C : xC E p s m args c cX12_isLeast 2 RX12 := C
  replace hB : xBB E (xA (wU w X) sz) s o Ad I F X s.heap [] := ⟨w, hI, hd, hB⟩
  have hl : lv_has ls 2 [(0, .ref wy), (1, .int (iI ((k : Int))))] := hl
  have hOK0 := hOK
  obtain ⟨⟨hf1, hf2⟩, ⟨hl1, hl2⟩, ⟨hr1, hr2⟩, hlr, ⟨hs1, hs2⟩, ⟨hj1, hj2⟩, ⟨hb1, hb2⟩, ⟨hn1, hn2⟩, hL, hR, hN, hS, hC⟩ := hOK
  
  refine lv_aload_n hx hb dX12_isLeast_0 rfl (lv_at hl 0 rfl) ?_
  refine t_get C hB hwy rfl in_X12 2 (by decide) q472 (fun x h => h) (v := .ref u) rfl dX12_isLeast_1 ?_
  refine t_get C hB hu rfl in_X11 1 (by decide) q454 (fun x h => h) (v := .ref o) rfl dX12_isLeast_4 ?_
  refine lv_iload_n hx hb dX12_isLeast_7 rfl (lv_at hl 1 rfl) ?_
  refine lv_aload_n hx hb dX12_isLeast_8 rfl (lv_at hl 0 rfl) ?_
  refine t_get C hB hwy rfl in_X12 0 (by decide) q470 (fun x h => h) (v := .int (iI ((i : Int)))) rfl dX12_isLeast_9 ?_
  refine lv_aload_n hx hb dX12_isLeast_12 rfl (lv_at hl 0 rfl) ?_
  refine t_get C hB hwy rfl in_X12 1 (by decide) q471 (fun x h => h) (v := .int (iI ((j : Int)))) rfl dX12_isLeast_13 ?_
  refine b_calli 0 0 (Nat.le_of_ble_eq_true rfl) (Nat.le_of_ble_eq_true rfl) hB (fun w hI hd hB => rVN (As := [.int (iI ((k : Int))), .int (iI ((i : Int))), .int (iI ((j : Int)))]) (n := 3) C hZ hB (kX0_areThere l E o Ad I F X k i j (by omega) (by omega) (by omega) hOK0 w hI hd _) q509 qs15 q441 q68 q442 (by decide +kernel) ⟨Nat.le_of_ble_eq_true rfl, Nat.le_of_ble_eq_true rfl⟩ (wU_l hI.x) rfl rfl rfl hl.1 rfl (Nat.le_of_ble_eq_true rfl) dX12_isLeast_16 ⟨Nat.le_of_ble_eq_true rfl, Nat.le_of_ble_eq_true rfl⟩) (fun z1 Ad2 I3 F4 X5 H locs hz6 hp7 hB => ?_)
  obtain ⟨hz6a, hz6b⟩ := hz6
  obtain ⟨rfl, rfl, rfl, rfl, ⟨rfl, h8⟩ | ⟨rfl, h8⟩⟩ := hp7
  · have hlrk := lr_pos k
    have h1 := hT (i + loN k) (j + roN k) (by omega) (by omega)
    rw [show 8 * (i + loN k) + (j + roN k) = 8 * i + 8 * loN k + j + roN k by omega] at h1
    have h2 := hT i j ha hbb
    have hV1 : VB 840 (DT I F wd (i + loN k) (j + roN k)) := VBD (by omega) (by omega) (csM60 hOK0) (by omega) (by omega)
    have hV2 : VB 840 (DT I F wd i j) := VBD (by omega) (by omega) (csM60 hOK0) (by omega) (by omega)
    have hb1 : 0 ≤ F 21 (8 * i + 8 * loN k + j + roN k) ∧ F 21 (8 * i + 8 * loN k + j + roN k) ≤ 100000 := by rw [h1]; unfold VB at hV1; omega
    have hb2 : 0 ≤ F 21 (8 * i + j) ∧ F 21 (8 * i + j) ≤ 100000 := by rw [h2]; unfold VB at hV2; omega
    have hce : csM I F k i j = cst I F (k : Int) i j := rfl
    refine x_if_eq (tgt := 114) hx hb dX12_isLeast_19 (by decide) ⟨by decide, by decide⟩ (fun c9 => by exfalso; omega) (fun c9 => ?_)
    refine lv_aload_n hx hb dX12_isLeast_22 rfl (lv_at hl 0 rfl) ?_
    refine t_get C hB hwy rfl in_X12 2 (by decide) q472 (fun x h => h) (v := .ref u) rfl dX12_isLeast_23 ?_
    refine t_get C hB hu rfl in_X11 1 (by decide) q454 (fun x h => h) (v := .ref o) rfl dX12_isLeast_26 ?_
    refine b_getN C hB 0 (by decide) q291 (v := .ref (Ad 1)) rfl rfl dX12_isLeast_29 ?_
    refine lv_iload_n hx hb dX12_isLeast_32 rfl (lv_at hl 1 rfl) ?_
    refine r_aald C hB 1 4 rfl rfl k rfl (by omega) (by omega) (v := some (Ad (50 + k))) (if_pos (by omega)) dX12_isLeast_33 ?_
    refine r_getN C hB (50 + k) (C0_so (by omega)) rfl in_X1 0 (by decide) q208 (fun x h => h) rfl dX12_isLeast_34 ?_
    refine lv_aload_n hx hb dX12_isLeast_37 rfl (lv_at hl 0 rfl) ?_
    refine t_get C hB hwy rfl in_X12 0 (by decide) q470 (fun x h => h) (v := .int (iI ((i : Int)))) rfl dX12_isLeast_38 ?_
    refine lv_aload_n hx hb dX12_isLeast_41 rfl (lv_at hl 0 rfl) ?_
    refine t_get C hB hwy rfl in_X12 1 (by decide) q471 (fun x h => h) (v := .int (iI ((j : Int)))) rfl dX12_isLeast_42 ?_
    refine b_cost l C hZ hB k (by omega) i j (fun _ => by have : lo (k : Int) = loN k := by { unfold lo loN; (repeat' split) <;> omega }; omega) (fun _ => by have : ro (k : Int) = roN k := by { unfold ro roN; (repeat' split) <;> omega }; omega) hOK0 q511 ⟨Nat.le_of_ble_eq_true rfl, Nat.le_of_ble_eq_true rfl⟩ hl.1 (Nat.le_of_ble_eq_true rfl) dX12_isLeast_45 ⟨Nat.le_of_ble_eq_true rfl, Nat.le_of_ble_eq_true rfl⟩ (fun H locs hcra hcrb hB => ?_)
    refine lv_aload_n hx hb dX12_isLeast_50 rfl (lv_at hl 0 rfl) ?_
    refine t_get C hB hwy rfl in_X12 2 (by decide) q472 (fun x h => h) (v := .ref u) rfl dX12_isLeast_51 ?_
    refine t_get C hB hu rfl in_X11 1 (by decide) q454 (fun x h => h) (v := .ref o) rfl dX12_isLeast_54 ?_
    refine b_getN C hB 12 (by decide) q307 (v := .ref (Ad 13)) rfl rfl dX12_isLeast_57 ?_
    refine lv_bipush (v := iI 8) hx hb dX12_isLeast_60 rfl ?_
    refine lv_aload_n hx hb dX12_isLeast_62 rfl (lv_at hl 0 rfl) ?_
    refine t_get C hB hwy rfl in_X12 0 (by decide) q470 (fun x h => h) (v := .int (iI ((i : Int)))) rfl dX12_isLeast_63 ?_
    refine lv_iload_n hx hb dX12_isLeast_66 rfl (lv_at hl 1 rfl) ?_
    refine bs_callN (n := 1) C hB (As := [.int (iI ((k : Int)))]) (kX0_leftOf l E ((k : Int)) ⟨by omega, by omega⟩) q512 q361 q68 q362 (by decide +kernel) ⟨Nat.le_of_ble_eq_true rfl, Nat.le_of_ble_eq_true rfl⟩ rfl hl.1 rfl (Nat.le_of_ble_eq_true rfl) dX12_isLeast_67 ⟨Nat.le_of_ble_eq_true rfl, Nat.le_of_ble_eq_true rfl⟩ (fun z10 H locs hz11 hp12 hB => ?_)
    obtain ⟨hz11a, hz11b⟩ := hz11
    have h13 : z10 = (loN k : Int) := by unfold loN; (repeat' split) <;> omega
    subst h13
    have hlr := lr_pos k
    refine x_iadd (z := (i : Int) + (loN k : Int)) hx hb dX12_isLeast_70 (by omega) ?_
    refine x_imul (z := 8 * (i : Int) + 8 * (loN k : Int)) hx hb dX12_isLeast_71 (by omega) ?_
    refine lv_aload_n hx hb dX12_isLeast_72 rfl (lv_at hl 0 rfl) ?_
    refine t_get C hB hwy rfl in_X12 1 (by decide) q471 (fun x h => h) (v := .int (iI ((j : Int)))) rfl dX12_isLeast_73 ?_
    refine x_iadd (z := 8 * (i : Int) + 8 * (loN k : Int) + (j : Int)) hx hb dX12_isLeast_76 (by omega) ?_
    refine lv_iload_n hx hb dX12_isLeast_77 rfl (lv_at hl 1 rfl) ?_
    refine bs_callN (n := 1) C hB (As := [.int (iI ((k : Int)))]) (kX0_rightOf l E ((k : Int)) ⟨by omega, by omega⟩) q513 q364 q68 q365 (by decide +kernel) ⟨Nat.le_of_ble_eq_true rfl, Nat.le_of_ble_eq_true rfl⟩ rfl hl.1 rfl (Nat.le_of_ble_eq_true rfl) dX12_isLeast_78 ⟨Nat.le_of_ble_eq_true rfl, Nat.le_of_ble_eq_true rfl⟩ (fun z14 H locs hz15 hp16 hB => ?_)
    obtain ⟨hz15a, hz15b⟩ := hz15
    have h17 : z14 = (roN k : Int) := by unfold roN; (repeat' split) <;> omega
    subst h17
    have hlr := lr_pos k
    refine x_iadd (z := 8 * (i : Int) + 8 * (loN k : Int) + (j : Int) + (roN k : Int)) hx hb dX12_isLeast_81 (by omega) ?_
    refine b_ald C hB 13 21 64 rfl (v := (F 21) (8 * i + 8 * loN k + j + roN k)) (8 * i + 8 * loN k + j + roN k) (by omega) (by omega) (by omega) rfl dX12_isLeast_82 ?_
    refine x_iadd (z := cst I F (k : Int) i j + (F 21) (8 * i + 8 * loN k + j + roN k)) hx hb dX12_isLeast_83 (by omega) ?_
    refine lv_aload_n hx hb dX12_isLeast_84 rfl (lv_at hl 0 rfl) ?_
    refine t_get C hB hwy rfl in_X12 2 (by decide) q472 (fun x h => h) (v := .ref u) rfl dX12_isLeast_85 ?_
    refine t_get C hB hu rfl in_X11 1 (by decide) q454 (fun x h => h) (v := .ref o) rfl dX12_isLeast_88 ?_
    refine b_getN C hB 12 (by decide) q307 (v := .ref (Ad 13)) rfl rfl dX12_isLeast_91 ?_
    refine lv_bipush (v := iI 8) hx hb dX12_isLeast_94 rfl ?_
    refine lv_aload_n hx hb dX12_isLeast_96 rfl (lv_at hl 0 rfl) ?_
    refine t_get C hB hwy rfl in_X12 0 (by decide) q470 (fun x h => h) (v := .int (iI ((i : Int)))) rfl dX12_isLeast_97 ?_
    refine x_imul (z := 8 * (i : Int)) hx hb dX12_isLeast_100 (by omega) ?_
    refine lv_aload_n hx hb dX12_isLeast_101 rfl (lv_at hl 0 rfl) ?_
    refine t_get C hB hwy rfl in_X12 1 (by decide) q471 (fun x h => h) (v := .int (iI ((j : Int)))) rfl dX12_isLeast_102 ?_
    refine x_iadd (z := 8 * (i : Int) + (j : Int)) hx hb dX12_isLeast_105 (by omega) ?_
    refine b_ald C hB 13 21 64 rfl (v := (F 21) (8 * i + j)) (8 * i + j) (by omega) (by omega) (by omega) rfl dX12_isLeast_106 ?_
    refine x_icmp_ne (tgt := 114) hx hb dX12_isLeast_107 (by decide) ⟨by omega, by omega⟩ ⟨by omega, by omega⟩ (fun c18 => ?_) (fun c18 => ?_)
    · refine lv_iconst (v := iI 0) hx hb dX12_isLeast_114 rfl ?_
      exact b_iret C hB hr hlocks rfl dX12_isLeast_115 (Nat.le_of_ble_eq_true rfl) (Nat.le_of_ble_eq_true rfl) ⟨by decide, by decide⟩ ⟨rfl, rfl, rfl, rfl, Or.inr ⟨rfl, fun q => by obtain ⟨z1, z2, z3⟩ := onB_iff.mp q; omega⟩⟩
    · refine lv_iconst (v := iI 1) hx hb dX12_isLeast_110 rfl ?_
      refine lv_goto (tgt := 115) hx hb dX12_isLeast_111 (by decide) ?_
      exact b_iret C hB hr hlocks rfl dX12_isLeast_115 (Nat.le_of_ble_eq_true rfl) (Nat.le_of_ble_eq_true rfl) ⟨by decide, by decide⟩ ⟨rfl, rfl, rfl, rfl, Or.inl ⟨rfl, onB_iff.mpr ⟨by omega, by omega, by omega⟩⟩⟩
  · refine x_if_eq (tgt := 114) hx hb dX12_isLeast_19 (by decide) ⟨by decide, by decide⟩ (fun c19 => ?_) (fun c19 => by exfalso; omega)
    refine lv_iconst (v := iI 0) hx hb dX12_isLeast_114 rfl ?_
    exact b_iret C hB hr hlocks rfl dX12_isLeast_115 (Nat.le_of_ble_eq_true rfl) (Nat.le_of_ble_eq_true rfl) ⟨by decide, by decide⟩ ⟨rfl, rfl, rfl, rfl, Or.inr ⟨rfl, fun q => by obtain ⟨z1, z2, z3⟩ := onB_iff.mp q; omega⟩⟩
set_option maxHeartbeats 800000 in
set_option maxRecDepth 100000 in
theorem kX12_next_2 (l : Launch) (E : xE) (o : Nat) (Ad : Nat → Nat) (I : Nat → Int) (F : Nat → Nat → Int) (X : xw) (wy : Nat) (i : Nat) (j : Nat) (u : Nat) (iz : Int) (wd : Int) (hwy : X wy = some (xO 10 [.int (iI ((i : Int))), .int (iI ((j : Int))), .ref u])) (hu : X u = some (xO 9 [.int (iI iz), .ref o])) (ha : (i : Int) ≤ I 5) (hbb : (j : Int) ≤ I 6) (hw : 0 ≤ wd ∧ wd ≤ 7) (hT : ∀ i j : Nat, (i : Int) ≤ I 5 → (j : Int) ≤ I 6 → F 21 (8 * i + j) = (DT I F wd i j).1) (hnf : (DT I F wd i j).1 ≠ 100000) (hne : ¬ (i = (I 5).toNat ∧ j = (I 6).toNat)) (hOK : mOK I F) : cq_ l E yX12_next_2 cX12_next_2 3 (some (.object "BookPairs$Bead")) 7 157 1 4 [.ref wy] o Ad I F X (fun z Ad' I' F' X' => Ad = Ad' ∧ I = I' ∧ F = F' ∧ ∃ q, z = some q ∧ X q = none ∧ va_up (va_up X q (some (xO 11 [.int (iI ((ns I F wd i j : Nat) : Int)), .int (iI (i : Int)), .int (iI (j : Int)), .ref o]))) wy (some (xO 10 [.int (iI ((i : Int) + (loN (ns I F wd i j) : Int))), .int (iI ((j : Int) + (roN (ns I F wd i j) : Int))), .ref u])) = X') := by
  intro w hI hd sz
  refine x_bodyz (by decide) (Nat.le_of_ble_eq_true rfl) ?_
  intro p e s m args below meth c ls hx hb C hr hlocks hin hsz hZ hB hl
  have C : xC E p s m args c cX12_next_2 3 RX12 := C
  replace hB : xBB E (xA (wU w X) sz) s o Ad I F X s.heap [] := ⟨w, hI, hd, hB⟩
  have hl : lv_has ls 3 [(0, .ref wy)] := hl
  have hOK0 := hOK
  obtain ⟨⟨hf1, hf2⟩, ⟨hl1, hl2⟩, ⟨hr1, hr2⟩, hlr, ⟨hs1, hs2⟩, ⟨hj1, hj2⟩, ⟨hb1, hb2⟩, ⟨hn1, hn2⟩, hL, hR, hN, hS, hC⟩ := hOK
  have hns := ns_spec (onB_ex hOK0 (by omega) (by omega) hnf hne)
  refine lv_iconst (v := iI 0) hx hb dX12_next_2_0 rfl ?_
  refine lv_istore_n (lv' := [(1, .int (iI 0)), (0, .ref wy)]) hx hb dX12_next_2_1 rfl hl (by decide) rfl (fun ls hl => ?_)
  refine w_loop (fun n4 H locs ls => ∃ (k : Nat), n4 = 5 - k ∧ (k ≤ ns I F wd i j) ∧ xBB E (xA (wU w X) sz) s o Ad I F X H locs ∧ lv_has ls 3 [(0, .ref wy), (1, .int (iI ((k : Int))))]) _ ⟨0, rfl, Nat.zero_le _, hB, lv_sub hl [1, 0] rfl⟩ ?_
  intro n4 H locs ls hI3 ih1
  obtain ⟨k, hn2, hkn, hB, hl⟩ := hI3
  refine lv_aload_n hx hb dX12_next_2_2 rfl (lv_at hl 0 rfl) ?_
  refine lv_iload_n hx hb dX12_next_2_3 rfl (lv_at hl 1 rfl) ?_
  refine b_calli 0 0 (Nat.le_of_ble_eq_true rfl) (Nat.le_of_ble_eq_true rfl) hB (fun w hI hd hB => rV (As := [.int (iI ((k : Int)))]) (n := 1) C hZ hB (kX12_isLeast l E o Ad I F X wy i j u iz k wd hwy hu ha hbb (by omega) (by omega) hT hOK0 w hI hd _) (lw_V q505 q507 qs17 q99 q508) (by decide +kernel) ⟨Nat.le_of_ble_eq_true rfl, Nat.le_of_ble_eq_true rfl⟩ (wU_r hd hwy) rfl rfl rfl hl.1 rfl (Nat.le_of_ble_eq_true rfl) dX12_next_2_4 ⟨Nat.le_of_ble_eq_true rfl, Nat.le_of_ble_eq_true rfl⟩) (fun z5 Ad6 I7 F8 X9 H locs hz10 hp11 hB => ?_)
  obtain ⟨hz10a, hz10b⟩ := hz10
  obtain ⟨rfl, rfl, rfl, rfl, ⟨rfl, h12⟩ | ⟨rfl, h12⟩⟩ := hp11
  · have hkk : k = ns I F wd i j := by
      rcases Nat.lt_or_ge k (ns I F wd i j) with q | q
      · exact absurd h12 (hns.2.2 k q)
      · omega
    refine x_if_ne (tgt := 16) hx hb dX12_next_2_7 (by decide) ⟨by decide, by decide⟩ (fun c13 => ?_) (fun c13 => by exfalso; omega)
    refine t_new C hB (ci := 11) (fs := [.int (iI 0), .int (iI 0), .int (iI 0), .null]) rfl in_X13 tyX13_ok q514 q515 q100 dvX13 (Nat.le_of_ble_eq_true rfl) (Nat.le_of_ble_eq_true rfl) dX12_next_2_16 (fun q14 H hq15 hs16 hB => ?_)
    have hne17 : wy ≠ q14 := fun e => by cases (hq15.symm.trans ((congrArg _ e.symm).trans hwy))
    have hne18 : u ≠ q14 := fun e => by cases (hq15.symm.trans ((congrArg _ e.symm).trans hu))
    refine x_up (c2 := 1) (s2 := 4) (Nat.le_of_ble_eq_true rfl) (Nat.le_of_ble_eq_true rfl) ?_
    replace hB : xBB E (xA (wU w X) sz) s o Ad I F (va_up X q14 (some (xO 11 [.int (iI 0), .int (iI 0), .int (iI 0), .null]))) _ _ := hB
    refine lv_dup hx hb dX12_next_2_19 rfl ?_
    refine lv_aload_n hx hb dX12_next_2_20 rfl (lv_at hl 0 rfl) ?_
    refine t_get C hB ((va_up_n _ _ hne17).trans hwy) rfl in_X12 2 (by decide) q472 (fun x h => h) (v := .ref u) rfl dX12_next_2_21 ?_
    refine t_get C hB ((va_up_n _ _ hne18).trans hu) rfl in_X11 1 (by decide) q454 (fun x h => h) (v := .ref o) rfl dX12_next_2_24 ?_
    refine lv_iload_n hx hb dX12_next_2_27 rfl (lv_at hl 1 rfl) ?_
    refine lv_aload_n hx hb dX12_next_2_28 rfl (lv_at hl 0 rfl) ?_
    refine t_get C hB ((va_up_n _ _ hne17).trans hwy) rfl in_X12 0 (by decide) q470 (fun x h => h) (v := .int (iI ((i : Int)))) rfl dX12_next_2_29 ?_
    refine lv_aload_n hx hb dX12_next_2_32 rfl (lv_at hl 0 rfl) ?_
    refine t_get C hB ((va_up_n _ _ hne17).trans hwy) rfl in_X12 1 (by decide) q471 (fun x h => h) (v := .int (iI ((j : Int)))) rfl dX12_next_2_33 ?_
    obtain ⟨wq, hIq, hdq, hB⟩ := hB
    refine g_callv 1 4 (Nat.le_of_ble_eq_true rfl) (Nat.le_of_ble_eq_true rfl) hB (rI (As := [.ref o, .int (iI ((k : Int))), .int (iI ((i : Int))), .int (iI ((j : Int)))]) (n := 4) C hZ hB (kX13_init l E (wU wq (va_up X q14 (some (xO 11 [.int (iI 0), .int (iI 0), .int (iI 0), .null])))) q14 o ((k : Int)) ((i : Int)) ((j : Int)) (wU_r hdq (va_up_s _ _ _)) _) (lw_meth q518) q100 q516 q517 rfl (by decide +kernel) ⟨Nat.le_of_ble_eq_true rfl, Nat.le_of_ble_eq_true rfl⟩ rfl hl.1 rfl (Nat.le_of_ble_eq_true rfl) dX12_next_2_36 ⟨Nat.le_of_ble_eq_true rfl, Nat.le_of_ble_eq_true rfl⟩) (fun w20 H locs hp22 hB => ?_)
    subst hp22
    rw [(hdq.put_t (xO 11 [.int (iI ((k : Int))), .int (iI ((i : Int))), .int (iI ((j : Int))), .ref o]) (va_up_s _ _ _)).2] at hB
    replace hB : xBB E (xA (wU w X) sz) s o Ad I F (va_up (va_up X q14 (some (xO 11 [.int (iI 0), .int (iI 0), .int (iI 0), .null]))) q14 (some (xO 11 [.int (iI ((k : Int))), .int (iI ((i : Int))), .int (iI ((j : Int))), .ref o]))) _ _ := ⟨wq, hIq, (hdq.put_t _ (va_up_s _ _ _)).1, hB⟩
    rw [bx_uu] at hB
    replace hB : xBB E (xA (wU w X) sz) s o Ad I F (va_up X q14 (some (xO 11 [.int (iI ((k : Int))), .int (iI ((i : Int))), .int (iI ((j : Int))), .ref o]))) _ _ := hB
    refine lv_astore_n (lv' := [(2, .ref q14), (0, .ref wy), (1, .int (iI ((k : Int))))]) hx hb dX12_next_2_39 rfl hl (by decide) rfl (fun ls hl => ?_)
    refine lv_aload_n hx hb dX12_next_2_40 rfl (lv_at hl 1 rfl) ?_
    refine lv_dup hx hb dX12_next_2_41 rfl ?_
    refine t_get C hB ((va_up_n _ _ hne17).trans hwy) rfl in_X12 0 (by decide) q470 (fun x h => h) (v := .int (iI ((i : Int)))) rfl dX12_next_2_42 ?_
    refine lv_iload_n hx hb dX12_next_2_45 rfl (lv_at hl 2 rfl) ?_
    refine bs_callN (n := 1) C hB (As := [.int (iI ((k : Int)))]) (kX0_leftOf l E ((k : Int)) ⟨by omega, by omega⟩) q512 q361 q68 q362 (by decide +kernel) ⟨Nat.le_of_ble_eq_true rfl, Nat.le_of_ble_eq_true rfl⟩ rfl hl.1 rfl (Nat.le_of_ble_eq_true rfl) dX12_next_2_46 ⟨Nat.le_of_ble_eq_true rfl, Nat.le_of_ble_eq_true rfl⟩ (fun z23 H locs hz24 hp25 hB => ?_)
    obtain ⟨hz24a, hz24b⟩ := hz24
    have h26 : z23 = (loN k : Int) := by unfold loN; (repeat' split) <;> omega
    subst h26
    have hlr := lr_pos k
    refine x_iadd (z := (i : Int) + (loN k : Int)) hx hb dX12_next_2_49 (by omega) ?_
    refine t_put C hB ((va_up_n _ _ hne17).trans hwy) rfl in_X12 tyX12_ok apX12 0 (by decide) q470 (fun x h => h) rfl rfl rfl (Nat.le_of_ble_eq_true rfl) dX12_next_2_50 (fun H locs hB => ?_)
    replace hB : xBB E (xA (wU w X) sz) s o Ad I F (va_up (va_up X q14 (some (xO 11 [.int (iI ((k : Int))), .int (iI ((i : Int))), .int (iI ((j : Int))), .ref o]))) wy (some (xO 10 [.int (iI ((i : Int) + (loN k : Int))), .int (iI ((j : Int))), .ref u]))) _ _ := hB
    refine lv_aload_n hx hb dX12_next_2_53 rfl (lv_at hl 1 rfl) ?_
    refine lv_dup hx hb dX12_next_2_54 rfl ?_
    refine t_get C hB (va_up_s _ _ _) rfl in_X12 1 (by decide) q471 (fun x h => h) (v := .int (iI ((j : Int)))) rfl dX12_next_2_55 ?_
    refine lv_iload_n hx hb dX12_next_2_58 rfl (lv_at hl 2 rfl) ?_
    refine bs_callN (n := 1) C hB (As := [.int (iI ((k : Int)))]) (kX0_rightOf l E ((k : Int)) ⟨by omega, by omega⟩) q513 q364 q68 q365 (by decide +kernel) ⟨Nat.le_of_ble_eq_true rfl, Nat.le_of_ble_eq_true rfl⟩ rfl hl.1 rfl (Nat.le_of_ble_eq_true rfl) dX12_next_2_59 ⟨Nat.le_of_ble_eq_true rfl, Nat.le_of_ble_eq_true rfl⟩ (fun z27 H locs hz28 hp29 hB => ?_)
    obtain ⟨hz28a, hz28b⟩ := hz28
    have h30 : z27 = (roN k : Int) := by unfold roN; (repeat' split) <;> omega
    subst h30
    have hlr := lr_pos k
    refine x_iadd (z := (j : Int) + (roN k : Int)) hx hb dX12_next_2_62 (by omega) ?_
    refine t_put C hB (va_up_s _ _ _) rfl in_X12 tyX12_ok apX12 1 (by decide) q471 (fun x h => h) rfl rfl rfl (Nat.le_of_ble_eq_true rfl) dX12_next_2_63 (fun H locs hB => ?_)
    rw [bx_uu] at hB
    replace hB : xBB E (xA (wU w X) sz) s o Ad I F (va_up (va_up X q14 (some (xO 11 [.int (iI ((k : Int))), .int (iI ((i : Int))), .int (iI ((j : Int))), .ref o]))) wy (some (xO 10 [.int (iI ((i : Int) + (loN k : Int))), .int (iI ((j : Int) + (roN k : Int))), .ref u]))) _ _ := hB
    refine lv_aload_n hx hb dX12_next_2_66 rfl (lv_at hl 0 rfl) ?_
    exact b_qret C hB hr (Or.inl ⟨_, rfl⟩) hlocks ((some q14)) dX12_next_2_67 (Nat.le_of_ble_eq_true rfl) (Nat.le_of_ble_eq_true rfl) ⟨rfl, rfl, rfl, _, rfl, hq15, by rw [← hkk]⟩
  · have hkk : k < ns I F wd i j := by
      rcases Nat.lt_or_ge k (ns I F wd i j) with q | q
      · exact q
      · exact absurd (by rw [show k = ns I F wd i j by omega]; exact hns.1) h12
    refine x_if_ne (tgt := 16) hx hb dX12_next_2_7 (by decide) ⟨by decide, by decide⟩ (fun c31 => by exfalso; omega) (fun c31 => ?_)
    refine lv_iinc (v := iI ((k : Int) + 1)) (lv' := [(1, .int (iI ((k : Int) + 1))), (0, .ref wy)]) hx hb dX12_next_2_10 hl (k := 1) rfl (iI_add _ _) (by decide) rfl (fun ls hl => ?_)
    refine lv_goto (tgt := 2) hx hb dX12_next_2_13 (by decide) ?_
    exact ih1 _ _ _ _ (by omega) ⟨k + 1, rfl, by omega, hB, lv_sub hl [1, 0] rfl⟩
set_option maxHeartbeats 800000 in
set_option maxRecDepth 100000 in
theorem kX12_next (l : Launch) (E : xE) (o : Nat) (Ad : Nat → Nat) (I : Nat → Int) (F : Nat → Nat → Int) (X : xw) (wy : Nat) (i : Nat) (j : Nat) (u : Nat) (iz : Int) (wd : Int) (hwy : X wy = some (xO 10 [.int (iI ((i : Int))), .int (iI ((j : Int))), .ref u])) (hu : X u = some (xO 9 [.int (iI iz), .ref o])) (ha : (i : Int) ≤ I 5) (hbb : (j : Int) ≤ I 6) (hw : 0 ≤ wd ∧ wd ≤ 7) (hT : ∀ i j : Nat, (i : Int) ≤ I 5 → (j : Int) ≤ I 6 → F 21 (8 * i + j) = (DT I F wd i j).1) (hnf : (DT I F wd i j).1 ≠ 100000) (hne : ¬ (i = (I 5).toNat ∧ j = (I 6).toNat)) (hOK : mOK I F) : cq_ l E yX12_next cX12_next 1 (some (.object "java/lang/Object")) 8 179 1 4 [.ref wy] o Ad I F X (fun z Ad' I' F' X' => Ad = Ad' ∧ I = I' ∧ F = F' ∧ ∃ q, z = some q ∧ X q = none ∧ va_up (va_up X q (some (xO 11 [.int (iI ((ns I F wd i j : Nat) : Int)), .int (iI (i : Int)), .int (iI (j : Int)), .ref o]))) wy (some (xO 10 [.int (iI ((i : Int) + (loN (ns I F wd i j) : Int))), .int (iI ((j : Int) + (roN (ns I F wd i j) : Int))), .ref u])) = X') := by
  intro w hI hd sz
  refine x_bodyz (by decide) (Nat.le_of_ble_eq_true rfl) ?_
  intro p e s m args below meth c ls hx hb C hr hlocks hin hsz hZ hB hl
  have C : xC E p s m args c cX12_next 1 RX12 := C
  replace hB : xBB E (xA (wU w X) sz) s o Ad I F X s.heap [] := ⟨w, hI, hd, hB⟩
  have hl : lv_has ls 1 [(0, .ref wy)] := hl
  have hOK0 := hOK
  obtain ⟨⟨hf1, hf2⟩, ⟨hl1, hl2⟩, ⟨hr1, hr2⟩, hlr, ⟨hs1, hs2⟩, ⟨hj1, hj2⟩, ⟨hb1, hb2⟩, ⟨hn1, hn2⟩, hL, hR, hN, hS, hC⟩ := hOK
  
  refine lv_aload_n hx hb dX12_next_0 rfl (lv_at hl 0 rfl) ?_
  refine b_callq 1 4 (Nat.le_of_ble_eq_true rfl) (Nat.le_of_ble_eq_true rfl) hB (fun w hI hd hB => rV (As := []) (n := 0) C hZ hB (kX12_next_2 l E o Ad I F X wy i j u iz wd hwy hu ha hbb (by omega) hT hnf hne hOK0 w hI hd _) (lw_V q501 q502 q503 q99 q504) (by decide +kernel) ⟨Nat.le_of_ble_eq_true rfl, Nat.le_of_ble_eq_true rfl⟩ (wU_r hd hwy) rfl rfl rfl hl.1 rfl (Nat.le_of_ble_eq_true rfl) dX12_next_1 ⟨Nat.le_of_ble_eq_true rfl, Nat.le_of_ble_eq_true rfl⟩) (fun z1 Ad2 I3 F4 X5 H locs hp7 hB => ?_)
  obtain ⟨rfl, rfl, rfl, q8, rfl, hq9, rfl⟩ := hp7
  have hne10 : wy ≠ q8 := fun e => by cases (hq9.symm.trans ((congrArg _ e.symm).trans hwy))
  have hne11 : u ≠ q8 := fun e => by cases (hq9.symm.trans ((congrArg _ e.symm).trans hu))
  replace hB : xBB E (xA (wU w X) sz) s o Ad I F (va_up (va_up X q8 (some (xO 11 [.int (iI (((ns I F wd i j : Nat) : Int))), .int (iI ((i : Int))), .int (iI ((j : Int))), .ref o]))) wy (some (xO 10 [.int (iI ((i : Int) + (loN (ns I F wd i j) : Int))), .int (iI ((j : Int) + (roN (ns I F wd i j) : Int))), .ref u]))) _ _ := hB
  exact b_qret C hB hr (Or.inl ⟨_, rfl⟩) hlocks ((some q8)) dX12_next_4 (Nat.le_of_ble_eq_true rfl) (Nat.le_of_ble_eq_true rfl) ⟨rfl, rfl, rfl, _, rfl, hq9, rfl⟩
set_option maxHeartbeats 800000 in
set_option maxRecDepth 100000 in
theorem kX13_leftOnes (l : Launch) (E : xE) (o : Nat) (Ad : Nat → Nat) (I : Nat → Int) (F : Nat → Nat → Int) (X : xw) (bd : Nat) (q1 : Nat) (q2 : Nat) (q3 : Nat) (hbd : X bd = some (xO 11 [.int (iI ((q1 : Int))), .int (iI ((q2 : Int))), .int (iI ((q3 : Int))), .ref o])) (hq : q1 ≤ 4 ∧ q2 ≤ 7 ∧ q3 ≤ 7) : ci_ l E yX13_leftOnes cX13_leftOnes 1 (some .int) 1 20 0 0 [.ref bd] o Ad I F X (fun z Ad' I' F' X' => Ad = Ad' ∧ I = I' ∧ F = F' ∧ X = X' ∧ z = bShl (bShl 1 (loN q1 : Int) - 1) (q2 : Int)) := by
  intro w hI hd sz
  refine x_bodyz (by decide) (Nat.le_of_ble_eq_true rfl) ?_
  intro p e s m args below meth c ls hx hb C hr hlocks hin hsz hZ hB hl
  have C : xC E p s m args c cX13_leftOnes 1 RX13 := C
  replace hB : xBB E (xA (wU w X) sz) s o Ad I F X s.heap [] := ⟨w, hI, hd, hB⟩
  have hl : lv_has ls 1 [(0, .ref bd)] := hl
  refine lv_iconst (v := iI 1) hx hb dX13_leftOnes_0 rfl ?_
  refine lv_aload_n hx hb dX13_leftOnes_1 rfl (lv_at hl 0 rfl) ?_
  refine t_get C hB hbd rfl in_X13 0 (by decide) q520 (fun x h => h) (v := .int (iI ((q1 : Int)))) rfl dX13_leftOnes_2 ?_
  refine bs_callN (n := 1) C hB (As := [.int (iI ((q1 : Int)))]) (kX0_leftOf l E ((q1 : Int)) ⟨by omega, by omega⟩) q555 q361 q68 q362 (by decide +kernel) ⟨Nat.le_of_ble_eq_true rfl, Nat.le_of_ble_eq_true rfl⟩ rfl hl.1 rfl (Nat.le_of_ble_eq_true rfl) dX13_leftOnes_5 ⟨Nat.le_of_ble_eq_true rfl, Nat.le_of_ble_eq_true rfl⟩ (fun z1 H locs hz2 hp3 hB => ?_)
  obtain ⟨hz2a, hz2b⟩ := hz2
  have h4 : z1 = (loN q1 : Int) := by unfold loN; (repeat' split) <;> omega
  subst h4
  have hlr := lr_pos q1
  have := rg_shl 1 ((loN q1 : Int))
  refine x_ishl hx hb dX13_leftOnes_8 ?_
  refine lv_iconst (v := iI 1) hx hb dX13_leftOnes_9 rfl ?_
  refine x_isub (z := bShl 1 ((loN q1 : Int)) - 1) hx hb dX13_leftOnes_10 (by omega) ?_
  refine lv_aload_n hx hb dX13_leftOnes_11 rfl (lv_at hl 0 rfl) ?_
  refine t_get C hB hbd rfl in_X13 1 (by decide) q522 (fun x h => h) (v := .int (iI ((q2 : Int)))) rfl dX13_leftOnes_12 ?_
  have := rg_shl (bShl 1 ((loN q1 : Int)) - 1) ((q2 : Int))
  refine x_ishl hx hb dX13_leftOnes_15 ?_
  exact b_iret C hB hr hlocks rfl dX13_leftOnes_16 (Nat.le_of_ble_eq_true rfl) (Nat.le_of_ble_eq_true rfl) ⟨by omega, by omega⟩ ⟨rfl, rfl, rfl, rfl, rfl⟩
set_option maxHeartbeats 800000 in
set_option maxRecDepth 100000 in
theorem kX13_rightOnes (l : Launch) (E : xE) (o : Nat) (Ad : Nat → Nat) (I : Nat → Int) (F : Nat → Nat → Int) (X : xw) (bd : Nat) (q1 : Nat) (q2 : Nat) (q3 : Nat) (hbd : X bd = some (xO 11 [.int (iI ((q1 : Int))), .int (iI ((q2 : Int))), .int (iI ((q3 : Int))), .ref o])) (hq : q1 ≤ 4 ∧ q2 ≤ 7 ∧ q3 ≤ 7) : ci_ l E yX13_rightOnes cX13_rightOnes 1 (some .int) 1 20 0 0 [.ref bd] o Ad I F X (fun z Ad' I' F' X' => Ad = Ad' ∧ I = I' ∧ F = F' ∧ X = X' ∧ z = bShl (bShl 1 (roN q1 : Int) - 1) (q3 : Int)) := by
  intro w hI hd sz
  refine x_bodyz (by decide) (Nat.le_of_ble_eq_true rfl) ?_
  intro p e s m args below meth c ls hx hb C hr hlocks hin hsz hZ hB hl
  have C : xC E p s m args c cX13_rightOnes 1 RX13 := C
  replace hB : xBB E (xA (wU w X) sz) s o Ad I F X s.heap [] := ⟨w, hI, hd, hB⟩
  have hl : lv_has ls 1 [(0, .ref bd)] := hl
  refine lv_iconst (v := iI 1) hx hb dX13_rightOnes_0 rfl ?_
  refine lv_aload_n hx hb dX13_rightOnes_1 rfl (lv_at hl 0 rfl) ?_
  refine t_get C hB hbd rfl in_X13 0 (by decide) q520 (fun x h => h) (v := .int (iI ((q1 : Int)))) rfl dX13_rightOnes_2 ?_
  refine bs_callN (n := 1) C hB (As := [.int (iI ((q1 : Int)))]) (kX0_rightOf l E ((q1 : Int)) ⟨by omega, by omega⟩) q550 q364 q68 q365 (by decide +kernel) ⟨Nat.le_of_ble_eq_true rfl, Nat.le_of_ble_eq_true rfl⟩ rfl hl.1 rfl (Nat.le_of_ble_eq_true rfl) dX13_rightOnes_5 ⟨Nat.le_of_ble_eq_true rfl, Nat.le_of_ble_eq_true rfl⟩ (fun z1 H locs hz2 hp3 hB => ?_)
  obtain ⟨hz2a, hz2b⟩ := hz2
  have h4 : z1 = (roN q1 : Int) := by unfold roN; (repeat' split) <;> omega
  subst h4
  have hlr := lr_pos q1
  have := rg_shl 1 ((roN q1 : Int))
  refine x_ishl hx hb dX13_rightOnes_8 ?_
  refine lv_iconst (v := iI 1) hx hb dX13_rightOnes_9 rfl ?_
  refine x_isub (z := bShl 1 ((roN q1 : Int)) - 1) hx hb dX13_rightOnes_10 (by omega) ?_
  refine lv_aload_n hx hb dX13_rightOnes_11 rfl (lv_at hl 0 rfl) ?_
  refine t_get C hB hbd rfl in_X13 2 (by decide) q524 (fun x h => h) (v := .int (iI ((q3 : Int)))) rfl dX13_rightOnes_12 ?_
  have := rg_shl (bShl 1 ((roN q1 : Int)) - 1) ((q3 : Int))
  refine x_ishl hx hb dX13_rightOnes_15 ?_
  exact b_iret C hB hr hlocks rfl dX13_rightOnes_16 (Nat.le_of_ble_eq_true rfl) (Nat.le_of_ble_eq_true rfl) ⟨by omega, by omega⟩ ⟨rfl, rfl, rfl, rfl, rfl⟩
set_option maxHeartbeats 800000 in
set_option maxRecDepth 100000 in
theorem kX13_cost (l : Launch) (E : xE) (o : Nat) (Ad : Nat → Nat) (I : Nat → Int) (F : Nat → Nat → Int) (X : xw) (bd : Nat) (q1 : Nat) (q2 : Nat) (q3 : Nat) (hbd : X bd = some (xO 11 [.int (iI ((q1 : Int))), .int (iI ((q2 : Int))), .int (iI ((q3 : Int))), .ref o])) (hq : q1 ≤ 4 ∧ q2 ≤ 7 ∧ q3 ≤ 7) (ha : (q2 : Int) + (loN q1 : Int) ≤ I 5) (hbb : (q3 : Int) + (roN q1 : Int) ≤ I 6) (hOK : mOK I F) : ci_ l E yX13_cost cX13_cost 1 (some .int) 6 136 0 0 [.ref bd] o Ad I F X (fun z Ad' I' F' X' => Ad = Ad' ∧ I = I' ∧ F = F' ∧ X = X' ∧ z = cst I F (q1 : Int) q2 q3) := by
  intro w hI hd sz
  refine x_bodyz (by decide) (Nat.le_of_ble_eq_true rfl) ?_
  intro p e s m args below meth c ls hx hb C hr hlocks hin hsz hZ hB hl
  have C : xC E p s m args c cX13_cost 1 RX13 := C
  replace hB : xBB E (xA (wU w X) sz) s o Ad I F X s.heap [] := ⟨w, hI, hd, hB⟩
  have hl : lv_has ls 1 [(0, .ref bd)] := hl
  have hOK0 := hOK
  obtain ⟨⟨hf1, hf2⟩, ⟨hl1, hl2⟩, ⟨hr1, hr2⟩, hlr, ⟨hs1, hs2⟩, ⟨hj1, hj2⟩, ⟨hb1, hb2⟩, ⟨hn1, hn2⟩, hL, hR, hN, hS, hC⟩ := hOK
  
  refine lv_aload_n hx hb dX13_cost_0 rfl (lv_at hl 0 rfl) ?_
  refine t_get C hB hbd rfl in_X13 3 (by decide) q526 (fun x h => h) (v := .ref o) rfl dX13_cost_1 ?_
  refine b_getN C hB 0 (by decide) q289 (v := .ref (Ad 1)) rfl rfl dX13_cost_4 ?_
  refine lv_aload_n hx hb dX13_cost_7 rfl (lv_at hl 0 rfl) ?_
  refine t_get C hB hbd rfl in_X13 0 (by decide) q520 (fun x h => h) (v := .int (iI ((q1 : Int)))) rfl dX13_cost_8 ?_
  refine r_aald C hB 1 4 rfl rfl q1 rfl (by omega) (by omega) (v := some (Ad (50 + q1))) (if_pos (by omega)) dX13_cost_11 ?_
  refine r_getN C hB (50 + q1) (C0_so (by omega)) rfl in_X1 0 (by decide) q207 (fun x h => h) rfl dX13_cost_12 ?_
  refine lv_aload_n hx hb dX13_cost_15 rfl (lv_at hl 0 rfl) ?_
  refine t_get C hB hbd rfl in_X13 1 (by decide) q522 (fun x h => h) (v := .int (iI ((q2 : Int)))) rfl dX13_cost_16 ?_
  refine lv_aload_n hx hb dX13_cost_19 rfl (lv_at hl 0 rfl) ?_
  refine t_get C hB hbd rfl in_X13 2 (by decide) q524 (fun x h => h) (v := .int (iI ((q3 : Int)))) rfl dX13_cost_20 ?_
  refine b_cost l C hZ hB q1 (by omega) q2 q3 (fun _ => by have : lo (q1 : Int) = loN q1 := by { unfold lo loN; (repeat' split) <;> omega }; omega) (fun _ => by have : ro (q1 : Int) = roN q1 := by { unfold ro roN; (repeat' split) <;> omega }; omega) hOK0 q643 ⟨Nat.le_of_ble_eq_true rfl, Nat.le_of_ble_eq_true rfl⟩ hl.1 (Nat.le_of_ble_eq_true rfl) dX13_cost_23 ⟨Nat.le_of_ble_eq_true rfl, Nat.le_of_ble_eq_true rfl⟩ (fun H locs hcra hcrb hB => ?_)
  exact b_iret C hB hr hlocks rfl dX13_cost_28 (Nat.le_of_ble_eq_true rfl) (Nat.le_of_ble_eq_true rfl) ⟨by omega, by omega⟩ ⟨rfl, rfl, rfl, rfl, rfl⟩
set_option maxHeartbeats 800000 in
set_option maxRecDepth 100000 in
theorem kX15_takes (l : Launch) (E : xE) (o : Nat) (Ad : Nat → Nat) (I : Nat → Int) (F : Nat → Nat → Int) (X : xw) (t : Nat) (v : Int) (bd : Nat) (ht : X t = some (xO 13 [.int (iI v), .ref o, .ref o])) : cv_ l E yX15_takes cX15_takes 2 none 0 0 0 0 [.ref t, .ref bd] o Ad I F X (fun _ Ad' I' F' X' => Ad = Ad' ∧ I = I' ∧ F = F' ∧ va_up X t (some (xO 13 [.int (iI (v + 1)), .ref o, .ref o])) = X') := by
  intro w hI hd sz
  refine x_bodyz (by decide) (Nat.le_of_ble_eq_true rfl) ?_
  intro p e s m args below meth c ls hx hb C hr hlocks hin hsz hZ hB hl
  have C : xC E p s m args c cX15_takes 2 RX15 := C
  replace hB : xBB E (xA (wU w X) sz) s o Ad I F X s.heap [] := ⟨w, hI, hd, hB⟩
  have hl : lv_has ls 2 [(0, .ref t), (1, .ref bd)] := hl
  refine lv_aload_n hx hb dX15_takes_0 rfl (lv_at hl 0 rfl) ?_
  refine lv_dup hx hb dX15_takes_1 rfl ?_
  refine t_get C hB ht rfl in_X15 0 (by decide) q400 (fun x h => u_same (C.1.2.2.2.2 _ q401) x h) (v := .int (iI v)) rfl dX15_takes_2 ?_
  refine lv_iconst (v := iI 1) hx hb dX15_takes_5 rfl ?_
  refine x_iadd (z := v + 1) hx hb dX15_takes_6 (by omega) ?_
  refine t_put C hB ht rfl in_X15 tyX15_ok apX15 0 (by decide) q400 (fun x h => u_same (C.1.2.2.2.2 _ q401) x h) rfl rfl rfl (Nat.le_of_ble_eq_true rfl) dX15_takes_7 (fun H locs hB => ?_)
  replace hB : xBB E (xA (wU w X) sz) s o Ad I F (va_up X t (some (xO 13 [.int (iI (v + 1)), .ref o, .ref o]))) _ _ := hB
  exact b_vret C hB hr hlocks dX15_takes_10 (Nat.le_of_ble_eq_true rfl) (Nat.le_of_ble_eq_true rfl) ⟨rfl, rfl, rfl, rfl⟩
set_option maxHeartbeats 800000 in
set_option maxRecDepth 100000 in
theorem kX10_takes (l : Launch) (E : xE) (o : Nat) (Ad : Nat → Nat) (I : Nat → Int) (F : Nat → Nat → Int) (X : xw) (t : Nat) (v : Int) (av : Nat) (bd : Nat) (q1 : Nat) (q2 : Nat) (q3 : Nat) (ht : X t = some (xO 8 [.int (iI v), .ref o, .int (iI ((av : Int))), .ref o])) (hbd : X bd = some (xO 11 [.int (iI ((q1 : Int))), .int (iI ((q2 : Int))), .int (iI ((q3 : Int))), .ref o])) (hq : q1 ≤ 4 ∧ q2 ≤ 7 ∧ q3 ≤ 7) (htb : t ≠ bd) (hav : av ≤ 7) : cv_ l E yX10_takes cX10_takes 2 none 2 40 0 0 [.ref t, .ref bd] o Ad I F X (fun _ Ad' I' F' X' => Ad = Ad' ∧ I = I' ∧ F = F' ∧ va_up X t (some (xO 8 [.int (iI (bOr v (if q2 ≤ av ∧ av < q2 + loN q1 then bShl (bShl 1 (roN q1 : Int) - 1) (q3 : Int) else 0))), .ref o, .int (iI ((av : Int))), .ref o])) = X') := by
  intro w hI hd sz
  refine x_bodyz (by decide) (Nat.le_of_ble_eq_true rfl) ?_
  intro p e s m args below meth c ls hx hb C hr hlocks hin hsz hZ hB hl
  have C : xC E p s m args c cX10_takes 2 RX10 := C
  replace hB : xBB E (xA (wU w X) sz) s o Ad I F X s.heap [] := ⟨w, hI, hd, hB⟩
  have hl : lv_has ls 2 [(0, .ref t), (1, .ref bd)] := hl
  refine lv_aload_n hx hb dX10_takes_0 rfl (lv_at hl 0 rfl) ?_
  refine lv_dup hx hb dX10_takes_1 rfl ?_
  refine t_get C hB ht rfl in_X10 0 (by decide) q404 (fun x h => u_same (C.1.2.2.2.2 _ q405) x h) (v := .int (iI v)) rfl dX10_takes_2 ?_
  refine lv_aload_n hx hb dX10_takes_5 rfl (lv_at hl 1 rfl) ?_
  refine b_calli 0 0 (Nat.le_of_ble_eq_true rfl) (Nat.le_of_ble_eq_true rfl) hB (fun w hI hd hB => rV (As := []) (n := 0) C hZ hB (kX13_leftOnes l E o Ad I F X bd q1 q2 q3 hbd (by omega) w hI hd _) (lw_V q559 q552 q553 q100 q554) (by decide +kernel) ⟨Nat.le_of_ble_eq_true rfl, Nat.le_of_ble_eq_true rfl⟩ (wU_r hd hbd) rfl rfl rfl hl.1 rfl (Nat.le_of_ble_eq_true rfl) dX10_takes_6 ⟨Nat.le_of_ble_eq_true rfl, Nat.le_of_ble_eq_true rfl⟩) (fun z1 Ad2 I3 F4 X5 H locs hz6 hp7 hB => ?_)
  obtain ⟨hz6a, hz6b⟩ := hz6
  obtain ⟨rfl, rfl, rfl, rfl, rfl⟩ := hp7
  refine lv_aload_n hx hb dX10_takes_9 rfl (lv_at hl 0 rfl) ?_
  refine t_get C hB ht rfl in_X10 2 (by decide) q398 (fun x h => h) (v := .int (iI ((av : Int)))) rfl dX10_takes_10 ?_
  refine x_ishr hx hb dX10_takes_13 ?_
  refine lv_iconst (v := iI 1) hx hb dX10_takes_14 rfl ?_
  have := rg_and (bShr (bShl (bShl 1 (loN q1 : Int) - 1) ((q2 : Int))) ((av : Int))) 1
  refine x_iand hx hb dX10_takes_15 ?_
  refine lv_iconst (v := iI 1) hx hb dX10_takes_16 rfl ?_
  refine x_icmp_ne (tgt := 27) hx hb dX10_takes_17 (by decide) ⟨by omega, by omega⟩ ⟨by decide, by decide⟩ (fun c8 => ?_) (fun c8 => ?_)
  · refine lv_iconst (v := iI 0) hx hb dX10_takes_27 rfl ?_
    refine x_ior hx hb dX10_takes_28 ?_
    refine t_put C hB ht rfl in_X10 tyX10_ok apX10 0 (by decide) q404 (fun x h => u_same (C.1.2.2.2.2 _ q405) x h) rfl rfl rfl (Nat.le_of_ble_eq_true rfl) dX10_takes_29 (fun H locs hB => ?_)
    replace hB : xBB E (xA (wU w X) sz) s o Ad I F (va_up X t (some (xO 8 [.int (iI (bOr v 0)), .ref o, .int (iI ((av : Int))), .ref o]))) _ _ := hB
    exact b_vret C hB hr hlocks dX10_takes_32 (Nat.le_of_ble_eq_true rfl) (Nat.le_of_ble_eq_true rfl) ⟨rfl, rfl, rfl, by rw [if_neg (fun q => by have := (ones_loN hq.1 (by omega) (by omega)).mpr q; omega)]⟩
  · refine lv_aload_n hx hb dX10_takes_20 rfl (lv_at hl 1 rfl) ?_
    refine b_calli 0 0 (Nat.le_of_ble_eq_true rfl) (Nat.le_of_ble_eq_true rfl) hB (fun w hI hd hB => rV (As := []) (n := 0) C hZ hB (kX13_rightOnes l E o Ad I F X bd q1 q2 q3 hbd (by omega) w hI hd _) (lw_V q560 q547 q548 q100 q549) (by decide +kernel) ⟨Nat.le_of_ble_eq_true rfl, Nat.le_of_ble_eq_true rfl⟩ (wU_r hd hbd) rfl rfl rfl hl.1 rfl (Nat.le_of_ble_eq_true rfl) dX10_takes_21 ⟨Nat.le_of_ble_eq_true rfl, Nat.le_of_ble_eq_true rfl⟩) (fun z9 Ad10 I11 F12 X13 H locs hz14 hp15 hB => ?_)
    obtain ⟨hz14a, hz14b⟩ := hz14
    obtain ⟨rfl, rfl, rfl, rfl, rfl⟩ := hp15
    refine lv_goto (tgt := 28) hx hb dX10_takes_24 (by decide) ?_
    refine x_ior hx hb dX10_takes_28 ?_
    refine t_put C hB ht rfl in_X10 tyX10_ok apX10 0 (by decide) q404 (fun x h => u_same (C.1.2.2.2.2 _ q405) x h) rfl rfl rfl (Nat.le_of_ble_eq_true rfl) dX10_takes_29 (fun H locs hB => ?_)
    replace hB : xBB E (xA (wU w X) sz) s o Ad I F (va_up X t (some (xO 8 [.int (iI (bOr v (bShl (bShl 1 (roN q1 : Int) - 1) ((q3 : Int))))), .ref o, .int (iI ((av : Int))), .ref o]))) _ _ := hB
    exact b_vret C hB hr hlocks dX10_takes_32 (Nat.le_of_ble_eq_true rfl) (Nat.le_of_ble_eq_true rfl) ⟨rfl, rfl, rfl, by rw [if_pos ((ones_loN hq.1 (by omega) (by omega)).mp (by omega))]⟩
set_option maxHeartbeats 800000 in
set_option maxRecDepth 100000 in
theorem kX14_takes (l : Launch) (E : xE) (o : Nat) (Ad : Nat → Nat) (I : Nat → Int) (F : Nat → Nat → Int) (X : xw) (t : Nat) (v : Int) (av : Nat) (bd : Nat) (q1 : Nat) (q2 : Nat) (q3 : Nat) (ht : X t = some (xO 12 [.int (iI v), .ref o, .int (iI ((av : Int))), .ref o])) (hbd : X bd = some (xO 11 [.int (iI ((q1 : Int))), .int (iI ((q2 : Int))), .int (iI ((q3 : Int))), .ref o])) (hq : q1 ≤ 4 ∧ q2 ≤ 7 ∧ q3 ≤ 7) (htb : t ≠ bd) (hav : av ≤ 7) : cv_ l E yX14_takes cX14_takes 2 none 2 40 0 0 [.ref t, .ref bd] o Ad I F X (fun _ Ad' I' F' X' => Ad = Ad' ∧ I = I' ∧ F = F' ∧ va_up X t (some (xO 12 [.int (iI (bOr v (if q3 ≤ av ∧ av < q3 + roN q1 then bShl (bShl 1 (loN q1 : Int) - 1) (q2 : Int) else 0))), .ref o, .int (iI ((av : Int))), .ref o])) = X') := by
  intro w hI hd sz
  refine x_bodyz (by decide) (Nat.le_of_ble_eq_true rfl) ?_
  intro p e s m args below meth c ls hx hb C hr hlocks hin hsz hZ hB hl
  have C : xC E p s m args c cX14_takes 2 RX14 := C
  replace hB : xBB E (xA (wU w X) sz) s o Ad I F X s.heap [] := ⟨w, hI, hd, hB⟩
  have hl : lv_has ls 2 [(0, .ref t), (1, .ref bd)] := hl
  refine lv_aload_n hx hb dX14_takes_0 rfl (lv_at hl 0 rfl) ?_
  refine lv_dup hx hb dX14_takes_1 rfl ?_
  refine t_get C hB ht rfl in_X14 0 (by decide) q402 (fun x h => u_same (C.1.2.2.2.2 _ q403) x h) (v := .int (iI v)) rfl dX14_takes_2 ?_
  refine lv_aload_n hx hb dX14_takes_5 rfl (lv_at hl 1 rfl) ?_
  refine b_calli 0 0 (Nat.le_of_ble_eq_true rfl) (Nat.le_of_ble_eq_true rfl) hB (fun w hI hd hB => rV (As := []) (n := 0) C hZ hB (kX13_rightOnes l E o Ad I F X bd q1 q2 q3 hbd (by omega) w hI hd _) (lw_V q546 q547 q548 q100 q549) (by decide +kernel) ⟨Nat.le_of_ble_eq_true rfl, Nat.le_of_ble_eq_true rfl⟩ (wU_r hd hbd) rfl rfl rfl hl.1 rfl (Nat.le_of_ble_eq_true rfl) dX14_takes_6 ⟨Nat.le_of_ble_eq_true rfl, Nat.le_of_ble_eq_true rfl⟩) (fun z1 Ad2 I3 F4 X5 H locs hz6 hp7 hB => ?_)
  obtain ⟨hz6a, hz6b⟩ := hz6
  obtain ⟨rfl, rfl, rfl, rfl, rfl⟩ := hp7
  refine lv_aload_n hx hb dX14_takes_9 rfl (lv_at hl 0 rfl) ?_
  refine t_get C hB ht rfl in_X14 2 (by decide) q575 (fun x h => h) (v := .int (iI ((av : Int)))) rfl dX14_takes_10 ?_
  refine x_ishr hx hb dX14_takes_13 ?_
  refine lv_iconst (v := iI 1) hx hb dX14_takes_14 rfl ?_
  have := rg_and (bShr (bShl (bShl 1 (roN q1 : Int) - 1) ((q3 : Int))) ((av : Int))) 1
  refine x_iand hx hb dX14_takes_15 ?_
  refine lv_iconst (v := iI 1) hx hb dX14_takes_16 rfl ?_
  refine x_icmp_ne (tgt := 27) hx hb dX14_takes_17 (by decide) ⟨by omega, by omega⟩ ⟨by decide, by decide⟩ (fun c8 => ?_) (fun c8 => ?_)
  · refine lv_iconst (v := iI 0) hx hb dX14_takes_27 rfl ?_
    refine x_ior hx hb dX14_takes_28 ?_
    refine t_put C hB ht rfl in_X14 tyX14_ok apX14 0 (by decide) q402 (fun x h => u_same (C.1.2.2.2.2 _ q403) x h) rfl rfl rfl (Nat.le_of_ble_eq_true rfl) dX14_takes_29 (fun H locs hB => ?_)
    replace hB : xBB E (xA (wU w X) sz) s o Ad I F (va_up X t (some (xO 12 [.int (iI (bOr v 0)), .ref o, .int (iI ((av : Int))), .ref o]))) _ _ := hB
    exact b_vret C hB hr hlocks dX14_takes_32 (Nat.le_of_ble_eq_true rfl) (Nat.le_of_ble_eq_true rfl) ⟨rfl, rfl, rfl, by rw [if_neg (fun q => by have := (ones_roN hq.1 (by omega) (by omega)).mpr q; omega)]⟩
  · refine lv_aload_n hx hb dX14_takes_20 rfl (lv_at hl 1 rfl) ?_
    refine b_calli 0 0 (Nat.le_of_ble_eq_true rfl) (Nat.le_of_ble_eq_true rfl) hB (fun w hI hd hB => rV (As := []) (n := 0) C hZ hB (kX13_leftOnes l E o Ad I F X bd q1 q2 q3 hbd (by omega) w hI hd _) (lw_V q551 q552 q553 q100 q554) (by decide +kernel) ⟨Nat.le_of_ble_eq_true rfl, Nat.le_of_ble_eq_true rfl⟩ (wU_r hd hbd) rfl rfl rfl hl.1 rfl (Nat.le_of_ble_eq_true rfl) dX14_takes_21 ⟨Nat.le_of_ble_eq_true rfl, Nat.le_of_ble_eq_true rfl⟩) (fun z9 Ad10 I11 F12 X13 H locs hz14 hp15 hB => ?_)
    obtain ⟨hz14a, hz14b⟩ := hz14
    obtain ⟨rfl, rfl, rfl, rfl, rfl⟩ := hp15
    refine lv_goto (tgt := 28) hx hb dX14_takes_24 (by decide) ?_
    refine x_ior hx hb dX14_takes_28 ?_
    refine t_put C hB ht rfl in_X14 tyX14_ok apX14 0 (by decide) q402 (fun x h => u_same (C.1.2.2.2.2 _ q403) x h) rfl rfl rfl (Nat.le_of_ble_eq_true rfl) dX14_takes_29 (fun H locs hB => ?_)
    replace hB : xBB E (xA (wU w X) sz) s o Ad I F (va_up X t (some (xO 12 [.int (iI (bOr v (bShl (bShl 1 (loN q1 : Int) - 1) ((q2 : Int))))), .ref o, .int (iI ((av : Int))), .ref o]))) _ _ := hB
    exact b_vret C hB hr hlocks dX14_takes_32 (Nat.le_of_ble_eq_true rfl) (Nat.le_of_ble_eq_true rfl) ⟨rfl, rfl, rfl, by rw [if_pos ((ones_roN hq.1 (by omega) (by omega)).mp (by omega))]⟩
