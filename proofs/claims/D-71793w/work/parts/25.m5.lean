/-! THE MODEL, 5: the best alignment -/
set_option maxHeartbeats 400000 in
set_option maxRecDepth 100000 in
theorem kX3_isOnBest (l : Launch) (E : xE) (o : Nat) (Ad : Nat → Nat) (I : Nat → Int) (F : Nat → Nat → Int) (k : Nat) (a : Nat) (b : Nat) (hk : k ≤ 4) (ha : (a : Int) ≤ I 5) (hbb : (b : Int) ≤ I 6) (hfin : (DT I F (I 9) a b).1 ≠ 100000) (hOK : mOK I F) (h21 : ∀ i j : Nat, (i : Int) ≤ I 5 → (j : Int) ≤ I 6 → F 21 (8 * i + j) = fm (DT I F (I 9) i j).1) : mi_ l E yX3_isOnBest cX3_isOnBest 6 (some .boolean) 2 48 [.ref o, .int (iI ((k : Int))), .int (iI ((a : Int))), .int (iI ((b : Int)))] o Ad I F (fun z I' F' => I = I' ∧ F = F' ∧ ((z = 1 ∧ onB I F (I 9) a b k = true) ∨ (z = 0 ∧ ¬ onB I F (I 9) a b k = true))) := by
  intro w sz hM
  refine x_body (by decide) (Nat.le_of_ble_eq_true rfl) ?_
  intro p e s m args below meth c ls hx hb C hr hlocks _ hsz hB hl
  have C : xC E p s m args c cX3_isOnBest 6 RX3 := C
  replace hB : mB E (xA w sz) s o Ad I F s.heap [] := ⟨w, hM, hB⟩
  have hl : lv_has ls 6 [(0, .ref o), (1, .int (iI ((k : Int)))), (2, .int (iI ((a : Int)))), (3, .int (iI ((b : Int))))] := hl
  have hOK0 := hOK
  obtain ⟨⟨hf1, hf2⟩, ⟨hl1, hl2⟩, ⟨hr1, hr2⟩, hlr, ⟨hs1, hs2⟩, ⟨hj1, hj2⟩, ⟨hb1, hb2⟩, ⟨hn1, hn2⟩, hL, hR, hN, hS, hC⟩ := hOK
  refine lv_iload_n hx hb dX3_isOnBest_0 rfl (lv_at hl 2 rfl) ?_
  refine lv_iload_n hx hb dX3_isOnBest_1 rfl (lv_at hl 1 rfl) ?_
  obtain ⟨wq, hMq, hB⟩ := hB
  refine s_calli (n := 1) C hB (As := [.int (iI ((k : Int)))]) (kX3_leftsOf l E ((k : Int)) ⟨by omega, by omega⟩) (lw_S q1557 q1558 q77 q1559) (by decide +kernel) ⟨Nat.le_of_ble_eq_true rfl, Nat.le_of_ble_eq_true rfl⟩ rfl hl.1 rfl (Nat.le_of_ble_eq_true rfl) dX3_isOnBest_2 ⟨Nat.zero_le _, Nat.zero_le _⟩ (fun z1 H locs hz2 hp3 hB => ?_)
  replace hB : mB E _ s o Ad I F H locs := ⟨wq, hMq, hB⟩
  obtain ⟨hz2a, hz2b⟩ := hz2
  have h4 : z1 = (loN k : Int) := by unfold loN; (repeat' split) <;> omega
  subst h4
  refine x_iadd (z := (a : Int) + (loN k : Int)) hx hb dX3_isOnBest_5 (by omega) ?_
  refine lv_istore (lv' := [(4, .int (iI ((a : Int) + (loN k : Int)))), (0, .ref o), (1, .int (iI ((k : Int)))), (2, .int (iI ((a : Int)))), (3, .int (iI ((b : Int))))]) hx hb dX3_isOnBest_6 hl (by decide) rfl (fun ls hl => ?_)
  refine lv_iload_n hx hb dX3_isOnBest_8 rfl (lv_at hl 4 rfl) ?_
  refine lv_iload_n hx hb dX3_isOnBest_9 rfl (lv_at hl 2 rfl) ?_
  obtain ⟨wq, hMq, hB⟩ := hB
  refine s_calli (n := 1) C hB (As := [.int (iI ((k : Int)))]) (kX3_rightsOf l E ((k : Int)) ⟨by omega, by omega⟩) (lw_S q1560 q1561 q77 q1562) (by decide +kernel) ⟨Nat.le_of_ble_eq_true rfl, Nat.le_of_ble_eq_true rfl⟩ rfl hl.1 rfl (Nat.le_of_ble_eq_true rfl) dX3_isOnBest_10 ⟨Nat.zero_le _, Nat.zero_le _⟩ (fun z5 H locs hz6 hp7 hB => ?_)
  replace hB : mB E _ s o Ad I F H locs := ⟨wq, hMq, hB⟩
  obtain ⟨hz6a, hz6b⟩ := hz6
  have h8 : z5 = (roN k : Int) := by unfold roN; (repeat' split) <;> omega
  subst h8
  refine x_iadd (z := (b : Int) + (roN k : Int)) hx hb dX3_isOnBest_13 (by omega) ?_
  refine lv_istore (lv' := [(5, .int (iI ((b : Int) + (roN k : Int)))), (4, .int (iI ((a : Int) + (loN k : Int)))), (0, .ref o), (1, .int (iI ((k : Int)))), (2, .int (iI ((a : Int)))), (3, .int (iI ((b : Int))))]) hx hb dX3_isOnBest_14 hl (by decide) rfl (fun ls hl => ?_)
  have hlr := lr_pos k
  have hV : VB 840 (DT I F (I 9) a b) := VBD (by omega) (by omega) (csM60 hOK0) (by omega) (by omega)
  refine lv_aload_n hx hb dX3_isOnBest_16 rfl (lv_at hl 2 rfl) ?_
  refine lv_iload hx hb dX3_isOnBest_17 (lv_at hl 1 rfl) ?_
  refine lv_iload hx hb dX3_isOnBest_19 (lv_at hl 0 rfl) ?_
  refine lv_aload_n hx hb dX3_isOnBest_21 rfl (lv_at hl 2 rfl) ?_
  refine m_get C hB 9 (by decide) q1403 (v := .int (iI (I 9))) rfl rfl dX3_isOnBest_22 ?_
  refine m_calli (n := 3) C hB (As := [.int (iI ((a : Int) + (loN k : Int))), .int (iI ((b : Int) + (roN k : Int))), .int (iI (I 9))]) (kX3_isStand l E o Ad I F ((a : Int) + (loN k : Int)) ((b : Int) + (roN k : Int)) (I 9) (by omega) (by omega) (by omega) hOK0) (lw_V q1553 q1555 qs51 q77 q1556) (by decide +kernel) ⟨Nat.le_of_ble_eq_true rfl, Nat.le_of_ble_eq_true rfl⟩ rfl hl.1 rfl (Nat.le_of_ble_eq_true rfl) dX3_isOnBest_25 ⟨Nat.zero_le _, Nat.zero_le _⟩ (fun z9 I10 F11 H locs hz12 hp13 hB => ?_)
  obtain ⟨hz12a, hz12b⟩ := hz12
  obtain ⟨rfl, rfl, ⟨rfl, h14⟩ | ⟨rfl, h14⟩⟩ := hp13
  · refine x_if_eq (tgt := 70) hx hb dX3_isOnBest_28 (by decide) ⟨by decide, by decide⟩ (fun c15 => by exfalso; omega) (fun c15 => ?_)
    refine lv_aload_n hx hb dX3_isOnBest_31 rfl (lv_at hl 2 rfl) ?_
    refine lv_iload_n hx hb dX3_isOnBest_32 rfl (lv_at hl 3 rfl) ?_
    refine lv_iload_n hx hb dX3_isOnBest_33 rfl (lv_at hl 4 rfl) ?_
    refine lv_iload_n hx hb dX3_isOnBest_34 rfl (lv_at hl 5 rfl) ?_
    refine m_calli (n := 3) C hB (As := [.int (iI ((k : Int))), .int (iI ((a : Int))), .int (iI ((b : Int)))]) (kX3_costOf l E o Ad I F ((k : Int)) a b (by omega) (fun _ => by have : lo (k : Int) = loN k := by { unfold lo loN; (repeat' split) <;> omega }; omega) (fun _ => by have : ro (k : Int) = roN k := by { unfold ro roN; (repeat' split) <;> omega }; omega) hOK0) (lw_V q1563 q1565 qs52 q77 q1566) (by decide +kernel) ⟨Nat.le_of_ble_eq_true rfl, Nat.le_of_ble_eq_true rfl⟩ rfl hl.1 rfl (Nat.le_of_ble_eq_true rfl) dX3_isOnBest_35 ⟨Nat.zero_le _, Nat.zero_le _⟩ (fun z16 I17 F18 H locs hz19 hp20 hB => ?_)
    obtain ⟨hz19a, hz19b⟩ := hz19
    obtain ⟨rfl, rfl, rfl⟩ := hp20
    have hT := h21 (a + loN k) (b + roN k) (by omega) (by omega)
    rw [show 8 * (a + loN k) + (b + roN k) = 8 * a + 8 * loN k + b + roN k by omega] at hT
    have hT2 := h21 a b (by omega) (by omega)
    have hcs := csM60 hOK0 k a b (by omega) (by omega) (by omega)
    have hVt : VB 840 (DT I F (I 9) (a + loN k) (b + roN k)) := VBD (by omega) (by omega) (csM60 hOK0) (by omega) (by omega)
    replace hT : ((DT I F (I 9) (a + loN k) (b + roN k)).1 = 100000 ∧ F 21 (8 * a + 8 * loN k + b + roN k) = 99999) ∨ ((DT I F (I 9) (a + loN k) (b + roN k)).1 ≠ 100000 ∧ F 21 (8 * a + 8 * loN k + b + roN k) = (DT I F (I 9) (a + loN k) (b + roN k)).1) := by
      rw [hT]; unfold fm; split <;> omega
    replace hT2 : F 21 (8 * a + b) = (DT I F (I 9) a b).1 := by rw [hT2]; unfold fm; rw [if_neg hfin]
    have hiff : onB I F (I 9) a b k = true ↔ csM I F k a b + (DT I F (I 9) (a + loN k) (b + roN k)).1 = (DT I F (I 9) a b).1 := by
      rw [onB_iff]
      exact ⟨fun q => q.2.2, fun q => ⟨by omega, by omega, q⟩⟩
    unfold VB at hV hVt
    replace hcs : 0 ≤ cst I F (k : Int) a b ∧ cst I F (k : Int) a b ≤ 60 := hcs
    replace hiff : onB I F (I 9) a b k = true ↔ cst I F (k : Int) a b + (DT I F (I 9) (a + loN k) (b + roN k)).1 = (DT I F (I 9) a b).1 := hiff
    refine lv_aload_n hx hb dX3_isOnBest_38 rfl (lv_at hl 2 rfl) ?_
    refine m_get C hB 21 (by decide) q1415 (v := .ref (Ad 21)) rfl rfl dX3_isOnBest_39 ?_
    refine lv_bipush (v := iI 8) hx hb dX3_isOnBest_42 rfl ?_
    refine lv_iload hx hb dX3_isOnBest_44 (lv_at hl 1 rfl) ?_
    refine x_imul (z := 8 * (a : Int) + 8 * (loN k : Int)) hx hb dX3_isOnBest_46 (by omega) ?_
    refine lv_iload hx hb dX3_isOnBest_47 (lv_at hl 0 rfl) ?_
    refine x_iadd (z := 8 * (a : Int) + 8 * (loN k : Int) + (b : Int) + (roN k : Int)) hx hb dX3_isOnBest_49 (by omega) ?_
    refine m_ald C hB 21 64 rfl (v := F 21 (8 * a + 8 * loN k + b + roN k)) (8 * a + 8 * loN k + b + roN k) (by omega) (by omega) rfl dX3_isOnBest_50 ?_
    refine x_iadd (z := cst I F ((k : Int)) a b + F 21 (8 * a + 8 * loN k + b + roN k)) hx hb dX3_isOnBest_51 (by omega) ?_
    refine lv_aload_n hx hb dX3_isOnBest_52 rfl (lv_at hl 2 rfl) ?_
    refine m_get C hB 21 (by decide) q1415 (v := .ref (Ad 21)) rfl rfl dX3_isOnBest_53 ?_
    refine lv_bipush (v := iI 8) hx hb dX3_isOnBest_56 rfl ?_
    refine lv_iload_n hx hb dX3_isOnBest_58 rfl (lv_at hl 4 rfl) ?_
    refine x_imul (z := 8 * (a : Int)) hx hb dX3_isOnBest_59 (by omega) ?_
    refine lv_iload_n hx hb dX3_isOnBest_60 rfl (lv_at hl 5 rfl) ?_
    refine x_iadd (z := 8 * (a : Int) + (b : Int)) hx hb dX3_isOnBest_61 (by omega) ?_
    refine m_ald C hB 21 64 rfl (v := F 21 (8 * a + b)) (8 * a + b) (by omega) (by omega) rfl dX3_isOnBest_62 ?_
    refine x_icmp_ne (tgt := 70) hx hb dX3_isOnBest_63 (by decide) ⟨by omega, by omega⟩ ⟨by omega, by omega⟩ (fun c21 => ?_) (fun c21 => ?_)
    · refine lv_iconst (v := iI 0) hx hb dX3_isOnBest_70 rfl ?_
      exact m_iret C hB hr hlocks rfl dX3_isOnBest_71 ⟨by decide, by decide⟩ ⟨rfl, rfl, Or.inr ⟨rfl, fun q => by have := hiff.mp q; omega⟩⟩
    · refine lv_iconst (v := iI 1) hx hb dX3_isOnBest_66 rfl ?_
      refine lv_goto (tgt := 71) hx hb dX3_isOnBest_67 (by decide) ?_
      exact m_iret C hB hr hlocks rfl dX3_isOnBest_71 ⟨by decide, by decide⟩ ⟨rfl, rfl, Or.inl ⟨rfl, hiff.mpr (by omega)⟩⟩
  · have hno : ¬ onB I F (I 9) a b k = true := by
      intro q
      obtain ⟨q1, q2, q3⟩ := onB_iff.mp q
      have e : (DT I F (I 9) (a + loN k) (b + roN k)).1 = 100000 := by unfold DT; rw [D_eq (by omega) (by omega), if_pos (by omega)]; rfl
      have := csM60 hOK0 k a b (by omega) q1 q2
      unfold VB at hV
      omega
    refine x_if_eq (tgt := 70) hx hb dX3_isOnBest_28 (by decide) ⟨by decide, by decide⟩ (fun c22 => ?_) (fun c22 => by exfalso; omega)
    refine lv_iconst (v := iI 0) hx hb dX3_isOnBest_70 rfl ?_
    exact m_iret C hB hr hlocks rfl dX3_isOnBest_71 ⟨by decide, by decide⟩ ⟨rfl, rfl, Or.inr ⟨rfl, hno⟩⟩
set_option maxHeartbeats 400000 in
set_option maxRecDepth 100000 in
theorem kX3_findBest (l : Launch) (E : xE) (o : Nat) (Ad : Nat → Nat) (I : Nat → Int) (F : Nat → Nat → Int) (hOK : mOK I F) : mi_ l E yX3_findBest cX3_findBest 5 (some .int) 4 100 [.ref o] o Ad I F (fun z I' F' => ∃ g1 g2 g3 g4 g5 g6, va_up I 24 ((bpath I F (I 9)).length : Int) = I' ∧ up3 (upp F g4 g5 g6) g1 g2 g3 = F' ∧ (∀ i j : Nat, (i : Int) ≤ I 5 → (j : Int) ≤ I 6 → fmT (DT I F (I 9) i j) (g1 (8 * i + j)) (g2 (8 * i + j)) (g3 (8 * i + j))) ∧ plis (bpath I F (I 9)) g4 g5 g6 ∧ z = (if (DT I F (I 9) 0 0).1 = 100000 then -9 else (DT I F (I 9) 0 0).1)) := by
  intro w sz hM
  refine x_body (by decide) (Nat.le_of_ble_eq_true rfl) ?_
  intro p e s m args below meth c ls hx hb C hr hlocks _ hsz hB hl
  have C : xC E p s m args c cX3_findBest 5 RX3 := C
  replace hB : mB E (xA w sz) s o Ad I F s.heap [] := ⟨w, hM, hB⟩
  have hl : lv_has ls 5 [(0, .ref o)] := hl
  have hOK0 := hOK
  obtain ⟨⟨hf1, hf2⟩, ⟨hl1, hl2⟩, ⟨hr1, hr2⟩, hlr, ⟨hs1, hs2⟩, ⟨hj1, hj2⟩, ⟨hb1, hb2⟩, ⟨hn1, hn2⟩, hL, hR, hN, hS, hC⟩ := hOK
  rw [← up3_id F] at hB
  refine lv_aload_n hx hb dX3_findBest_0 rfl (lv_at hl 0 rfl) ?_
  refine lv_aload_n hx hb dX3_findBest_1 rfl (lv_at hl 0 rfl) ?_
  refine m_get C hB 9 (by decide) q1403 (v := .int (iI (I 9))) rfl rfl dX3_findBest_2 ?_
  refine m_calli (n := 1) C hB (As := [.int (iI (I 9))]) (kX3_findAll l E o Ad I F (F 21) (F 22) (F 23) (I 9) (by omega) hOK0) (lw_V q1544 q1546 qs49 q77 q1547) (by decide +kernel) ⟨Nat.le_of_ble_eq_true rfl, Nat.le_of_ble_eq_true rfl⟩ rfl hl.1 rfl (Nat.le_of_ble_eq_true rfl) dX3_findBest_5 ⟨Nat.zero_le _, Nat.zero_le _⟩ (fun z1 I2 F3 H locs hz4 hp5 hB => ?_)
  obtain ⟨hz4a, hz4b⟩ := hz4
  obtain ⟨rfl, g1, g2, g3, rfl, ht, hv⟩ := hp5
  rw [up3_upp] at hB
  obtain ⟨zc, rfl⟩ : ∃ y : Int, y = z1 := ⟨_, rfl⟩
  have hV0 : VB 840 (DT I F (I 9) 0 0) := VBD (by omega) (by omega) (csM60 hOK0) (by omega) (by omega)
  have hz9 : (zc = -9 ∧ (DT I F (I 9) 0 0).1 = 100000) ∨ (zc ≠ -9 ∧ (DT I F (I 9) 0 0).1 ≠ 100000) := by rw [hv]; unfold VB at hV0; split <;> omega
  refine lv_istore_n (lv' := [(1, .int (iI zc)), (0, .ref o)]) hx hb dX3_findBest_8 rfl hl (by decide) rfl (fun ls hl => ?_)
  refine lv_aload_n hx hb dX3_findBest_9 rfl (lv_at hl 1 rfl) ?_
  refine lv_iconst (v := iI 0) hx hb dX3_findBest_10 rfl ?_
  refine m_put C hB 24 (by decide) rfl q1418 rfl rfl dX3_findBest_11 (fun H locs hB => ?_)
  refine lv_iconst (v := iI 0) hx hb dX3_findBest_14 rfl ?_
  refine lv_istore_n (lv' := [(2, .int (iI 0)), (1, .int (iI zc)), (0, .ref o)]) hx hb dX3_findBest_15 rfl hl (by decide) rfl (fun ls hl => ?_)
  refine lv_iconst (v := iI 0) hx hb dX3_findBest_16 rfl ?_
  refine lv_istore_n (lv' := [(3, .int (iI 0)), (2, .int (iI 0)), (1, .int (iI zc)), (0, .ref o)]) hx hb dX3_findBest_17 rfl hl (by decide) rfl (fun ls hl => ?_)
  refine w_loop (fun n9 H locs ls => ∃ (m : Nat) (a : Nat) (b : Nat) (n : Nat) (Q : List (Nat × Nat × Nat)) (x4 : Nat → Int) (x5 : Nat → Int) (x6 : Nat → Int), n9 = (I 5 - a + (I 6 - b)).toNat ∧ ((a : Int) ≤ I 5) ∧ ((b : Int) ≤ I 6) ∧ ((I 5 - a) + (I 6 - b) ≤ n) ∧ (m + (I 5 - a) + (I 6 - b) ≤ 14) ∧ (m = Q.length) ∧ (zc = -9 → Q = []) ∧ (zc ≠ -9 → pth I F (I 9) 14 0 0 = Q ++ pth I F (I 9) n a b) ∧ (zc ≠ -9 → (DT I F (I 9) a b).1 ≠ 100000) ∧ (plis Q x4 x5 x6) ∧ mB E (xA w sz) s o Ad (va_up I 24 (m : Int)) (up3 (upp F x4 x5 x6) g1 g2 g3) H locs ∧ lv_has ls 5 [(0, .ref o), (1, .int (iI zc)), (2, .int (iI ((a : Int)))), (3, .int (iI ((b : Int))))]) _ ⟨0, 0, 0, 14, [], _, _, _, rfl, by omega, by omega, by omega, by omega, rfl, fun _ => rfl, fun _ => rfl, fun q => by omega, plis_nil _ _ _, hB, lv_sub hl [3, 2, 1, 0] rfl⟩ ?_
  intro n9 H locs ls hI8 ih6
  obtain ⟨m, a, b, n, Q, x4, x5, x6, hn7, ha, hbb, hrem, hmr, hm, hQ, hP, hfin, hli, hB, hl⟩ := hI8
  refine lv_iload_n hx hb dX3_findBest_18 rfl (lv_at hl 1 rfl) ?_
  refine lv_bipush (v := iI (-9)) hx hb dX3_findBest_19 rfl ?_
  refine x_icmp_eq (tgt := 120) hx hb dX3_findBest_21 (by decide) ⟨by omega, by omega⟩ ⟨by decide, by decide⟩ (fun c10 => ?_) (fun c10 => ?_)
  · refine lv_iload_n hx hb dX3_findBest_120 rfl (lv_at hl 1 rfl) ?_
    exact m_iret C hB hr hlocks rfl dX3_findBest_121 ⟨by omega, by omega⟩ (by
          have hE : bpath I F (I 9) = Q := by unfold bpath; rw [if_pos (by omega)]; exact (hQ (by omega)).symm
          rw [hE]
          exact ⟨g1, g2, g3, x4, x5, x6, by rw [hm], rfl, ht, hli, hv⟩)
  · refine lv_iload_n hx hb dX3_findBest_24 rfl (lv_at hl 2 rfl) ?_
    refine lv_aload_n hx hb dX3_findBest_25 rfl (lv_at hl 0 rfl) ?_
    refine m_get C hB 5 (by decide) q1399 (v := .int (iI (I 5))) rfl rfl dX3_findBest_26 ?_
    refine x_icmp_lt (tgt := 40) hx hb dX3_findBest_29 (by decide) ⟨by omega, by omega⟩ ⟨by omega, by omega⟩ (fun c11 => ?_) (fun c11 => ?_)
    · have hz : zc ≠ -9 := by omega
      have hex := onB_ex hOK0 (i := a) (j := b) (by omega) (by omega) (hfin hz) (by omega)
      have hns := ns_spec hex
      obtain ⟨n0, rfl⟩ : ∃ n0, n = n0 + 1 := ⟨n - 1, by omega⟩
      have hpe : pth I F (I 9) (n0 + 1) a b = (ns I F (I 9) a b, a, b) :: pth I F (I 9) n0 (a + loN (ns I F (I 9) a b)) (b + roN (ns I F (I 9) a b)) := by rw [show pth I F (I 9) (n0 + 1) a b = if a = (I 5).toNat ∧ b = (I 6).toNat then [] else (ns I F (I 9) a b, a, b) :: pth I F (I 9) n0 (a + loN (ns I F (I 9) a b)) (b + roN (ns I F (I 9) a b)) from rfl, if_neg (by omega)]
      refine lv_iconst (v := iI 0) hx hb dX3_findBest_40 rfl ?_
      refine lv_istore (lv' := [(4, .int (iI 0)), (0, .ref o), (1, .int (iI zc)), (2, .int (iI ((a : Int)))), (3, .int (iI ((b : Int))))]) hx hb dX3_findBest_41 hl (by decide) rfl (fun ls hl => ?_)
      refine w_loop (fun n15 H locs ls => ∃ (k : Nat), n15 = ns I F (I 9) a b - k ∧ (k ≤ ns I F (I 9) a b) ∧ mB E (xA w sz) s o Ad (va_up I 24 (m : Int)) (up3 (upp F x4 x5 x6) g1 g2 g3) H locs ∧ lv_has ls 5 [(0, .ref o), (1, .int (iI zc)), (2, .int (iI ((a : Int)))), (3, .int (iI ((b : Int)))), (4, .int (iI ((k : Int))))]) _ ⟨0, rfl, Nat.zero_le _, hB, lv_sub hl [1, 2, 3, 4, 0] rfl⟩ ?_
      intro n15 H locs ls hI14 ih12
      obtain ⟨k, hn13, hkn, hB, hl⟩ := hI14
      refine lv_aload_n hx hb dX3_findBest_43 rfl (lv_at hl 0 rfl) ?_
      refine lv_iload hx hb dX3_findBest_44 (lv_at hl 4 rfl) ?_
      refine lv_iload_n hx hb dX3_findBest_46 rfl (lv_at hl 2 rfl) ?_
      refine lv_iload_n hx hb dX3_findBest_47 rfl (lv_at hl 3 rfl) ?_
      refine m_calli (n := 3) C hB (As := [.int (iI ((k : Int))), .int (iI ((a : Int))), .int (iI ((b : Int)))]) (kX3_isOnBest l E o Ad (va_up I 24 (m : Int)) (up3 (upp F x4 x5 x6) g1 g2 g3) k a b (by omega) (show (a : Int) ≤ I 5 by omega) (show (b : Int) ≤ I 6 by omega) (hfin hz) hOK0 (fun i j h1 h2 => (ht i j h1 h2).1)) (lw_V q1574 q1576 qs54 q77 q1577) (by decide +kernel) ⟨Nat.le_of_ble_eq_true rfl, Nat.le_of_ble_eq_true rfl⟩ rfl hl.1 rfl (Nat.le_of_ble_eq_true rfl) dX3_findBest_48 ⟨Nat.zero_le _, Nat.zero_le _⟩ (fun z16 I17 F18 H locs hz19 hp20 hB => ?_)
      obtain ⟨hz19a, hz19b⟩ := hz19
      obtain ⟨rfl, rfl, ⟨rfl, h21⟩ | ⟨rfl, h21⟩⟩ := hp20
      · have hon : onB I F (I 9) a b k = true := h21
        have hk : ns I F (I 9) a b = k := ns_eq (by omega) hon (fun t ht => hns.2.2 t (by omega))
        rw [hk] at hpe
        have hlr := lr_pos k
        obtain ⟨ho1, ho2, -⟩ := onB_iff.mp hon
        refine x_if_ne (tgt := 60) hx hb dX3_findBest_51 (by decide) ⟨by decide, by decide⟩ (fun c22 => ?_) (fun c22 => by exfalso; omega)
        refine lv_aload_n hx hb dX3_findBest_60 rfl (lv_at hl 0 rfl) ?_
        refine m_get C hB 25 (by decide) q1419 (v := .ref (Ad 25)) rfl rfl dX3_findBest_61 ?_
        refine lv_aload_n hx hb dX3_findBest_64 rfl (lv_at hl 0 rfl) ?_
        refine m_get C hB 24 (by decide) q1418 (v := .int (iI ((m : Int)))) rfl rfl dX3_findBest_65 ?_
        refine lv_iload hx hb dX3_findBest_68 (lv_at hl 4 rfl) ?_
        refine m_ast C hB 25 14 rfl (f := x4) m rfl (by omega) rfl dX3_findBest_70 (fun H locs hB => ?_)
        rw [up3_25] at hB
        refine lv_aload_n hx hb dX3_findBest_71 rfl (lv_at hl 0 rfl) ?_
        refine m_get C hB 26 (by decide) q1420 (v := .ref (Ad 26)) rfl rfl dX3_findBest_72 ?_
        refine lv_aload_n hx hb dX3_findBest_75 rfl (lv_at hl 0 rfl) ?_
        refine m_get C hB 24 (by decide) q1418 (v := .int (iI ((m : Int)))) rfl rfl dX3_findBest_76 ?_
        refine lv_iload_n hx hb dX3_findBest_79 rfl (lv_at hl 2 rfl) ?_
        refine m_ast C hB 26 14 rfl (f := x5) m rfl (by omega) rfl dX3_findBest_80 (fun H locs hB => ?_)
        rw [up3_26] at hB
        refine lv_aload_n hx hb dX3_findBest_81 rfl (lv_at hl 0 rfl) ?_
        refine m_get C hB 27 (by decide) q1421 (v := .ref (Ad 27)) rfl rfl dX3_findBest_82 ?_
        refine lv_aload_n hx hb dX3_findBest_85 rfl (lv_at hl 0 rfl) ?_
        refine m_get C hB 24 (by decide) q1418 (v := .int (iI ((m : Int)))) rfl rfl dX3_findBest_86 ?_
        refine lv_iload_n hx hb dX3_findBest_89 rfl (lv_at hl 3 rfl) ?_
        refine m_ast C hB 27 14 rfl (f := x6) m rfl (by omega) rfl dX3_findBest_90 (fun H locs hB => ?_)
        rw [up3_27] at hB
        refine lv_aload_n hx hb dX3_findBest_91 rfl (lv_at hl 0 rfl) ?_
        refine lv_dup hx hb dX3_findBest_92 rfl ?_
        refine m_get C hB 24 (by decide) q1418 (v := .int (iI ((m : Int)))) rfl rfl dX3_findBest_93 ?_
        refine lv_iconst (v := iI 1) hx hb dX3_findBest_96 rfl ?_
        refine x_iadd (z := (m : Int) + 1) hx hb dX3_findBest_97 (by omega) ?_
        refine m_put C hB 24 (by decide) rfl q1418 rfl rfl dX3_findBest_98 (fun H locs hB => ?_)
        rw [bx_uu] at hB
        refine lv_iload_n hx hb dX3_findBest_101 rfl (lv_at hl 2 rfl) ?_
        refine lv_iload hx hb dX3_findBest_102 (lv_at hl 4 rfl) ?_
        obtain ⟨wq, hMq, hB⟩ := hB
        refine s_calli (n := 1) C hB (As := [.int (iI ((k : Int)))]) (kX3_leftsOf l E ((k : Int)) ⟨by omega, by omega⟩) (lw_S q1557 q1558 q77 q1559) (by decide +kernel) ⟨Nat.le_of_ble_eq_true rfl, Nat.le_of_ble_eq_true rfl⟩ rfl hl.1 rfl (Nat.le_of_ble_eq_true rfl) dX3_findBest_104 ⟨Nat.zero_le _, Nat.zero_le _⟩ (fun z23 H locs hz24 hp25 hB => ?_)
        replace hB : mB E _ s o Ad (va_up I 24 ((m : Int) + 1)) (up3 (upp F ((va_up x4 m ((k : Int)))) ((va_up x5 m ((a : Int)))) ((va_up x6 m ((b : Int))))) g1 g2 g3) H locs := ⟨wq, hMq, hB⟩
        obtain ⟨hz24a, hz24b⟩ := hz24
        have h26 : z23 = (loN k : Int) := by unfold loN; (repeat' split) <;> omega
        subst h26
        refine x_iadd (z := (a : Int) + (loN k : Int)) hx hb dX3_findBest_107 (by omega) ?_
        refine lv_istore_n (lv' := [(2, .int (iI ((a : Int) + (loN k : Int)))), (0, .ref o), (1, .int (iI zc)), (3, .int (iI ((b : Int)))), (4, .int (iI ((k : Int))))]) hx hb dX3_findBest_108 rfl hl (by decide) rfl (fun ls hl => ?_)
        refine lv_iload_n hx hb dX3_findBest_109 rfl (lv_at hl 3 rfl) ?_
        refine lv_iload hx hb dX3_findBest_110 (lv_at hl 4 rfl) ?_
        obtain ⟨wq, hMq, hB⟩ := hB
        refine s_calli (n := 1) C hB (As := [.int (iI ((k : Int)))]) (kX3_rightsOf l E ((k : Int)) ⟨by omega, by omega⟩) (lw_S q1560 q1561 q77 q1562) (by decide +kernel) ⟨Nat.le_of_ble_eq_true rfl, Nat.le_of_ble_eq_true rfl⟩ rfl hl.1 rfl (Nat.le_of_ble_eq_true rfl) dX3_findBest_112 ⟨Nat.zero_le _, Nat.zero_le _⟩ (fun z27 H locs hz28 hp29 hB => ?_)
        replace hB : mB E _ s o Ad (va_up I 24 ((m : Int) + 1)) (up3 (upp F ((va_up x4 m ((k : Int)))) ((va_up x5 m ((a : Int)))) ((va_up x6 m ((b : Int))))) g1 g2 g3) H locs := ⟨wq, hMq, hB⟩
        obtain ⟨hz28a, hz28b⟩ := hz28
        have h30 : z27 = (roN k : Int) := by unfold roN; (repeat' split) <;> omega
        subst h30
        refine x_iadd (z := (b : Int) + (roN k : Int)) hx hb dX3_findBest_115 (by omega) ?_
        refine lv_istore_n (lv' := [(3, .int (iI ((b : Int) + (roN k : Int)))), (2, .int (iI ((a : Int) + (loN k : Int)))), (0, .ref o), (1, .int (iI zc)), (4, .int (iI ((k : Int))))]) hx hb dX3_findBest_116 rfl hl (by decide) rfl (fun ls hl => ?_)
        rw [show (m : Int) + 1 = ((m + 1 : Nat) : Int) by omega] at hB
        rw [show (a : Int) + (loN k : Int) = ((a + loN k : Nat) : Int) by omega, show (b : Int) + (roN k : Int) = ((b + roN k : Nat) : Int) by omega] at hl
        refine lv_goto (tgt := 18) hx hb dX3_findBest_117 (by decide) ?_
        exact ih6 _ _ _ _ (by omega) ⟨m + 1, a + loN k, b + roN k, n0, Q ++ [(k, a, b)], _, _, _, rfl, by omega, by omega, by omega, by omega, by rw [List.length_append, hm]; rfl, fun q => absurd q hz, fun _ => by rw [hP hz, hpe, List.append_assoc]; rfl, fun _ => onB_fin hOK0 (by omega) (by omega) (by omega) (hfin hz) hon, plis_add hli k a b hm, hB, lv_sub hl [2, 3, 1, 0] rfl⟩
      · have hne : k ≠ ns I F (I 9) a b := fun q => h21 (by rw [q]; exact hns.1)
        refine x_if_ne (tgt := 60) hx hb dX3_findBest_51 (by decide) ⟨by decide, by decide⟩ (fun c31 => by exfalso; omega) (fun c31 => ?_)
        refine lv_iinc (v := iI ((k : Int) + 1)) (lv' := [(4, .int (iI ((k : Int) + 1))), (0, .ref o), (1, .int (iI zc)), (2, .int (iI ((a : Int)))), (3, .int (iI ((b : Int))))]) hx hb dX3_findBest_54 hl (k := 4) rfl (iI_add _ _) (by decide) rfl (fun ls hl => ?_)
        refine lv_goto (tgt := 43) hx hb dX3_findBest_57 (by decide) ?_
        exact ih12 _ _ _ _ (by omega) ⟨k + 1, rfl, by omega, hB, lv_sub hl [1, 2, 3, 4, 0] rfl⟩
    · refine lv_iload_n hx hb dX3_findBest_32 rfl (lv_at hl 3 rfl) ?_
      refine lv_aload_n hx hb dX3_findBest_33 rfl (lv_at hl 0 rfl) ?_
      refine m_get C hB 6 (by decide) q1400 (v := .int (iI (I 6))) rfl rfl dX3_findBest_34 ?_
      refine x_icmp_ge (tgt := 120) hx hb dX3_findBest_37 (by decide) ⟨by omega, by omega⟩ ⟨by omega, by omega⟩ (fun c32 => ?_) (fun c32 => ?_)
      · refine lv_iload_n hx hb dX3_findBest_120 rfl (lv_at hl 1 rfl) ?_
        exact m_iret C hB hr hlocks rfl dX3_findBest_121 ⟨by omega, by omega⟩ (by
                  have hE : bpath I F (I 9) = Q := by unfold bpath; rw [if_neg (by omega), hP (by omega)]; rw [show pth I F (I 9) n a b = [] from by match n with | 0 => rfl | n0 + 1 => exact if_pos (by omega)]; exact List.append_nil _
                  rw [hE]
                  exact ⟨g1, g2, g3, x4, x5, x6, by rw [hm], rfl, ht, hli, hv⟩)
      · have hz : zc ≠ -9 := by omega
        have hex := onB_ex hOK0 (i := a) (j := b) (by omega) (by omega) (hfin hz) (by omega)
        have hns := ns_spec hex
        obtain ⟨n0, rfl⟩ : ∃ n0, n = n0 + 1 := ⟨n - 1, by omega⟩
        have hpe : pth I F (I 9) (n0 + 1) a b = (ns I F (I 9) a b, a, b) :: pth I F (I 9) n0 (a + loN (ns I F (I 9) a b)) (b + roN (ns I F (I 9) a b)) := by rw [show pth I F (I 9) (n0 + 1) a b = if a = (I 5).toNat ∧ b = (I 6).toNat then [] else (ns I F (I 9) a b, a, b) :: pth I F (I 9) n0 (a + loN (ns I F (I 9) a b)) (b + roN (ns I F (I 9) a b)) from rfl, if_neg (by omega)]
        refine lv_iconst (v := iI 0) hx hb dX3_findBest_40 rfl ?_
        refine lv_istore (lv' := [(4, .int (iI 0)), (0, .ref o), (1, .int (iI zc)), (2, .int (iI ((a : Int)))), (3, .int (iI ((b : Int))))]) hx hb dX3_findBest_41 hl (by decide) rfl (fun ls hl => ?_)
        refine w_loop (fun n36 H locs ls => ∃ (k : Nat), n36 = ns I F (I 9) a b - k ∧ (k ≤ ns I F (I 9) a b) ∧ mB E (xA w sz) s o Ad (va_up I 24 (m : Int)) (up3 (upp F x4 x5 x6) g1 g2 g3) H locs ∧ lv_has ls 5 [(0, .ref o), (1, .int (iI zc)), (2, .int (iI ((a : Int)))), (3, .int (iI ((b : Int)))), (4, .int (iI ((k : Int))))]) _ ⟨0, rfl, Nat.zero_le _, hB, lv_sub hl [1, 2, 3, 4, 0] rfl⟩ ?_
        intro n36 H locs ls hI35 ih33
        obtain ⟨k, hn34, hkn, hB, hl⟩ := hI35
        refine lv_aload_n hx hb dX3_findBest_43 rfl (lv_at hl 0 rfl) ?_
        refine lv_iload hx hb dX3_findBest_44 (lv_at hl 4 rfl) ?_
        refine lv_iload_n hx hb dX3_findBest_46 rfl (lv_at hl 2 rfl) ?_
        refine lv_iload_n hx hb dX3_findBest_47 rfl (lv_at hl 3 rfl) ?_
        refine m_calli (n := 3) C hB (As := [.int (iI ((k : Int))), .int (iI ((a : Int))), .int (iI ((b : Int)))]) (kX3_isOnBest l E o Ad (va_up I 24 (m : Int)) (up3 (upp F x4 x5 x6) g1 g2 g3) k a b (by omega) (show (a : Int) ≤ I 5 by omega) (show (b : Int) ≤ I 6 by omega) (hfin hz) hOK0 (fun i j h1 h2 => (ht i j h1 h2).1)) (lw_V q1574 q1576 qs54 q77 q1577) (by decide +kernel) ⟨Nat.le_of_ble_eq_true rfl, Nat.le_of_ble_eq_true rfl⟩ rfl hl.1 rfl (Nat.le_of_ble_eq_true rfl) dX3_findBest_48 ⟨Nat.zero_le _, Nat.zero_le _⟩ (fun z37 I38 F39 H locs hz40 hp41 hB => ?_)
        obtain ⟨hz40a, hz40b⟩ := hz40
        obtain ⟨rfl, rfl, ⟨rfl, h42⟩ | ⟨rfl, h42⟩⟩ := hp41
        · have hon : onB I F (I 9) a b k = true := h42
          have hk : ns I F (I 9) a b = k := ns_eq (by omega) hon (fun t ht => hns.2.2 t (by omega))
          rw [hk] at hpe
          have hlr := lr_pos k
          obtain ⟨ho1, ho2, -⟩ := onB_iff.mp hon
          refine x_if_ne (tgt := 60) hx hb dX3_findBest_51 (by decide) ⟨by decide, by decide⟩ (fun c43 => ?_) (fun c43 => by exfalso; omega)
          refine lv_aload_n hx hb dX3_findBest_60 rfl (lv_at hl 0 rfl) ?_
          refine m_get C hB 25 (by decide) q1419 (v := .ref (Ad 25)) rfl rfl dX3_findBest_61 ?_
          refine lv_aload_n hx hb dX3_findBest_64 rfl (lv_at hl 0 rfl) ?_
          refine m_get C hB 24 (by decide) q1418 (v := .int (iI ((m : Int)))) rfl rfl dX3_findBest_65 ?_
          refine lv_iload hx hb dX3_findBest_68 (lv_at hl 4 rfl) ?_
          refine m_ast C hB 25 14 rfl (f := x4) m rfl (by omega) rfl dX3_findBest_70 (fun H locs hB => ?_)
          rw [up3_25] at hB
          refine lv_aload_n hx hb dX3_findBest_71 rfl (lv_at hl 0 rfl) ?_
          refine m_get C hB 26 (by decide) q1420 (v := .ref (Ad 26)) rfl rfl dX3_findBest_72 ?_
          refine lv_aload_n hx hb dX3_findBest_75 rfl (lv_at hl 0 rfl) ?_
          refine m_get C hB 24 (by decide) q1418 (v := .int (iI ((m : Int)))) rfl rfl dX3_findBest_76 ?_
          refine lv_iload_n hx hb dX3_findBest_79 rfl (lv_at hl 2 rfl) ?_
          refine m_ast C hB 26 14 rfl (f := x5) m rfl (by omega) rfl dX3_findBest_80 (fun H locs hB => ?_)
          rw [up3_26] at hB
          refine lv_aload_n hx hb dX3_findBest_81 rfl (lv_at hl 0 rfl) ?_
          refine m_get C hB 27 (by decide) q1421 (v := .ref (Ad 27)) rfl rfl dX3_findBest_82 ?_
          refine lv_aload_n hx hb dX3_findBest_85 rfl (lv_at hl 0 rfl) ?_
          refine m_get C hB 24 (by decide) q1418 (v := .int (iI ((m : Int)))) rfl rfl dX3_findBest_86 ?_
          refine lv_iload_n hx hb dX3_findBest_89 rfl (lv_at hl 3 rfl) ?_
          refine m_ast C hB 27 14 rfl (f := x6) m rfl (by omega) rfl dX3_findBest_90 (fun H locs hB => ?_)
          rw [up3_27] at hB
          refine lv_aload_n hx hb dX3_findBest_91 rfl (lv_at hl 0 rfl) ?_
          refine lv_dup hx hb dX3_findBest_92 rfl ?_
          refine m_get C hB 24 (by decide) q1418 (v := .int (iI ((m : Int)))) rfl rfl dX3_findBest_93 ?_
          refine lv_iconst (v := iI 1) hx hb dX3_findBest_96 rfl ?_
          refine x_iadd (z := (m : Int) + 1) hx hb dX3_findBest_97 (by omega) ?_
          refine m_put C hB 24 (by decide) rfl q1418 rfl rfl dX3_findBest_98 (fun H locs hB => ?_)
          rw [bx_uu] at hB
          refine lv_iload_n hx hb dX3_findBest_101 rfl (lv_at hl 2 rfl) ?_
          refine lv_iload hx hb dX3_findBest_102 (lv_at hl 4 rfl) ?_
          obtain ⟨wq, hMq, hB⟩ := hB
          refine s_calli (n := 1) C hB (As := [.int (iI ((k : Int)))]) (kX3_leftsOf l E ((k : Int)) ⟨by omega, by omega⟩) (lw_S q1557 q1558 q77 q1559) (by decide +kernel) ⟨Nat.le_of_ble_eq_true rfl, Nat.le_of_ble_eq_true rfl⟩ rfl hl.1 rfl (Nat.le_of_ble_eq_true rfl) dX3_findBest_104 ⟨Nat.zero_le _, Nat.zero_le _⟩ (fun z44 H locs hz45 hp46 hB => ?_)
          replace hB : mB E _ s o Ad (va_up I 24 ((m : Int) + 1)) (up3 (upp F ((va_up x4 m ((k : Int)))) ((va_up x5 m ((a : Int)))) ((va_up x6 m ((b : Int))))) g1 g2 g3) H locs := ⟨wq, hMq, hB⟩
          obtain ⟨hz45a, hz45b⟩ := hz45
          have h47 : z44 = (loN k : Int) := by unfold loN; (repeat' split) <;> omega
          subst h47
          refine x_iadd (z := (a : Int) + (loN k : Int)) hx hb dX3_findBest_107 (by omega) ?_
          refine lv_istore_n (lv' := [(2, .int (iI ((a : Int) + (loN k : Int)))), (0, .ref o), (1, .int (iI zc)), (3, .int (iI ((b : Int)))), (4, .int (iI ((k : Int))))]) hx hb dX3_findBest_108 rfl hl (by decide) rfl (fun ls hl => ?_)
          refine lv_iload_n hx hb dX3_findBest_109 rfl (lv_at hl 3 rfl) ?_
          refine lv_iload hx hb dX3_findBest_110 (lv_at hl 4 rfl) ?_
          obtain ⟨wq, hMq, hB⟩ := hB
          refine s_calli (n := 1) C hB (As := [.int (iI ((k : Int)))]) (kX3_rightsOf l E ((k : Int)) ⟨by omega, by omega⟩) (lw_S q1560 q1561 q77 q1562) (by decide +kernel) ⟨Nat.le_of_ble_eq_true rfl, Nat.le_of_ble_eq_true rfl⟩ rfl hl.1 rfl (Nat.le_of_ble_eq_true rfl) dX3_findBest_112 ⟨Nat.zero_le _, Nat.zero_le _⟩ (fun z48 H locs hz49 hp50 hB => ?_)
          replace hB : mB E _ s o Ad (va_up I 24 ((m : Int) + 1)) (up3 (upp F ((va_up x4 m ((k : Int)))) ((va_up x5 m ((a : Int)))) ((va_up x6 m ((b : Int))))) g1 g2 g3) H locs := ⟨wq, hMq, hB⟩
          obtain ⟨hz49a, hz49b⟩ := hz49
          have h51 : z48 = (roN k : Int) := by unfold roN; (repeat' split) <;> omega
          subst h51
          refine x_iadd (z := (b : Int) + (roN k : Int)) hx hb dX3_findBest_115 (by omega) ?_
          refine lv_istore_n (lv' := [(3, .int (iI ((b : Int) + (roN k : Int)))), (2, .int (iI ((a : Int) + (loN k : Int)))), (0, .ref o), (1, .int (iI zc)), (4, .int (iI ((k : Int))))]) hx hb dX3_findBest_116 rfl hl (by decide) rfl (fun ls hl => ?_)
          rw [show (m : Int) + 1 = ((m + 1 : Nat) : Int) by omega] at hB
          rw [show (a : Int) + (loN k : Int) = ((a + loN k : Nat) : Int) by omega, show (b : Int) + (roN k : Int) = ((b + roN k : Nat) : Int) by omega] at hl
          refine lv_goto (tgt := 18) hx hb dX3_findBest_117 (by decide) ?_
          exact ih6 _ _ _ _ (by omega) ⟨m + 1, a + loN k, b + roN k, n0, Q ++ [(k, a, b)], _, _, _, rfl, by omega, by omega, by omega, by omega, by rw [List.length_append, hm]; rfl, fun q => absurd q hz, fun _ => by rw [hP hz, hpe, List.append_assoc]; rfl, fun _ => onB_fin hOK0 (by omega) (by omega) (by omega) (hfin hz) hon, plis_add hli k a b hm, hB, lv_sub hl [2, 3, 1, 0] rfl⟩
        · have hne : k ≠ ns I F (I 9) a b := fun q => h42 (by rw [q]; exact hns.1)
          refine x_if_ne (tgt := 60) hx hb dX3_findBest_51 (by decide) ⟨by decide, by decide⟩ (fun c52 => by exfalso; omega) (fun c52 => ?_)
          refine lv_iinc (v := iI ((k : Int) + 1)) (lv' := [(4, .int (iI ((k : Int) + 1))), (0, .ref o), (1, .int (iI zc)), (2, .int (iI ((a : Int)))), (3, .int (iI ((b : Int))))]) hx hb dX3_findBest_54 hl (k := 4) rfl (iI_add _ _) (by decide) rfl (fun ls hl => ?_)
          refine lv_goto (tgt := 43) hx hb dX3_findBest_57 (by decide) ?_
          exact ih33 _ _ _ _ (by omega) ⟨k + 1, rfl, by omega, hB, lv_sub hl [1, 2, 3, 4, 0] rfl⟩
