/-! THE MODEL, 7 -/
set_option maxHeartbeats 400000 in
set_option maxRecDepth 100000 in
theorem kX3_ofRight (l : Launch) (E : xE) (o : Nat) (Ad : Nat → Nat) (I : Nat → Int) (F : Nat → Nat → Int) (b : Int) (wh : Int) (hbb : rg b) (hw : rg wh) (hOK : mOK I F) : mi_ l E yX3_ofRight cX3_ofRight 3 (some .int) 5 124 [.ref o, .int (iI b), .int (iI wh)] o Ad I F (fun z I' F' => z = rRight I F b wh ∧ mAg I F I' F') := by
  intro w sz hM
  refine x_body (by decide) (Nat.le_of_ble_eq_true rfl) ?_
  intro p e s m args below meth c ls hx hb C hr hlocks _ hsz hB hl
  have C : xC E p s m args c cX3_ofRight 3 RX3 := C
  replace hB : mB E (xA w sz) s o Ad I F s.heap [] := ⟨w, hM, hB⟩
  have hl : lv_has ls 3 [(0, .ref o), (1, .int (iI b)), (2, .int (iI wh))] := hl
  obtain ⟨hbb1, hbb2⟩ := hbb
  obtain ⟨hw1, hw2⟩ := hw
  have hOK0 := hOK
  obtain ⟨⟨hf1, hf2⟩, ⟨hl1, hl2⟩, ⟨hr1, hr2⟩, hlr, ⟨hs1, hs2⟩, ⟨hj1, hj2⟩, ⟨hb1, hb2⟩, ⟨hn1, hn2⟩, hL, hR, hN, hS, hC⟩ := hOK
  refine lv_aload_n hx hb dX3_ofRight_0 rfl (lv_at hl 0 rfl) ?_
  refine lv_iload_n hx hb dX3_ofRight_1 rfl (lv_at hl 1 rfl) ?_
  refine m_calli (n := 1) C hB (As := [.int (iI b)]) (kX3_isRight l E o Ad I F b ⟨by omega, by omega⟩ ⟨by omega, by omega⟩) (lw_V q1586 q1588 qs56 q77 q1589) (by decide +kernel) ⟨Nat.le_of_ble_eq_true rfl, Nat.le_of_ble_eq_true rfl⟩ rfl hl.1 rfl (Nat.le_of_ble_eq_true rfl) dX3_ofRight_2 ⟨Nat.zero_le _, Nat.zero_le _⟩ (fun z1 I2 F3 H locs hz4 hp5 hB => ?_)
  obtain ⟨hz4a, hz4b⟩ := hz4
  obtain ⟨rfl, rfl, ⟨rfl, h6⟩ | ⟨rfl, h6⟩⟩ := hp5
  · refine x_if_ne (tgt := 10) hx hb dX3_ofRight_5 (by decide) ⟨by decide, by decide⟩ (fun c7 => ?_) (fun c7 => by exfalso; omega)
    obtain ⟨k, rfl⟩ : ∃ k : Nat, b = (k : Int) := ⟨b.toNat, by omega⟩
    refine lv_iload_n hx hb dX3_ofRight_10 rfl (lv_at hl 2 rfl) ?_
    refine lv_iconst (v := iI 2) hx hb dX3_ofRight_11 rfl ?_
    refine x_icmp_ne (tgt := 27) hx hb dX3_ofRight_12 (by decide) ⟨by omega, by omega⟩ ⟨by decide, by decide⟩ (fun c8 => ?_) (fun c8 => ?_)
    · refine lv_iload_n hx hb dX3_ofRight_27 rfl (lv_at hl 2 rfl) ?_
      refine x_if_ne (tgt := 40) hx hb dX3_ofRight_28 (by decide) ⟨by omega, by omega⟩ (fun c9 => ?_) (fun c9 => ?_)
      · refine lv_iload_n hx hb dX3_ofRight_40 rfl (lv_at hl 2 rfl) ?_
        refine lv_iconst (v := iI 1) hx hb dX3_ofRight_41 rfl ?_
        refine x_icmp_ne (tgt := 54) hx hb dX3_ofRight_42 (by decide) ⟨by omega, by omega⟩ ⟨by decide, by decide⟩ (fun c10 => ?_) (fun c10 => ?_)
        · refine lv_bipush (v := iI (-2)) hx hb dX3_ofRight_54 rfl ?_
          exact m_iret C hB hr hlocks rfl dX3_ofRight_56 ⟨by decide, by decide⟩ ⟨by unfold rRight; rw [if_neg (by omega), if_neg (by omega), if_neg (by omega), if_neg (by omega)], mAg_rfl I F⟩
        · refine lv_aload_n hx hb dX3_ofRight_45 rfl (lv_at hl 0 rfl) ?_
          refine m_get C hB 14 (by decide) q1408 (v := .ref (Ad 14)) rfl rfl dX3_ofRight_46 ?_
          refine lv_iload_n hx hb dX3_ofRight_49 rfl (lv_at hl 1 rfl) ?_
          refine m_ald C hB 14 7 rfl (v := F 14 k) k rfl (by omega) rfl dX3_ofRight_50 ?_
          have := hR k (by omega)
          refine lv_goto (tgt := 56) hx hb dX3_ofRight_51 (by decide) ?_
          exact m_iret C hB hr hlocks rfl dX3_ofRight_56 ⟨by omega, by omega⟩ ⟨by unfold rRight; rw [if_neg (by omega), if_neg (by omega), if_pos (by omega)]; rfl, mAg_rfl I F⟩
      · refine lv_aload_n hx hb dX3_ofRight_31 rfl (lv_at hl 0 rfl) ?_
        refine m_get C hB 13 (by decide) q1407 (v := .ref (Ad 13)) rfl rfl dX3_ofRight_32 ?_
        refine lv_iload_n hx hb dX3_ofRight_35 rfl (lv_at hl 1 rfl) ?_
        refine m_ald C hB 13 7 rfl (v := F 13 k) k rfl (by omega) rfl dX3_ofRight_36 ?_
        have := hR k (by omega)
        refine lv_goto (tgt := 56) hx hb dX3_ofRight_37 (by decide) ?_
        exact m_iret C hB hr hlocks rfl dX3_ofRight_56 ⟨by omega, by omega⟩ ⟨by unfold rRight; rw [if_neg (by omega), if_pos (by omega)]; rfl, mAg_rfl I F⟩
    · refine lv_aload_n hx hb dX3_ofRight_15 rfl (lv_at hl 0 rfl) ?_
      refine m_calli (n := 0) C hB (As := []) (kX3_findBest l E o Ad I F hOK0) (lw_V q1540 q1542 qs48 q77 q1543) (by decide +kernel) ⟨Nat.le_of_ble_eq_true rfl, Nat.le_of_ble_eq_true rfl⟩ rfl hl.1 rfl (Nat.le_of_ble_eq_true rfl) dX3_ofRight_16 ⟨Nat.zero_le _, Nat.zero_le _⟩ (fun z11 I12 F13 H locs hz14 hp15 hB => ?_)
      obtain ⟨hz14a, hz14b⟩ := hz14
      obtain ⟨g16, g17, g18, g19, g20, g21, rfl, rfl, ht22, hli23, hv24⟩ := hp15
      refine lv_pop hx hb dX3_ofRight_19 rfl ?_
      refine lv_aload_n hx hb dX3_ofRight_20 rfl (lv_at hl 0 rfl) ?_
      refine lv_iconst (v := iI 1) hx hb dX3_ofRight_21 rfl ?_
      refine lv_iload_n hx hb dX3_ofRight_22 rfl (lv_at hl 1 rfl) ?_
      have hpin : ∀ q ∈ bpath I F (I 9), q.1 ≤ 4 ∧ q.2.1 ≤ 7 ∧ q.2.2 ≤ 7 := fun q hq => by have h1 := bpath_in hOK0 hq; exact ⟨h1.1, by omega, by omega⟩
      refine m_calli (n := 2) C hB (As := [.int (iI 1), .int (iI ((k : Int)))]) (kX3_pairedWith1 l E o Ad (va_up I 24 ((bpath I F (I 9)).length : Int)) (up3 (upp F g19 g20 g21) g16 g17 g18) k (bpath I F (I 9)) (by omega) rfl (bpath_len I F (I 9)) hli23 hpin) (lw_V q1578 q1580 qs55 q77 q1581) (by decide +kernel) ⟨Nat.le_of_ble_eq_true rfl, Nat.le_of_ble_eq_true rfl⟩ rfl hl.1 rfl (Nat.le_of_ble_eq_true rfl) dX3_ofRight_23 ⟨Nat.zero_le _, Nat.zero_le _⟩ (fun z25 I26 F27 H locs hz28 hp29 hB => ?_)
      obtain ⟨hz28a, hz28b⟩ := hz28
      obtain ⟨rfl, rfl, rfl⟩ := hp29
      exact m_iret C hB hr hlocks rfl dX3_ofRight_26 ⟨by omega, by omega⟩ ⟨by unfold rRight; rw [if_neg (by omega), if_neg (by omega), if_neg (by omega), if_pos (by omega)]; rfl, mAg_scr _ _ _ _ _ _ _ _ _⟩
  · refine x_if_ne (tgt := 10) hx hb dX3_ofRight_5 (by decide) ⟨by decide, by decide⟩ (fun c30 => by exfalso; omega) (fun c30 => ?_)
    refine lv_iconst (v := iI (-1)) hx hb dX3_ofRight_8 rfl ?_
    exact m_iret C hB hr hlocks rfl dX3_ofRight_9 ⟨by decide, by decide⟩ ⟨by unfold rRight; rw [if_pos (by omega)], mAg_rfl I F⟩
set_option maxHeartbeats 400000 in
set_option maxRecDepth 100000 in
theorem kX3_tellBest (l : Launch) (E : xE) (o : Nat) (Ad : Nat → Nat) (I : Nat → Int) (F : Nat → Nat → Int) (wh : Int) (hw : 0 ≤ wh ∧ wh ≤ 4) (hOK : mOK I F) : mi_ l E yX3_tellBest cX3_tellBest 3 (some .int) 5 124 [.ref o, .int (iI wh)] o Ad I F (fun z I' F' => (wh ≠ 1 → z = rTell I F wh) ∧ scE I F I' F') := by
  intro w sz hM
  refine x_body (by decide) (Nat.le_of_ble_eq_true rfl) ?_
  intro p e s m args below meth c ls hx hb C hr hlocks _ hsz hB hl
  have C : xC E p s m args c cX3_tellBest 3 RX3 := C
  replace hB : mB E (xA w sz) s o Ad I F s.heap [] := ⟨w, hM, hB⟩
  have hl : lv_has ls 3 [(0, .ref o), (1, .int (iI wh))] := hl
  have hOK0 := hOK
  obtain ⟨⟨hf1, hf2⟩, ⟨hl1, hl2⟩, ⟨hr1, hr2⟩, hlr, ⟨hs1, hs2⟩, ⟨hj1, hj2⟩, ⟨hb1, hb2⟩, ⟨hn1, hn2⟩, hL, hR, hN, hS, hC⟩ := hOK
  refine lv_aload_n hx hb dX3_tellBest_0 rfl (lv_at hl 0 rfl) ?_
  refine m_calli (n := 0) C hB (As := []) (kX3_findBest l E o Ad I F hOK0) (lw_V q1540 q1542 qs48 q77 q1543) (by decide +kernel) ⟨Nat.le_of_ble_eq_true rfl, Nat.le_of_ble_eq_true rfl⟩ rfl hl.1 rfl (Nat.le_of_ble_eq_true rfl) dX3_tellBest_1 ⟨Nat.zero_le _, Nat.zero_le _⟩ (fun z1 I2 F3 H locs hz4 hp5 hB => ?_)
  obtain ⟨hz4a, hz4b⟩ := hz4
  obtain ⟨g6, g7, g8, g9, g10, g11, rfl, rfl, ht12, hli13, hv14⟩ := hp5
  have h00 := ht12 0 0 (by omega) (by omega)
  have hV0 : VB 840 (DT I F (I 9) 0 0) := VBD (by omega) (by omega) (csM60 hOK0) (by omega) (by omega)
  have hAl : (DT I F (I 9) 0 0).2.2 ≤ 4782969 := D_alM (w := I 9) (i := 0) (j := 0) (by omega) (by omega) (csM60 hOK0) (by omega) (by omega)
  have hf1 := h00.1
  have hf2 := h00.2.1
  have hf3 := h00.2.2
  replace hf1 : ((DT I F (I 9) 0 0).1 = 100000 ∧ g6 0 = 99999) ∨ ((DT I F (I 9) 0 0).1 ≠ 100000 ∧ g6 0 = (DT I F (I 9) 0 0).1) := by
    rw [show g6 0 = g6 (8 * 0 + 0) from rfl, hf1]; unfold fm; split <;> omega
  replace hf2 : ((DT I F (I 9) 0 0).2.1 = 100000 ∧ g7 0 = 99999) ∨ ((DT I F (I 9) 0 0).2.1 ≠ 100000 ∧ g7 0 = (DT I F (I 9) 0 0).2.1) := by
    rw [show g7 0 = g7 (8 * 0 + 0) from rfl, hf2]; unfold fm; split <;> omega
  replace hf3 : g8 0 = (DT I F (I 9) 0 0).2.2 := hf3
  unfold VB at hV0
  have hbl := bpath_len I F (I 9)
  have hzv : (z1 = -9 ∧ (DT I F (I 9) 0 0).1 = 100000) ∨ (z1 ≠ -9 ∧ (DT I F (I 9) 0 0).1 ≠ 100000 ∧ z1 = (DT I F (I 9) 0 0).1) := by
    rw [hv14]; split <;> omega
  refine lv_istore_n (lv' := [(2, .int (iI z1)), (0, .ref o), (1, .int (iI wh))]) hx hb dX3_tellBest_4 rfl hl (by decide) rfl (fun ls hl => ?_)
  refine lv_iload_n hx hb dX3_tellBest_5 rfl (lv_at hl 2 rfl) ?_
  refine lv_iconst (v := iI 4) hx hb dX3_tellBest_6 rfl ?_
  refine x_icmp_ne (tgt := 27) hx hb dX3_tellBest_7 (by decide) ⟨by omega, by omega⟩ ⟨by decide, by decide⟩ (fun c15 => ?_) (fun c15 => ?_)
  · refine lv_iload_n hx hb dX3_tellBest_27 rfl (lv_at hl 0 rfl) ?_
    refine lv_bipush (v := iI (-9)) hx hb dX3_tellBest_28 rfl ?_
    refine x_icmp_eq (tgt := 49) hx hb dX3_tellBest_30 (by decide) ⟨by omega, by omega⟩ ⟨by decide, by decide⟩ (fun c16 => ?_) (fun c16 => ?_)
    · refine lv_bipush (v := iI (-9)) hx hb dX3_tellBest_49 rfl ?_
      exact m_iret C hB hr hlocks rfl dX3_tellBest_51 ⟨by decide, by decide⟩ ⟨fun hw1 => by unfold rTell; (repeat' split) <;> omega, _, _, _, _, _, _, _, rfl, rfl⟩
    · refine lv_iload_n hx hb dX3_tellBest_33 rfl (lv_at hl 2 rfl) ?_
      refine lv_iconst (v := iI 3) hx hb dX3_tellBest_34 rfl ?_
      refine x_icmp_ne (tgt := 52) hx hb dX3_tellBest_35 (by decide) ⟨by omega, by omega⟩ ⟨by decide, by decide⟩ (fun c17 => ?_) (fun c17 => ?_)
      · refine lv_iload_n hx hb dX3_tellBest_52 rfl (lv_at hl 2 rfl) ?_
        refine x_if_ne (tgt := 60) hx hb dX3_tellBest_53 (by decide) ⟨by omega, by omega⟩ (fun c18 => ?_) (fun c18 => ?_)
        · refine lv_iload_n hx hb dX3_tellBest_60 rfl (lv_at hl 2 rfl) ?_
          refine lv_iconst (v := iI 2) hx hb dX3_tellBest_61 rfl ?_
          refine x_icmp_ne (tgt := 72) hx hb dX3_tellBest_62 (by decide) ⟨by omega, by omega⟩ ⟨by decide, by decide⟩ (fun c19 => ?_) (fun c19 => ?_)
          · refine lv_aload_n hx hb dX3_tellBest_72 rfl (lv_at hl 1 rfl) ?_
            refine m_get C hB 22 (by decide) q1416 (v := .ref (Ad 22)) rfl rfl dX3_tellBest_73 ?_
            refine lv_iconst (v := iI 0) hx hb dX3_tellBest_76 rfl ?_
            refine m_ald C hB 22 64 rfl (v := g7 0) 0 rfl (by decide) rfl dX3_tellBest_77 ?_
            exact m_iret C hB hr hlocks rfl dX3_tellBest_78 ⟨by omega, by omega⟩ ⟨fun hw1 => by unfold rTell; (repeat' split) <;> omega, _, _, _, _, _, _, _, rfl, rfl⟩
          · refine lv_aload_n hx hb dX3_tellBest_65 rfl (lv_at hl 1 rfl) ?_
            refine m_get C hB 24 (by decide) q1418 (v := .int (iI ((((bpath I F (I 9)).length : Nat) : Int)))) rfl rfl dX3_tellBest_66 ?_
            refine lv_goto (tgt := 78) hx hb dX3_tellBest_69 (by decide) ?_
            exact m_iret C hB hr hlocks rfl dX3_tellBest_78 ⟨by omega, by omega⟩ ⟨fun hw1 => by unfold rTell; (repeat' split) <;> omega, _, _, _, _, _, _, _, rfl, rfl⟩
        · refine lv_iload_n hx hb dX3_tellBest_56 rfl (lv_at hl 0 rfl) ?_
          refine lv_goto (tgt := 78) hx hb dX3_tellBest_57 (by decide) ?_
          exact m_iret C hB hr hlocks rfl dX3_tellBest_78 ⟨by omega, by omega⟩ ⟨fun hw1 => by unfold rTell; (repeat' split) <;> omega, _, _, _, _, _, _, _, rfl, rfl⟩
      · refine lv_aload_n hx hb dX3_tellBest_38 rfl (lv_at hl 1 rfl) ?_
        refine m_get C hB 22 (by decide) q1416 (v := .ref (Ad 22)) rfl rfl dX3_tellBest_39 ?_
        refine lv_iconst (v := iI 0) hx hb dX3_tellBest_42 rfl ?_
        refine m_ald C hB 22 64 rfl (v := g7 0) 0 rfl (by decide) rfl dX3_tellBest_43 ?_
        refine lv_ldc hx hb C.1.2.2.2.1 (C.1.2.2.2.2 _ q1552) dX3_tellBest_44 ?_
        refine x_rw (y := iI 99999) (by decide) ?_
        refine x_icmp_lt (tgt := 52) hx hb dX3_tellBest_46 (by decide) ⟨by omega, by omega⟩ ⟨by decide, by decide⟩ (fun c20 => ?_) (fun c20 => ?_)
        · refine lv_iload_n hx hb dX3_tellBest_52 rfl (lv_at hl 2 rfl) ?_
          refine x_if_ne (tgt := 60) hx hb dX3_tellBest_53 (by decide) ⟨by omega, by omega⟩ (fun c21 => ?_) (fun c21 => ?_)
          · refine lv_iload_n hx hb dX3_tellBest_60 rfl (lv_at hl 2 rfl) ?_
            refine lv_iconst (v := iI 2) hx hb dX3_tellBest_61 rfl ?_
            refine x_icmp_ne (tgt := 72) hx hb dX3_tellBest_62 (by decide) ⟨by omega, by omega⟩ ⟨by decide, by decide⟩ (fun c22 => ?_) (fun c22 => ?_)
            · refine lv_aload_n hx hb dX3_tellBest_72 rfl (lv_at hl 1 rfl) ?_
              refine m_get C hB 22 (by decide) q1416 (v := .ref (Ad 22)) rfl rfl dX3_tellBest_73 ?_
              refine lv_iconst (v := iI 0) hx hb dX3_tellBest_76 rfl ?_
              refine m_ald C hB 22 64 rfl (v := g7 0) 0 rfl (by decide) rfl dX3_tellBest_77 ?_
              exact m_iret C hB hr hlocks rfl dX3_tellBest_78 ⟨by omega, by omega⟩ ⟨fun hw1 => by unfold rTell; (repeat' split) <;> omega, _, _, _, _, _, _, _, rfl, rfl⟩
            · refine lv_aload_n hx hb dX3_tellBest_65 rfl (lv_at hl 1 rfl) ?_
              refine m_get C hB 24 (by decide) q1418 (v := .int (iI ((((bpath I F (I 9)).length : Nat) : Int)))) rfl rfl dX3_tellBest_66 ?_
              refine lv_goto (tgt := 78) hx hb dX3_tellBest_69 (by decide) ?_
              exact m_iret C hB hr hlocks rfl dX3_tellBest_78 ⟨by omega, by omega⟩ ⟨fun hw1 => by unfold rTell; (repeat' split) <;> omega, _, _, _, _, _, _, _, rfl, rfl⟩
          · refine lv_iload_n hx hb dX3_tellBest_56 rfl (lv_at hl 0 rfl) ?_
            refine lv_goto (tgt := 78) hx hb dX3_tellBest_57 (by decide) ?_
            exact m_iret C hB hr hlocks rfl dX3_tellBest_78 ⟨by omega, by omega⟩ ⟨fun hw1 => by unfold rTell; (repeat' split) <;> omega, _, _, _, _, _, _, _, rfl, rfl⟩
        · refine lv_bipush (v := iI (-9)) hx hb dX3_tellBest_49 rfl ?_
          exact m_iret C hB hr hlocks rfl dX3_tellBest_51 ⟨by decide, by decide⟩ ⟨fun hw1 => by unfold rTell; (repeat' split) <;> omega, _, _, _, _, _, _, _, rfl, rfl⟩
  · refine lv_iload_n hx hb dX3_tellBest_10 rfl (lv_at hl 0 rfl) ?_
    refine lv_bipush (v := iI (-9)) hx hb dX3_tellBest_11 rfl ?_
    refine x_icmp_ne (tgt := 20) hx hb dX3_tellBest_13 (by decide) ⟨by omega, by omega⟩ ⟨by decide, by decide⟩ (fun c23 => ?_) (fun c23 => ?_)
    · refine lv_aload_n hx hb dX3_tellBest_20 rfl (lv_at hl 1 rfl) ?_
      refine m_get C hB 23 (by decide) q1417 (v := .ref (Ad 23)) rfl rfl dX3_tellBest_21 ?_
      refine lv_iconst (v := iI 0) hx hb dX3_tellBest_24 rfl ?_
      refine m_ald C hB 23 64 rfl (v := g8 0) 0 rfl (by decide) rfl dX3_tellBest_25 ?_
      exact m_iret C hB hr hlocks rfl dX3_tellBest_26 ⟨by omega, by omega⟩ ⟨fun hw1 => by unfold rTell; (repeat' split) <;> omega, _, _, _, _, _, _, _, rfl, rfl⟩
    · refine lv_iconst (v := iI 0) hx hb dX3_tellBest_16 rfl ?_
      refine lv_goto (tgt := 26) hx hb dX3_tellBest_17 (by decide) ?_
      exact m_iret C hB hr hlocks rfl dX3_tellBest_26 ⟨by decide, by decide⟩ ⟨fun hw1 => by unfold rTell; (repeat' split) <;> omega, _, _, _, _, _, _, _, rfl, rfl⟩
set_option maxHeartbeats 400000 in
set_option maxRecDepth 100000 in
theorem kX3_best (l : Launch) (E : xE) (o : Nat) (Ad : Nat → Nat) (I : Nat → Int) (F : Nat → Nat → Int) (wh : Int) (hw : rg wh) (hOK : mOK I F) : mi_ l E yX3_best cX3_best 2 (some .int) 6 146 [.ref o, .int (iI wh)] o Ad I F (fun z I' F' => z = rBest I F wh ∧ mAg I F I' F') := by
  intro w sz hM
  refine x_body (by decide) (Nat.le_of_ble_eq_true rfl) ?_
  intro p e s m args below meth c ls hx hb C hr hlocks _ hsz hB hl
  have C : xC E p s m args c cX3_best 2 RX3 := C
  replace hB : mB E (xA w sz) s o Ad I F s.heap [] := ⟨w, hM, hB⟩
  have hl : lv_has ls 2 [(0, .ref o), (1, .int (iI wh))] := hl
  obtain ⟨hw1, hw2⟩ := hw
  have hOK0 := hOK
  obtain ⟨⟨hf1, hf2⟩, ⟨hl1, hl2⟩, ⟨hr1, hr2⟩, hlr, ⟨hs1, hs2⟩, ⟨hj1, hj2⟩, ⟨hb1, hb2⟩, ⟨hn1, hn2⟩, hL, hR, hN, hS, hC⟩ := hOK
  refine lv_iload_n hx hb dX3_best_0 rfl (lv_at hl 1 rfl) ?_
  refine lv_iconst (v := iI 0) hx hb dX3_best_1 rfl ?_
  refine lv_iconst (v := iI 3) hx hb dX3_best_2 rfl ?_
  obtain ⟨wq, hMq, hB⟩ := hB
  refine s_calli (n := 3) C hB (As := [.int (iI wh), .int (iI 0), .int (iI 3)]) (kX3_within l E wh 0 3 ⟨by omega, by omega⟩ ⟨by omega, by omega⟩ ⟨by omega, by omega⟩) (lw_S q1498 q1499 q77 q1500) (by decide +kernel) ⟨Nat.le_of_ble_eq_true rfl, Nat.le_of_ble_eq_true rfl⟩ rfl hl.1 rfl (Nat.le_of_ble_eq_true rfl) dX3_best_3 ⟨Nat.zero_le _, Nat.zero_le _⟩ (fun z1 H locs hz2 hp3 hB => ?_)
  replace hB : mB E _ s o Ad I F H locs := ⟨wq, hMq, hB⟩
  obtain ⟨hz2a, hz2b⟩ := hz2
  rcases hp3 with ⟨rfl, h4⟩ | ⟨rfl, h4⟩
  · refine x_if_ne (tgt := 12) hx hb dX3_best_6 (by decide) ⟨by decide, by decide⟩ (fun c5 => ?_) (fun c5 => by exfalso; omega)
    refine lv_aload_n hx hb dX3_best_12 rfl (lv_at hl 0 rfl) ?_
    refine m_get C hB 5 (by decide) q1399 (v := .int (iI (I 5))) rfl rfl dX3_best_13 ?_
    refine x_if_ne (tgt := 22) hx hb dX3_best_16 (by decide) ⟨by omega, by omega⟩ (fun c6 => ?_) (fun c6 => ?_)
    · refine lv_aload_n hx hb dX3_best_22 rfl (lv_at hl 0 rfl) ?_
      refine lv_iload_n hx hb dX3_best_23 rfl (lv_at hl 1 rfl) ?_
      refine lv_iconst (v := iI 1) hx hb dX3_best_24 rfl ?_
      refine x_icmp_ne (tgt := 32) hx hb dX3_best_25 (by decide) ⟨by omega, by omega⟩ ⟨by decide, by decide⟩ (fun c7 => ?_) (fun c7 => ?_)
      · refine lv_iload_n hx hb dX3_best_32 rfl (lv_at hl 1 rfl) ?_
        refine lv_iconst (v := iI 2) hx hb dX3_best_33 rfl ?_
        refine x_icmp_ne (tgt := 41) hx hb dX3_best_34 (by decide) ⟨by omega, by omega⟩ ⟨by decide, by decide⟩ (fun c8 => ?_) (fun c8 => ?_)
        · refine lv_iload_n hx hb dX3_best_41 rfl (lv_at hl 1 rfl) ?_
          refine lv_iconst (v := iI 3) hx hb dX3_best_42 rfl ?_
          refine x_icmp_ne (tgt := 50) hx hb dX3_best_43 (by decide) ⟨by omega, by omega⟩ ⟨by decide, by decide⟩ (fun c9 => ?_) (fun c9 => ?_)
          · refine lv_iconst (v := iI 0) hx hb dX3_best_50 rfl ?_
            refine m_calli (n := 1) C hB (As := [.int (iI 0)]) (kX3_tellBest l E o Ad I F 0 (by omega) hOK0) (lw_V q1610 q1612 qs58 q77 q1613) (by decide +kernel) ⟨Nat.le_of_ble_eq_true rfl, Nat.le_of_ble_eq_true rfl⟩ rfl hl.1 rfl (Nat.le_of_ble_eq_true rfl) dX3_best_51 ⟨Nat.zero_le _, Nat.zero_le _⟩ (fun z10 I11 F12 H locs hz13 hp14 hB => ?_)
            obtain ⟨hz13a, hz13b⟩ := hz13
            obtain ⟨hv15, ha16⟩ := hp14
            exact m_iret C hB hr hlocks rfl dX3_best_54 ⟨by omega, by omega⟩ ⟨by rw [hv15 (by omega)]; unfold rBest; rw [if_neg (by omega), if_neg (by omega)]; congr 1; (repeat' split) <;> omega, ha16.ag⟩
          · refine lv_iconst (v := iI 4) hx hb dX3_best_46 rfl ?_
            refine lv_goto (tgt := 51) hx hb dX3_best_47 (by decide) ?_
            refine m_calli (n := 1) C hB (As := [.int (iI 4)]) (kX3_tellBest l E o Ad I F 4 (by omega) hOK0) (lw_V q1610 q1612 qs58 q77 q1613) (by decide +kernel) ⟨Nat.le_of_ble_eq_true rfl, Nat.le_of_ble_eq_true rfl⟩ rfl hl.1 rfl (Nat.le_of_ble_eq_true rfl) dX3_best_51 ⟨Nat.zero_le _, Nat.zero_le _⟩ (fun z17 I18 F19 H locs hz20 hp21 hB => ?_)
            obtain ⟨hz20a, hz20b⟩ := hz20
            obtain ⟨hv22, ha23⟩ := hp21
            exact m_iret C hB hr hlocks rfl dX3_best_54 ⟨by omega, by omega⟩ ⟨by rw [hv22 (by omega)]; unfold rBest; rw [if_neg (by omega), if_neg (by omega)]; congr 1; (repeat' split) <;> omega, ha23.ag⟩
        · refine lv_iconst (v := iI 3) hx hb dX3_best_37 rfl ?_
          refine lv_goto (tgt := 51) hx hb dX3_best_38 (by decide) ?_
          refine m_calli (n := 1) C hB (As := [.int (iI 3)]) (kX3_tellBest l E o Ad I F 3 (by omega) hOK0) (lw_V q1610 q1612 qs58 q77 q1613) (by decide +kernel) ⟨Nat.le_of_ble_eq_true rfl, Nat.le_of_ble_eq_true rfl⟩ rfl hl.1 rfl (Nat.le_of_ble_eq_true rfl) dX3_best_51 ⟨Nat.zero_le _, Nat.zero_le _⟩ (fun z24 I25 F26 H locs hz27 hp28 hB => ?_)
          obtain ⟨hz27a, hz27b⟩ := hz27
          obtain ⟨hv29, ha30⟩ := hp28
          exact m_iret C hB hr hlocks rfl dX3_best_54 ⟨by omega, by omega⟩ ⟨by rw [hv29 (by omega)]; unfold rBest; rw [if_neg (by omega), if_neg (by omega)]; congr 1; (repeat' split) <;> omega, ha30.ag⟩
      · refine lv_iconst (v := iI 2) hx hb dX3_best_28 rfl ?_
        refine lv_goto (tgt := 51) hx hb dX3_best_29 (by decide) ?_
        refine m_calli (n := 1) C hB (As := [.int (iI 2)]) (kX3_tellBest l E o Ad I F 2 (by omega) hOK0) (lw_V q1610 q1612 qs58 q77 q1613) (by decide +kernel) ⟨Nat.le_of_ble_eq_true rfl, Nat.le_of_ble_eq_true rfl⟩ rfl hl.1 rfl (Nat.le_of_ble_eq_true rfl) dX3_best_51 ⟨Nat.zero_le _, Nat.zero_le _⟩ (fun z31 I32 F33 H locs hz34 hp35 hB => ?_)
        obtain ⟨hz34a, hz34b⟩ := hz34
        obtain ⟨hv36, ha37⟩ := hp35
        exact m_iret C hB hr hlocks rfl dX3_best_54 ⟨by omega, by omega⟩ ⟨by rw [hv36 (by omega)]; unfold rBest; rw [if_neg (by omega), if_neg (by omega)]; congr 1; (repeat' split) <;> omega, ha37.ag⟩
    · refine lv_bipush (v := iI (-3)) hx hb dX3_best_19 rfl ?_
      exact m_iret C hB hr hlocks rfl dX3_best_21 ⟨by decide, by decide⟩ ⟨by unfold rBest; (repeat' split) <;> omega, mAg_rfl I F⟩
  · refine x_if_ne (tgt := 12) hx hb dX3_best_6 (by decide) ⟨by decide, by decide⟩ (fun c38 => by exfalso; omega) (fun c38 => ?_)
    refine lv_bipush (v := iI (-2)) hx hb dX3_best_9 rfl ?_
    exact m_iret C hB hr hlocks rfl dX3_best_11 ⟨by decide, by decide⟩ ⟨by unfold rBest; (repeat' split) <;> omega, mAg_rfl I F⟩
set_option maxHeartbeats 400000 in
set_option maxRecDepth 100000 in
theorem kX3_ofPair (l : Launch) (E : xE) (o : Nat) (Ad : Nat → Nat) (I : Nat → Int) (F : Nat → Nat → Int) (k : Int) (wh : Int) (hk : rg k) (hw : rg wh) (hOK : mOK I F) : mi_ l E yX3_ofPair cX3_ofPair 3 (some .int) 5 124 [.ref o, .int (iI k), .int (iI wh)] o Ad I F (fun z I' F' => z = rPair I F k wh ∧ mAg I F I' F') := by
  intro w sz hM
  refine x_body (by decide) (Nat.le_of_ble_eq_true rfl) ?_
  intro p e s m args below meth c ls hx hb C hr hlocks _ hsz hB hl
  have C : xC E p s m args c cX3_ofPair 3 RX3 := C
  replace hB : mB E (xA w sz) s o Ad I F s.heap [] := ⟨w, hM, hB⟩
  have hl : lv_has ls 3 [(0, .ref o), (1, .int (iI k)), (2, .int (iI wh))] := hl
  obtain ⟨hk1, hk2⟩ := hk
  obtain ⟨hw1, hw2⟩ := hw
  have hOK0 := hOK
  obtain ⟨⟨hf1, hf2⟩, ⟨hl1, hl2⟩, ⟨hr1, hr2⟩, hlr, ⟨hs1, hs2⟩, ⟨hj1, hj2⟩, ⟨hb1, hb2⟩, ⟨hn1, hn2⟩, hL, hR, hN, hS, hC⟩ := hOK
  refine lv_aload_n hx hb dX3_ofPair_0 rfl (lv_at hl 0 rfl) ?_
  refine m_calli (n := 0) C hB (As := []) (kX3_findBest l E o Ad I F hOK0) (lw_V q1540 q1542 qs48 q77 q1543) (by decide +kernel) ⟨Nat.le_of_ble_eq_true rfl, Nat.le_of_ble_eq_true rfl⟩ rfl hl.1 rfl (Nat.le_of_ble_eq_true rfl) dX3_ofPair_1 ⟨Nat.zero_le _, Nat.zero_le _⟩ (fun z1 I2 F3 H locs hz4 hp5 hB => ?_)
  obtain ⟨hz4a, hz4b⟩ := hz4
  obtain ⟨g6, g7, g8, g9, g10, g11, rfl, rfl, ht12, hli13, hv14⟩ := hp5
  refine lv_pop hx hb dX3_ofPair_4 rfl ?_
  have hbl0 := bpath_len I F (I 9)
  refine lv_iload_n hx hb dX3_ofPair_5 rfl (lv_at hl 1 rfl) ?_
  refine x_if_lt (tgt := 17) hx hb dX3_ofPair_6 (by decide) ⟨by omega, by omega⟩ (fun c15 => ?_) (fun c15 => ?_)
  · refine lv_iconst (v := iI (-1)) hx hb dX3_ofPair_17 rfl ?_
    exact m_iret C hB hr hlocks rfl dX3_ofPair_18 ⟨by decide, by decide⟩ ⟨by unfold rPair; rw [if_pos (by omega)], mAg_scr _ _ _ _ _ _ _ _ _⟩
  · refine lv_iload_n hx hb dX3_ofPair_9 rfl (lv_at hl 1 rfl) ?_
    refine lv_aload_n hx hb dX3_ofPair_10 rfl (lv_at hl 0 rfl) ?_
    refine m_get C hB 24 (by decide) q1418 (v := .int (iI ((((bpath I F (I 9)).length : Nat) : Int)))) rfl rfl dX3_ofPair_11 ?_
    refine x_icmp_lt (tgt := 19) hx hb dX3_ofPair_14 (by decide) ⟨by omega, by omega⟩ ⟨by omega, by omega⟩ (fun c16 => ?_) (fun c16 => ?_)
    · obtain ⟨kk, rfl⟩ : ∃ kk : Nat, k = (kk : Int) := ⟨k.toNat, by omega⟩
      have hkl : kk < (bpath I F (I 9)).length := by omega
      obtain ⟨qs, qi, qj, hq⟩ : ∃ qs qi qj, (bpath I F (I 9))[kk]? = some (qs, qi, qj) := ⟨_, _, _, List.getElem?_eq_getElem hkl⟩
      have hg : (bpath I F (I 9)).getD (kk : Int).toNat (0, 0, 0) = (qs, qi, qj) := by rw [List.getD_eq_getElem?_getD, show (kk : Int).toNat = kk from rfl, hq]; rfl
      have hin := bpath_in hOK0 (List.mem_of_getElem? hq)
      have hbl := bpath_len I F (I 9)
      dsimp only at hin
      have hqq := hli13 kk _ hq
      dsimp only at hqq
      refine lv_iload_n hx hb dX3_ofPair_19 rfl (lv_at hl 2 rfl) ?_
      rcases (show wh = 0 ∨ wh = 1 ∨ wh = 2 ∨ wh = 3 ∨ (wh < 0 ∨ 3 < wh) by omega) with c17 | c17 | c17 | c17 | c17
      · refine x_tsIn (tgt := 52) hx hb 0 dX3_ofPair_20 (by omega) ⟨by decide, by decide⟩ (by decide) (by decide) rfl (by decide) ?_
        refine lv_aload_n hx hb dX3_ofPair_52 rfl (lv_at hl 0 rfl) ?_
        refine m_get C hB 25 (by decide) q1419 (v := .ref (Ad 25)) rfl rfl dX3_ofPair_53 ?_
        refine lv_iload_n hx hb dX3_ofPair_56 rfl (lv_at hl 1 rfl) ?_
        refine m_ald C hB 25 14 rfl (v := (qs : Int)) kk rfl (by omega) hqq.1 dX3_ofPair_57 ?_
        exact m_iret C hB hr hlocks rfl dX3_ofPair_58 ⟨by omega, by omega⟩ ⟨by unfold rPair; rw [hg, if_neg (by omega), if_pos (by omega)], mAg_scr _ _ _ _ _ _ _ _ _⟩
      · refine x_tsIn (tgt := 59) hx hb 1 dX3_ofPair_20 (by omega) ⟨by decide, by decide⟩ (by decide) (by decide) rfl (by decide) ?_
        refine lv_aload_n hx hb dX3_ofPair_59 rfl (lv_at hl 0 rfl) ?_
        refine m_get C hB 26 (by decide) q1420 (v := .ref (Ad 26)) rfl rfl dX3_ofPair_60 ?_
        refine lv_iload_n hx hb dX3_ofPair_63 rfl (lv_at hl 1 rfl) ?_
        refine m_ald C hB 26 14 rfl (v := (qi : Int)) kk rfl (by omega) hqq.2.1 dX3_ofPair_64 ?_
        exact m_iret C hB hr hlocks rfl dX3_ofPair_65 ⟨by omega, by omega⟩ ⟨by unfold rPair; rw [hg, if_neg (by omega), if_neg (by omega), if_pos (by omega)], mAg_scr _ _ _ _ _ _ _ _ _⟩
      · refine x_tsIn (tgt := 66) hx hb 2 dX3_ofPair_20 (by omega) ⟨by decide, by decide⟩ (by decide) (by decide) rfl (by decide) ?_
        refine lv_aload_n hx hb dX3_ofPair_66 rfl (lv_at hl 0 rfl) ?_
        refine m_get C hB 27 (by decide) q1421 (v := .ref (Ad 27)) rfl rfl dX3_ofPair_67 ?_
        refine lv_iload_n hx hb dX3_ofPair_70 rfl (lv_at hl 1 rfl) ?_
        refine m_ald C hB 27 14 rfl (v := (qj : Int)) kk rfl (by omega) hqq.2.2 dX3_ofPair_71 ?_
        exact m_iret C hB hr hlocks rfl dX3_ofPair_72 ⟨by omega, by omega⟩ ⟨by unfold rPair; rw [hg, if_neg (by omega), if_neg (by omega), if_neg (by omega), if_pos (by omega)], mAg_scr _ _ _ _ _ _ _ _ _⟩
      · refine x_tsIn (tgt := 73) hx hb 3 dX3_ofPair_20 (by omega) ⟨by decide, by decide⟩ (by decide) (by decide) rfl (by decide) ?_
        refine lv_aload_n hx hb dX3_ofPair_73 rfl (lv_at hl 0 rfl) ?_
        refine lv_aload_n hx hb dX3_ofPair_74 rfl (lv_at hl 0 rfl) ?_
        refine m_get C hB 25 (by decide) q1419 (v := .ref (Ad 25)) rfl rfl dX3_ofPair_75 ?_
        refine lv_iload_n hx hb dX3_ofPair_78 rfl (lv_at hl 1 rfl) ?_
        refine m_ald C hB 25 14 rfl (v := (qs : Int)) kk rfl (by omega) hqq.1 dX3_ofPair_79 ?_
        refine lv_aload_n hx hb dX3_ofPair_80 rfl (lv_at hl 0 rfl) ?_
        refine m_get C hB 26 (by decide) q1420 (v := .ref (Ad 26)) rfl rfl dX3_ofPair_81 ?_
        refine lv_iload_n hx hb dX3_ofPair_84 rfl (lv_at hl 1 rfl) ?_
        refine m_ald C hB 26 14 rfl (v := (qi : Int)) kk rfl (by omega) hqq.2.1 dX3_ofPair_85 ?_
        refine lv_aload_n hx hb dX3_ofPair_86 rfl (lv_at hl 0 rfl) ?_
        refine m_get C hB 27 (by decide) q1421 (v := .ref (Ad 27)) rfl rfl dX3_ofPair_87 ?_
        refine lv_iload_n hx hb dX3_ofPair_90 rfl (lv_at hl 1 rfl) ?_
        refine m_ald C hB 27 14 rfl (v := (qj : Int)) kk rfl (by omega) hqq.2.2 dX3_ofPair_91 ?_
        refine m_calli (n := 3) C hB (As := [.int (iI ((qs : Int))), .int (iI ((qi : Int))), .int (iI ((qj : Int)))]) (kX3_costOf l E o Ad (va_up I 24 ((bpath I F (I 9)).length : Int)) (up3 (upp F g9 g10 g11) g6 g7 g8) ((qs : Int)) qi qj (by omega) (fun _ => show (qi : Int) + lo (qs : Int) ≤ I 5 by have : lo (qs : Int) = loN qs := by { unfold lo loN; (repeat' split) <;> omega }; omega) (fun _ => show (qj : Int) + ro (qs : Int) ≤ I 6 by have : ro (qs : Int) = roN qs := by { unfold ro roN; (repeat' split) <;> omega }; omega) hOK0) (lw_V q1563 q1565 qs52 q77 q1566) (by decide +kernel) ⟨Nat.le_of_ble_eq_true rfl, Nat.le_of_ble_eq_true rfl⟩ rfl hl.1 rfl (Nat.le_of_ble_eq_true rfl) dX3_ofPair_92 ⟨Nat.zero_le _, Nat.zero_le _⟩ (fun z18 I19 F20 H locs hz21 hp22 hB => ?_)
        obtain ⟨hz21a, hz21b⟩ := hz21
        obtain ⟨rfl, rfl, hcz⟩ := hp22
        replace hcz : cst I F (qs : Int) qi qj = z18 := hcz.symm
        exact m_iret C hB hr hlocks rfl dX3_ofPair_95 ⟨by omega, by omega⟩ ⟨by unfold rPair; rw [hg, if_neg (by omega), if_neg (by omega), if_neg (by omega), if_neg (by omega), if_pos (by omega)]; exact hcz.symm, mAg_scr _ _ _ _ _ _ _ _ _⟩
      · refine x_tsOut (tgt := 96) hx hb dX3_ofPair_20 ⟨by omega, by omega⟩ c17 (by decide) ?_
        refine lv_bipush (v := iI (-2)) hx hb dX3_ofPair_96 rfl ?_
        exact m_iret C hB hr hlocks rfl dX3_ofPair_98 ⟨by decide, by decide⟩ ⟨by unfold rPair; rw [hg, if_neg (by omega), if_neg (by omega), if_neg (by omega), if_neg (by omega), if_neg (by omega)], mAg_scr _ _ _ _ _ _ _ _ _⟩
    · refine lv_iconst (v := iI (-1)) hx hb dX3_ofPair_17 rfl ?_
      exact m_iret C hB hr hlocks rfl dX3_ofPair_18 ⟨by decide, by decide⟩ ⟨by unfold rPair; rw [if_pos (by omega)], mAg_scr _ _ _ _ _ _ _ _ _⟩
set_option maxHeartbeats 400000 in
set_option maxRecDepth 100000 in
theorem kX3_costOf1 (l : Launch) (E : xE) (o : Nat) (Ad : Nat → Nat) (I : Nat → Int) (F : Nat → Nat → Int) (a : Nat) (b : Int) (ha : (a : Int) < I 5) (hOK : mOK I F) : mi_ l E yX3_costOf cX3_costOf 8 (some .int) 1 21 [.ref o, .int (iI 1), .int (iI ((a : Int))), .int (iI b)] o Ad I F (fun z I' F' => I = I' ∧ F = F' ∧ z = I 7 + lenF F a) := by
  intro w sz hM
  refine x_body (by decide) (Nat.le_of_ble_eq_true rfl) ?_
  intro p e s m args below meth c ls hx hb C hr hlocks _ hsz hB hl
  have C : xC E p s m args c cX3_costOf 8 RX3 := C
  replace hB : mB E (xA w sz) s o Ad I F s.heap [] := ⟨w, hM, hB⟩
  have hl : lv_has ls 8 [(0, .ref o), (1, .int (iI 1)), (2, .int (iI ((a : Int)))), (3, .int (iI b))] := hl
  have hOK0 := hOK
  obtain ⟨⟨hf1, hf2⟩, ⟨hl1, hl2⟩, ⟨hr1, hr2⟩, hlr, ⟨hs1, hs2⟩, ⟨hj1, hj2⟩, ⟨hb1, hb2⟩, ⟨hn1, hn2⟩, hL, hR, hN, hS, hC⟩ := hOK
  refine lv_iload_n hx hb dX3_costOf_0 rfl (lv_at hl 1 rfl) ?_
  refine lv_iconst (v := iI 1) hx hb dX3_costOf_1 rfl ?_
  refine x_icmp_ne (tgt := 16) hx hb dX3_costOf_2 (by decide) ⟨by decide, by decide⟩ ⟨by decide, by decide⟩ (fun c1 => by exfalso; omega) (fun c1 => ?_)
  refine lv_aload_n hx hb dX3_costOf_5 rfl (lv_at hl 0 rfl) ?_
  refine m_get C hB 7 (by decide) q1401 (v := .int (iI (I 7))) rfl rfl dX3_costOf_6 ?_
  refine lv_aload_n hx hb dX3_costOf_9 rfl (lv_at hl 0 rfl) ?_
  refine lv_iload_n hx hb dX3_costOf_10 rfl (lv_at hl 2 rfl) ?_
  refine m_calli (n := 1) C hB (As := [.int (iI ((a : Int)))]) (kX3_lengthOf l E o Ad I F a (by omega) hOK0) (lw_V q1536 q1538 qs47 q77 q1539) (by decide +kernel) ⟨Nat.le_of_ble_eq_true rfl, Nat.le_of_ble_eq_true rfl⟩ rfl hl.1 rfl (Nat.le_of_ble_eq_true rfl) dX3_costOf_11 ⟨Nat.zero_le _, Nat.zero_le _⟩ (fun z2 I3 F4 H locs hz5 hp6 hB => ?_)
  obtain ⟨hz5a, hz5b⟩ := hz5
  obtain ⟨rfl, rfl, rfl, h7, h8⟩ := hp6
  refine x_iadd (z := I 7 + lenF F a) hx hb dX3_costOf_14 (by omega) ?_
  exact m_iret C hB hr hlocks rfl dX3_costOf_15 ⟨by omega, by omega⟩ ⟨rfl, rfl, rfl⟩
set_option maxHeartbeats 400000 in
set_option maxRecDepth 100000 in
theorem kX3_costOf2 (l : Launch) (E : xE) (o : Nat) (Ad : Nat → Nat) (I : Nat → Int) (F : Nat → Nat → Int) (a : Int) (b : Nat) (hbb : (b : Int) < I 6) (hOK : mOK I F) : mi_ l E yX3_costOf cX3_costOf 8 (some .int) 0 0 [.ref o, .int (iI 2), .int (iI a), .int (iI ((b : Int)))] o Ad I F (fun z I' F' => I = I' ∧ F = F' ∧ z = I 7 + F 13 b) := by
  intro w sz hM
  refine x_body (by decide) (Nat.le_of_ble_eq_true rfl) ?_
  intro p e s m args below meth c ls hx hb C hr hlocks _ hsz hB hl
  have C : xC E p s m args c cX3_costOf 8 RX3 := C
  replace hB : mB E (xA w sz) s o Ad I F s.heap [] := ⟨w, hM, hB⟩
  have hl : lv_has ls 8 [(0, .ref o), (1, .int (iI 2)), (2, .int (iI a)), (3, .int (iI ((b : Int))))] := hl
  have hOK0 := hOK
  obtain ⟨⟨hf1, hf2⟩, ⟨hl1, hl2⟩, ⟨hr1, hr2⟩, hlr, ⟨hs1, hs2⟩, ⟨hj1, hj2⟩, ⟨hb1, hb2⟩, ⟨hn1, hn2⟩, hL, hR, hN, hS, hC⟩ := hOK
  refine lv_iload_n hx hb dX3_costOf_0 rfl (lv_at hl 1 rfl) ?_
  refine lv_iconst (v := iI 1) hx hb dX3_costOf_1 rfl ?_
  refine x_icmp_ne (tgt := 16) hx hb dX3_costOf_2 (by decide) ⟨by decide, by decide⟩ ⟨by decide, by decide⟩ (fun c1 => ?_) (fun c1 => by exfalso; omega)
  refine lv_iload_n hx hb dX3_costOf_16 rfl (lv_at hl 1 rfl) ?_
  refine lv_iconst (v := iI 2) hx hb dX3_costOf_17 rfl ?_
  refine x_icmp_ne (tgt := 33) hx hb dX3_costOf_18 (by decide) ⟨by decide, by decide⟩ ⟨by decide, by decide⟩ (fun c2 => by exfalso; omega) (fun c2 => ?_)
  refine lv_aload_n hx hb dX3_costOf_21 rfl (lv_at hl 0 rfl) ?_
  refine m_get C hB 7 (by decide) q1401 (v := .int (iI (I 7))) rfl rfl dX3_costOf_22 ?_
  refine lv_aload_n hx hb dX3_costOf_25 rfl (lv_at hl 0 rfl) ?_
  refine m_get C hB 13 (by decide) q1407 (v := .ref (Ad 13)) rfl rfl dX3_costOf_26 ?_
  refine lv_iload_n hx hb dX3_costOf_29 rfl (lv_at hl 3 rfl) ?_
  refine m_ald C hB 13 7 rfl (v := F 13 b) b rfl (by omega) rfl dX3_costOf_30 ?_
  have := hR b (by omega)
  refine x_iadd (z := I 7 + F 13 b) hx hb dX3_costOf_31 (by omega) ?_
  exact m_iret C hB hr hlocks rfl dX3_costOf_32 ⟨by omega, by omega⟩ ⟨rfl, rfl, rfl⟩
set_option maxHeartbeats 400000 in
set_option maxRecDepth 100000 in
theorem kX3_cost (l : Launch) (E : xE) (o : Nat) (Ad : Nat → Nat) (I : Nat → Int) (F : Nat → Nat → Int) (so : Int) (a : Int) (b : Int) (hso : rg so) (ha : rg a) (hbb : rg b) (hOK : mOK I F) : mi_ l E yX3_cost cX3_cost 5 (some .int) 2 48 [.ref o, .int (iI so), .int (iI a), .int (iI b)] o Ad I F (fun z I' F' => z = rCost I F so a b ∧ mAg I F I' F') := by
  intro w sz hM
  refine x_body (by decide) (Nat.le_of_ble_eq_true rfl) ?_
  intro p e s m args below meth c ls hx hb C hr hlocks _ hsz hB hl
  have C : xC E p s m args c cX3_cost 5 RX3 := C
  replace hB : mB E (xA w sz) s o Ad I F s.heap [] := ⟨w, hM, hB⟩
  have hl : lv_has ls 5 [(0, .ref o), (1, .int (iI so)), (2, .int (iI a)), (3, .int (iI b))] := hl
  obtain ⟨hso1, hso2⟩ := hso
  obtain ⟨ha1, ha2⟩ := ha
  obtain ⟨hbb1, hbb2⟩ := hbb
  have hOK0 := hOK
  obtain ⟨⟨hf1, hf2⟩, ⟨hl1, hl2⟩, ⟨hr1, hr2⟩, hlr, ⟨hs1, hs2⟩, ⟨hj1, hj2⟩, ⟨hb1, hb2⟩, ⟨hn1, hn2⟩, hL, hR, hN, hS, hC⟩ := hOK
  refine lv_iload_n hx hb dX3_cost_0 rfl (lv_at hl 1 rfl) ?_
  refine lv_iconst (v := iI 0) hx hb dX3_cost_1 rfl ?_
  refine lv_iconst (v := iI 4) hx hb dX3_cost_2 rfl ?_
  obtain ⟨wq, hMq, hB⟩ := hB
  refine s_calli (n := 3) C hB (As := [.int (iI so), .int (iI 0), .int (iI 4)]) (kX3_within l E so 0 4 ⟨by omega, by omega⟩ ⟨by omega, by omega⟩ ⟨by omega, by omega⟩) (lw_S q1498 q1499 q77 q1500) (by decide +kernel) ⟨Nat.le_of_ble_eq_true rfl, Nat.le_of_ble_eq_true rfl⟩ rfl hl.1 rfl (Nat.le_of_ble_eq_true rfl) dX3_cost_3 ⟨Nat.zero_le _, Nat.zero_le _⟩ (fun z1 H locs hz2 hp3 hB => ?_)
  replace hB : mB E _ s o Ad I F H locs := ⟨wq, hMq, hB⟩
  obtain ⟨hz2a, hz2b⟩ := hz2
  rcases hp3 with ⟨rfl, h4⟩ | ⟨rfl, h4⟩
  · refine x_if_ne (tgt := 12) hx hb dX3_cost_6 (by decide) ⟨by decide, by decide⟩ (fun c5 => ?_) (fun c5 => by exfalso; omega)
    rcases (show so = 0 ∨ so = 1 ∨ so = 2 ∨ so = 3 ∨ so = 4 by omega) with rfl | rfl | rfl | rfl | rfl
    · refine lv_iload_n hx hb dX3_cost_12 rfl (lv_at hl 1 rfl) ?_
      refine lv_iconst (v := iI 2) hx hb dX3_cost_13 rfl ?_
      refine x_icmp_eq (tgt := 38) hx hb dX3_cost_14 (by decide) ⟨by decide, by decide⟩ ⟨by decide, by decide⟩ (fun c6 => by exfalso; omega) (fun c6 => ?_)
      refine lv_aload_n hx hb dX3_cost_17 rfl (lv_at hl 0 rfl) ?_
      refine lv_iload_n hx hb dX3_cost_18 rfl (lv_at hl 2 rfl) ?_
      refine m_calli (n := 1) C hB (As := [.int (iI a)]) (kX3_isLeft l E o Ad I F a ⟨by omega, by omega⟩ ⟨by omega, by omega⟩) (lw_V q1532 q1534 qs46 q77 q1535) (by decide +kernel) ⟨Nat.le_of_ble_eq_true rfl, Nat.le_of_ble_eq_true rfl⟩ rfl hl.1 rfl (Nat.le_of_ble_eq_true rfl) dX3_cost_19 ⟨Nat.zero_le _, Nat.zero_le _⟩ (fun z7 I8 F9 H locs hz10 hp11 hB => ?_)
      obtain ⟨hz10a, hz10b⟩ := hz10
      obtain ⟨rfl, rfl, ⟨rfl, h12⟩ | ⟨rfl, h12⟩⟩ := hp11
      · refine x_if_eq (tgt := 42) hx hb dX3_cost_22 (by decide) ⟨by decide, by decide⟩ (fun c13 => by exfalso; omega) (fun c13 => ?_)
        refine lv_iload_n hx hb dX3_cost_25 rfl (lv_at hl 2 rfl) ?_
        refine lv_iload_n hx hb dX3_cost_26 rfl (lv_at hl 1 rfl) ?_
        obtain ⟨wq, hMq, hB⟩ := hB
        refine s_calli (n := 1) C hB (As := [.int (iI 0)]) (kX3_leftsOf l E 0 ⟨by omega, by omega⟩) (lw_S q1557 q1558 q77 q1559) (by decide +kernel) ⟨Nat.le_of_ble_eq_true rfl, Nat.le_of_ble_eq_true rfl⟩ rfl hl.1 rfl (Nat.le_of_ble_eq_true rfl) dX3_cost_27 ⟨Nat.zero_le _, Nat.zero_le _⟩ (fun z14 H locs hz15 hp16 hB => ?_)
        replace hB : mB E _ s o Ad I F H locs := ⟨wq, hMq, hB⟩
        obtain ⟨hz15a, hz15b⟩ := hz15
        obtain rfl : z14 = 1 := by omega
        refine x_iadd (z := a + 1) hx hb dX3_cost_30 (by omega) ?_
        refine lv_aload_n hx hb dX3_cost_31 rfl (lv_at hl 0 rfl) ?_
        refine m_get C hB 5 (by decide) q1399 (v := .int (iI (I 5))) rfl rfl dX3_cost_32 ?_
        refine x_icmp_gt (tgt := 42) hx hb dX3_cost_35 (by decide) ⟨by omega, by omega⟩ ⟨by omega, by omega⟩ (fun c17 => ?_) (fun c17 => ?_)
        · refine lv_iconst (v := iI 0) hx hb dX3_cost_42 rfl ?_
          refine lv_istore (lv' := [(4, .int (iI 0)), (0, .ref o), (1, .int (iI 0)), (2, .int (iI a)), (3, .int (iI b))]) hx hb dX3_cost_43 hl (by decide) rfl (fun ls hl => ?_)
          refine lv_iload hx hb dX3_cost_45 (lv_at hl 0 rfl) ?_
          refine x_if_eq (tgt := 80) hx hb dX3_cost_47 (by decide) ⟨by decide, by decide⟩ (fun c18 => ?_) (fun c18 => by exfalso; omega)
          refine lv_iconst (v := iI 0) hx hb dX3_cost_80 rfl ?_
          refine lv_istore (lv' := [(4, .int (iI 0)), (0, .ref o), (1, .int (iI 0)), (2, .int (iI a)), (3, .int (iI b))]) hx hb dX3_cost_81 hl (by decide) rfl (fun ls hl => ?_)
          refine lv_iload hx hb dX3_cost_83 (lv_at hl 0 rfl) ?_
          refine x_if_eq (tgt := 98) hx hb dX3_cost_85 (by decide) ⟨by decide, by decide⟩ (fun c19 => ?_) (fun c19 => by exfalso; omega)
          refine lv_iconst (v := iI (-1)) hx hb dX3_cost_98 rfl ?_
          exact m_iret C hB hr hlocks rfl dX3_cost_99 ⟨by decide, by decide⟩ ⟨by unfold rCost; rw [if_neg (by omega), show lo 0 = 1 by decide, show ro 0 = 1 by decide, if_neg (by omega)], mAg_rfl I F⟩
        · refine lv_iconst (v := iI 1) hx hb dX3_cost_38 rfl ?_
          refine lv_goto (tgt := 43) hx hb dX3_cost_39 (by decide) ?_
          refine lv_istore (lv' := [(4, .int (iI 1)), (0, .ref o), (1, .int (iI 0)), (2, .int (iI a)), (3, .int (iI b))]) hx hb dX3_cost_43 hl (by decide) rfl (fun ls hl => ?_)
          refine lv_iload hx hb dX3_cost_45 (lv_at hl 0 rfl) ?_
          refine x_if_eq (tgt := 80) hx hb dX3_cost_47 (by decide) ⟨by decide, by decide⟩ (fun c20 => by exfalso; omega) (fun c20 => ?_)
          refine lv_iload_n hx hb dX3_cost_50 rfl (lv_at hl 2 rfl) ?_
          refine lv_iconst (v := iI 1) hx hb dX3_cost_51 rfl ?_
          refine x_icmp_eq (tgt := 76) hx hb dX3_cost_52 (by decide) ⟨by decide, by decide⟩ ⟨by decide, by decide⟩ (fun c21 => by exfalso; omega) (fun c21 => ?_)
          refine lv_aload_n hx hb dX3_cost_55 rfl (lv_at hl 1 rfl) ?_
          refine lv_iload_n hx hb dX3_cost_56 rfl (lv_at hl 4 rfl) ?_
          refine m_calli (n := 1) C hB (As := [.int (iI b)]) (kX3_isRight l E o Ad I F b ⟨by omega, by omega⟩ ⟨by omega, by omega⟩) (lw_V q1586 q1588 qs56 q77 q1589) (by decide +kernel) ⟨Nat.le_of_ble_eq_true rfl, Nat.le_of_ble_eq_true rfl⟩ rfl hl.1 rfl (Nat.le_of_ble_eq_true rfl) dX3_cost_57 ⟨Nat.zero_le _, Nat.zero_le _⟩ (fun z22 I23 F24 H locs hz25 hp26 hB => ?_)
          obtain ⟨hz25a, hz25b⟩ := hz25
          obtain ⟨rfl, rfl, ⟨rfl, h27⟩ | ⟨rfl, h27⟩⟩ := hp26
          · refine x_if_eq (tgt := 80) hx hb dX3_cost_60 (by decide) ⟨by decide, by decide⟩ (fun c28 => by exfalso; omega) (fun c28 => ?_)
            refine lv_iload_n hx hb dX3_cost_63 rfl (lv_at hl 4 rfl) ?_
            refine lv_iload_n hx hb dX3_cost_64 rfl (lv_at hl 2 rfl) ?_
            obtain ⟨wq, hMq, hB⟩ := hB
            refine s_calli (n := 1) C hB (As := [.int (iI 0)]) (kX3_rightsOf l E 0 ⟨by omega, by omega⟩) (lw_S q1560 q1561 q77 q1562) (by decide +kernel) ⟨Nat.le_of_ble_eq_true rfl, Nat.le_of_ble_eq_true rfl⟩ rfl hl.1 rfl (Nat.le_of_ble_eq_true rfl) dX3_cost_65 ⟨Nat.zero_le _, Nat.zero_le _⟩ (fun z29 H locs hz30 hp31 hB => ?_)
            replace hB : mB E _ s o Ad I F H locs := ⟨wq, hMq, hB⟩
            obtain ⟨hz30a, hz30b⟩ := hz30
            obtain rfl : z29 = 1 := by omega
            refine x_iadd (z := b + 1) hx hb dX3_cost_68 (by omega) ?_
            refine lv_aload_n hx hb dX3_cost_69 rfl (lv_at hl 1 rfl) ?_
            refine m_get C hB 6 (by decide) q1400 (v := .int (iI (I 6))) rfl rfl dX3_cost_70 ?_
            refine x_icmp_gt (tgt := 80) hx hb dX3_cost_73 (by decide) ⟨by omega, by omega⟩ ⟨by omega, by omega⟩ (fun c32 => ?_) (fun c32 => ?_)
            · refine lv_iconst (v := iI 0) hx hb dX3_cost_80 rfl ?_
              refine lv_istore (lv' := [(4, .int (iI 0)), (0, .ref o), (1, .int (iI 0)), (2, .int (iI a)), (3, .int (iI b))]) hx hb dX3_cost_81 hl (by decide) rfl (fun ls hl => ?_)
              refine lv_iload hx hb dX3_cost_83 (lv_at hl 0 rfl) ?_
              refine x_if_eq (tgt := 98) hx hb dX3_cost_85 (by decide) ⟨by decide, by decide⟩ (fun c33 => ?_) (fun c33 => by exfalso; omega)
              refine lv_iconst (v := iI (-1)) hx hb dX3_cost_98 rfl ?_
              exact m_iret C hB hr hlocks rfl dX3_cost_99 ⟨by decide, by decide⟩ ⟨by unfold rCost; rw [if_neg (by omega), show lo 0 = 1 by decide, show ro 0 = 1 by decide, if_neg (by omega)], mAg_rfl I F⟩
            · refine lv_iconst (v := iI 1) hx hb dX3_cost_76 rfl ?_
              refine lv_goto (tgt := 81) hx hb dX3_cost_77 (by decide) ?_
              refine lv_istore (lv' := [(4, .int (iI 1)), (0, .ref o), (1, .int (iI 0)), (2, .int (iI a)), (3, .int (iI b))]) hx hb dX3_cost_81 hl (by decide) rfl (fun ls hl => ?_)
              refine lv_iload hx hb dX3_cost_83 (lv_at hl 0 rfl) ?_
              refine x_if_eq (tgt := 98) hx hb dX3_cost_85 (by decide) ⟨by decide, by decide⟩ (fun c34 => by exfalso; omega) (fun c34 => ?_)
              obtain ⟨ka, rfl⟩ : ∃ ka : Nat, a = (ka : Int) := ⟨a.toNat, by omega⟩
              obtain ⟨kb, rfl⟩ : ∃ kb : Nat, b = (kb : Int) := ⟨b.toNat, by omega⟩
              refine lv_aload_n hx hb dX3_cost_88 rfl (lv_at hl 1 rfl) ?_
              refine lv_iload_n hx hb dX3_cost_89 rfl (lv_at hl 2 rfl) ?_
              refine lv_iload_n hx hb dX3_cost_90 rfl (lv_at hl 3 rfl) ?_
              refine lv_iload_n hx hb dX3_cost_91 rfl (lv_at hl 4 rfl) ?_
              refine m_calli (n := 3) C hB (As := [.int (iI 0), .int (iI ((ka : Int))), .int (iI ((kb : Int)))]) (kX3_costOf l E o Ad I F 0 ka kb (by omega) (fun _ => by unfold lo; (repeat' split) <;> omega) (fun _ => by unfold ro; (repeat' split) <;> omega) hOK0) (lw_V q1563 q1565 qs52 q77 q1566) (by decide +kernel) ⟨Nat.le_of_ble_eq_true rfl, Nat.le_of_ble_eq_true rfl⟩ rfl hl.1 rfl (Nat.le_of_ble_eq_true rfl) dX3_cost_92 ⟨Nat.zero_le _, Nat.zero_le _⟩ (fun z35 I36 F37 H locs hz38 hp39 hB => ?_)
              obtain ⟨hz38a, hz38b⟩ := hz38
              obtain ⟨rfl, rfl, hcz⟩ := hp39
              refine lv_goto (tgt := 99) hx hb dX3_cost_95 (by decide) ?_
              exact m_iret C hB hr hlocks rfl dX3_cost_99 ⟨by omega, by omega⟩ ⟨by unfold rCost; rw [if_neg (by omega), show lo 0 = 1 by decide, show ro 0 = 1 by decide, if_pos (by omega)]; exact hcz, mAg_rfl I F⟩
          · refine x_if_eq (tgt := 80) hx hb dX3_cost_60 (by decide) ⟨by decide, by decide⟩ (fun c40 => ?_) (fun c40 => by exfalso; omega)
            refine lv_iconst (v := iI 0) hx hb dX3_cost_80 rfl ?_
            refine lv_istore (lv' := [(4, .int (iI 0)), (0, .ref o), (1, .int (iI 0)), (2, .int (iI a)), (3, .int (iI b))]) hx hb dX3_cost_81 hl (by decide) rfl (fun ls hl => ?_)
            refine lv_iload hx hb dX3_cost_83 (lv_at hl 0 rfl) ?_
            refine x_if_eq (tgt := 98) hx hb dX3_cost_85 (by decide) ⟨by decide, by decide⟩ (fun c41 => ?_) (fun c41 => by exfalso; omega)
            refine lv_iconst (v := iI (-1)) hx hb dX3_cost_98 rfl ?_
            exact m_iret C hB hr hlocks rfl dX3_cost_99 ⟨by decide, by decide⟩ ⟨by unfold rCost; rw [if_neg (by omega), show lo 0 = 1 by decide, show ro 0 = 1 by decide, if_neg (by omega)], mAg_rfl I F⟩
      · refine x_if_eq (tgt := 42) hx hb dX3_cost_22 (by decide) ⟨by decide, by decide⟩ (fun c42 => ?_) (fun c42 => by exfalso; omega)
        refine lv_iconst (v := iI 0) hx hb dX3_cost_42 rfl ?_
        refine lv_istore (lv' := [(4, .int (iI 0)), (0, .ref o), (1, .int (iI 0)), (2, .int (iI a)), (3, .int (iI b))]) hx hb dX3_cost_43 hl (by decide) rfl (fun ls hl => ?_)
        refine lv_iload hx hb dX3_cost_45 (lv_at hl 0 rfl) ?_
        refine x_if_eq (tgt := 80) hx hb dX3_cost_47 (by decide) ⟨by decide, by decide⟩ (fun c43 => ?_) (fun c43 => by exfalso; omega)
        refine lv_iconst (v := iI 0) hx hb dX3_cost_80 rfl ?_
        refine lv_istore (lv' := [(4, .int (iI 0)), (0, .ref o), (1, .int (iI 0)), (2, .int (iI a)), (3, .int (iI b))]) hx hb dX3_cost_81 hl (by decide) rfl (fun ls hl => ?_)
        refine lv_iload hx hb dX3_cost_83 (lv_at hl 0 rfl) ?_
        refine x_if_eq (tgt := 98) hx hb dX3_cost_85 (by decide) ⟨by decide, by decide⟩ (fun c44 => ?_) (fun c44 => by exfalso; omega)
        refine lv_iconst (v := iI (-1)) hx hb dX3_cost_98 rfl ?_
        exact m_iret C hB hr hlocks rfl dX3_cost_99 ⟨by decide, by decide⟩ ⟨by unfold rCost; rw [if_neg (by omega), show lo 0 = 1 by decide, show ro 0 = 1 by decide, if_neg (by omega)], mAg_rfl I F⟩
    · refine lv_iload_n hx hb dX3_cost_12 rfl (lv_at hl 1 rfl) ?_
      refine lv_iconst (v := iI 2) hx hb dX3_cost_13 rfl ?_
      refine x_icmp_eq (tgt := 38) hx hb dX3_cost_14 (by decide) ⟨by decide, by decide⟩ ⟨by decide, by decide⟩ (fun c45 => by exfalso; omega) (fun c45 => ?_)
      refine lv_aload_n hx hb dX3_cost_17 rfl (lv_at hl 0 rfl) ?_
      refine lv_iload_n hx hb dX3_cost_18 rfl (lv_at hl 2 rfl) ?_
      refine m_calli (n := 1) C hB (As := [.int (iI a)]) (kX3_isLeft l E o Ad I F a ⟨by omega, by omega⟩ ⟨by omega, by omega⟩) (lw_V q1532 q1534 qs46 q77 q1535) (by decide +kernel) ⟨Nat.le_of_ble_eq_true rfl, Nat.le_of_ble_eq_true rfl⟩ rfl hl.1 rfl (Nat.le_of_ble_eq_true rfl) dX3_cost_19 ⟨Nat.zero_le _, Nat.zero_le _⟩ (fun z46 I47 F48 H locs hz49 hp50 hB => ?_)
      obtain ⟨hz49a, hz49b⟩ := hz49
      obtain ⟨rfl, rfl, ⟨rfl, h51⟩ | ⟨rfl, h51⟩⟩ := hp50
      · refine x_if_eq (tgt := 42) hx hb dX3_cost_22 (by decide) ⟨by decide, by decide⟩ (fun c52 => by exfalso; omega) (fun c52 => ?_)
        refine lv_iload_n hx hb dX3_cost_25 rfl (lv_at hl 2 rfl) ?_
        refine lv_iload_n hx hb dX3_cost_26 rfl (lv_at hl 1 rfl) ?_
        obtain ⟨wq, hMq, hB⟩ := hB
        refine s_calli (n := 1) C hB (As := [.int (iI 1)]) (kX3_leftsOf l E 1 ⟨by omega, by omega⟩) (lw_S q1557 q1558 q77 q1559) (by decide +kernel) ⟨Nat.le_of_ble_eq_true rfl, Nat.le_of_ble_eq_true rfl⟩ rfl hl.1 rfl (Nat.le_of_ble_eq_true rfl) dX3_cost_27 ⟨Nat.zero_le _, Nat.zero_le _⟩ (fun z53 H locs hz54 hp55 hB => ?_)
        replace hB : mB E _ s o Ad I F H locs := ⟨wq, hMq, hB⟩
        obtain ⟨hz54a, hz54b⟩ := hz54
        obtain rfl : z53 = 1 := by omega
        refine x_iadd (z := a + 1) hx hb dX3_cost_30 (by omega) ?_
        refine lv_aload_n hx hb dX3_cost_31 rfl (lv_at hl 0 rfl) ?_
        refine m_get C hB 5 (by decide) q1399 (v := .int (iI (I 5))) rfl rfl dX3_cost_32 ?_
        refine x_icmp_gt (tgt := 42) hx hb dX3_cost_35 (by decide) ⟨by omega, by omega⟩ ⟨by omega, by omega⟩ (fun c56 => ?_) (fun c56 => ?_)
        · refine lv_iconst (v := iI 0) hx hb dX3_cost_42 rfl ?_
          refine lv_istore (lv' := [(4, .int (iI 0)), (0, .ref o), (1, .int (iI 1)), (2, .int (iI a)), (3, .int (iI b))]) hx hb dX3_cost_43 hl (by decide) rfl (fun ls hl => ?_)
          refine lv_iload hx hb dX3_cost_45 (lv_at hl 0 rfl) ?_
          refine x_if_eq (tgt := 80) hx hb dX3_cost_47 (by decide) ⟨by decide, by decide⟩ (fun c57 => ?_) (fun c57 => by exfalso; omega)
          refine lv_iconst (v := iI 0) hx hb dX3_cost_80 rfl ?_
          refine lv_istore (lv' := [(4, .int (iI 0)), (0, .ref o), (1, .int (iI 1)), (2, .int (iI a)), (3, .int (iI b))]) hx hb dX3_cost_81 hl (by decide) rfl (fun ls hl => ?_)
          refine lv_iload hx hb dX3_cost_83 (lv_at hl 0 rfl) ?_
          refine x_if_eq (tgt := 98) hx hb dX3_cost_85 (by decide) ⟨by decide, by decide⟩ (fun c58 => ?_) (fun c58 => by exfalso; omega)
          refine lv_iconst (v := iI (-1)) hx hb dX3_cost_98 rfl ?_
          exact m_iret C hB hr hlocks rfl dX3_cost_99 ⟨by decide, by decide⟩ ⟨by unfold rCost; rw [if_neg (by omega), show lo 1 = 1 by decide, show ro 1 = 0 by decide, if_neg (by omega)], mAg_rfl I F⟩
        · refine lv_iconst (v := iI 1) hx hb dX3_cost_38 rfl ?_
          refine lv_goto (tgt := 43) hx hb dX3_cost_39 (by decide) ?_
          refine lv_istore (lv' := [(4, .int (iI 1)), (0, .ref o), (1, .int (iI 1)), (2, .int (iI a)), (3, .int (iI b))]) hx hb dX3_cost_43 hl (by decide) rfl (fun ls hl => ?_)
          refine lv_iload hx hb dX3_cost_45 (lv_at hl 0 rfl) ?_
          refine x_if_eq (tgt := 80) hx hb dX3_cost_47 (by decide) ⟨by decide, by decide⟩ (fun c59 => by exfalso; omega) (fun c59 => ?_)
          refine lv_iload_n hx hb dX3_cost_50 rfl (lv_at hl 2 rfl) ?_
          refine lv_iconst (v := iI 1) hx hb dX3_cost_51 rfl ?_
          refine x_icmp_eq (tgt := 76) hx hb dX3_cost_52 (by decide) ⟨by decide, by decide⟩ ⟨by decide, by decide⟩ (fun c60 => ?_) (fun c60 => by exfalso; omega)
          refine lv_iconst (v := iI 1) hx hb dX3_cost_76 rfl ?_
          refine lv_goto (tgt := 81) hx hb dX3_cost_77 (by decide) ?_
          refine lv_istore (lv' := [(4, .int (iI 1)), (0, .ref o), (1, .int (iI 1)), (2, .int (iI a)), (3, .int (iI b))]) hx hb dX3_cost_81 hl (by decide) rfl (fun ls hl => ?_)
          refine lv_iload hx hb dX3_cost_83 (lv_at hl 0 rfl) ?_
          refine x_if_eq (tgt := 98) hx hb dX3_cost_85 (by decide) ⟨by decide, by decide⟩ (fun c61 => by exfalso; omega) (fun c61 => ?_)
          obtain ⟨ka, rfl⟩ : ∃ ka : Nat, a = (ka : Int) := ⟨a.toNat, by omega⟩
          refine lv_aload_n hx hb dX3_cost_88 rfl (lv_at hl 1 rfl) ?_
          refine lv_iload_n hx hb dX3_cost_89 rfl (lv_at hl 2 rfl) ?_
          refine lv_iload_n hx hb dX3_cost_90 rfl (lv_at hl 3 rfl) ?_
          refine lv_iload_n hx hb dX3_cost_91 rfl (lv_at hl 4 rfl) ?_
          refine m_calli (n := 3) C hB (As := [.int (iI 1), .int (iI ((ka : Int))), .int (iI b)]) (kX3_costOf1 l E o Ad I F ka b (by omega) hOK0) (lw_V q1563 q1565 qs52 q77 q1566) (by decide +kernel) ⟨Nat.le_of_ble_eq_true rfl, Nat.le_of_ble_eq_true rfl⟩ rfl hl.1 rfl (Nat.le_of_ble_eq_true rfl) dX3_cost_92 ⟨Nat.zero_le _, Nat.zero_le _⟩ (fun z62 I63 F64 H locs hz65 hp66 hB => ?_)
          obtain ⟨hz65a, hz65b⟩ := hz65
          obtain ⟨rfl, rfl, hcz⟩ := hp66
          refine lv_goto (tgt := 99) hx hb dX3_cost_95 (by decide) ?_
          exact m_iret C hB hr hlocks rfl dX3_cost_99 ⟨by omega, by omega⟩ ⟨by unfold rCost; rw [if_neg (by omega), show lo 1 = 1 by decide, show ro 1 = 0 by decide, if_pos (by omega)]; rw [cst_1]; exact hcz, mAg_rfl I F⟩
      · refine x_if_eq (tgt := 42) hx hb dX3_cost_22 (by decide) ⟨by decide, by decide⟩ (fun c67 => ?_) (fun c67 => by exfalso; omega)
        refine lv_iconst (v := iI 0) hx hb dX3_cost_42 rfl ?_
        refine lv_istore (lv' := [(4, .int (iI 0)), (0, .ref o), (1, .int (iI 1)), (2, .int (iI a)), (3, .int (iI b))]) hx hb dX3_cost_43 hl (by decide) rfl (fun ls hl => ?_)
        refine lv_iload hx hb dX3_cost_45 (lv_at hl 0 rfl) ?_
        refine x_if_eq (tgt := 80) hx hb dX3_cost_47 (by decide) ⟨by decide, by decide⟩ (fun c68 => ?_) (fun c68 => by exfalso; omega)
        refine lv_iconst (v := iI 0) hx hb dX3_cost_80 rfl ?_
        refine lv_istore (lv' := [(4, .int (iI 0)), (0, .ref o), (1, .int (iI 1)), (2, .int (iI a)), (3, .int (iI b))]) hx hb dX3_cost_81 hl (by decide) rfl (fun ls hl => ?_)
        refine lv_iload hx hb dX3_cost_83 (lv_at hl 0 rfl) ?_
        refine x_if_eq (tgt := 98) hx hb dX3_cost_85 (by decide) ⟨by decide, by decide⟩ (fun c69 => ?_) (fun c69 => by exfalso; omega)
        refine lv_iconst (v := iI (-1)) hx hb dX3_cost_98 rfl ?_
        exact m_iret C hB hr hlocks rfl dX3_cost_99 ⟨by decide, by decide⟩ ⟨by unfold rCost; rw [if_neg (by omega), show lo 1 = 1 by decide, show ro 1 = 0 by decide, if_neg (by omega)], mAg_rfl I F⟩
    · refine lv_iload_n hx hb dX3_cost_12 rfl (lv_at hl 1 rfl) ?_
      refine lv_iconst (v := iI 2) hx hb dX3_cost_13 rfl ?_
      refine x_icmp_eq (tgt := 38) hx hb dX3_cost_14 (by decide) ⟨by decide, by decide⟩ ⟨by decide, by decide⟩ (fun c70 => ?_) (fun c70 => by exfalso; omega)
      refine lv_iconst (v := iI 1) hx hb dX3_cost_38 rfl ?_
      refine lv_goto (tgt := 43) hx hb dX3_cost_39 (by decide) ?_
      refine lv_istore (lv' := [(4, .int (iI 1)), (0, .ref o), (1, .int (iI 2)), (2, .int (iI a)), (3, .int (iI b))]) hx hb dX3_cost_43 hl (by decide) rfl (fun ls hl => ?_)
      refine lv_iload hx hb dX3_cost_45 (lv_at hl 0 rfl) ?_
      refine x_if_eq (tgt := 80) hx hb dX3_cost_47 (by decide) ⟨by decide, by decide⟩ (fun c71 => by exfalso; omega) (fun c71 => ?_)
      refine lv_iload_n hx hb dX3_cost_50 rfl (lv_at hl 2 rfl) ?_
      refine lv_iconst (v := iI 1) hx hb dX3_cost_51 rfl ?_
      refine x_icmp_eq (tgt := 76) hx hb dX3_cost_52 (by decide) ⟨by decide, by decide⟩ ⟨by decide, by decide⟩ (fun c72 => by exfalso; omega) (fun c72 => ?_)
      refine lv_aload_n hx hb dX3_cost_55 rfl (lv_at hl 1 rfl) ?_
      refine lv_iload_n hx hb dX3_cost_56 rfl (lv_at hl 4 rfl) ?_
      refine m_calli (n := 1) C hB (As := [.int (iI b)]) (kX3_isRight l E o Ad I F b ⟨by omega, by omega⟩ ⟨by omega, by omega⟩) (lw_V q1586 q1588 qs56 q77 q1589) (by decide +kernel) ⟨Nat.le_of_ble_eq_true rfl, Nat.le_of_ble_eq_true rfl⟩ rfl hl.1 rfl (Nat.le_of_ble_eq_true rfl) dX3_cost_57 ⟨Nat.zero_le _, Nat.zero_le _⟩ (fun z73 I74 F75 H locs hz76 hp77 hB => ?_)
      obtain ⟨hz76a, hz76b⟩ := hz76
      obtain ⟨rfl, rfl, ⟨rfl, h78⟩ | ⟨rfl, h78⟩⟩ := hp77
      · refine x_if_eq (tgt := 80) hx hb dX3_cost_60 (by decide) ⟨by decide, by decide⟩ (fun c79 => by exfalso; omega) (fun c79 => ?_)
        refine lv_iload_n hx hb dX3_cost_63 rfl (lv_at hl 4 rfl) ?_
        refine lv_iload_n hx hb dX3_cost_64 rfl (lv_at hl 2 rfl) ?_
        obtain ⟨wq, hMq, hB⟩ := hB
        refine s_calli (n := 1) C hB (As := [.int (iI 2)]) (kX3_rightsOf l E 2 ⟨by omega, by omega⟩) (lw_S q1560 q1561 q77 q1562) (by decide +kernel) ⟨Nat.le_of_ble_eq_true rfl, Nat.le_of_ble_eq_true rfl⟩ rfl hl.1 rfl (Nat.le_of_ble_eq_true rfl) dX3_cost_65 ⟨Nat.zero_le _, Nat.zero_le _⟩ (fun z80 H locs hz81 hp82 hB => ?_)
        replace hB : mB E _ s o Ad I F H locs := ⟨wq, hMq, hB⟩
        obtain ⟨hz81a, hz81b⟩ := hz81
        obtain rfl : z80 = 1 := by omega
        refine x_iadd (z := b + 1) hx hb dX3_cost_68 (by omega) ?_
        refine lv_aload_n hx hb dX3_cost_69 rfl (lv_at hl 1 rfl) ?_
        refine m_get C hB 6 (by decide) q1400 (v := .int (iI (I 6))) rfl rfl dX3_cost_70 ?_
        refine x_icmp_gt (tgt := 80) hx hb dX3_cost_73 (by decide) ⟨by omega, by omega⟩ ⟨by omega, by omega⟩ (fun c83 => ?_) (fun c83 => ?_)
        · refine lv_iconst (v := iI 0) hx hb dX3_cost_80 rfl ?_
          refine lv_istore (lv' := [(4, .int (iI 0)), (0, .ref o), (1, .int (iI 2)), (2, .int (iI a)), (3, .int (iI b))]) hx hb dX3_cost_81 hl (by decide) rfl (fun ls hl => ?_)
          refine lv_iload hx hb dX3_cost_83 (lv_at hl 0 rfl) ?_
          refine x_if_eq (tgt := 98) hx hb dX3_cost_85 (by decide) ⟨by decide, by decide⟩ (fun c84 => ?_) (fun c84 => by exfalso; omega)
          refine lv_iconst (v := iI (-1)) hx hb dX3_cost_98 rfl ?_
          exact m_iret C hB hr hlocks rfl dX3_cost_99 ⟨by decide, by decide⟩ ⟨by unfold rCost; rw [if_neg (by omega), show lo 2 = 0 by decide, show ro 2 = 1 by decide, if_neg (by omega)], mAg_rfl I F⟩
        · refine lv_iconst (v := iI 1) hx hb dX3_cost_76 rfl ?_
          refine lv_goto (tgt := 81) hx hb dX3_cost_77 (by decide) ?_
          refine lv_istore (lv' := [(4, .int (iI 1)), (0, .ref o), (1, .int (iI 2)), (2, .int (iI a)), (3, .int (iI b))]) hx hb dX3_cost_81 hl (by decide) rfl (fun ls hl => ?_)
          refine lv_iload hx hb dX3_cost_83 (lv_at hl 0 rfl) ?_
          refine x_if_eq (tgt := 98) hx hb dX3_cost_85 (by decide) ⟨by decide, by decide⟩ (fun c85 => by exfalso; omega) (fun c85 => ?_)
          obtain ⟨kb, rfl⟩ : ∃ kb : Nat, b = (kb : Int) := ⟨b.toNat, by omega⟩
          refine lv_aload_n hx hb dX3_cost_88 rfl (lv_at hl 1 rfl) ?_
          refine lv_iload_n hx hb dX3_cost_89 rfl (lv_at hl 2 rfl) ?_
          refine lv_iload_n hx hb dX3_cost_90 rfl (lv_at hl 3 rfl) ?_
          refine lv_iload_n hx hb dX3_cost_91 rfl (lv_at hl 4 rfl) ?_
          refine m_calli (n := 3) C hB (As := [.int (iI 2), .int (iI a), .int (iI ((kb : Int)))]) (kX3_costOf2 l E o Ad I F a kb (by omega) hOK0) (lw_V q1563 q1565 qs52 q77 q1566) (by decide +kernel) ⟨Nat.le_of_ble_eq_true rfl, Nat.le_of_ble_eq_true rfl⟩ rfl hl.1 rfl (Nat.le_of_ble_eq_true rfl) dX3_cost_92 ⟨Nat.zero_le _, Nat.zero_le _⟩ (fun z86 I87 F88 H locs hz89 hp90 hB => ?_)
          obtain ⟨hz89a, hz89b⟩ := hz89
          obtain ⟨rfl, rfl, hcz⟩ := hp90
          refine lv_goto (tgt := 99) hx hb dX3_cost_95 (by decide) ?_
          exact m_iret C hB hr hlocks rfl dX3_cost_99 ⟨by omega, by omega⟩ ⟨by unfold rCost; rw [if_neg (by omega), show lo 2 = 0 by decide, show ro 2 = 1 by decide, if_pos (by omega)]; rw [cst_2]; exact hcz, mAg_rfl I F⟩
      · refine x_if_eq (tgt := 80) hx hb dX3_cost_60 (by decide) ⟨by decide, by decide⟩ (fun c91 => ?_) (fun c91 => by exfalso; omega)
        refine lv_iconst (v := iI 0) hx hb dX3_cost_80 rfl ?_
        refine lv_istore (lv' := [(4, .int (iI 0)), (0, .ref o), (1, .int (iI 2)), (2, .int (iI a)), (3, .int (iI b))]) hx hb dX3_cost_81 hl (by decide) rfl (fun ls hl => ?_)
        refine lv_iload hx hb dX3_cost_83 (lv_at hl 0 rfl) ?_
        refine x_if_eq (tgt := 98) hx hb dX3_cost_85 (by decide) ⟨by decide, by decide⟩ (fun c92 => ?_) (fun c92 => by exfalso; omega)
        refine lv_iconst (v := iI (-1)) hx hb dX3_cost_98 rfl ?_
        exact m_iret C hB hr hlocks rfl dX3_cost_99 ⟨by decide, by decide⟩ ⟨by unfold rCost; rw [if_neg (by omega), show lo 2 = 0 by decide, show ro 2 = 1 by decide, if_neg (by omega)], mAg_rfl I F⟩
    · refine lv_iload_n hx hb dX3_cost_12 rfl (lv_at hl 1 rfl) ?_
      refine lv_iconst (v := iI 2) hx hb dX3_cost_13 rfl ?_
      refine x_icmp_eq (tgt := 38) hx hb dX3_cost_14 (by decide) ⟨by decide, by decide⟩ ⟨by decide, by decide⟩ (fun c93 => by exfalso; omega) (fun c93 => ?_)
      refine lv_aload_n hx hb dX3_cost_17 rfl (lv_at hl 0 rfl) ?_
      refine lv_iload_n hx hb dX3_cost_18 rfl (lv_at hl 2 rfl) ?_
      refine m_calli (n := 1) C hB (As := [.int (iI a)]) (kX3_isLeft l E o Ad I F a ⟨by omega, by omega⟩ ⟨by omega, by omega⟩) (lw_V q1532 q1534 qs46 q77 q1535) (by decide +kernel) ⟨Nat.le_of_ble_eq_true rfl, Nat.le_of_ble_eq_true rfl⟩ rfl hl.1 rfl (Nat.le_of_ble_eq_true rfl) dX3_cost_19 ⟨Nat.zero_le _, Nat.zero_le _⟩ (fun z94 I95 F96 H locs hz97 hp98 hB => ?_)
      obtain ⟨hz97a, hz97b⟩ := hz97
      obtain ⟨rfl, rfl, ⟨rfl, h99⟩ | ⟨rfl, h99⟩⟩ := hp98
      · refine x_if_eq (tgt := 42) hx hb dX3_cost_22 (by decide) ⟨by decide, by decide⟩ (fun c100 => by exfalso; omega) (fun c100 => ?_)
        refine lv_iload_n hx hb dX3_cost_25 rfl (lv_at hl 2 rfl) ?_
        refine lv_iload_n hx hb dX3_cost_26 rfl (lv_at hl 1 rfl) ?_
        obtain ⟨wq, hMq, hB⟩ := hB
        refine s_calli (n := 1) C hB (As := [.int (iI 3)]) (kX3_leftsOf l E 3 ⟨by omega, by omega⟩) (lw_S q1557 q1558 q77 q1559) (by decide +kernel) ⟨Nat.le_of_ble_eq_true rfl, Nat.le_of_ble_eq_true rfl⟩ rfl hl.1 rfl (Nat.le_of_ble_eq_true rfl) dX3_cost_27 ⟨Nat.zero_le _, Nat.zero_le _⟩ (fun z101 H locs hz102 hp103 hB => ?_)
        replace hB : mB E _ s o Ad I F H locs := ⟨wq, hMq, hB⟩
        obtain ⟨hz102a, hz102b⟩ := hz102
        obtain rfl : z101 = 2 := by omega
        refine x_iadd (z := a + 2) hx hb dX3_cost_30 (by omega) ?_
        refine lv_aload_n hx hb dX3_cost_31 rfl (lv_at hl 0 rfl) ?_
        refine m_get C hB 5 (by decide) q1399 (v := .int (iI (I 5))) rfl rfl dX3_cost_32 ?_
        refine x_icmp_gt (tgt := 42) hx hb dX3_cost_35 (by decide) ⟨by omega, by omega⟩ ⟨by omega, by omega⟩ (fun c104 => ?_) (fun c104 => ?_)
        · refine lv_iconst (v := iI 0) hx hb dX3_cost_42 rfl ?_
          refine lv_istore (lv' := [(4, .int (iI 0)), (0, .ref o), (1, .int (iI 3)), (2, .int (iI a)), (3, .int (iI b))]) hx hb dX3_cost_43 hl (by decide) rfl (fun ls hl => ?_)
          refine lv_iload hx hb dX3_cost_45 (lv_at hl 0 rfl) ?_
          refine x_if_eq (tgt := 80) hx hb dX3_cost_47 (by decide) ⟨by decide, by decide⟩ (fun c105 => ?_) (fun c105 => by exfalso; omega)
          refine lv_iconst (v := iI 0) hx hb dX3_cost_80 rfl ?_
          refine lv_istore (lv' := [(4, .int (iI 0)), (0, .ref o), (1, .int (iI 3)), (2, .int (iI a)), (3, .int (iI b))]) hx hb dX3_cost_81 hl (by decide) rfl (fun ls hl => ?_)
          refine lv_iload hx hb dX3_cost_83 (lv_at hl 0 rfl) ?_
          refine x_if_eq (tgt := 98) hx hb dX3_cost_85 (by decide) ⟨by decide, by decide⟩ (fun c106 => ?_) (fun c106 => by exfalso; omega)
          refine lv_iconst (v := iI (-1)) hx hb dX3_cost_98 rfl ?_
          exact m_iret C hB hr hlocks rfl dX3_cost_99 ⟨by decide, by decide⟩ ⟨by unfold rCost; rw [if_neg (by omega), show lo 3 = 2 by decide, show ro 3 = 1 by decide, if_neg (by omega)], mAg_rfl I F⟩
        · refine lv_iconst (v := iI 1) hx hb dX3_cost_38 rfl ?_
          refine lv_goto (tgt := 43) hx hb dX3_cost_39 (by decide) ?_
          refine lv_istore (lv' := [(4, .int (iI 1)), (0, .ref o), (1, .int (iI 3)), (2, .int (iI a)), (3, .int (iI b))]) hx hb dX3_cost_43 hl (by decide) rfl (fun ls hl => ?_)
          refine lv_iload hx hb dX3_cost_45 (lv_at hl 0 rfl) ?_
          refine x_if_eq (tgt := 80) hx hb dX3_cost_47 (by decide) ⟨by decide, by decide⟩ (fun c107 => by exfalso; omega) (fun c107 => ?_)
          refine lv_iload_n hx hb dX3_cost_50 rfl (lv_at hl 2 rfl) ?_
          refine lv_iconst (v := iI 1) hx hb dX3_cost_51 rfl ?_
          refine x_icmp_eq (tgt := 76) hx hb dX3_cost_52 (by decide) ⟨by decide, by decide⟩ ⟨by decide, by decide⟩ (fun c108 => by exfalso; omega) (fun c108 => ?_)
          refine lv_aload_n hx hb dX3_cost_55 rfl (lv_at hl 1 rfl) ?_
          refine lv_iload_n hx hb dX3_cost_56 rfl (lv_at hl 4 rfl) ?_
          refine m_calli (n := 1) C hB (As := [.int (iI b)]) (kX3_isRight l E o Ad I F b ⟨by omega, by omega⟩ ⟨by omega, by omega⟩) (lw_V q1586 q1588 qs56 q77 q1589) (by decide +kernel) ⟨Nat.le_of_ble_eq_true rfl, Nat.le_of_ble_eq_true rfl⟩ rfl hl.1 rfl (Nat.le_of_ble_eq_true rfl) dX3_cost_57 ⟨Nat.zero_le _, Nat.zero_le _⟩ (fun z109 I110 F111 H locs hz112 hp113 hB => ?_)
          obtain ⟨hz112a, hz112b⟩ := hz112
          obtain ⟨rfl, rfl, ⟨rfl, h114⟩ | ⟨rfl, h114⟩⟩ := hp113
          · refine x_if_eq (tgt := 80) hx hb dX3_cost_60 (by decide) ⟨by decide, by decide⟩ (fun c115 => by exfalso; omega) (fun c115 => ?_)
            refine lv_iload_n hx hb dX3_cost_63 rfl (lv_at hl 4 rfl) ?_
            refine lv_iload_n hx hb dX3_cost_64 rfl (lv_at hl 2 rfl) ?_
            obtain ⟨wq, hMq, hB⟩ := hB
            refine s_calli (n := 1) C hB (As := [.int (iI 3)]) (kX3_rightsOf l E 3 ⟨by omega, by omega⟩) (lw_S q1560 q1561 q77 q1562) (by decide +kernel) ⟨Nat.le_of_ble_eq_true rfl, Nat.le_of_ble_eq_true rfl⟩ rfl hl.1 rfl (Nat.le_of_ble_eq_true rfl) dX3_cost_65 ⟨Nat.zero_le _, Nat.zero_le _⟩ (fun z116 H locs hz117 hp118 hB => ?_)
            replace hB : mB E _ s o Ad I F H locs := ⟨wq, hMq, hB⟩
            obtain ⟨hz117a, hz117b⟩ := hz117
            obtain rfl : z116 = 1 := by omega
            refine x_iadd (z := b + 1) hx hb dX3_cost_68 (by omega) ?_
            refine lv_aload_n hx hb dX3_cost_69 rfl (lv_at hl 1 rfl) ?_
            refine m_get C hB 6 (by decide) q1400 (v := .int (iI (I 6))) rfl rfl dX3_cost_70 ?_
            refine x_icmp_gt (tgt := 80) hx hb dX3_cost_73 (by decide) ⟨by omega, by omega⟩ ⟨by omega, by omega⟩ (fun c119 => ?_) (fun c119 => ?_)
            · refine lv_iconst (v := iI 0) hx hb dX3_cost_80 rfl ?_
              refine lv_istore (lv' := [(4, .int (iI 0)), (0, .ref o), (1, .int (iI 3)), (2, .int (iI a)), (3, .int (iI b))]) hx hb dX3_cost_81 hl (by decide) rfl (fun ls hl => ?_)
              refine lv_iload hx hb dX3_cost_83 (lv_at hl 0 rfl) ?_
              refine x_if_eq (tgt := 98) hx hb dX3_cost_85 (by decide) ⟨by decide, by decide⟩ (fun c120 => ?_) (fun c120 => by exfalso; omega)
              refine lv_iconst (v := iI (-1)) hx hb dX3_cost_98 rfl ?_
              exact m_iret C hB hr hlocks rfl dX3_cost_99 ⟨by decide, by decide⟩ ⟨by unfold rCost; rw [if_neg (by omega), show lo 3 = 2 by decide, show ro 3 = 1 by decide, if_neg (by omega)], mAg_rfl I F⟩
            · refine lv_iconst (v := iI 1) hx hb dX3_cost_76 rfl ?_
              refine lv_goto (tgt := 81) hx hb dX3_cost_77 (by decide) ?_
              refine lv_istore (lv' := [(4, .int (iI 1)), (0, .ref o), (1, .int (iI 3)), (2, .int (iI a)), (3, .int (iI b))]) hx hb dX3_cost_81 hl (by decide) rfl (fun ls hl => ?_)
              refine lv_iload hx hb dX3_cost_83 (lv_at hl 0 rfl) ?_
              refine x_if_eq (tgt := 98) hx hb dX3_cost_85 (by decide) ⟨by decide, by decide⟩ (fun c121 => by exfalso; omega) (fun c121 => ?_)
              obtain ⟨ka, rfl⟩ : ∃ ka : Nat, a = (ka : Int) := ⟨a.toNat, by omega⟩
              obtain ⟨kb, rfl⟩ : ∃ kb : Nat, b = (kb : Int) := ⟨b.toNat, by omega⟩
              refine lv_aload_n hx hb dX3_cost_88 rfl (lv_at hl 1 rfl) ?_
              refine lv_iload_n hx hb dX3_cost_89 rfl (lv_at hl 2 rfl) ?_
              refine lv_iload_n hx hb dX3_cost_90 rfl (lv_at hl 3 rfl) ?_
              refine lv_iload_n hx hb dX3_cost_91 rfl (lv_at hl 4 rfl) ?_
              refine m_calli (n := 3) C hB (As := [.int (iI 3), .int (iI ((ka : Int))), .int (iI ((kb : Int)))]) (kX3_costOf l E o Ad I F 3 ka kb (by omega) (fun _ => by unfold lo; (repeat' split) <;> omega) (fun _ => by unfold ro; (repeat' split) <;> omega) hOK0) (lw_V q1563 q1565 qs52 q77 q1566) (by decide +kernel) ⟨Nat.le_of_ble_eq_true rfl, Nat.le_of_ble_eq_true rfl⟩ rfl hl.1 rfl (Nat.le_of_ble_eq_true rfl) dX3_cost_92 ⟨Nat.zero_le _, Nat.zero_le _⟩ (fun z122 I123 F124 H locs hz125 hp126 hB => ?_)
              obtain ⟨hz125a, hz125b⟩ := hz125
              obtain ⟨rfl, rfl, hcz⟩ := hp126
              refine lv_goto (tgt := 99) hx hb dX3_cost_95 (by decide) ?_
              exact m_iret C hB hr hlocks rfl dX3_cost_99 ⟨by omega, by omega⟩ ⟨by unfold rCost; rw [if_neg (by omega), show lo 3 = 2 by decide, show ro 3 = 1 by decide, if_pos (by omega)]; exact hcz, mAg_rfl I F⟩
          · refine x_if_eq (tgt := 80) hx hb dX3_cost_60 (by decide) ⟨by decide, by decide⟩ (fun c127 => ?_) (fun c127 => by exfalso; omega)
            refine lv_iconst (v := iI 0) hx hb dX3_cost_80 rfl ?_
            refine lv_istore (lv' := [(4, .int (iI 0)), (0, .ref o), (1, .int (iI 3)), (2, .int (iI a)), (3, .int (iI b))]) hx hb dX3_cost_81 hl (by decide) rfl (fun ls hl => ?_)
            refine lv_iload hx hb dX3_cost_83 (lv_at hl 0 rfl) ?_
            refine x_if_eq (tgt := 98) hx hb dX3_cost_85 (by decide) ⟨by decide, by decide⟩ (fun c128 => ?_) (fun c128 => by exfalso; omega)
            refine lv_iconst (v := iI (-1)) hx hb dX3_cost_98 rfl ?_
            exact m_iret C hB hr hlocks rfl dX3_cost_99 ⟨by decide, by decide⟩ ⟨by unfold rCost; rw [if_neg (by omega), show lo 3 = 2 by decide, show ro 3 = 1 by decide, if_neg (by omega)], mAg_rfl I F⟩
      · refine x_if_eq (tgt := 42) hx hb dX3_cost_22 (by decide) ⟨by decide, by decide⟩ (fun c129 => ?_) (fun c129 => by exfalso; omega)
        refine lv_iconst (v := iI 0) hx hb dX3_cost_42 rfl ?_
        refine lv_istore (lv' := [(4, .int (iI 0)), (0, .ref o), (1, .int (iI 3)), (2, .int (iI a)), (3, .int (iI b))]) hx hb dX3_cost_43 hl (by decide) rfl (fun ls hl => ?_)
        refine lv_iload hx hb dX3_cost_45 (lv_at hl 0 rfl) ?_
        refine x_if_eq (tgt := 80) hx hb dX3_cost_47 (by decide) ⟨by decide, by decide⟩ (fun c130 => ?_) (fun c130 => by exfalso; omega)
        refine lv_iconst (v := iI 0) hx hb dX3_cost_80 rfl ?_
        refine lv_istore (lv' := [(4, .int (iI 0)), (0, .ref o), (1, .int (iI 3)), (2, .int (iI a)), (3, .int (iI b))]) hx hb dX3_cost_81 hl (by decide) rfl (fun ls hl => ?_)
        refine lv_iload hx hb dX3_cost_83 (lv_at hl 0 rfl) ?_
        refine x_if_eq (tgt := 98) hx hb dX3_cost_85 (by decide) ⟨by decide, by decide⟩ (fun c131 => ?_) (fun c131 => by exfalso; omega)
        refine lv_iconst (v := iI (-1)) hx hb dX3_cost_98 rfl ?_
        exact m_iret C hB hr hlocks rfl dX3_cost_99 ⟨by decide, by decide⟩ ⟨by unfold rCost; rw [if_neg (by omega), show lo 3 = 2 by decide, show ro 3 = 1 by decide, if_neg (by omega)], mAg_rfl I F⟩
    · refine lv_iload_n hx hb dX3_cost_12 rfl (lv_at hl 1 rfl) ?_
      refine lv_iconst (v := iI 2) hx hb dX3_cost_13 rfl ?_
      refine x_icmp_eq (tgt := 38) hx hb dX3_cost_14 (by decide) ⟨by decide, by decide⟩ ⟨by decide, by decide⟩ (fun c132 => by exfalso; omega) (fun c132 => ?_)
      refine lv_aload_n hx hb dX3_cost_17 rfl (lv_at hl 0 rfl) ?_
      refine lv_iload_n hx hb dX3_cost_18 rfl (lv_at hl 2 rfl) ?_
      refine m_calli (n := 1) C hB (As := [.int (iI a)]) (kX3_isLeft l E o Ad I F a ⟨by omega, by omega⟩ ⟨by omega, by omega⟩) (lw_V q1532 q1534 qs46 q77 q1535) (by decide +kernel) ⟨Nat.le_of_ble_eq_true rfl, Nat.le_of_ble_eq_true rfl⟩ rfl hl.1 rfl (Nat.le_of_ble_eq_true rfl) dX3_cost_19 ⟨Nat.zero_le _, Nat.zero_le _⟩ (fun z133 I134 F135 H locs hz136 hp137 hB => ?_)
      obtain ⟨hz136a, hz136b⟩ := hz136
      obtain ⟨rfl, rfl, ⟨rfl, h138⟩ | ⟨rfl, h138⟩⟩ := hp137
      · refine x_if_eq (tgt := 42) hx hb dX3_cost_22 (by decide) ⟨by decide, by decide⟩ (fun c139 => by exfalso; omega) (fun c139 => ?_)
        refine lv_iload_n hx hb dX3_cost_25 rfl (lv_at hl 2 rfl) ?_
        refine lv_iload_n hx hb dX3_cost_26 rfl (lv_at hl 1 rfl) ?_
        obtain ⟨wq, hMq, hB⟩ := hB
        refine s_calli (n := 1) C hB (As := [.int (iI 4)]) (kX3_leftsOf l E 4 ⟨by omega, by omega⟩) (lw_S q1557 q1558 q77 q1559) (by decide +kernel) ⟨Nat.le_of_ble_eq_true rfl, Nat.le_of_ble_eq_true rfl⟩ rfl hl.1 rfl (Nat.le_of_ble_eq_true rfl) dX3_cost_27 ⟨Nat.zero_le _, Nat.zero_le _⟩ (fun z140 H locs hz141 hp142 hB => ?_)
        replace hB : mB E _ s o Ad I F H locs := ⟨wq, hMq, hB⟩
        obtain ⟨hz141a, hz141b⟩ := hz141
        obtain rfl : z140 = 1 := by omega
        refine x_iadd (z := a + 1) hx hb dX3_cost_30 (by omega) ?_
        refine lv_aload_n hx hb dX3_cost_31 rfl (lv_at hl 0 rfl) ?_
        refine m_get C hB 5 (by decide) q1399 (v := .int (iI (I 5))) rfl rfl dX3_cost_32 ?_
        refine x_icmp_gt (tgt := 42) hx hb dX3_cost_35 (by decide) ⟨by omega, by omega⟩ ⟨by omega, by omega⟩ (fun c143 => ?_) (fun c143 => ?_)
        · refine lv_iconst (v := iI 0) hx hb dX3_cost_42 rfl ?_
          refine lv_istore (lv' := [(4, .int (iI 0)), (0, .ref o), (1, .int (iI 4)), (2, .int (iI a)), (3, .int (iI b))]) hx hb dX3_cost_43 hl (by decide) rfl (fun ls hl => ?_)
          refine lv_iload hx hb dX3_cost_45 (lv_at hl 0 rfl) ?_
          refine x_if_eq (tgt := 80) hx hb dX3_cost_47 (by decide) ⟨by decide, by decide⟩ (fun c144 => ?_) (fun c144 => by exfalso; omega)
          refine lv_iconst (v := iI 0) hx hb dX3_cost_80 rfl ?_
          refine lv_istore (lv' := [(4, .int (iI 0)), (0, .ref o), (1, .int (iI 4)), (2, .int (iI a)), (3, .int (iI b))]) hx hb dX3_cost_81 hl (by decide) rfl (fun ls hl => ?_)
          refine lv_iload hx hb dX3_cost_83 (lv_at hl 0 rfl) ?_
          refine x_if_eq (tgt := 98) hx hb dX3_cost_85 (by decide) ⟨by decide, by decide⟩ (fun c145 => ?_) (fun c145 => by exfalso; omega)
          refine lv_iconst (v := iI (-1)) hx hb dX3_cost_98 rfl ?_
          exact m_iret C hB hr hlocks rfl dX3_cost_99 ⟨by decide, by decide⟩ ⟨by unfold rCost; rw [if_neg (by omega), show lo 4 = 1 by decide, show ro 4 = 2 by decide, if_neg (by omega)], mAg_rfl I F⟩
        · refine lv_iconst (v := iI 1) hx hb dX3_cost_38 rfl ?_
          refine lv_goto (tgt := 43) hx hb dX3_cost_39 (by decide) ?_
          refine lv_istore (lv' := [(4, .int (iI 1)), (0, .ref o), (1, .int (iI 4)), (2, .int (iI a)), (3, .int (iI b))]) hx hb dX3_cost_43 hl (by decide) rfl (fun ls hl => ?_)
          refine lv_iload hx hb dX3_cost_45 (lv_at hl 0 rfl) ?_
          refine x_if_eq (tgt := 80) hx hb dX3_cost_47 (by decide) ⟨by decide, by decide⟩ (fun c146 => by exfalso; omega) (fun c146 => ?_)
          refine lv_iload_n hx hb dX3_cost_50 rfl (lv_at hl 2 rfl) ?_
          refine lv_iconst (v := iI 1) hx hb dX3_cost_51 rfl ?_
          refine x_icmp_eq (tgt := 76) hx hb dX3_cost_52 (by decide) ⟨by decide, by decide⟩ ⟨by decide, by decide⟩ (fun c147 => by exfalso; omega) (fun c147 => ?_)
          refine lv_aload_n hx hb dX3_cost_55 rfl (lv_at hl 1 rfl) ?_
          refine lv_iload_n hx hb dX3_cost_56 rfl (lv_at hl 4 rfl) ?_
          refine m_calli (n := 1) C hB (As := [.int (iI b)]) (kX3_isRight l E o Ad I F b ⟨by omega, by omega⟩ ⟨by omega, by omega⟩) (lw_V q1586 q1588 qs56 q77 q1589) (by decide +kernel) ⟨Nat.le_of_ble_eq_true rfl, Nat.le_of_ble_eq_true rfl⟩ rfl hl.1 rfl (Nat.le_of_ble_eq_true rfl) dX3_cost_57 ⟨Nat.zero_le _, Nat.zero_le _⟩ (fun z148 I149 F150 H locs hz151 hp152 hB => ?_)
          obtain ⟨hz151a, hz151b⟩ := hz151
          obtain ⟨rfl, rfl, ⟨rfl, h153⟩ | ⟨rfl, h153⟩⟩ := hp152
          · refine x_if_eq (tgt := 80) hx hb dX3_cost_60 (by decide) ⟨by decide, by decide⟩ (fun c154 => by exfalso; omega) (fun c154 => ?_)
            refine lv_iload_n hx hb dX3_cost_63 rfl (lv_at hl 4 rfl) ?_
            refine lv_iload_n hx hb dX3_cost_64 rfl (lv_at hl 2 rfl) ?_
            obtain ⟨wq, hMq, hB⟩ := hB
            refine s_calli (n := 1) C hB (As := [.int (iI 4)]) (kX3_rightsOf l E 4 ⟨by omega, by omega⟩) (lw_S q1560 q1561 q77 q1562) (by decide +kernel) ⟨Nat.le_of_ble_eq_true rfl, Nat.le_of_ble_eq_true rfl⟩ rfl hl.1 rfl (Nat.le_of_ble_eq_true rfl) dX3_cost_65 ⟨Nat.zero_le _, Nat.zero_le _⟩ (fun z155 H locs hz156 hp157 hB => ?_)
            replace hB : mB E _ s o Ad I F H locs := ⟨wq, hMq, hB⟩
            obtain ⟨hz156a, hz156b⟩ := hz156
            obtain rfl : z155 = 2 := by omega
            refine x_iadd (z := b + 2) hx hb dX3_cost_68 (by omega) ?_
            refine lv_aload_n hx hb dX3_cost_69 rfl (lv_at hl 1 rfl) ?_
            refine m_get C hB 6 (by decide) q1400 (v := .int (iI (I 6))) rfl rfl dX3_cost_70 ?_
            refine x_icmp_gt (tgt := 80) hx hb dX3_cost_73 (by decide) ⟨by omega, by omega⟩ ⟨by omega, by omega⟩ (fun c158 => ?_) (fun c158 => ?_)
            · refine lv_iconst (v := iI 0) hx hb dX3_cost_80 rfl ?_
              refine lv_istore (lv' := [(4, .int (iI 0)), (0, .ref o), (1, .int (iI 4)), (2, .int (iI a)), (3, .int (iI b))]) hx hb dX3_cost_81 hl (by decide) rfl (fun ls hl => ?_)
              refine lv_iload hx hb dX3_cost_83 (lv_at hl 0 rfl) ?_
              refine x_if_eq (tgt := 98) hx hb dX3_cost_85 (by decide) ⟨by decide, by decide⟩ (fun c159 => ?_) (fun c159 => by exfalso; omega)
              refine lv_iconst (v := iI (-1)) hx hb dX3_cost_98 rfl ?_
              exact m_iret C hB hr hlocks rfl dX3_cost_99 ⟨by decide, by decide⟩ ⟨by unfold rCost; rw [if_neg (by omega), show lo 4 = 1 by decide, show ro 4 = 2 by decide, if_neg (by omega)], mAg_rfl I F⟩
            · refine lv_iconst (v := iI 1) hx hb dX3_cost_76 rfl ?_
              refine lv_goto (tgt := 81) hx hb dX3_cost_77 (by decide) ?_
              refine lv_istore (lv' := [(4, .int (iI 1)), (0, .ref o), (1, .int (iI 4)), (2, .int (iI a)), (3, .int (iI b))]) hx hb dX3_cost_81 hl (by decide) rfl (fun ls hl => ?_)
              refine lv_iload hx hb dX3_cost_83 (lv_at hl 0 rfl) ?_
              refine x_if_eq (tgt := 98) hx hb dX3_cost_85 (by decide) ⟨by decide, by decide⟩ (fun c160 => by exfalso; omega) (fun c160 => ?_)
              obtain ⟨ka, rfl⟩ : ∃ ka : Nat, a = (ka : Int) := ⟨a.toNat, by omega⟩
              obtain ⟨kb, rfl⟩ : ∃ kb : Nat, b = (kb : Int) := ⟨b.toNat, by omega⟩
              refine lv_aload_n hx hb dX3_cost_88 rfl (lv_at hl 1 rfl) ?_
              refine lv_iload_n hx hb dX3_cost_89 rfl (lv_at hl 2 rfl) ?_
              refine lv_iload_n hx hb dX3_cost_90 rfl (lv_at hl 3 rfl) ?_
              refine lv_iload_n hx hb dX3_cost_91 rfl (lv_at hl 4 rfl) ?_
              refine m_calli (n := 3) C hB (As := [.int (iI 4), .int (iI ((ka : Int))), .int (iI ((kb : Int)))]) (kX3_costOf l E o Ad I F 4 ka kb (by omega) (fun _ => by unfold lo; (repeat' split) <;> omega) (fun _ => by unfold ro; (repeat' split) <;> omega) hOK0) (lw_V q1563 q1565 qs52 q77 q1566) (by decide +kernel) ⟨Nat.le_of_ble_eq_true rfl, Nat.le_of_ble_eq_true rfl⟩ rfl hl.1 rfl (Nat.le_of_ble_eq_true rfl) dX3_cost_92 ⟨Nat.zero_le _, Nat.zero_le _⟩ (fun z161 I162 F163 H locs hz164 hp165 hB => ?_)
              obtain ⟨hz164a, hz164b⟩ := hz164
              obtain ⟨rfl, rfl, hcz⟩ := hp165
              refine lv_goto (tgt := 99) hx hb dX3_cost_95 (by decide) ?_
              exact m_iret C hB hr hlocks rfl dX3_cost_99 ⟨by omega, by omega⟩ ⟨by unfold rCost; rw [if_neg (by omega), show lo 4 = 1 by decide, show ro 4 = 2 by decide, if_pos (by omega)]; exact hcz, mAg_rfl I F⟩
          · refine x_if_eq (tgt := 80) hx hb dX3_cost_60 (by decide) ⟨by decide, by decide⟩ (fun c166 => ?_) (fun c166 => by exfalso; omega)
            refine lv_iconst (v := iI 0) hx hb dX3_cost_80 rfl ?_
            refine lv_istore (lv' := [(4, .int (iI 0)), (0, .ref o), (1, .int (iI 4)), (2, .int (iI a)), (3, .int (iI b))]) hx hb dX3_cost_81 hl (by decide) rfl (fun ls hl => ?_)
            refine lv_iload hx hb dX3_cost_83 (lv_at hl 0 rfl) ?_
            refine x_if_eq (tgt := 98) hx hb dX3_cost_85 (by decide) ⟨by decide, by decide⟩ (fun c167 => ?_) (fun c167 => by exfalso; omega)
            refine lv_iconst (v := iI (-1)) hx hb dX3_cost_98 rfl ?_
            exact m_iret C hB hr hlocks rfl dX3_cost_99 ⟨by decide, by decide⟩ ⟨by unfold rCost; rw [if_neg (by omega), show lo 4 = 1 by decide, show ro 4 = 2 by decide, if_neg (by omega)], mAg_rfl I F⟩
      · refine x_if_eq (tgt := 42) hx hb dX3_cost_22 (by decide) ⟨by decide, by decide⟩ (fun c168 => ?_) (fun c168 => by exfalso; omega)
        refine lv_iconst (v := iI 0) hx hb dX3_cost_42 rfl ?_
        refine lv_istore (lv' := [(4, .int (iI 0)), (0, .ref o), (1, .int (iI 4)), (2, .int (iI a)), (3, .int (iI b))]) hx hb dX3_cost_43 hl (by decide) rfl (fun ls hl => ?_)
        refine lv_iload hx hb dX3_cost_45 (lv_at hl 0 rfl) ?_
        refine x_if_eq (tgt := 80) hx hb dX3_cost_47 (by decide) ⟨by decide, by decide⟩ (fun c169 => ?_) (fun c169 => by exfalso; omega)
        refine lv_iconst (v := iI 0) hx hb dX3_cost_80 rfl ?_
        refine lv_istore (lv' := [(4, .int (iI 0)), (0, .ref o), (1, .int (iI 4)), (2, .int (iI a)), (3, .int (iI b))]) hx hb dX3_cost_81 hl (by decide) rfl (fun ls hl => ?_)
        refine lv_iload hx hb dX3_cost_83 (lv_at hl 0 rfl) ?_
        refine x_if_eq (tgt := 98) hx hb dX3_cost_85 (by decide) ⟨by decide, by decide⟩ (fun c170 => ?_) (fun c170 => by exfalso; omega)
        refine lv_iconst (v := iI (-1)) hx hb dX3_cost_98 rfl ?_
        exact m_iret C hB hr hlocks rfl dX3_cost_99 ⟨by decide, by decide⟩ ⟨by unfold rCost; rw [if_neg (by omega), show lo 4 = 1 by decide, show ro 4 = 2 by decide, if_neg (by omega)], mAg_rfl I F⟩
  · refine x_if_ne (tgt := 12) hx hb dX3_cost_6 (by decide) ⟨by decide, by decide⟩ (fun c171 => by exfalso; omega) (fun c171 => ?_)
    refine lv_bipush (v := iI (-2)) hx hb dX3_cost_9 rfl ?_
    exact m_iret C hB hr hlocks rfl dX3_cost_11 ⟨by decide, by decide⟩ ⟨by unfold rCost; rw [if_pos (by omega)], mAg_rfl I F⟩
