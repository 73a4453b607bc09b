/-! THE MODEL, 15: a text -/
set_option maxHeartbeats 400000 in
set_option maxRecDepth 100000 in
theorem kX3_readAll (l : Launch) (E : xE) (o : Nat) (Ad : Nat → Nat) (I : Nat → Int) (F : Nat → Nat → Int) (ra : Nat) (n : Nat) (hen : ra + n ≤ 240) (h15 : I 15 = (ra : Int)) (hOK : mOK I F) : mi_ l E yX3_readAll cX3_readAll 2 (some .boolean) 2 44 [.ref o, .int (iI (((ra + n : Nat) : Int)))] o Ad I F (fun z I' F' => (z = 1 ∧ ∃ a b c f g h, rdI I a b c = I' ∧ rdF F f g h = F' ∧ ce F (ra + n) ra = 98 ∧ lfR (fun p => ce F (ra + n) (ra + p)) 8 0 = ((1 + 4 * b : Nat) : Int) ∧ rtR (fun p => ce F (ra + n) (ra + p)) n (1 + 4 * b) 8 0 = (c : Int) ∧ (1 ≤ b ∧ b ≤ 7) ∧ (1 ≤ c ∧ c ≤ 7) ∧ (∀ k, k < b → f k = kOf (ce F (ra + n) (ra + (2 + 4 * k))) ∧ g k = lOf (ce F (ra + n) (ra + (3 + 4 * k))) ∧ h k = aOf (ce F (ra + n) (ra + (4 + 4 * k))) ∧ f k ≠ -9 ∧ g k ≠ -9 ∧ h k ≠ -9) ∧ (∀ k, k < c → g (k + 7) = lOf (ce F (ra + n) (ra + (1 + 4 * b + 1 + 3 * k))) ∧ h (k + 7) = aOf (ce F (ra + n) (ra + (1 + 4 * b + 2 + 3 * k))) ∧ g (k + 7) ≠ -9 ∧ h (k + 7) ≠ -9)) ∨ (z = 0 ∧ ∃ a b c f g h, rdI I a b c = I' ∧ rdF F f g h = F' ∧ rText (fun p => ce F (ra + n) (ra + p)) n = -100 - ((a : Int) - (ra : Int)) ∧ ra ≤ a ∧ a ≤ ra + 100)) := by
  intro w sz hM
  refine x_body (by decide) (Nat.le_of_ble_eq_true rfl) ?_
  intro p e s m args below meth c ls hx hb C hr hlocks _ hsz hB hl
  have C : xC E p s m args c cX3_readAll 2 RX3 := C
  replace hB : mB E (xA w sz) s o Ad I F s.heap [] := ⟨w, hM, hB⟩
  have hl : lv_has ls 2 [(0, .ref o), (1, .int (iI (((ra + n : Nat) : Int))))] := hl
  have hOK0 := hOK
  obtain ⟨⟨hf1, hf2⟩, ⟨hl1, hl2⟩, ⟨hr1, hr2⟩, hlr, ⟨hs1, hs2⟩, ⟨hj1, hj2⟩, ⟨hb1, hb2⟩, ⟨hn1, hn2⟩, hL, hR, hN, hS, hC⟩ := hOK
  refine lv_aload_n hx hb dX3_readAll_0 rfl (lv_at hl 0 rfl) ?_
  refine lv_iconst (v := iI 0) hx hb dX3_readAll_1 rfl ?_
  refine m_put C hB 16 (by decide) rfl q1410 rfl rfl dX3_readAll_2 (fun H locs hB => ?_)
  refine lv_aload_n hx hb dX3_readAll_5 rfl (lv_at hl 0 rfl) ?_
  refine lv_iconst (v := iI 0) hx hb dX3_readAll_6 rfl ?_
  refine m_put C hB 17 (by decide) rfl q1411 rfl rfl dX3_readAll_7 (fun H locs hB => ?_)
  have hB : mB E (xA w sz) s o Ad (rdI I ra 0 0) (rdF F (F 18) (F 19) (F 20)) H locs := by rw [rdF_id]; unfold rdI; rw [← h15, va_up_id]; exact hB
  refine lv_aload_n hx hb dX3_readAll_10 rfl (lv_at hl 0 rfl) ?_
  refine lv_iload_n hx hb dX3_readAll_11 rfl (lv_at hl 1 rfl) ?_
  refine lv_bipush (v := iI 98) hx hb dX3_readAll_12 rfl ?_
  refine m_calli (n := 2) C hB (As := [.int (iI (((ra + n : Nat) : Int))), .int (iI 98)]) (kX3_isSign l E o Ad I F ra 0 0 (F 18) (F 19) (F 20) (ra + n) 98 (by omega) (by omega) (by omega) hOK0) (lw_V q1516 q1518 qs43 q77 q1519) (by decide +kernel) ⟨Nat.le_of_ble_eq_true rfl, Nat.le_of_ble_eq_true rfl⟩ rfl hl.1 rfl (Nat.le_of_ble_eq_true rfl) dX3_readAll_14 ⟨Nat.zero_le _, Nat.zero_le _⟩ (fun z1 I2 F3 H locs hz4 hp5 hB => ?_)
  obtain ⟨hz4a, hz4b⟩ := hz4
  rcases hp5 with ⟨rfl, h0, rfl, rfl⟩ | ⟨rfl, h0, rfl, rfl⟩
  · refine x_if_ne (tgt := 22) hx hb dX3_readAll_17 (by decide) ⟨by decide, by decide⟩ (fun c6 => ?_) (fun c6 => by exfalso; omega)
    replace hB : mB E (xA w sz) s o Ad (rdI I (ra + 1 + 4 * 0) 0 0) (rdF F (F 18) (F 19) (F 20)) H locs := hB
    refine w_loop (fun n10 H locs ls => ∃ (b : Nat) (f : Nat → Int) (g : Nat → Int) (h : Nat → Int), n10 = 7 - b ∧ (b ≤ 7) ∧ (lfR (fun p => ce F (ra + n) (ra + p)) 8 0 = lfR (fun p => ce F (ra + n) (ra + p)) (8 - b) b) ∧ (∀ k, k < b → f k = kOf (ce F (ra + n) (ra + (2 + 4 * k))) ∧ g k = lOf (ce F (ra + n) (ra + (3 + 4 * k))) ∧ h k = aOf (ce F (ra + n) (ra + (4 + 4 * k))) ∧ f k ≠ -9 ∧ g k ≠ -9 ∧ h k ≠ -9) ∧ mB E (xA w sz) s o Ad (rdI I (ra + 1 + 4 * b) b 0) (rdF F f g h) H locs ∧ lv_has ls 2 [(0, .ref o), (1, .int (iI (((ra + n : Nat) : Int))))]) _ ⟨0, _, _, _, rfl, by omega, rfl, fun k hk => absurd hk (Nat.not_lt_zero k), hB, lv_sub hl [0, 1] rfl⟩ ?_
    intro n10 H locs ls hI9 ih7
    obtain ⟨b, f, g, h, hn8, hb7, hlf, hL8, hB, hl⟩ := hI9
    have hce1 := ce_c F (ra + n) (ra + 1 + 4 * b)
    refine lv_aload_n hx hb dX3_readAll_22 rfl (lv_at hl 0 rfl) ?_
    refine m_get C hB 16 (by decide) q1410 (v := .int (iI ((b : Int)))) rfl rfl dX3_readAll_23 ?_
    refine x_if_eq (tgt := 60) hx hb dX3_readAll_26 (by decide) ⟨by omega, by omega⟩ (fun c11 => ?_) (fun c11 => ?_)
    · have hb6 : b < 7 := by omega
      refine lv_aload_n hx hb dX3_readAll_60 rfl (lv_at hl 0 rfl) ?_
      refine lv_iload_n hx hb dX3_readAll_61 rfl (lv_at hl 1 rfl) ?_
      refine lv_bipush (v := iI 59) hx hb dX3_readAll_62 rfl ?_
      refine m_calli (n := 2) C hB (As := [.int (iI (((ra + n : Nat) : Int))), .int (iI 59)]) (kX3_isSign l E o Ad I F (ra + 1 + 4 * b) b 0 f g h (ra + n) 59 (by omega) (by omega) (by omega) hOK0) (lw_V q1516 q1518 qs43 q77 q1519) (by decide +kernel) ⟨Nat.le_of_ble_eq_true rfl, Nat.le_of_ble_eq_true rfl⟩ rfl hl.1 rfl (Nat.le_of_ble_eq_true rfl) dX3_readAll_64 ⟨Nat.zero_le _, Nat.zero_le _⟩ (fun z12 I13 F14 H locs hz15 hp16 hB => ?_)
      obtain ⟨hz15a, hz15b⟩ := hz15
      rcases hp16 with ⟨rfl, hsg, rfl, rfl⟩ | ⟨rfl, hsg, rfl, rfl⟩
      · have hgo : b = 0 ∨ ce F (ra + n) (ra + (1 + 4 * b)) = 59 := Or.inr (by rw [show ra + (1 + 4 * b) = ra + 1 + 4 * b by omega]; exact hsg)
        have hg7 : ¬ (b = 7 ∨ ce F (ra + n) (ra + (1 + 4 * b)) ≠ 59) := by rw [show ra + (1 + 4 * b) = ra + 1 + 4 * b by omega]; omega
        refine x_if_eq (tgt := 90) hx hb dX3_readAll_67 (by decide) ⟨by decide, by decide⟩ (fun c17 => by exfalso; omega) (fun c17 => ?_)
        refine lv_aload_n hx hb dX3_readAll_70 rfl (lv_at hl 0 rfl) ?_
        refine lv_iload_n hx hb dX3_readAll_71 rfl (lv_at hl 1 rfl) ?_
        refine m_calli (n := 1) C hB (As := [.int (iI (((ra + n : Nat) : Int)))]) (kX3_readKindNext l E o Ad I F (ra + 1 + 4 * b + 1) b 0 f g h (ra + n) (by omega) (by omega) (by omega) hOK0) (lw_V q1520 q1522 qs44 q77 q1523) (by decide +kernel) ⟨Nat.le_of_ble_eq_true rfl, Nat.le_of_ble_eq_true rfl⟩ rfl hl.1 rfl (Nat.le_of_ble_eq_true rfl) dX3_readAll_72 ⟨Nat.zero_le _, Nat.zero_le _⟩ (fun z18 I19 F20 H locs hz21 hp22 hB => ?_)
        obtain ⟨hz21a, hz21b⟩ := hz21
        rcases hp22 with ⟨rfl, hkk, rfl, rfl⟩ | ⟨rfl, hkk, rfl, rfl⟩
        · rw [show ra + 1 + 4 * b + 1 = ra + (2 + 4 * b) by omega] at hkk
          replace hB : mB E (xA w sz) s o Ad (rdI I (ra + 1 + 4 * b + 1 + 1) b 0) (rdF F (va_up f b (kOf (ce F (ra + n) (ra + 1 + 4 * b + 1)))) g h) H locs := hB
          rw [show ra + 1 + 4 * b + 1 = ra + (2 + 4 * b) by omega] at hB
          refine x_if_eq (tgt := 90) hx hb dX3_readAll_75 (by decide) ⟨by decide, by decide⟩ (fun c23 => by exfalso; omega) (fun c23 => ?_)
          refine lv_aload_n hx hb dX3_readAll_78 rfl (lv_at hl 0 rfl) ?_
          refine lv_iload_n hx hb dX3_readAll_79 rfl (lv_at hl 1 rfl) ?_
          refine lv_aload_n hx hb dX3_readAll_80 rfl (lv_at hl 0 rfl) ?_
          refine m_get C hB 16 (by decide) q1410 (v := .int (iI ((b : Int)))) rfl rfl dX3_readAll_81 ?_
          refine m_calli (n := 2) C hB (As := [.int (iI (((ra + n : Nat) : Int))), .int (iI ((b : Int)))]) (kX3_readSentence l E o Ad I F (ra + (2 + 4 * b) + 1) b 0 (va_up f b (kOf (ce F (ra + n) (ra + (2 + 4 * b))))) g h (ra + n) b (by omega) (by omega) (by omega) hOK0) (lw_V q1524 q1526 qs45 q77 q1527) (by decide +kernel) ⟨Nat.le_of_ble_eq_true rfl, Nat.le_of_ble_eq_true rfl⟩ rfl hl.1 rfl (Nat.le_of_ble_eq_true rfl) dX3_readAll_84 ⟨Nat.zero_le _, Nat.zero_le _⟩ (fun z24 I25 F26 H locs hz27 hp28 hB => ?_)
          obtain ⟨hz27a, hz27b⟩ := hz27
          rcases hp28 with ⟨rfl, hs4, rfl, rfl⟩ | ⟨rfl, hs4, rfl, rfl⟩ | ⟨rfl, hs4, rfl, rfl⟩
          · obtain ⟨hll, haa⟩ := hs4
            rw [show ra + (2 + 4 * b) + 1 = ra + (3 + 4 * b) by omega] at hll
            rw [show ra + (2 + 4 * b) + 1 + 1 = ra + (4 + 4 * b) by omega] at haa
            rw [show ra + (2 + 4 * b) + 1 + 1 + 1 = ra + 1 + 4 * (b + 1) by omega, show ra + (2 + 4 * b) + 1 + 1 = ra + (4 + 4 * b) by omega, show ra + (2 + 4 * b) + 1 = ra + (3 + 4 * b) by omega] at hB
            refine x_if_ne (tgt := 92) hx hb dX3_readAll_87 (by decide) ⟨by decide, by decide⟩ (fun c29 => ?_) (fun c29 => by exfalso; omega)
            refine lv_aload_n hx hb dX3_readAll_92 rfl (lv_at hl 0 rfl) ?_
            refine lv_dup hx hb dX3_readAll_93 rfl ?_
            refine m_get C hB 16 (by decide) q1410 (v := .int (iI ((b : Int)))) rfl rfl dX3_readAll_94 ?_
            refine lv_iconst (v := iI 1) hx hb dX3_readAll_97 rfl ?_
            refine x_iadd (z := (b : Int) + 1) hx hb dX3_readAll_98 (by omega) ?_
            refine m_put C hB 16 (by decide) rfl q1410 rfl rfl dX3_readAll_99 (fun H locs hB => ?_)
            replace hB : mB E (xA w sz) s o Ad (va_up (rdI I (ra + 1 + 4 * (b + 1)) b 0) 16 ((b + 1 : Nat) : Int)) (rdF F (va_up f b (kOf (ce F (ra + n) (ra + (2 + 4 * b))))) (va_up g b (lOf (ce F (ra + n) (ra + (3 + 4 * b))))) (va_up h b (aOf (ce F (ra + n) (ra + (4 + 4 * b)))))) H locs := hB
            rw [rdI_16] at hB
            refine lv_goto (tgt := 22) hx hb dX3_readAll_102 (by decide) ?_
            replace hB : mB E (xA w sz) s o Ad (rdI I (ra + 1 + 4 * (b + 1)) (b + 1) 0) (rdF F (va_up f b (kOf (ce F (ra + n) (ra + (2 + 4 * b))))) (va_up g b (lOf (ce F (ra + n) (ra + (3 + 4 * b))))) (va_up h b (aOf (ce F (ra + n) (ra + (4 + 4 * b)))))) H locs := hB
            exact ih7 _ _ _ _ (by omega) ⟨b + 1, _, _, _, rfl, by omega, by rw [hlf, show 8 - b = (8 - (b + 1)) + 1 by omega, lfR_s, if_pos hgo, if_neg hg7, if_neg hkk, if_neg hll, if_neg haa], fun k hk => by
                  by_cases e : k = b
                  · subst e
                    rw [va_up_s, va_up_s, va_up_s]
                    exact ⟨rfl, rfl, rfl, hkk, hll, haa⟩
                  · rw [va_up_n _ _ e, va_up_n _ _ e, va_up_n _ _ e]
                    exact hL8 k (by omega), hB, lv_sub hl [0, 1] rfl⟩
          · obtain ⟨hll, haa⟩ := hs4
            rw [show ra + (2 + 4 * b) + 1 = ra + (3 + 4 * b) by omega] at hll
            rw [show ra + (2 + 4 * b) + 1 + 1 = ra + (4 + 4 * b) by omega] at haa
            rw [show ra + (2 + 4 * b) + 1 + 1 = ra + (4 + 4 * b) by omega, show ra + (2 + 4 * b) + 1 = ra + (3 + 4 * b) by omega] at hB
            refine x_if_ne (tgt := 92) hx hb dX3_readAll_87 (by decide) ⟨by decide, by decide⟩ (fun c30 => by exfalso; omega) (fun c30 => ?_)
            refine lv_iconst (v := iI 0) hx hb dX3_readAll_90 rfl ?_
            exact m_iret C hB hr hlocks rfl dX3_readAll_91 ⟨by decide, by decide⟩ (by
                          have h98 : ce F (ra + n) (ra + 0) = 98 := h0
                          have hv : lfR (fun p => ce F (ra + n) (ra + p)) 8 0 = -103 - ((1 + 4 * b : Nat) : Int) := by
                            rw [hlf, show 8 - b = (8 - (b + 1)) + 1 by omega, lfR_s, if_pos hgo, if_neg hg7, if_neg hkk, if_neg hll, if_pos haa]
                          exact Or.inr ⟨rfl, _, _, _, _, _, _, rfl, rfl, by unfold rText; rw [if_neg (fun q => q h98), if_pos (by rw [hv]; omega), hv]; omega, by omega, by omega⟩)
          · rw [show ra + (2 + 4 * b) + 1 = ra + (3 + 4 * b) by omega] at hs4
            rw [show ra + (2 + 4 * b) + 1 = ra + (3 + 4 * b) by omega] at hB
            refine x_if_ne (tgt := 92) hx hb dX3_readAll_87 (by decide) ⟨by decide, by decide⟩ (fun c31 => by exfalso; omega) (fun c31 => ?_)
            refine lv_iconst (v := iI 0) hx hb dX3_readAll_90 rfl ?_
            exact m_iret C hB hr hlocks rfl dX3_readAll_91 ⟨by decide, by decide⟩ (by
                          have h98 : ce F (ra + n) (ra + 0) = 98 := h0
                          have hv : lfR (fun p => ce F (ra + n) (ra + p)) 8 0 = -102 - ((1 + 4 * b : Nat) : Int) := by
                            rw [hlf, show 8 - b = (8 - (b + 1)) + 1 by omega, lfR_s, if_pos hgo, if_neg hg7, if_neg hkk, if_pos hs4]
                          exact Or.inr ⟨rfl, _, _, _, _, _, _, rfl, rfl, by unfold rText; rw [if_neg (fun q => q h98), if_pos (by rw [hv]; omega), hv]; omega, by omega, by omega⟩)
        · rw [show ra + 1 + 4 * b + 1 = ra + (2 + 4 * b) by omega] at hkk
          replace hB : mB E (xA w sz) s o Ad (rdI I (ra + 1 + 4 * b + 1) b 0) (rdF F (va_up f b (kOf (ce F (ra + n) (ra + 1 + 4 * b + 1)))) g h) H locs := hB
          rw [show ra + 1 + 4 * b + 1 = ra + (2 + 4 * b) by omega] at hB
          refine x_if_eq (tgt := 90) hx hb dX3_readAll_75 (by decide) ⟨by decide, by decide⟩ (fun c32 => ?_) (fun c32 => by exfalso; omega)
          refine lv_iconst (v := iI 0) hx hb dX3_readAll_90 rfl ?_
          exact m_iret C hB hr hlocks rfl dX3_readAll_91 ⟨by decide, by decide⟩ (by
                      have h98 : ce F (ra + n) (ra + 0) = 98 := h0
                      have hv : lfR (fun p => ce F (ra + n) (ra + p)) 8 0 = -101 - ((1 + 4 * b : Nat) : Int) := by
                        rw [hlf, show 8 - b = (8 - (b + 1)) + 1 by omega, lfR_s, if_pos hgo, if_neg hg7, if_pos hkk]
                      exact Or.inr ⟨rfl, _, _, _, _, _, _, rfl, rfl, by unfold rText; rw [if_neg (fun q => q h98), if_pos (by rw [hv]; omega), hv]; omega, by omega, by omega⟩)
      · refine x_if_eq (tgt := 90) hx hb dX3_readAll_67 (by decide) ⟨by decide, by decide⟩ (fun c33 => ?_) (fun c33 => by exfalso; omega)
        refine lv_iconst (v := iI 0) hx hb dX3_readAll_90 rfl ?_
        exact m_iret C hB hr hlocks rfl dX3_readAll_91 ⟨by decide, by decide⟩ (by
                  have h98 : ce F (ra + n) (ra + 0) = 98 := h0
                  have hv : lfR (fun p => ce F (ra + n) (ra + p)) 8 0 = -100 - ((1 + 4 * b : Nat) : Int) := by
                    rw [hlf, show 8 - b = (8 - (b + 1)) + 1 by omega, lfR_s, if_pos (by rw [show ra + (1 + 4 * b) = ra + 1 + 4 * b by omega]; omega), if_pos (Or.inr (by rw [show ra + (1 + 4 * b) = ra + 1 + 4 * b by omega]; exact hsg))]
                  exact Or.inr ⟨rfl, _, _, _, _, _, _, rfl, rfl, by unfold rText; rw [if_neg (fun q => q h98), if_pos (by rw [hv]; omega), hv]; omega, by omega, by omega⟩)
    · refine lv_aload_n hx hb dX3_readAll_29 rfl (lv_at hl 0 rfl) ?_
      refine m_get C hB 16 (by decide) q1410 (v := .int (iI ((b : Int)))) rfl rfl dX3_readAll_30 ?_
      refine lv_bipush (v := iI 7) hx hb dX3_readAll_33 rfl ?_
      refine x_icmp_ge (tgt := 105) hx hb dX3_readAll_35 (by decide) ⟨by omega, by omega⟩ ⟨by decide, by decide⟩ (fun c34 => ?_) (fun c34 => ?_)
      · have h98 : ce F (ra + n) (ra + 0) = 98 := h0
        have hcs : (1 ≤ b ∧ lfR (fun p => ce F (ra + n) (ra + p)) 8 0 = ((1 + 4 * b : Nat) : Int)) ∨ (b = 7 ∧ ce F (ra + n) (ra + 1 + 4 * b) = 59) := by
          by_cases q : ce F (ra + n) (ra + 1 + 4 * b) = 59
          · exact Or.inr ⟨by omega, q⟩
          · refine Or.inl ⟨by omega, ?_⟩
            rw [hlf, show 8 - b = (7 - b) + 1 by omega, lfR_s, if_neg (by rw [show ra + (1 + 4 * b) = ra + 1 + 4 * b by omega]; omega)]
        rcases hcs with ⟨hb1, hlb⟩ | ⟨hb7e, hx59⟩
        · replace hB : mB E (xA w sz) s o Ad (rdI I (ra + 1 + 4 * b + 3 * 0) b 0) (rdF F f g h) H locs := hB
          refine w_loop (fun n38 H locs ls => ∃ (c9 : Nat) (g : Nat → Int) (h : Nat → Int), n38 = 7 - c9 ∧ (c9 ≤ 7) ∧ (rtR (fun p => ce F (ra + n) (ra + p)) n (1 + 4 * b) 8 0 = rtR (fun p => ce F (ra + n) (ra + p)) n (1 + 4 * b) (8 - c9) c9) ∧ (c9 = 0 ∨ 1 + 4 * b + 3 * c9 ≤ n) ∧ (∀ k, k < b → f k = kOf (ce F (ra + n) (ra + (2 + 4 * k))) ∧ g k = lOf (ce F (ra + n) (ra + (3 + 4 * k))) ∧ h k = aOf (ce F (ra + n) (ra + (4 + 4 * k))) ∧ f k ≠ -9 ∧ g k ≠ -9 ∧ h k ≠ -9) ∧ (∀ k, k < c9 → g (k + 7) = lOf (ce F (ra + n) (ra + (1 + 4 * b + 1 + 3 * k))) ∧ h (k + 7) = aOf (ce F (ra + n) (ra + (1 + 4 * b + 2 + 3 * k))) ∧ g (k + 7) ≠ -9 ∧ h (k + 7) ≠ -9) ∧ mB E (xA w sz) s o Ad (rdI I (ra + 1 + 4 * b + 3 * c9) b c9) (rdF F f g h) H locs ∧ lv_has ls 2 [(0, .ref o), (1, .int (iI (((ra + n : Nat) : Int))))]) _ ⟨0, _, _, rfl, by omega, rfl, Or.inl rfl, hL8, fun k hk => absurd hk (Nat.not_lt_zero k), hB, lv_sub hl [0, 1] rfl⟩ ?_
          intro n38 H locs ls hI37 ih35
          obtain ⟨c9, g, h, hn36, hc7, hrt, hpos, hL9, hR9, hB, hl⟩ := hI37
          refine lv_aload_n hx hb dX3_readAll_105 rfl (lv_at hl 0 rfl) ?_
          refine m_get C hB 17 (by decide) q1411 (v := .int (iI ((c9 : Int)))) rfl rfl dX3_readAll_106 ?_
          refine x_if_eq (tgt := 129) hx hb dX3_readAll_109 (by decide) ⟨by omega, by omega⟩ (fun c39 => ?_) (fun c39 => ?_)
          · refine lv_aload_n hx hb dX3_readAll_129 rfl (lv_at hl 0 rfl) ?_
            refine lv_iload_n hx hb dX3_readAll_130 rfl (lv_at hl 1 rfl) ?_
            refine lv_bipush (v := iI 44) hx hb dX3_readAll_131 rfl ?_
            refine m_calli (n := 2) C hB (As := [.int (iI (((ra + n : Nat) : Int))), .int (iI 44)]) (kX3_isSign l E o Ad I F (ra + 1 + 4 * b + 3 * c9) b c9 f g h (ra + n) 44 (by omega) (by omega) (by omega) hOK0) (lw_V q1516 q1518 qs43 q77 q1519) (by decide +kernel) ⟨Nat.le_of_ble_eq_true rfl, Nat.le_of_ble_eq_true rfl⟩ rfl hl.1 rfl (Nat.le_of_ble_eq_true rfl) dX3_readAll_133 ⟨Nat.zero_le _, Nat.zero_le _⟩ (fun z40 I41 F42 H locs hz43 hp44 hB => ?_)
            obtain ⟨hz43a, hz43b⟩ := hz43
            rcases hp44 with ⟨rfl, hsg, rfl, rfl⟩ | ⟨rfl, hsg, rfl, rfl⟩
            · have hgo : c9 = 0 ∨ 1 + 4 * b + 3 * c9 < n := by have := ce_c F (ra + n) (ra + 1 + 4 * b + 3 * c9); omega
              have hg7 : ¬ (c9 = 7 ∨ ce F (ra + n) (ra + (1 + 4 * b + 3 * c9)) ≠ 44) := by rw [show ra + (1 + 4 * b + 3 * c9) = ra + 1 + 4 * b + 3 * c9 by omega]; omega
              refine x_if_eq (tgt := 154) hx hb dX3_readAll_136 (by decide) ⟨by decide, by decide⟩ (fun c45 => by exfalso; omega) (fun c45 => ?_)
              refine lv_aload_n hx hb dX3_readAll_139 rfl (lv_at hl 0 rfl) ?_
              refine lv_iload_n hx hb dX3_readAll_140 rfl (lv_at hl 1 rfl) ?_
              refine lv_bipush (v := iI 7) hx hb dX3_readAll_141 rfl ?_
              refine lv_aload_n hx hb dX3_readAll_143 rfl (lv_at hl 0 rfl) ?_
              refine m_get C hB 17 (by decide) q1411 (v := .int (iI ((c9 : Int)))) rfl rfl dX3_readAll_144 ?_
              refine x_iadd (z := (c9 : Int) + 7) hx hb dX3_readAll_147 (by omega) ?_
              refine m_calli (n := 2) C hB (As := [.int (iI (((ra + n : Nat) : Int))), .int (iI ((c9 : Int) + 7))]) (kX3_readSentence l E o Ad I F (ra + 1 + 4 * b + 3 * c9 + 1) b c9 f g h (ra + n) (c9 + 7) (by omega) (by omega) (by omega) hOK0) (lw_V q1524 q1526 qs45 q77 q1527) (by decide +kernel) ⟨Nat.le_of_ble_eq_true rfl, Nat.le_of_ble_eq_true rfl⟩ rfl hl.1 rfl (Nat.le_of_ble_eq_true rfl) dX3_readAll_148 ⟨Nat.zero_le _, Nat.zero_le _⟩ (fun z46 I47 F48 H locs hz49 hp50 hB => ?_)
              obtain ⟨hz49a, hz49b⟩ := hz49
              rcases hp50 with ⟨rfl, hs4, rfl, rfl⟩ | ⟨rfl, hs4, rfl, rfl⟩ | ⟨rfl, hs4, rfl, rfl⟩
              · obtain ⟨hll, haa⟩ := hs4
                rw [show ra + 1 + 4 * b + 3 * c9 + 1 = ra + (1 + 4 * b + 1 + 3 * c9) by omega] at hll
                rw [show ra + 1 + 4 * b + 3 * c9 + 1 + 1 = ra + (1 + 4 * b + 2 + 3 * c9) by omega] at haa
                rw [show ra + 1 + 4 * b + 3 * c9 + 1 + 1 + 1 = ra + 1 + 4 * b + 3 * (c9 + 1) by omega, show ra + 1 + 4 * b + 3 * c9 + 1 + 1 = ra + (1 + 4 * b + 2 + 3 * c9) by omega, show ra + 1 + 4 * b + 3 * c9 + 1 = ra + (1 + 4 * b + 1 + 3 * c9) by omega] at hB
                refine x_if_ne (tgt := 156) hx hb dX3_readAll_151 (by decide) ⟨by decide, by decide⟩ (fun c51 => ?_) (fun c51 => by exfalso; omega)
                refine lv_aload_n hx hb dX3_readAll_156 rfl (lv_at hl 0 rfl) ?_
                refine lv_dup hx hb dX3_readAll_157 rfl ?_
                refine m_get C hB 17 (by decide) q1411 (v := .int (iI ((c9 : Int)))) rfl rfl dX3_readAll_158 ?_
                refine lv_iconst (v := iI 1) hx hb dX3_readAll_161 rfl ?_
                refine x_iadd (z := (c9 : Int) + 1) hx hb dX3_readAll_162 (by omega) ?_
                refine m_put C hB 17 (by decide) rfl q1411 rfl rfl dX3_readAll_163 (fun H locs hB => ?_)
                replace hB : mB E (xA w sz) s o Ad (va_up (rdI I (ra + 1 + 4 * b + 3 * (c9 + 1)) b c9) 17 ((c9 + 1 : Nat) : Int)) (rdF F f (va_up g (c9 + 7) (lOf (ce F (ra + n) (ra + (1 + 4 * b + 1 + 3 * c9))))) (va_up h (c9 + 7) (aOf (ce F (ra + n) (ra + (1 + 4 * b + 2 + 3 * c9)))))) H locs := hB
                rw [rdI_17] at hB
                refine lv_goto (tgt := 105) hx hb dX3_readAll_166 (by decide) ?_
                replace hB : mB E (xA w sz) s o Ad (rdI I (ra + 1 + 4 * b + 3 * (c9 + 1)) b (c9 + 1)) (rdF F f (va_up g (c9 + 7) (lOf (ce F (ra + n) (ra + (1 + 4 * b + 1 + 3 * c9))))) (va_up h (c9 + 7) (aOf (ce F (ra + n) (ra + (1 + 4 * b + 2 + 3 * c9)))))) H locs := hB
                exact ih35 _ _ _ _ (by omega) ⟨c9 + 1, _, _, rfl, by omega, by rw [hrt, show 8 - c9 = (8 - (c9 + 1)) + 1 by omega, rtR_s, if_pos hgo, if_neg hg7, if_neg hll, if_neg haa], by have := aOf_in haa; omega, fun k hk => by
                      have e : k ≠ c9 + 7 := by omega
                      rw [va_up_n _ _ e, va_up_n _ _ e]
                      exact hL9 k hk, fun k hk => by
                      by_cases e : k = c9
                      · subst e
                        rw [va_up_s, va_up_s]
                        exact ⟨rfl, rfl, hll, haa⟩
                      · rw [va_up_n _ _ (show k + 7 ≠ c9 + 7 by omega), va_up_n _ _ (show k + 7 ≠ c9 + 7 by omega)]
                        exact hR9 k (by omega), hB, lv_sub hl [0, 1] rfl⟩
              · obtain ⟨hll, haa⟩ := hs4
                rw [show ra + 1 + 4 * b + 3 * c9 + 1 = ra + (1 + 4 * b + 1 + 3 * c9) by omega] at hll
                rw [show ra + 1 + 4 * b + 3 * c9 + 1 + 1 = ra + (1 + 4 * b + 2 + 3 * c9) by omega] at haa
                rw [show ra + 1 + 4 * b + 3 * c9 + 1 + 1 = ra + (1 + 4 * b + 2 + 3 * c9) by omega, show ra + 1 + 4 * b + 3 * c9 + 1 = ra + (1 + 4 * b + 1 + 3 * c9) by omega] at hB
                refine x_if_ne (tgt := 156) hx hb dX3_readAll_151 (by decide) ⟨by decide, by decide⟩ (fun c52 => by exfalso; omega) (fun c52 => ?_)
                refine lv_iconst (v := iI 0) hx hb dX3_readAll_154 rfl ?_
                exact m_iret C hB hr hlocks rfl dX3_readAll_155 ⟨by decide, by decide⟩ (by
                                  have hv : rtR (fun p => ce F (ra + n) (ra + p)) n (1 + 4 * b) 8 0 = -102 - ((1 + 4 * b + 3 * c9 : Nat) : Int) := by
                                    rw [hrt, show 8 - c9 = (8 - (c9 + 1)) + 1 by omega, rtR_s, if_pos hgo, if_neg hg7, if_neg hll, if_pos haa]
                                  exact Or.inr ⟨rfl, _, _, _, _, _, _, rfl, rfl, by unfold rText; rw [if_neg (fun q => q h98), if_neg (by omega), hlb, Int.toNat_natCast, if_pos (by rw [hv]; omega), hv]; omega, by omega, by omega⟩)
              · rw [show ra + 1 + 4 * b + 3 * c9 + 1 = ra + (1 + 4 * b + 1 + 3 * c9) by omega] at hs4
                rw [show ra + 1 + 4 * b + 3 * c9 + 1 = ra + (1 + 4 * b + 1 + 3 * c9) by omega] at hB
                refine x_if_ne (tgt := 156) hx hb dX3_readAll_151 (by decide) ⟨by decide, by decide⟩ (fun c53 => by exfalso; omega) (fun c53 => ?_)
                refine lv_iconst (v := iI 0) hx hb dX3_readAll_154 rfl ?_
                exact m_iret C hB hr hlocks rfl dX3_readAll_155 ⟨by decide, by decide⟩ (by
                                  have hv : rtR (fun p => ce F (ra + n) (ra + p)) n (1 + 4 * b) 8 0 = -101 - ((1 + 4 * b + 3 * c9 : Nat) : Int) := by
                                    rw [hrt, show 8 - c9 = (8 - (c9 + 1)) + 1 by omega, rtR_s, if_pos hgo, if_neg hg7, if_pos hs4]
                                  exact Or.inr ⟨rfl, _, _, _, _, _, _, rfl, rfl, by unfold rText; rw [if_neg (fun q => q h98), if_neg (by omega), hlb, Int.toNat_natCast, if_pos (by rw [hv]; omega), hv]; omega, by omega, by omega⟩)
            · refine x_if_eq (tgt := 154) hx hb dX3_readAll_136 (by decide) ⟨by decide, by decide⟩ (fun c54 => ?_) (fun c54 => by exfalso; omega)
              refine lv_iconst (v := iI 0) hx hb dX3_readAll_154 rfl ?_
              exact m_iret C hB hr hlocks rfl dX3_readAll_155 ⟨by decide, by decide⟩ (by
                              have hv : rtR (fun p => ce F (ra + n) (ra + p)) n (1 + 4 * b) 8 0 = -100 - ((1 + 4 * b + 3 * c9 : Nat) : Int) := by
                                rw [hrt, show 8 - c9 = (8 - (c9 + 1)) + 1 by omega, rtR_s, if_pos (by omega), if_pos (Or.inr (by rw [show ra + (1 + 4 * b + 3 * c9) = ra + 1 + 4 * b + 3 * c9 by omega]; exact hsg))]
                              exact Or.inr ⟨rfl, _, _, _, _, _, _, rfl, rfl, by unfold rText; rw [if_neg (fun q => q h98), if_neg (by omega), hlb, Int.toNat_natCast, if_pos (by rw [hv]; omega), hv]; omega, by omega, by omega⟩)
          · refine lv_aload_n hx hb dX3_readAll_112 rfl (lv_at hl 0 rfl) ?_
            refine m_get C hB 17 (by decide) q1411 (v := .int (iI ((c9 : Int)))) rfl rfl dX3_readAll_113 ?_
            refine lv_bipush (v := iI 7) hx hb dX3_readAll_116 rfl ?_
            refine x_icmp_ge (tgt := 169) hx hb dX3_readAll_118 (by decide) ⟨by omega, by omega⟩ ⟨by decide, by decide⟩ (fun c55 => ?_) (fun c55 => ?_)
            · refine lv_aload_n hx hb dX3_readAll_169 rfl (lv_at hl 0 rfl) ?_
              refine m_get C hB 15 (by decide) q1409 (v := .int (iI (((ra + 1 + 4 * b + 3 * c9 : Nat) : Int)))) rfl rfl dX3_readAll_170 ?_
              refine lv_iload_n hx hb dX3_readAll_173 rfl (lv_at hl 1 rfl) ?_
              refine x_icmp_ne (tgt := 181) hx hb dX3_readAll_174 (by decide) ⟨by omega, by omega⟩ ⟨by omega, by omega⟩ (fun c56 => ?_) (fun c56 => ?_)
              · refine lv_iconst (v := iI 0) hx hb dX3_readAll_181 rfl ?_
                exact m_iret C hB hr hlocks rfl dX3_readAll_182 ⟨by decide, by decide⟩ (by
                                  have hv : rtR (fun p => ce F (ra + n) (ra + p)) n (1 + 4 * b) 8 0 = -100 - ((1 + 4 * b + 3 * c9 : Nat) : Int) := by
                                    rw [hrt, show 8 - c9 = (7 - c9) + 1 by omega, rtR_s, if_pos (by omega), if_pos (Or.inl (by omega))]
                                  exact Or.inr ⟨rfl, _, _, _, _, _, _, rfl, rfl, by unfold rText; rw [if_neg (fun q => q h98), if_neg (by omega), hlb, Int.toNat_natCast, if_pos (by rw [hv]; omega), hv]; omega, by omega, by omega⟩)
              · refine lv_iconst (v := iI 1) hx hb dX3_readAll_177 rfl ?_
                refine lv_goto (tgt := 182) hx hb dX3_readAll_178 (by decide) ?_
                exact m_iret C hB hr hlocks rfl dX3_readAll_182 ⟨by decide, by decide⟩ (Or.inl ⟨rfl, _, _, _, _, _, _, rfl, rfl, h98, hlb, by rw [hrt, show 8 - c9 = (7 - c9) + 1 by omega, rtR_s, if_neg (by omega)], ⟨hb1, hb7⟩, ⟨by omega, hc7⟩, hL9, hR9⟩)
            · refine lv_aload_n hx hb dX3_readAll_121 rfl (lv_at hl 0 rfl) ?_
              refine m_get C hB 15 (by decide) q1409 (v := .int (iI (((ra + 1 + 4 * b + 3 * c9 : Nat) : Int)))) rfl rfl dX3_readAll_122 ?_
              refine lv_iload_n hx hb dX3_readAll_125 rfl (lv_at hl 1 rfl) ?_
              refine x_icmp_ge (tgt := 169) hx hb dX3_readAll_126 (by decide) ⟨by omega, by omega⟩ ⟨by omega, by omega⟩ (fun c57 => ?_) (fun c57 => ?_)
              · refine lv_aload_n hx hb dX3_readAll_169 rfl (lv_at hl 0 rfl) ?_
                refine m_get C hB 15 (by decide) q1409 (v := .int (iI (((ra + 1 + 4 * b + 3 * c9 : Nat) : Int)))) rfl rfl dX3_readAll_170 ?_
                refine lv_iload_n hx hb dX3_readAll_173 rfl (lv_at hl 1 rfl) ?_
                refine x_icmp_ne (tgt := 181) hx hb dX3_readAll_174 (by decide) ⟨by omega, by omega⟩ ⟨by omega, by omega⟩ (fun c58 => ?_) (fun c58 => ?_)
                · refine lv_iconst (v := iI 0) hx hb dX3_readAll_181 rfl ?_
                  exact m_iret C hB hr hlocks rfl dX3_readAll_182 ⟨by decide, by decide⟩ (by
                                      have hv : rtR (fun p => ce F (ra + n) (ra + p)) n (1 + 4 * b) 8 0 = -100 - ((1 + 4 * b + 3 * c9 : Nat) : Int) := by
                                        rw [hrt, show 8 - c9 = (7 - c9) + 1 by omega, rtR_s, if_pos (by omega), if_pos (Or.inl (by omega))]
                                      exact Or.inr ⟨rfl, _, _, _, _, _, _, rfl, rfl, by unfold rText; rw [if_neg (fun q => q h98), if_neg (by omega), hlb, Int.toNat_natCast, if_pos (by rw [hv]; omega), hv]; omega, by omega, by omega⟩)
                · refine lv_iconst (v := iI 1) hx hb dX3_readAll_177 rfl ?_
                  refine lv_goto (tgt := 182) hx hb dX3_readAll_178 (by decide) ?_
                  exact m_iret C hB hr hlocks rfl dX3_readAll_182 ⟨by decide, by decide⟩ (Or.inl ⟨rfl, _, _, _, _, _, _, rfl, rfl, h98, hlb, by rw [hrt, show 8 - c9 = (7 - c9) + 1 by omega, rtR_s, if_neg (by omega)], ⟨hb1, hb7⟩, ⟨by omega, hc7⟩, hL9, hR9⟩)
              · refine lv_aload_n hx hb dX3_readAll_129 rfl (lv_at hl 0 rfl) ?_
                refine lv_iload_n hx hb dX3_readAll_130 rfl (lv_at hl 1 rfl) ?_
                refine lv_bipush (v := iI 44) hx hb dX3_readAll_131 rfl ?_
                refine m_calli (n := 2) C hB (As := [.int (iI (((ra + n : Nat) : Int))), .int (iI 44)]) (kX3_isSign l E o Ad I F (ra + 1 + 4 * b + 3 * c9) b c9 f g h (ra + n) 44 (by omega) (by omega) (by omega) hOK0) (lw_V q1516 q1518 qs43 q77 q1519) (by decide +kernel) ⟨Nat.le_of_ble_eq_true rfl, Nat.le_of_ble_eq_true rfl⟩ rfl hl.1 rfl (Nat.le_of_ble_eq_true rfl) dX3_readAll_133 ⟨Nat.zero_le _, Nat.zero_le _⟩ (fun z59 I60 F61 H locs hz62 hp63 hB => ?_)
                obtain ⟨hz62a, hz62b⟩ := hz62
                rcases hp63 with ⟨rfl, hsg, rfl, rfl⟩ | ⟨rfl, hsg, rfl, rfl⟩
                · have hgo : c9 = 0 ∨ 1 + 4 * b + 3 * c9 < n := by have := ce_c F (ra + n) (ra + 1 + 4 * b + 3 * c9); omega
                  have hg7 : ¬ (c9 = 7 ∨ ce F (ra + n) (ra + (1 + 4 * b + 3 * c9)) ≠ 44) := by rw [show ra + (1 + 4 * b + 3 * c9) = ra + 1 + 4 * b + 3 * c9 by omega]; omega
                  refine x_if_eq (tgt := 154) hx hb dX3_readAll_136 (by decide) ⟨by decide, by decide⟩ (fun c64 => by exfalso; omega) (fun c64 => ?_)
                  refine lv_aload_n hx hb dX3_readAll_139 rfl (lv_at hl 0 rfl) ?_
                  refine lv_iload_n hx hb dX3_readAll_140 rfl (lv_at hl 1 rfl) ?_
                  refine lv_bipush (v := iI 7) hx hb dX3_readAll_141 rfl ?_
                  refine lv_aload_n hx hb dX3_readAll_143 rfl (lv_at hl 0 rfl) ?_
                  refine m_get C hB 17 (by decide) q1411 (v := .int (iI ((c9 : Int)))) rfl rfl dX3_readAll_144 ?_
                  refine x_iadd (z := (c9 : Int) + 7) hx hb dX3_readAll_147 (by omega) ?_
                  refine m_calli (n := 2) C hB (As := [.int (iI (((ra + n : Nat) : Int))), .int (iI ((c9 : Int) + 7))]) (kX3_readSentence l E o Ad I F (ra + 1 + 4 * b + 3 * c9 + 1) b c9 f g h (ra + n) (c9 + 7) (by omega) (by omega) (by omega) hOK0) (lw_V q1524 q1526 qs45 q77 q1527) (by decide +kernel) ⟨Nat.le_of_ble_eq_true rfl, Nat.le_of_ble_eq_true rfl⟩ rfl hl.1 rfl (Nat.le_of_ble_eq_true rfl) dX3_readAll_148 ⟨Nat.zero_le _, Nat.zero_le _⟩ (fun z65 I66 F67 H locs hz68 hp69 hB => ?_)
                  obtain ⟨hz68a, hz68b⟩ := hz68
                  rcases hp69 with ⟨rfl, hs4, rfl, rfl⟩ | ⟨rfl, hs4, rfl, rfl⟩ | ⟨rfl, hs4, rfl, rfl⟩
                  · obtain ⟨hll, haa⟩ := hs4
                    rw [show ra + 1 + 4 * b + 3 * c9 + 1 = ra + (1 + 4 * b + 1 + 3 * c9) by omega] at hll
                    rw [show ra + 1 + 4 * b + 3 * c9 + 1 + 1 = ra + (1 + 4 * b + 2 + 3 * c9) by omega] at haa
                    rw [show ra + 1 + 4 * b + 3 * c9 + 1 + 1 + 1 = ra + 1 + 4 * b + 3 * (c9 + 1) by omega, show ra + 1 + 4 * b + 3 * c9 + 1 + 1 = ra + (1 + 4 * b + 2 + 3 * c9) by omega, show ra + 1 + 4 * b + 3 * c9 + 1 = ra + (1 + 4 * b + 1 + 3 * c9) by omega] at hB
                    refine x_if_ne (tgt := 156) hx hb dX3_readAll_151 (by decide) ⟨by decide, by decide⟩ (fun c70 => ?_) (fun c70 => by exfalso; omega)
                    refine lv_aload_n hx hb dX3_readAll_156 rfl (lv_at hl 0 rfl) ?_
                    refine lv_dup hx hb dX3_readAll_157 rfl ?_
                    refine m_get C hB 17 (by decide) q1411 (v := .int (iI ((c9 : Int)))) rfl rfl dX3_readAll_158 ?_
                    refine lv_iconst (v := iI 1) hx hb dX3_readAll_161 rfl ?_
                    refine x_iadd (z := (c9 : Int) + 1) hx hb dX3_readAll_162 (by omega) ?_
                    refine m_put C hB 17 (by decide) rfl q1411 rfl rfl dX3_readAll_163 (fun H locs hB => ?_)
                    replace hB : mB E (xA w sz) s o Ad (va_up (rdI I (ra + 1 + 4 * b + 3 * (c9 + 1)) b c9) 17 ((c9 + 1 : Nat) : Int)) (rdF F f (va_up g (c9 + 7) (lOf (ce F (ra + n) (ra + (1 + 4 * b + 1 + 3 * c9))))) (va_up h (c9 + 7) (aOf (ce F (ra + n) (ra + (1 + 4 * b + 2 + 3 * c9)))))) H locs := hB
                    rw [rdI_17] at hB
                    refine lv_goto (tgt := 105) hx hb dX3_readAll_166 (by decide) ?_
                    replace hB : mB E (xA w sz) s o Ad (rdI I (ra + 1 + 4 * b + 3 * (c9 + 1)) b (c9 + 1)) (rdF F f (va_up g (c9 + 7) (lOf (ce F (ra + n) (ra + (1 + 4 * b + 1 + 3 * c9))))) (va_up h (c9 + 7) (aOf (ce F (ra + n) (ra + (1 + 4 * b + 2 + 3 * c9)))))) H locs := hB
                    exact ih35 _ _ _ _ (by omega) ⟨c9 + 1, _, _, rfl, by omega, by rw [hrt, show 8 - c9 = (8 - (c9 + 1)) + 1 by omega, rtR_s, if_pos hgo, if_neg hg7, if_neg hll, if_neg haa], by have := aOf_in haa; omega, fun k hk => by
                          have e : k ≠ c9 + 7 := by omega
                          rw [va_up_n _ _ e, va_up_n _ _ e]
                          exact hL9 k hk, fun k hk => by
                          by_cases e : k = c9
                          · subst e
                            rw [va_up_s, va_up_s]
                            exact ⟨rfl, rfl, hll, haa⟩
                          · rw [va_up_n _ _ (show k + 7 ≠ c9 + 7 by omega), va_up_n _ _ (show k + 7 ≠ c9 + 7 by omega)]
                            exact hR9 k (by omega), hB, lv_sub hl [0, 1] rfl⟩
                  · obtain ⟨hll, haa⟩ := hs4
                    rw [show ra + 1 + 4 * b + 3 * c9 + 1 = ra + (1 + 4 * b + 1 + 3 * c9) by omega] at hll
                    rw [show ra + 1 + 4 * b + 3 * c9 + 1 + 1 = ra + (1 + 4 * b + 2 + 3 * c9) by omega] at haa
                    rw [show ra + 1 + 4 * b + 3 * c9 + 1 + 1 = ra + (1 + 4 * b + 2 + 3 * c9) by omega, show ra + 1 + 4 * b + 3 * c9 + 1 = ra + (1 + 4 * b + 1 + 3 * c9) by omega] at hB
                    refine x_if_ne (tgt := 156) hx hb dX3_readAll_151 (by decide) ⟨by decide, by decide⟩ (fun c71 => by exfalso; omega) (fun c71 => ?_)
                    refine lv_iconst (v := iI 0) hx hb dX3_readAll_154 rfl ?_
                    exact m_iret C hB hr hlocks rfl dX3_readAll_155 ⟨by decide, by decide⟩ (by
                                          have hv : rtR (fun p => ce F (ra + n) (ra + p)) n (1 + 4 * b) 8 0 = -102 - ((1 + 4 * b + 3 * c9 : Nat) : Int) := by
                                            rw [hrt, show 8 - c9 = (8 - (c9 + 1)) + 1 by omega, rtR_s, if_pos hgo, if_neg hg7, if_neg hll, if_pos haa]
                                          exact Or.inr ⟨rfl, _, _, _, _, _, _, rfl, rfl, by unfold rText; rw [if_neg (fun q => q h98), if_neg (by omega), hlb, Int.toNat_natCast, if_pos (by rw [hv]; omega), hv]; omega, by omega, by omega⟩)
                  · rw [show ra + 1 + 4 * b + 3 * c9 + 1 = ra + (1 + 4 * b + 1 + 3 * c9) by omega] at hs4
                    rw [show ra + 1 + 4 * b + 3 * c9 + 1 = ra + (1 + 4 * b + 1 + 3 * c9) by omega] at hB
                    refine x_if_ne (tgt := 156) hx hb dX3_readAll_151 (by decide) ⟨by decide, by decide⟩ (fun c72 => by exfalso; omega) (fun c72 => ?_)
                    refine lv_iconst (v := iI 0) hx hb dX3_readAll_154 rfl ?_
                    exact m_iret C hB hr hlocks rfl dX3_readAll_155 ⟨by decide, by decide⟩ (by
                                          have hv : rtR (fun p => ce F (ra + n) (ra + p)) n (1 + 4 * b) 8 0 = -101 - ((1 + 4 * b + 3 * c9 : Nat) : Int) := by
                                            rw [hrt, show 8 - c9 = (8 - (c9 + 1)) + 1 by omega, rtR_s, if_pos hgo, if_neg hg7, if_pos hs4]
                                          exact Or.inr ⟨rfl, _, _, _, _, _, _, rfl, rfl, by unfold rText; rw [if_neg (fun q => q h98), if_neg (by omega), hlb, Int.toNat_natCast, if_pos (by rw [hv]; omega), hv]; omega, by omega, by omega⟩)
                · refine x_if_eq (tgt := 154) hx hb dX3_readAll_136 (by decide) ⟨by decide, by decide⟩ (fun c73 => ?_) (fun c73 => by exfalso; omega)
                  refine lv_iconst (v := iI 0) hx hb dX3_readAll_154 rfl ?_
                  exact m_iret C hB hr hlocks rfl dX3_readAll_155 ⟨by decide, by decide⟩ (by
                                      have hv : rtR (fun p => ce F (ra + n) (ra + p)) n (1 + 4 * b) 8 0 = -100 - ((1 + 4 * b + 3 * c9 : Nat) : Int) := by
                                        rw [hrt, show 8 - c9 = (8 - (c9 + 1)) + 1 by omega, rtR_s, if_pos (by omega), if_pos (Or.inr (by rw [show ra + (1 + 4 * b + 3 * c9) = ra + 1 + 4 * b + 3 * c9 by omega]; exact hsg))]
                                      exact Or.inr ⟨rfl, _, _, _, _, _, _, rfl, rfl, by unfold rText; rw [if_neg (fun q => q h98), if_neg (by omega), hlb, Int.toNat_natCast, if_pos (by rw [hv]; omega), hv]; omega, by omega, by omega⟩)
        · refine lv_aload_n hx hb dX3_readAll_105 rfl (lv_at hl 0 rfl) ?_
          refine m_get C hB 17 (by decide) q1411 (v := .int (iI 0)) rfl rfl dX3_readAll_106 ?_
          refine x_if_eq (tgt := 129) hx hb dX3_readAll_109 (by decide) ⟨by decide, by decide⟩ (fun c74 => ?_) (fun c74 => by exfalso; omega)
          refine lv_aload_n hx hb dX3_readAll_129 rfl (lv_at hl 0 rfl) ?_
          refine lv_iload_n hx hb dX3_readAll_130 rfl (lv_at hl 1 rfl) ?_
          refine lv_bipush (v := iI 44) hx hb dX3_readAll_131 rfl ?_
          refine m_calli (n := 2) C hB (As := [.int (iI (((ra + n : Nat) : Int))), .int (iI 44)]) (kX3_isSign l E o Ad I F (ra + 1 + 4 * b) b 0 f g h (ra + n) 44 (by omega) (by omega) (by omega) hOK0) (lw_V q1516 q1518 qs43 q77 q1519) (by decide +kernel) ⟨Nat.le_of_ble_eq_true rfl, Nat.le_of_ble_eq_true rfl⟩ rfl hl.1 rfl (Nat.le_of_ble_eq_true rfl) dX3_readAll_133 ⟨Nat.zero_le _, Nat.zero_le _⟩ (fun z75 I76 F77 H locs hz78 hp79 hB => ?_)
          obtain ⟨hz78a, hz78b⟩ := hz78
          rcases hp79 with ⟨rfl, hsg, rfl, rfl⟩ | ⟨rfl, hsg, rfl, rfl⟩
          · exact absurd (hx59.symm.trans hsg) (by decide)
          · refine x_if_eq (tgt := 154) hx hb dX3_readAll_136 (by decide) ⟨by decide, by decide⟩ (fun c80 => ?_) (fun c80 => by exfalso; omega)
            refine lv_iconst (v := iI 0) hx hb dX3_readAll_154 rfl ?_
            exact m_iret C hB hr hlocks rfl dX3_readAll_155 ⟨by decide, by decide⟩ (by
                          have hv : lfR (fun p => ce F (ra + n) (ra + p)) 8 0 = -129 := by rw [hlf, hb7e, show 8 - 7 = 0 + 1 from rfl, lfR_s, if_pos (Or.inr (by rw [hb7e] at hx59; exact hx59)), if_pos (Or.inl rfl)]; rfl
                          exact Or.inr ⟨rfl, _, _, _, _, _, _, rfl, rfl, by unfold rText; rw [if_neg (fun q => q h98), if_pos (by omega)]; omega, by omega, by omega⟩)
      · refine lv_aload_n hx hb dX3_readAll_38 rfl (lv_at hl 0 rfl) ?_
        refine m_get C hB 15 (by decide) q1409 (v := .int (iI (((ra + 1 + 4 * b : Nat) : Int)))) rfl rfl dX3_readAll_39 ?_
        refine lv_iload_n hx hb dX3_readAll_42 rfl (lv_at hl 1 rfl) ?_
        refine x_icmp_ge (tgt := 105) hx hb dX3_readAll_43 (by decide) ⟨by omega, by omega⟩ ⟨by omega, by omega⟩ (fun c81 => ?_) (fun c81 => ?_)
        · have h98 : ce F (ra + n) (ra + 0) = 98 := h0
          have hcs : (1 ≤ b ∧ lfR (fun p => ce F (ra + n) (ra + p)) 8 0 = ((1 + 4 * b : Nat) : Int)) ∨ (b = 7 ∧ ce F (ra + n) (ra + 1 + 4 * b) = 59) := by
            by_cases q : ce F (ra + n) (ra + 1 + 4 * b) = 59
            · exact Or.inr ⟨by omega, q⟩
            · refine Or.inl ⟨by omega, ?_⟩
              rw [hlf, show 8 - b = (7 - b) + 1 by omega, lfR_s, if_neg (by rw [show ra + (1 + 4 * b) = ra + 1 + 4 * b by omega]; omega)]
          rcases hcs with ⟨hb1, hlb⟩ | ⟨hb7e, hx59⟩
          · replace hB : mB E (xA w sz) s o Ad (rdI I (ra + 1 + 4 * b + 3 * 0) b 0) (rdF F f g h) H locs := hB
            refine w_loop (fun n85 H locs ls => ∃ (c9 : Nat) (g : Nat → Int) (h : Nat → Int), n85 = 7 - c9 ∧ (c9 ≤ 7) ∧ (rtR (fun p => ce F (ra + n) (ra + p)) n (1 + 4 * b) 8 0 = rtR (fun p => ce F (ra + n) (ra + p)) n (1 + 4 * b) (8 - c9) c9) ∧ (c9 = 0 ∨ 1 + 4 * b + 3 * c9 ≤ n) ∧ (∀ k, k < b → f k = kOf (ce F (ra + n) (ra + (2 + 4 * k))) ∧ g k = lOf (ce F (ra + n) (ra + (3 + 4 * k))) ∧ h k = aOf (ce F (ra + n) (ra + (4 + 4 * k))) ∧ f k ≠ -9 ∧ g k ≠ -9 ∧ h k ≠ -9) ∧ (∀ k, k < c9 → g (k + 7) = lOf (ce F (ra + n) (ra + (1 + 4 * b + 1 + 3 * k))) ∧ h (k + 7) = aOf (ce F (ra + n) (ra + (1 + 4 * b + 2 + 3 * k))) ∧ g (k + 7) ≠ -9 ∧ h (k + 7) ≠ -9) ∧ mB E (xA w sz) s o Ad (rdI I (ra + 1 + 4 * b + 3 * c9) b c9) (rdF F f g h) H locs ∧ lv_has ls 2 [(0, .ref o), (1, .int (iI (((ra + n : Nat) : Int))))]) _ ⟨0, _, _, rfl, by omega, rfl, Or.inl rfl, hL8, fun k hk => absurd hk (Nat.not_lt_zero k), hB, lv_sub hl [0, 1] rfl⟩ ?_
            intro n85 H locs ls hI84 ih82
            obtain ⟨c9, g, h, hn83, hc7, hrt, hpos, hL9, hR9, hB, hl⟩ := hI84
            refine lv_aload_n hx hb dX3_readAll_105 rfl (lv_at hl 0 rfl) ?_
            refine m_get C hB 17 (by decide) q1411 (v := .int (iI ((c9 : Int)))) rfl rfl dX3_readAll_106 ?_
            refine x_if_eq (tgt := 129) hx hb dX3_readAll_109 (by decide) ⟨by omega, by omega⟩ (fun c86 => ?_) (fun c86 => ?_)
            · refine lv_aload_n hx hb dX3_readAll_129 rfl (lv_at hl 0 rfl) ?_
              refine lv_iload_n hx hb dX3_readAll_130 rfl (lv_at hl 1 rfl) ?_
              refine lv_bipush (v := iI 44) hx hb dX3_readAll_131 rfl ?_
              refine m_calli (n := 2) C hB (As := [.int (iI (((ra + n : Nat) : Int))), .int (iI 44)]) (kX3_isSign l E o Ad I F (ra + 1 + 4 * b + 3 * c9) b c9 f g h (ra + n) 44 (by omega) (by omega) (by omega) hOK0) (lw_V q1516 q1518 qs43 q77 q1519) (by decide +kernel) ⟨Nat.le_of_ble_eq_true rfl, Nat.le_of_ble_eq_true rfl⟩ rfl hl.1 rfl (Nat.le_of_ble_eq_true rfl) dX3_readAll_133 ⟨Nat.zero_le _, Nat.zero_le _⟩ (fun z87 I88 F89 H locs hz90 hp91 hB => ?_)
              obtain ⟨hz90a, hz90b⟩ := hz90
              rcases hp91 with ⟨rfl, hsg, rfl, rfl⟩ | ⟨rfl, hsg, rfl, rfl⟩
              · have hgo : c9 = 0 ∨ 1 + 4 * b + 3 * c9 < n := by have := ce_c F (ra + n) (ra + 1 + 4 * b + 3 * c9); omega
                have hg7 : ¬ (c9 = 7 ∨ ce F (ra + n) (ra + (1 + 4 * b + 3 * c9)) ≠ 44) := by rw [show ra + (1 + 4 * b + 3 * c9) = ra + 1 + 4 * b + 3 * c9 by omega]; omega
                refine x_if_eq (tgt := 154) hx hb dX3_readAll_136 (by decide) ⟨by decide, by decide⟩ (fun c92 => by exfalso; omega) (fun c92 => ?_)
                refine lv_aload_n hx hb dX3_readAll_139 rfl (lv_at hl 0 rfl) ?_
                refine lv_iload_n hx hb dX3_readAll_140 rfl (lv_at hl 1 rfl) ?_
                refine lv_bipush (v := iI 7) hx hb dX3_readAll_141 rfl ?_
                refine lv_aload_n hx hb dX3_readAll_143 rfl (lv_at hl 0 rfl) ?_
                refine m_get C hB 17 (by decide) q1411 (v := .int (iI ((c9 : Int)))) rfl rfl dX3_readAll_144 ?_
                refine x_iadd (z := (c9 : Int) + 7) hx hb dX3_readAll_147 (by omega) ?_
                refine m_calli (n := 2) C hB (As := [.int (iI (((ra + n : Nat) : Int))), .int (iI ((c9 : Int) + 7))]) (kX3_readSentence l E o Ad I F (ra + 1 + 4 * b + 3 * c9 + 1) b c9 f g h (ra + n) (c9 + 7) (by omega) (by omega) (by omega) hOK0) (lw_V q1524 q1526 qs45 q77 q1527) (by decide +kernel) ⟨Nat.le_of_ble_eq_true rfl, Nat.le_of_ble_eq_true rfl⟩ rfl hl.1 rfl (Nat.le_of_ble_eq_true rfl) dX3_readAll_148 ⟨Nat.zero_le _, Nat.zero_le _⟩ (fun z93 I94 F95 H locs hz96 hp97 hB => ?_)
                obtain ⟨hz96a, hz96b⟩ := hz96
                rcases hp97 with ⟨rfl, hs4, rfl, rfl⟩ | ⟨rfl, hs4, rfl, rfl⟩ | ⟨rfl, hs4, rfl, rfl⟩
                · obtain ⟨hll, haa⟩ := hs4
                  rw [show ra + 1 + 4 * b + 3 * c9 + 1 = ra + (1 + 4 * b + 1 + 3 * c9) by omega] at hll
                  rw [show ra + 1 + 4 * b + 3 * c9 + 1 + 1 = ra + (1 + 4 * b + 2 + 3 * c9) by omega] at haa
                  rw [show ra + 1 + 4 * b + 3 * c9 + 1 + 1 + 1 = ra + 1 + 4 * b + 3 * (c9 + 1) by omega, show ra + 1 + 4 * b + 3 * c9 + 1 + 1 = ra + (1 + 4 * b + 2 + 3 * c9) by omega, show ra + 1 + 4 * b + 3 * c9 + 1 = ra + (1 + 4 * b + 1 + 3 * c9) by omega] at hB
                  refine x_if_ne (tgt := 156) hx hb dX3_readAll_151 (by decide) ⟨by decide, by decide⟩ (fun c98 => ?_) (fun c98 => by exfalso; omega)
                  refine lv_aload_n hx hb dX3_readAll_156 rfl (lv_at hl 0 rfl) ?_
                  refine lv_dup hx hb dX3_readAll_157 rfl ?_
                  refine m_get C hB 17 (by decide) q1411 (v := .int (iI ((c9 : Int)))) rfl rfl dX3_readAll_158 ?_
                  refine lv_iconst (v := iI 1) hx hb dX3_readAll_161 rfl ?_
                  refine x_iadd (z := (c9 : Int) + 1) hx hb dX3_readAll_162 (by omega) ?_
                  refine m_put C hB 17 (by decide) rfl q1411 rfl rfl dX3_readAll_163 (fun H locs hB => ?_)
                  replace hB : mB E (xA w sz) s o Ad (va_up (rdI I (ra + 1 + 4 * b + 3 * (c9 + 1)) b c9) 17 ((c9 + 1 : Nat) : Int)) (rdF F f (va_up g (c9 + 7) (lOf (ce F (ra + n) (ra + (1 + 4 * b + 1 + 3 * c9))))) (va_up h (c9 + 7) (aOf (ce F (ra + n) (ra + (1 + 4 * b + 2 + 3 * c9)))))) H locs := hB
                  rw [rdI_17] at hB
                  refine lv_goto (tgt := 105) hx hb dX3_readAll_166 (by decide) ?_
                  replace hB : mB E (xA w sz) s o Ad (rdI I (ra + 1 + 4 * b + 3 * (c9 + 1)) b (c9 + 1)) (rdF F f (va_up g (c9 + 7) (lOf (ce F (ra + n) (ra + (1 + 4 * b + 1 + 3 * c9))))) (va_up h (c9 + 7) (aOf (ce F (ra + n) (ra + (1 + 4 * b + 2 + 3 * c9)))))) H locs := hB
                  exact ih82 _ _ _ _ (by omega) ⟨c9 + 1, _, _, rfl, by omega, by rw [hrt, show 8 - c9 = (8 - (c9 + 1)) + 1 by omega, rtR_s, if_pos hgo, if_neg hg7, if_neg hll, if_neg haa], by have := aOf_in haa; omega, fun k hk => by
                        have e : k ≠ c9 + 7 := by omega
                        rw [va_up_n _ _ e, va_up_n _ _ e]
                        exact hL9 k hk, fun k hk => by
                        by_cases e : k = c9
                        · subst e
                          rw [va_up_s, va_up_s]
                          exact ⟨rfl, rfl, hll, haa⟩
                        · rw [va_up_n _ _ (show k + 7 ≠ c9 + 7 by omega), va_up_n _ _ (show k + 7 ≠ c9 + 7 by omega)]
                          exact hR9 k (by omega), hB, lv_sub hl [0, 1] rfl⟩
                · obtain ⟨hll, haa⟩ := hs4
                  rw [show ra + 1 + 4 * b + 3 * c9 + 1 = ra + (1 + 4 * b + 1 + 3 * c9) by omega] at hll
                  rw [show ra + 1 + 4 * b + 3 * c9 + 1 + 1 = ra + (1 + 4 * b + 2 + 3 * c9) by omega] at haa
                  rw [show ra + 1 + 4 * b + 3 * c9 + 1 + 1 = ra + (1 + 4 * b + 2 + 3 * c9) by omega, show ra + 1 + 4 * b + 3 * c9 + 1 = ra + (1 + 4 * b + 1 + 3 * c9) by omega] at hB
                  refine x_if_ne (tgt := 156) hx hb dX3_readAll_151 (by decide) ⟨by decide, by decide⟩ (fun c99 => by exfalso; omega) (fun c99 => ?_)
                  refine lv_iconst (v := iI 0) hx hb dX3_readAll_154 rfl ?_
                  exact m_iret C hB hr hlocks rfl dX3_readAll_155 ⟨by decide, by decide⟩ (by
                                      have hv : rtR (fun p => ce F (ra + n) (ra + p)) n (1 + 4 * b) 8 0 = -102 - ((1 + 4 * b + 3 * c9 : Nat) : Int) := by
                                        rw [hrt, show 8 - c9 = (8 - (c9 + 1)) + 1 by omega, rtR_s, if_pos hgo, if_neg hg7, if_neg hll, if_pos haa]
                                      exact Or.inr ⟨rfl, _, _, _, _, _, _, rfl, rfl, by unfold rText; rw [if_neg (fun q => q h98), if_neg (by omega), hlb, Int.toNat_natCast, if_pos (by rw [hv]; omega), hv]; omega, by omega, by omega⟩)
                · rw [show ra + 1 + 4 * b + 3 * c9 + 1 = ra + (1 + 4 * b + 1 + 3 * c9) by omega] at hs4
                  rw [show ra + 1 + 4 * b + 3 * c9 + 1 = ra + (1 + 4 * b + 1 + 3 * c9) by omega] at hB
                  refine x_if_ne (tgt := 156) hx hb dX3_readAll_151 (by decide) ⟨by decide, by decide⟩ (fun c100 => by exfalso; omega) (fun c100 => ?_)
                  refine lv_iconst (v := iI 0) hx hb dX3_readAll_154 rfl ?_
                  exact m_iret C hB hr hlocks rfl dX3_readAll_155 ⟨by decide, by decide⟩ (by
                                      have hv : rtR (fun p => ce F (ra + n) (ra + p)) n (1 + 4 * b) 8 0 = -101 - ((1 + 4 * b + 3 * c9 : Nat) : Int) := by
                                        rw [hrt, show 8 - c9 = (8 - (c9 + 1)) + 1 by omega, rtR_s, if_pos hgo, if_neg hg7, if_pos hs4]
                                      exact Or.inr ⟨rfl, _, _, _, _, _, _, rfl, rfl, by unfold rText; rw [if_neg (fun q => q h98), if_neg (by omega), hlb, Int.toNat_natCast, if_pos (by rw [hv]; omega), hv]; omega, by omega, by omega⟩)
              · refine x_if_eq (tgt := 154) hx hb dX3_readAll_136 (by decide) ⟨by decide, by decide⟩ (fun c101 => ?_) (fun c101 => by exfalso; omega)
                refine lv_iconst (v := iI 0) hx hb dX3_readAll_154 rfl ?_
                exact m_iret C hB hr hlocks rfl dX3_readAll_155 ⟨by decide, by decide⟩ (by
                                  have hv : rtR (fun p => ce F (ra + n) (ra + p)) n (1 + 4 * b) 8 0 = -100 - ((1 + 4 * b + 3 * c9 : Nat) : Int) := by
                                    rw [hrt, show 8 - c9 = (8 - (c9 + 1)) + 1 by omega, rtR_s, if_pos (by omega), if_pos (Or.inr (by rw [show ra + (1 + 4 * b + 3 * c9) = ra + 1 + 4 * b + 3 * c9 by omega]; exact hsg))]
                                  exact Or.inr ⟨rfl, _, _, _, _, _, _, rfl, rfl, by unfold rText; rw [if_neg (fun q => q h98), if_neg (by omega), hlb, Int.toNat_natCast, if_pos (by rw [hv]; omega), hv]; omega, by omega, by omega⟩)
            · refine lv_aload_n hx hb dX3_readAll_112 rfl (lv_at hl 0 rfl) ?_
              refine m_get C hB 17 (by decide) q1411 (v := .int (iI ((c9 : Int)))) rfl rfl dX3_readAll_113 ?_
              refine lv_bipush (v := iI 7) hx hb dX3_readAll_116 rfl ?_
              refine x_icmp_ge (tgt := 169) hx hb dX3_readAll_118 (by decide) ⟨by omega, by omega⟩ ⟨by decide, by decide⟩ (fun c102 => ?_) (fun c102 => ?_)
              · refine lv_aload_n hx hb dX3_readAll_169 rfl (lv_at hl 0 rfl) ?_
                refine m_get C hB 15 (by decide) q1409 (v := .int (iI (((ra + 1 + 4 * b + 3 * c9 : Nat) : Int)))) rfl rfl dX3_readAll_170 ?_
                refine lv_iload_n hx hb dX3_readAll_173 rfl (lv_at hl 1 rfl) ?_
                refine x_icmp_ne (tgt := 181) hx hb dX3_readAll_174 (by decide) ⟨by omega, by omega⟩ ⟨by omega, by omega⟩ (fun c103 => ?_) (fun c103 => ?_)
                · refine lv_iconst (v := iI 0) hx hb dX3_readAll_181 rfl ?_
                  exact m_iret C hB hr hlocks rfl dX3_readAll_182 ⟨by decide, by decide⟩ (by
                                      have hv : rtR (fun p => ce F (ra + n) (ra + p)) n (1 + 4 * b) 8 0 = -100 - ((1 + 4 * b + 3 * c9 : Nat) : Int) := by
                                        rw [hrt, show 8 - c9 = (7 - c9) + 1 by omega, rtR_s, if_pos (by omega), if_pos (Or.inl (by omega))]
                                      exact Or.inr ⟨rfl, _, _, _, _, _, _, rfl, rfl, by unfold rText; rw [if_neg (fun q => q h98), if_neg (by omega), hlb, Int.toNat_natCast, if_pos (by rw [hv]; omega), hv]; omega, by omega, by omega⟩)
                · refine lv_iconst (v := iI 1) hx hb dX3_readAll_177 rfl ?_
                  refine lv_goto (tgt := 182) hx hb dX3_readAll_178 (by decide) ?_
                  exact m_iret C hB hr hlocks rfl dX3_readAll_182 ⟨by decide, by decide⟩ (Or.inl ⟨rfl, _, _, _, _, _, _, rfl, rfl, h98, hlb, by rw [hrt, show 8 - c9 = (7 - c9) + 1 by omega, rtR_s, if_neg (by omega)], ⟨hb1, hb7⟩, ⟨by omega, hc7⟩, hL9, hR9⟩)
              · refine lv_aload_n hx hb dX3_readAll_121 rfl (lv_at hl 0 rfl) ?_
                refine m_get C hB 15 (by decide) q1409 (v := .int (iI (((ra + 1 + 4 * b + 3 * c9 : Nat) : Int)))) rfl rfl dX3_readAll_122 ?_
                refine lv_iload_n hx hb dX3_readAll_125 rfl (lv_at hl 1 rfl) ?_
                refine x_icmp_ge (tgt := 169) hx hb dX3_readAll_126 (by decide) ⟨by omega, by omega⟩ ⟨by omega, by omega⟩ (fun c104 => ?_) (fun c104 => ?_)
                · refine lv_aload_n hx hb dX3_readAll_169 rfl (lv_at hl 0 rfl) ?_
                  refine m_get C hB 15 (by decide) q1409 (v := .int (iI (((ra + 1 + 4 * b + 3 * c9 : Nat) : Int)))) rfl rfl dX3_readAll_170 ?_
                  refine lv_iload_n hx hb dX3_readAll_173 rfl (lv_at hl 1 rfl) ?_
                  refine x_icmp_ne (tgt := 181) hx hb dX3_readAll_174 (by decide) ⟨by omega, by omega⟩ ⟨by omega, by omega⟩ (fun c105 => ?_) (fun c105 => ?_)
                  · refine lv_iconst (v := iI 0) hx hb dX3_readAll_181 rfl ?_
                    exact m_iret C hB hr hlocks rfl dX3_readAll_182 ⟨by decide, by decide⟩ (by
                                          have hv : rtR (fun p => ce F (ra + n) (ra + p)) n (1 + 4 * b) 8 0 = -100 - ((1 + 4 * b + 3 * c9 : Nat) : Int) := by
                                            rw [hrt, show 8 - c9 = (7 - c9) + 1 by omega, rtR_s, if_pos (by omega), if_pos (Or.inl (by omega))]
                                          exact Or.inr ⟨rfl, _, _, _, _, _, _, rfl, rfl, by unfold rText; rw [if_neg (fun q => q h98), if_neg (by omega), hlb, Int.toNat_natCast, if_pos (by rw [hv]; omega), hv]; omega, by omega, by omega⟩)
                  · refine lv_iconst (v := iI 1) hx hb dX3_readAll_177 rfl ?_
                    refine lv_goto (tgt := 182) hx hb dX3_readAll_178 (by decide) ?_
                    exact m_iret C hB hr hlocks rfl dX3_readAll_182 ⟨by decide, by decide⟩ (Or.inl ⟨rfl, _, _, _, _, _, _, rfl, rfl, h98, hlb, by rw [hrt, show 8 - c9 = (7 - c9) + 1 by omega, rtR_s, if_neg (by omega)], ⟨hb1, hb7⟩, ⟨by omega, hc7⟩, hL9, hR9⟩)
                · refine lv_aload_n hx hb dX3_readAll_129 rfl (lv_at hl 0 rfl) ?_
                  refine lv_iload_n hx hb dX3_readAll_130 rfl (lv_at hl 1 rfl) ?_
                  refine lv_bipush (v := iI 44) hx hb dX3_readAll_131 rfl ?_
                  refine m_calli (n := 2) C hB (As := [.int (iI (((ra + n : Nat) : Int))), .int (iI 44)]) (kX3_isSign l E o Ad I F (ra + 1 + 4 * b + 3 * c9) b c9 f g h (ra + n) 44 (by omega) (by omega) (by omega) hOK0) (lw_V q1516 q1518 qs43 q77 q1519) (by decide +kernel) ⟨Nat.le_of_ble_eq_true rfl, Nat.le_of_ble_eq_true rfl⟩ rfl hl.1 rfl (Nat.le_of_ble_eq_true rfl) dX3_readAll_133 ⟨Nat.zero_le _, Nat.zero_le _⟩ (fun z106 I107 F108 H locs hz109 hp110 hB => ?_)
                  obtain ⟨hz109a, hz109b⟩ := hz109
                  rcases hp110 with ⟨rfl, hsg, rfl, rfl⟩ | ⟨rfl, hsg, rfl, rfl⟩
                  · have hgo : c9 = 0 ∨ 1 + 4 * b + 3 * c9 < n := by have := ce_c F (ra + n) (ra + 1 + 4 * b + 3 * c9); omega
                    have hg7 : ¬ (c9 = 7 ∨ ce F (ra + n) (ra + (1 + 4 * b + 3 * c9)) ≠ 44) := by rw [show ra + (1 + 4 * b + 3 * c9) = ra + 1 + 4 * b + 3 * c9 by omega]; omega
                    refine x_if_eq (tgt := 154) hx hb dX3_readAll_136 (by decide) ⟨by decide, by decide⟩ (fun c111 => by exfalso; omega) (fun c111 => ?_)
                    refine lv_aload_n hx hb dX3_readAll_139 rfl (lv_at hl 0 rfl) ?_
                    refine lv_iload_n hx hb dX3_readAll_140 rfl (lv_at hl 1 rfl) ?_
                    refine lv_bipush (v := iI 7) hx hb dX3_readAll_141 rfl ?_
                    refine lv_aload_n hx hb dX3_readAll_143 rfl (lv_at hl 0 rfl) ?_
                    refine m_get C hB 17 (by decide) q1411 (v := .int (iI ((c9 : Int)))) rfl rfl dX3_readAll_144 ?_
                    refine x_iadd (z := (c9 : Int) + 7) hx hb dX3_readAll_147 (by omega) ?_
                    refine m_calli (n := 2) C hB (As := [.int (iI (((ra + n : Nat) : Int))), .int (iI ((c9 : Int) + 7))]) (kX3_readSentence l E o Ad I F (ra + 1 + 4 * b + 3 * c9 + 1) b c9 f g h (ra + n) (c9 + 7) (by omega) (by omega) (by omega) hOK0) (lw_V q1524 q1526 qs45 q77 q1527) (by decide +kernel) ⟨Nat.le_of_ble_eq_true rfl, Nat.le_of_ble_eq_true rfl⟩ rfl hl.1 rfl (Nat.le_of_ble_eq_true rfl) dX3_readAll_148 ⟨Nat.zero_le _, Nat.zero_le _⟩ (fun z112 I113 F114 H locs hz115 hp116 hB => ?_)
                    obtain ⟨hz115a, hz115b⟩ := hz115
                    rcases hp116 with ⟨rfl, hs4, rfl, rfl⟩ | ⟨rfl, hs4, rfl, rfl⟩ | ⟨rfl, hs4, rfl, rfl⟩
                    · obtain ⟨hll, haa⟩ := hs4
                      rw [show ra + 1 + 4 * b + 3 * c9 + 1 = ra + (1 + 4 * b + 1 + 3 * c9) by omega] at hll
                      rw [show ra + 1 + 4 * b + 3 * c9 + 1 + 1 = ra + (1 + 4 * b + 2 + 3 * c9) by omega] at haa
                      rw [show ra + 1 + 4 * b + 3 * c9 + 1 + 1 + 1 = ra + 1 + 4 * b + 3 * (c9 + 1) by omega, show ra + 1 + 4 * b + 3 * c9 + 1 + 1 = ra + (1 + 4 * b + 2 + 3 * c9) by omega, show ra + 1 + 4 * b + 3 * c9 + 1 = ra + (1 + 4 * b + 1 + 3 * c9) by omega] at hB
                      refine x_if_ne (tgt := 156) hx hb dX3_readAll_151 (by decide) ⟨by decide, by decide⟩ (fun c117 => ?_) (fun c117 => by exfalso; omega)
                      refine lv_aload_n hx hb dX3_readAll_156 rfl (lv_at hl 0 rfl) ?_
                      refine lv_dup hx hb dX3_readAll_157 rfl ?_
                      refine m_get C hB 17 (by decide) q1411 (v := .int (iI ((c9 : Int)))) rfl rfl dX3_readAll_158 ?_
                      refine lv_iconst (v := iI 1) hx hb dX3_readAll_161 rfl ?_
                      refine x_iadd (z := (c9 : Int) + 1) hx hb dX3_readAll_162 (by omega) ?_
                      refine m_put C hB 17 (by decide) rfl q1411 rfl rfl dX3_readAll_163 (fun H locs hB => ?_)
                      replace hB : mB E (xA w sz) s o Ad (va_up (rdI I (ra + 1 + 4 * b + 3 * (c9 + 1)) b c9) 17 ((c9 + 1 : Nat) : Int)) (rdF F f (va_up g (c9 + 7) (lOf (ce F (ra + n) (ra + (1 + 4 * b + 1 + 3 * c9))))) (va_up h (c9 + 7) (aOf (ce F (ra + n) (ra + (1 + 4 * b + 2 + 3 * c9)))))) H locs := hB
                      rw [rdI_17] at hB
                      refine lv_goto (tgt := 105) hx hb dX3_readAll_166 (by decide) ?_
                      replace hB : mB E (xA w sz) s o Ad (rdI I (ra + 1 + 4 * b + 3 * (c9 + 1)) b (c9 + 1)) (rdF F f (va_up g (c9 + 7) (lOf (ce F (ra + n) (ra + (1 + 4 * b + 1 + 3 * c9))))) (va_up h (c9 + 7) (aOf (ce F (ra + n) (ra + (1 + 4 * b + 2 + 3 * c9)))))) H locs := hB
                      exact ih82 _ _ _ _ (by omega) ⟨c9 + 1, _, _, rfl, by omega, by rw [hrt, show 8 - c9 = (8 - (c9 + 1)) + 1 by omega, rtR_s, if_pos hgo, if_neg hg7, if_neg hll, if_neg haa], by have := aOf_in haa; omega, fun k hk => by
                            have e : k ≠ c9 + 7 := by omega
                            rw [va_up_n _ _ e, va_up_n _ _ e]
                            exact hL9 k hk, fun k hk => by
                            by_cases e : k = c9
                            · subst e
                              rw [va_up_s, va_up_s]
                              exact ⟨rfl, rfl, hll, haa⟩
                            · rw [va_up_n _ _ (show k + 7 ≠ c9 + 7 by omega), va_up_n _ _ (show k + 7 ≠ c9 + 7 by omega)]
                              exact hR9 k (by omega), hB, lv_sub hl [0, 1] rfl⟩
                    · obtain ⟨hll, haa⟩ := hs4
                      rw [show ra + 1 + 4 * b + 3 * c9 + 1 = ra + (1 + 4 * b + 1 + 3 * c9) by omega] at hll
                      rw [show ra + 1 + 4 * b + 3 * c9 + 1 + 1 = ra + (1 + 4 * b + 2 + 3 * c9) by omega] at haa
                      rw [show ra + 1 + 4 * b + 3 * c9 + 1 + 1 = ra + (1 + 4 * b + 2 + 3 * c9) by omega, show ra + 1 + 4 * b + 3 * c9 + 1 = ra + (1 + 4 * b + 1 + 3 * c9) by omega] at hB
                      refine x_if_ne (tgt := 156) hx hb dX3_readAll_151 (by decide) ⟨by decide, by decide⟩ (fun c118 => by exfalso; omega) (fun c118 => ?_)
                      refine lv_iconst (v := iI 0) hx hb dX3_readAll_154 rfl ?_
                      exact m_iret C hB hr hlocks rfl dX3_readAll_155 ⟨by decide, by decide⟩ (by
                                              have hv : rtR (fun p => ce F (ra + n) (ra + p)) n (1 + 4 * b) 8 0 = -102 - ((1 + 4 * b + 3 * c9 : Nat) : Int) := by
                                                rw [hrt, show 8 - c9 = (8 - (c9 + 1)) + 1 by omega, rtR_s, if_pos hgo, if_neg hg7, if_neg hll, if_pos haa]
                                              exact Or.inr ⟨rfl, _, _, _, _, _, _, rfl, rfl, by unfold rText; rw [if_neg (fun q => q h98), if_neg (by omega), hlb, Int.toNat_natCast, if_pos (by rw [hv]; omega), hv]; omega, by omega, by omega⟩)
                    · rw [show ra + 1 + 4 * b + 3 * c9 + 1 = ra + (1 + 4 * b + 1 + 3 * c9) by omega] at hs4
                      rw [show ra + 1 + 4 * b + 3 * c9 + 1 = ra + (1 + 4 * b + 1 + 3 * c9) by omega] at hB
                      refine x_if_ne (tgt := 156) hx hb dX3_readAll_151 (by decide) ⟨by decide, by decide⟩ (fun c119 => by exfalso; omega) (fun c119 => ?_)
                      refine lv_iconst (v := iI 0) hx hb dX3_readAll_154 rfl ?_
                      exact m_iret C hB hr hlocks rfl dX3_readAll_155 ⟨by decide, by decide⟩ (by
                                              have hv : rtR (fun p => ce F (ra + n) (ra + p)) n (1 + 4 * b) 8 0 = -101 - ((1 + 4 * b + 3 * c9 : Nat) : Int) := by
                                                rw [hrt, show 8 - c9 = (8 - (c9 + 1)) + 1 by omega, rtR_s, if_pos hgo, if_neg hg7, if_pos hs4]
                                              exact Or.inr ⟨rfl, _, _, _, _, _, _, rfl, rfl, by unfold rText; rw [if_neg (fun q => q h98), if_neg (by omega), hlb, Int.toNat_natCast, if_pos (by rw [hv]; omega), hv]; omega, by omega, by omega⟩)
                  · refine x_if_eq (tgt := 154) hx hb dX3_readAll_136 (by decide) ⟨by decide, by decide⟩ (fun c120 => ?_) (fun c120 => by exfalso; omega)
                    refine lv_iconst (v := iI 0) hx hb dX3_readAll_154 rfl ?_
                    exact m_iret C hB hr hlocks rfl dX3_readAll_155 ⟨by decide, by decide⟩ (by
                                          have hv : rtR (fun p => ce F (ra + n) (ra + p)) n (1 + 4 * b) 8 0 = -100 - ((1 + 4 * b + 3 * c9 : Nat) : Int) := by
                                            rw [hrt, show 8 - c9 = (8 - (c9 + 1)) + 1 by omega, rtR_s, if_pos (by omega), if_pos (Or.inr (by rw [show ra + (1 + 4 * b + 3 * c9) = ra + 1 + 4 * b + 3 * c9 by omega]; exact hsg))]
                                          exact Or.inr ⟨rfl, _, _, _, _, _, _, rfl, rfl, by unfold rText; rw [if_neg (fun q => q h98), if_neg (by omega), hlb, Int.toNat_natCast, if_pos (by rw [hv]; omega), hv]; omega, by omega, by omega⟩)
          · refine lv_aload_n hx hb dX3_readAll_105 rfl (lv_at hl 0 rfl) ?_
            refine m_get C hB 17 (by decide) q1411 (v := .int (iI 0)) rfl rfl dX3_readAll_106 ?_
            refine x_if_eq (tgt := 129) hx hb dX3_readAll_109 (by decide) ⟨by decide, by decide⟩ (fun c121 => ?_) (fun c121 => by exfalso; omega)
            refine lv_aload_n hx hb dX3_readAll_129 rfl (lv_at hl 0 rfl) ?_
            refine lv_iload_n hx hb dX3_readAll_130 rfl (lv_at hl 1 rfl) ?_
            refine lv_bipush (v := iI 44) hx hb dX3_readAll_131 rfl ?_
            refine m_calli (n := 2) C hB (As := [.int (iI (((ra + n : Nat) : Int))), .int (iI 44)]) (kX3_isSign l E o Ad I F (ra + 1 + 4 * b) b 0 f g h (ra + n) 44 (by omega) (by omega) (by omega) hOK0) (lw_V q1516 q1518 qs43 q77 q1519) (by decide +kernel) ⟨Nat.le_of_ble_eq_true rfl, Nat.le_of_ble_eq_true rfl⟩ rfl hl.1 rfl (Nat.le_of_ble_eq_true rfl) dX3_readAll_133 ⟨Nat.zero_le _, Nat.zero_le _⟩ (fun z122 I123 F124 H locs hz125 hp126 hB => ?_)
            obtain ⟨hz125a, hz125b⟩ := hz125
            rcases hp126 with ⟨rfl, hsg, rfl, rfl⟩ | ⟨rfl, hsg, rfl, rfl⟩
            · exact absurd (hx59.symm.trans hsg) (by decide)
            · refine x_if_eq (tgt := 154) hx hb dX3_readAll_136 (by decide) ⟨by decide, by decide⟩ (fun c127 => ?_) (fun c127 => by exfalso; omega)
              refine lv_iconst (v := iI 0) hx hb dX3_readAll_154 rfl ?_
              exact m_iret C hB hr hlocks rfl dX3_readAll_155 ⟨by decide, by decide⟩ (by
                              have hv : lfR (fun p => ce F (ra + n) (ra + p)) 8 0 = -129 := by rw [hlf, hb7e, show 8 - 7 = 0 + 1 from rfl, lfR_s, if_pos (Or.inr (by rw [hb7e] at hx59; exact hx59)), if_pos (Or.inl rfl)]; rfl
                              exact Or.inr ⟨rfl, _, _, _, _, _, _, rfl, rfl, by unfold rText; rw [if_neg (fun q => q h98), if_pos (by omega)]; omega, by omega, by omega⟩)
        · refine lv_aload_n hx hb dX3_readAll_46 rfl (lv_at hl 0 rfl) ?_
          refine m_get C hB 4 (by decide) q1398 (v := .ref (Ad 4)) rfl rfl dX3_readAll_47 ?_
          refine lv_aload_n hx hb dX3_readAll_50 rfl (lv_at hl 0 rfl) ?_
          refine m_get C hB 15 (by decide) q1409 (v := .int (iI (((ra + 1 + 4 * b : Nat) : Int)))) rfl rfl dX3_readAll_51 ?_
          refine m_ald C hB 4 240 rfl (v := F 4 (ra + 1 + 4 * b)) (ra + 1 + 4 * b) rfl (by omega) rfl dX3_readAll_54 ?_
          have := hC (ra + 1 + 4 * b) (by omega)
          refine lv_bipush (v := iI 59) hx hb dX3_readAll_55 rfl ?_
          refine x_icmp_ne (tgt := 105) hx hb dX3_readAll_57 (by decide) ⟨by omega, by omega⟩ ⟨by decide, by decide⟩ (fun c128 => ?_) (fun c128 => ?_)
          · have h98 : ce F (ra + n) (ra + 0) = 98 := h0
            have hcs : (1 ≤ b ∧ lfR (fun p => ce F (ra + n) (ra + p)) 8 0 = ((1 + 4 * b : Nat) : Int)) ∨ (b = 7 ∧ ce F (ra + n) (ra + 1 + 4 * b) = 59) := by
              by_cases q : ce F (ra + n) (ra + 1 + 4 * b) = 59
              · exact Or.inr ⟨by omega, q⟩
              · refine Or.inl ⟨by omega, ?_⟩
                rw [hlf, show 8 - b = (7 - b) + 1 by omega, lfR_s, if_neg (by rw [show ra + (1 + 4 * b) = ra + 1 + 4 * b by omega]; omega)]
            rcases hcs with ⟨hb1, hlb⟩ | ⟨hb7e, hx59⟩
            · replace hB : mB E (xA w sz) s o Ad (rdI I (ra + 1 + 4 * b + 3 * 0) b 0) (rdF F f g h) H locs := hB
              refine w_loop (fun n132 H locs ls => ∃ (c9 : Nat) (g : Nat → Int) (h : Nat → Int), n132 = 7 - c9 ∧ (c9 ≤ 7) ∧ (rtR (fun p => ce F (ra + n) (ra + p)) n (1 + 4 * b) 8 0 = rtR (fun p => ce F (ra + n) (ra + p)) n (1 + 4 * b) (8 - c9) c9) ∧ (c9 = 0 ∨ 1 + 4 * b + 3 * c9 ≤ n) ∧ (∀ k, k < b → f k = kOf (ce F (ra + n) (ra + (2 + 4 * k))) ∧ g k = lOf (ce F (ra + n) (ra + (3 + 4 * k))) ∧ h k = aOf (ce F (ra + n) (ra + (4 + 4 * k))) ∧ f k ≠ -9 ∧ g k ≠ -9 ∧ h k ≠ -9) ∧ (∀ k, k < c9 → g (k + 7) = lOf (ce F (ra + n) (ra + (1 + 4 * b + 1 + 3 * k))) ∧ h (k + 7) = aOf (ce F (ra + n) (ra + (1 + 4 * b + 2 + 3 * k))) ∧ g (k + 7) ≠ -9 ∧ h (k + 7) ≠ -9) ∧ mB E (xA w sz) s o Ad (rdI I (ra + 1 + 4 * b + 3 * c9) b c9) (rdF F f g h) H locs ∧ lv_has ls 2 [(0, .ref o), (1, .int (iI (((ra + n : Nat) : Int))))]) _ ⟨0, _, _, rfl, by omega, rfl, Or.inl rfl, hL8, fun k hk => absurd hk (Nat.not_lt_zero k), hB, lv_sub hl [0, 1] rfl⟩ ?_
              intro n132 H locs ls hI131 ih129
              obtain ⟨c9, g, h, hn130, hc7, hrt, hpos, hL9, hR9, hB, hl⟩ := hI131
              refine lv_aload_n hx hb dX3_readAll_105 rfl (lv_at hl 0 rfl) ?_
              refine m_get C hB 17 (by decide) q1411 (v := .int (iI ((c9 : Int)))) rfl rfl dX3_readAll_106 ?_
              refine x_if_eq (tgt := 129) hx hb dX3_readAll_109 (by decide) ⟨by omega, by omega⟩ (fun c133 => ?_) (fun c133 => ?_)
              · refine lv_aload_n hx hb dX3_readAll_129 rfl (lv_at hl 0 rfl) ?_
                refine lv_iload_n hx hb dX3_readAll_130 rfl (lv_at hl 1 rfl) ?_
                refine lv_bipush (v := iI 44) hx hb dX3_readAll_131 rfl ?_
                refine m_calli (n := 2) C hB (As := [.int (iI (((ra + n : Nat) : Int))), .int (iI 44)]) (kX3_isSign l E o Ad I F (ra + 1 + 4 * b + 3 * c9) b c9 f g h (ra + n) 44 (by omega) (by omega) (by omega) hOK0) (lw_V q1516 q1518 qs43 q77 q1519) (by decide +kernel) ⟨Nat.le_of_ble_eq_true rfl, Nat.le_of_ble_eq_true rfl⟩ rfl hl.1 rfl (Nat.le_of_ble_eq_true rfl) dX3_readAll_133 ⟨Nat.zero_le _, Nat.zero_le _⟩ (fun z134 I135 F136 H locs hz137 hp138 hB => ?_)
                obtain ⟨hz137a, hz137b⟩ := hz137
                rcases hp138 with ⟨rfl, hsg, rfl, rfl⟩ | ⟨rfl, hsg, rfl, rfl⟩
                · have hgo : c9 = 0 ∨ 1 + 4 * b + 3 * c9 < n := by have := ce_c F (ra + n) (ra + 1 + 4 * b + 3 * c9); omega
                  have hg7 : ¬ (c9 = 7 ∨ ce F (ra + n) (ra + (1 + 4 * b + 3 * c9)) ≠ 44) := by rw [show ra + (1 + 4 * b + 3 * c9) = ra + 1 + 4 * b + 3 * c9 by omega]; omega
                  refine x_if_eq (tgt := 154) hx hb dX3_readAll_136 (by decide) ⟨by decide, by decide⟩ (fun c139 => by exfalso; omega) (fun c139 => ?_)
                  refine lv_aload_n hx hb dX3_readAll_139 rfl (lv_at hl 0 rfl) ?_
                  refine lv_iload_n hx hb dX3_readAll_140 rfl (lv_at hl 1 rfl) ?_
                  refine lv_bipush (v := iI 7) hx hb dX3_readAll_141 rfl ?_
                  refine lv_aload_n hx hb dX3_readAll_143 rfl (lv_at hl 0 rfl) ?_
                  refine m_get C hB 17 (by decide) q1411 (v := .int (iI ((c9 : Int)))) rfl rfl dX3_readAll_144 ?_
                  refine x_iadd (z := (c9 : Int) + 7) hx hb dX3_readAll_147 (by omega) ?_
                  refine m_calli (n := 2) C hB (As := [.int (iI (((ra + n : Nat) : Int))), .int (iI ((c9 : Int) + 7))]) (kX3_readSentence l E o Ad I F (ra + 1 + 4 * b + 3 * c9 + 1) b c9 f g h (ra + n) (c9 + 7) (by omega) (by omega) (by omega) hOK0) (lw_V q1524 q1526 qs45 q77 q1527) (by decide +kernel) ⟨Nat.le_of_ble_eq_true rfl, Nat.le_of_ble_eq_true rfl⟩ rfl hl.1 rfl (Nat.le_of_ble_eq_true rfl) dX3_readAll_148 ⟨Nat.zero_le _, Nat.zero_le _⟩ (fun z140 I141 F142 H locs hz143 hp144 hB => ?_)
                  obtain ⟨hz143a, hz143b⟩ := hz143
                  rcases hp144 with ⟨rfl, hs4, rfl, rfl⟩ | ⟨rfl, hs4, rfl, rfl⟩ | ⟨rfl, hs4, rfl, rfl⟩
                  · obtain ⟨hll, haa⟩ := hs4
                    rw [show ra + 1 + 4 * b + 3 * c9 + 1 = ra + (1 + 4 * b + 1 + 3 * c9) by omega] at hll
                    rw [show ra + 1 + 4 * b + 3 * c9 + 1 + 1 = ra + (1 + 4 * b + 2 + 3 * c9) by omega] at haa
                    rw [show ra + 1 + 4 * b + 3 * c9 + 1 + 1 + 1 = ra + 1 + 4 * b + 3 * (c9 + 1) by omega, show ra + 1 + 4 * b + 3 * c9 + 1 + 1 = ra + (1 + 4 * b + 2 + 3 * c9) by omega, show ra + 1 + 4 * b + 3 * c9 + 1 = ra + (1 + 4 * b + 1 + 3 * c9) by omega] at hB
                    refine x_if_ne (tgt := 156) hx hb dX3_readAll_151 (by decide) ⟨by decide, by decide⟩ (fun c145 => ?_) (fun c145 => by exfalso; omega)
                    refine lv_aload_n hx hb dX3_readAll_156 rfl (lv_at hl 0 rfl) ?_
                    refine lv_dup hx hb dX3_readAll_157 rfl ?_
                    refine m_get C hB 17 (by decide) q1411 (v := .int (iI ((c9 : Int)))) rfl rfl dX3_readAll_158 ?_
                    refine lv_iconst (v := iI 1) hx hb dX3_readAll_161 rfl ?_
                    refine x_iadd (z := (c9 : Int) + 1) hx hb dX3_readAll_162 (by omega) ?_
                    refine m_put C hB 17 (by decide) rfl q1411 rfl rfl dX3_readAll_163 (fun H locs hB => ?_)
                    replace hB : mB E (xA w sz) s o Ad (va_up (rdI I (ra + 1 + 4 * b + 3 * (c9 + 1)) b c9) 17 ((c9 + 1 : Nat) : Int)) (rdF F f (va_up g (c9 + 7) (lOf (ce F (ra + n) (ra + (1 + 4 * b + 1 + 3 * c9))))) (va_up h (c9 + 7) (aOf (ce F (ra + n) (ra + (1 + 4 * b + 2 + 3 * c9)))))) H locs := hB
                    rw [rdI_17] at hB
                    refine lv_goto (tgt := 105) hx hb dX3_readAll_166 (by decide) ?_
                    replace hB : mB E (xA w sz) s o Ad (rdI I (ra + 1 + 4 * b + 3 * (c9 + 1)) b (c9 + 1)) (rdF F f (va_up g (c9 + 7) (lOf (ce F (ra + n) (ra + (1 + 4 * b + 1 + 3 * c9))))) (va_up h (c9 + 7) (aOf (ce F (ra + n) (ra + (1 + 4 * b + 2 + 3 * c9)))))) H locs := hB
                    exact ih129 _ _ _ _ (by omega) ⟨c9 + 1, _, _, rfl, by omega, by rw [hrt, show 8 - c9 = (8 - (c9 + 1)) + 1 by omega, rtR_s, if_pos hgo, if_neg hg7, if_neg hll, if_neg haa], by have := aOf_in haa; omega, fun k hk => by
                          have e : k ≠ c9 + 7 := by omega
                          rw [va_up_n _ _ e, va_up_n _ _ e]
                          exact hL9 k hk, fun k hk => by
                          by_cases e : k = c9
                          · subst e
                            rw [va_up_s, va_up_s]
                            exact ⟨rfl, rfl, hll, haa⟩
                          · rw [va_up_n _ _ (show k + 7 ≠ c9 + 7 by omega), va_up_n _ _ (show k + 7 ≠ c9 + 7 by omega)]
                            exact hR9 k (by omega), hB, lv_sub hl [0, 1] rfl⟩
                  · obtain ⟨hll, haa⟩ := hs4
                    rw [show ra + 1 + 4 * b + 3 * c9 + 1 = ra + (1 + 4 * b + 1 + 3 * c9) by omega] at hll
                    rw [show ra + 1 + 4 * b + 3 * c9 + 1 + 1 = ra + (1 + 4 * b + 2 + 3 * c9) by omega] at haa
                    rw [show ra + 1 + 4 * b + 3 * c9 + 1 + 1 = ra + (1 + 4 * b + 2 + 3 * c9) by omega, show ra + 1 + 4 * b + 3 * c9 + 1 = ra + (1 + 4 * b + 1 + 3 * c9) by omega] at hB
                    refine x_if_ne (tgt := 156) hx hb dX3_readAll_151 (by decide) ⟨by decide, by decide⟩ (fun c146 => by exfalso; omega) (fun c146 => ?_)
                    refine lv_iconst (v := iI 0) hx hb dX3_readAll_154 rfl ?_
                    exact m_iret C hB hr hlocks rfl dX3_readAll_155 ⟨by decide, by decide⟩ (by
                                          have hv : rtR (fun p => ce F (ra + n) (ra + p)) n (1 + 4 * b) 8 0 = -102 - ((1 + 4 * b + 3 * c9 : Nat) : Int) := by
                                            rw [hrt, show 8 - c9 = (8 - (c9 + 1)) + 1 by omega, rtR_s, if_pos hgo, if_neg hg7, if_neg hll, if_pos haa]
                                          exact Or.inr ⟨rfl, _, _, _, _, _, _, rfl, rfl, by unfold rText; rw [if_neg (fun q => q h98), if_neg (by omega), hlb, Int.toNat_natCast, if_pos (by rw [hv]; omega), hv]; omega, by omega, by omega⟩)
                  · rw [show ra + 1 + 4 * b + 3 * c9 + 1 = ra + (1 + 4 * b + 1 + 3 * c9) by omega] at hs4
                    rw [show ra + 1 + 4 * b + 3 * c9 + 1 = ra + (1 + 4 * b + 1 + 3 * c9) by omega] at hB
                    refine x_if_ne (tgt := 156) hx hb dX3_readAll_151 (by decide) ⟨by decide, by decide⟩ (fun c147 => by exfalso; omega) (fun c147 => ?_)
                    refine lv_iconst (v := iI 0) hx hb dX3_readAll_154 rfl ?_
                    exact m_iret C hB hr hlocks rfl dX3_readAll_155 ⟨by decide, by decide⟩ (by
                                          have hv : rtR (fun p => ce F (ra + n) (ra + p)) n (1 + 4 * b) 8 0 = -101 - ((1 + 4 * b + 3 * c9 : Nat) : Int) := by
                                            rw [hrt, show 8 - c9 = (8 - (c9 + 1)) + 1 by omega, rtR_s, if_pos hgo, if_neg hg7, if_pos hs4]
                                          exact Or.inr ⟨rfl, _, _, _, _, _, _, rfl, rfl, by unfold rText; rw [if_neg (fun q => q h98), if_neg (by omega), hlb, Int.toNat_natCast, if_pos (by rw [hv]; omega), hv]; omega, by omega, by omega⟩)
                · refine x_if_eq (tgt := 154) hx hb dX3_readAll_136 (by decide) ⟨by decide, by decide⟩ (fun c148 => ?_) (fun c148 => by exfalso; omega)
                  refine lv_iconst (v := iI 0) hx hb dX3_readAll_154 rfl ?_
                  exact m_iret C hB hr hlocks rfl dX3_readAll_155 ⟨by decide, by decide⟩ (by
                                      have hv : rtR (fun p => ce F (ra + n) (ra + p)) n (1 + 4 * b) 8 0 = -100 - ((1 + 4 * b + 3 * c9 : Nat) : Int) := by
                                        rw [hrt, show 8 - c9 = (8 - (c9 + 1)) + 1 by omega, rtR_s, if_pos (by omega), if_pos (Or.inr (by rw [show ra + (1 + 4 * b + 3 * c9) = ra + 1 + 4 * b + 3 * c9 by omega]; exact hsg))]
                                      exact Or.inr ⟨rfl, _, _, _, _, _, _, rfl, rfl, by unfold rText; rw [if_neg (fun q => q h98), if_neg (by omega), hlb, Int.toNat_natCast, if_pos (by rw [hv]; omega), hv]; omega, by omega, by omega⟩)
              · refine lv_aload_n hx hb dX3_readAll_112 rfl (lv_at hl 0 rfl) ?_
                refine m_get C hB 17 (by decide) q1411 (v := .int (iI ((c9 : Int)))) rfl rfl dX3_readAll_113 ?_
                refine lv_bipush (v := iI 7) hx hb dX3_readAll_116 rfl ?_
                refine x_icmp_ge (tgt := 169) hx hb dX3_readAll_118 (by decide) ⟨by omega, by omega⟩ ⟨by decide, by decide⟩ (fun c149 => ?_) (fun c149 => ?_)
                · refine lv_aload_n hx hb dX3_readAll_169 rfl (lv_at hl 0 rfl) ?_
                  refine m_get C hB 15 (by decide) q1409 (v := .int (iI (((ra + 1 + 4 * b + 3 * c9 : Nat) : Int)))) rfl rfl dX3_readAll_170 ?_
                  refine lv_iload_n hx hb dX3_readAll_173 rfl (lv_at hl 1 rfl) ?_
                  refine x_icmp_ne (tgt := 181) hx hb dX3_readAll_174 (by decide) ⟨by omega, by omega⟩ ⟨by omega, by omega⟩ (fun c150 => ?_) (fun c150 => ?_)
                  · refine lv_iconst (v := iI 0) hx hb dX3_readAll_181 rfl ?_
                    exact m_iret C hB hr hlocks rfl dX3_readAll_182 ⟨by decide, by decide⟩ (by
                                          have hv : rtR (fun p => ce F (ra + n) (ra + p)) n (1 + 4 * b) 8 0 = -100 - ((1 + 4 * b + 3 * c9 : Nat) : Int) := by
                                            rw [hrt, show 8 - c9 = (7 - c9) + 1 by omega, rtR_s, if_pos (by omega), if_pos (Or.inl (by omega))]
                                          exact Or.inr ⟨rfl, _, _, _, _, _, _, rfl, rfl, by unfold rText; rw [if_neg (fun q => q h98), if_neg (by omega), hlb, Int.toNat_natCast, if_pos (by rw [hv]; omega), hv]; omega, by omega, by omega⟩)
                  · refine lv_iconst (v := iI 1) hx hb dX3_readAll_177 rfl ?_
                    refine lv_goto (tgt := 182) hx hb dX3_readAll_178 (by decide) ?_
                    exact m_iret C hB hr hlocks rfl dX3_readAll_182 ⟨by decide, by decide⟩ (Or.inl ⟨rfl, _, _, _, _, _, _, rfl, rfl, h98, hlb, by rw [hrt, show 8 - c9 = (7 - c9) + 1 by omega, rtR_s, if_neg (by omega)], ⟨hb1, hb7⟩, ⟨by omega, hc7⟩, hL9, hR9⟩)
                · refine lv_aload_n hx hb dX3_readAll_121 rfl (lv_at hl 0 rfl) ?_
                  refine m_get C hB 15 (by decide) q1409 (v := .int (iI (((ra + 1 + 4 * b + 3 * c9 : Nat) : Int)))) rfl rfl dX3_readAll_122 ?_
                  refine lv_iload_n hx hb dX3_readAll_125 rfl (lv_at hl 1 rfl) ?_
                  refine x_icmp_ge (tgt := 169) hx hb dX3_readAll_126 (by decide) ⟨by omega, by omega⟩ ⟨by omega, by omega⟩ (fun c151 => ?_) (fun c151 => ?_)
                  · refine lv_aload_n hx hb dX3_readAll_169 rfl (lv_at hl 0 rfl) ?_
                    refine m_get C hB 15 (by decide) q1409 (v := .int (iI (((ra + 1 + 4 * b + 3 * c9 : Nat) : Int)))) rfl rfl dX3_readAll_170 ?_
                    refine lv_iload_n hx hb dX3_readAll_173 rfl (lv_at hl 1 rfl) ?_
                    refine x_icmp_ne (tgt := 181) hx hb dX3_readAll_174 (by decide) ⟨by omega, by omega⟩ ⟨by omega, by omega⟩ (fun c152 => ?_) (fun c152 => ?_)
                    · refine lv_iconst (v := iI 0) hx hb dX3_readAll_181 rfl ?_
                      exact m_iret C hB hr hlocks rfl dX3_readAll_182 ⟨by decide, by decide⟩ (by
                                              have hv : rtR (fun p => ce F (ra + n) (ra + p)) n (1 + 4 * b) 8 0 = -100 - ((1 + 4 * b + 3 * c9 : Nat) : Int) := by
                                                rw [hrt, show 8 - c9 = (7 - c9) + 1 by omega, rtR_s, if_pos (by omega), if_pos (Or.inl (by omega))]
                                              exact Or.inr ⟨rfl, _, _, _, _, _, _, rfl, rfl, by unfold rText; rw [if_neg (fun q => q h98), if_neg (by omega), hlb, Int.toNat_natCast, if_pos (by rw [hv]; omega), hv]; omega, by omega, by omega⟩)
                    · refine lv_iconst (v := iI 1) hx hb dX3_readAll_177 rfl ?_
                      refine lv_goto (tgt := 182) hx hb dX3_readAll_178 (by decide) ?_
                      exact m_iret C hB hr hlocks rfl dX3_readAll_182 ⟨by decide, by decide⟩ (Or.inl ⟨rfl, _, _, _, _, _, _, rfl, rfl, h98, hlb, by rw [hrt, show 8 - c9 = (7 - c9) + 1 by omega, rtR_s, if_neg (by omega)], ⟨hb1, hb7⟩, ⟨by omega, hc7⟩, hL9, hR9⟩)
                  · refine lv_aload_n hx hb dX3_readAll_129 rfl (lv_at hl 0 rfl) ?_
                    refine lv_iload_n hx hb dX3_readAll_130 rfl (lv_at hl 1 rfl) ?_
                    refine lv_bipush (v := iI 44) hx hb dX3_readAll_131 rfl ?_
                    refine m_calli (n := 2) C hB (As := [.int (iI (((ra + n : Nat) : Int))), .int (iI 44)]) (kX3_isSign l E o Ad I F (ra + 1 + 4 * b + 3 * c9) b c9 f g h (ra + n) 44 (by omega) (by omega) (by omega) hOK0) (lw_V q1516 q1518 qs43 q77 q1519) (by decide +kernel) ⟨Nat.le_of_ble_eq_true rfl, Nat.le_of_ble_eq_true rfl⟩ rfl hl.1 rfl (Nat.le_of_ble_eq_true rfl) dX3_readAll_133 ⟨Nat.zero_le _, Nat.zero_le _⟩ (fun z153 I154 F155 H locs hz156 hp157 hB => ?_)
                    obtain ⟨hz156a, hz156b⟩ := hz156
                    rcases hp157 with ⟨rfl, hsg, rfl, rfl⟩ | ⟨rfl, hsg, rfl, rfl⟩
                    · have hgo : c9 = 0 ∨ 1 + 4 * b + 3 * c9 < n := by have := ce_c F (ra + n) (ra + 1 + 4 * b + 3 * c9); omega
                      have hg7 : ¬ (c9 = 7 ∨ ce F (ra + n) (ra + (1 + 4 * b + 3 * c9)) ≠ 44) := by rw [show ra + (1 + 4 * b + 3 * c9) = ra + 1 + 4 * b + 3 * c9 by omega]; omega
                      refine x_if_eq (tgt := 154) hx hb dX3_readAll_136 (by decide) ⟨by decide, by decide⟩ (fun c158 => by exfalso; omega) (fun c158 => ?_)
                      refine lv_aload_n hx hb dX3_readAll_139 rfl (lv_at hl 0 rfl) ?_
                      refine lv_iload_n hx hb dX3_readAll_140 rfl (lv_at hl 1 rfl) ?_
                      refine lv_bipush (v := iI 7) hx hb dX3_readAll_141 rfl ?_
                      refine lv_aload_n hx hb dX3_readAll_143 rfl (lv_at hl 0 rfl) ?_
                      refine m_get C hB 17 (by decide) q1411 (v := .int (iI ((c9 : Int)))) rfl rfl dX3_readAll_144 ?_
                      refine x_iadd (z := (c9 : Int) + 7) hx hb dX3_readAll_147 (by omega) ?_
                      refine m_calli (n := 2) C hB (As := [.int (iI (((ra + n : Nat) : Int))), .int (iI ((c9 : Int) + 7))]) (kX3_readSentence l E o Ad I F (ra + 1 + 4 * b + 3 * c9 + 1) b c9 f g h (ra + n) (c9 + 7) (by omega) (by omega) (by omega) hOK0) (lw_V q1524 q1526 qs45 q77 q1527) (by decide +kernel) ⟨Nat.le_of_ble_eq_true rfl, Nat.le_of_ble_eq_true rfl⟩ rfl hl.1 rfl (Nat.le_of_ble_eq_true rfl) dX3_readAll_148 ⟨Nat.zero_le _, Nat.zero_le _⟩ (fun z159 I160 F161 H locs hz162 hp163 hB => ?_)
                      obtain ⟨hz162a, hz162b⟩ := hz162
                      rcases hp163 with ⟨rfl, hs4, rfl, rfl⟩ | ⟨rfl, hs4, rfl, rfl⟩ | ⟨rfl, hs4, rfl, rfl⟩
                      · obtain ⟨hll, haa⟩ := hs4
                        rw [show ra + 1 + 4 * b + 3 * c9 + 1 = ra + (1 + 4 * b + 1 + 3 * c9) by omega] at hll
                        rw [show ra + 1 + 4 * b + 3 * c9 + 1 + 1 = ra + (1 + 4 * b + 2 + 3 * c9) by omega] at haa
                        rw [show ra + 1 + 4 * b + 3 * c9 + 1 + 1 + 1 = ra + 1 + 4 * b + 3 * (c9 + 1) by omega, show ra + 1 + 4 * b + 3 * c9 + 1 + 1 = ra + (1 + 4 * b + 2 + 3 * c9) by omega, show ra + 1 + 4 * b + 3 * c9 + 1 = ra + (1 + 4 * b + 1 + 3 * c9) by omega] at hB
                        refine x_if_ne (tgt := 156) hx hb dX3_readAll_151 (by decide) ⟨by decide, by decide⟩ (fun c164 => ?_) (fun c164 => by exfalso; omega)
                        refine lv_aload_n hx hb dX3_readAll_156 rfl (lv_at hl 0 rfl) ?_
                        refine lv_dup hx hb dX3_readAll_157 rfl ?_
                        refine m_get C hB 17 (by decide) q1411 (v := .int (iI ((c9 : Int)))) rfl rfl dX3_readAll_158 ?_
                        refine lv_iconst (v := iI 1) hx hb dX3_readAll_161 rfl ?_
                        refine x_iadd (z := (c9 : Int) + 1) hx hb dX3_readAll_162 (by omega) ?_
                        refine m_put C hB 17 (by decide) rfl q1411 rfl rfl dX3_readAll_163 (fun H locs hB => ?_)
                        replace hB : mB E (xA w sz) s o Ad (va_up (rdI I (ra + 1 + 4 * b + 3 * (c9 + 1)) b c9) 17 ((c9 + 1 : Nat) : Int)) (rdF F f (va_up g (c9 + 7) (lOf (ce F (ra + n) (ra + (1 + 4 * b + 1 + 3 * c9))))) (va_up h (c9 + 7) (aOf (ce F (ra + n) (ra + (1 + 4 * b + 2 + 3 * c9)))))) H locs := hB
                        rw [rdI_17] at hB
                        refine lv_goto (tgt := 105) hx hb dX3_readAll_166 (by decide) ?_
                        replace hB : mB E (xA w sz) s o Ad (rdI I (ra + 1 + 4 * b + 3 * (c9 + 1)) b (c9 + 1)) (rdF F f (va_up g (c9 + 7) (lOf (ce F (ra + n) (ra + (1 + 4 * b + 1 + 3 * c9))))) (va_up h (c9 + 7) (aOf (ce F (ra + n) (ra + (1 + 4 * b + 2 + 3 * c9)))))) H locs := hB
                        exact ih129 _ _ _ _ (by omega) ⟨c9 + 1, _, _, rfl, by omega, by rw [hrt, show 8 - c9 = (8 - (c9 + 1)) + 1 by omega, rtR_s, if_pos hgo, if_neg hg7, if_neg hll, if_neg haa], by have := aOf_in haa; omega, fun k hk => by
                              have e : k ≠ c9 + 7 := by omega
                              rw [va_up_n _ _ e, va_up_n _ _ e]
                              exact hL9 k hk, fun k hk => by
                              by_cases e : k = c9
                              · subst e
                                rw [va_up_s, va_up_s]
                                exact ⟨rfl, rfl, hll, haa⟩
                              · rw [va_up_n _ _ (show k + 7 ≠ c9 + 7 by omega), va_up_n _ _ (show k + 7 ≠ c9 + 7 by omega)]
                                exact hR9 k (by omega), hB, lv_sub hl [0, 1] rfl⟩
                      · obtain ⟨hll, haa⟩ := hs4
                        rw [show ra + 1 + 4 * b + 3 * c9 + 1 = ra + (1 + 4 * b + 1 + 3 * c9) by omega] at hll
                        rw [show ra + 1 + 4 * b + 3 * c9 + 1 + 1 = ra + (1 + 4 * b + 2 + 3 * c9) by omega] at haa
                        rw [show ra + 1 + 4 * b + 3 * c9 + 1 + 1 = ra + (1 + 4 * b + 2 + 3 * c9) by omega, show ra + 1 + 4 * b + 3 * c9 + 1 = ra + (1 + 4 * b + 1 + 3 * c9) by omega] at hB
                        refine x_if_ne (tgt := 156) hx hb dX3_readAll_151 (by decide) ⟨by decide, by decide⟩ (fun c165 => by exfalso; omega) (fun c165 => ?_)
                        refine lv_iconst (v := iI 0) hx hb dX3_readAll_154 rfl ?_
                        exact m_iret C hB hr hlocks rfl dX3_readAll_155 ⟨by decide, by decide⟩ (by
                                                  have hv : rtR (fun p => ce F (ra + n) (ra + p)) n (1 + 4 * b) 8 0 = -102 - ((1 + 4 * b + 3 * c9 : Nat) : Int) := by
                                                    rw [hrt, show 8 - c9 = (8 - (c9 + 1)) + 1 by omega, rtR_s, if_pos hgo, if_neg hg7, if_neg hll, if_pos haa]
                                                  exact Or.inr ⟨rfl, _, _, _, _, _, _, rfl, rfl, by unfold rText; rw [if_neg (fun q => q h98), if_neg (by omega), hlb, Int.toNat_natCast, if_pos (by rw [hv]; omega), hv]; omega, by omega, by omega⟩)
                      · rw [show ra + 1 + 4 * b + 3 * c9 + 1 = ra + (1 + 4 * b + 1 + 3 * c9) by omega] at hs4
                        rw [show ra + 1 + 4 * b + 3 * c9 + 1 = ra + (1 + 4 * b + 1 + 3 * c9) by omega] at hB
                        refine x_if_ne (tgt := 156) hx hb dX3_readAll_151 (by decide) ⟨by decide, by decide⟩ (fun c166 => by exfalso; omega) (fun c166 => ?_)
                        refine lv_iconst (v := iI 0) hx hb dX3_readAll_154 rfl ?_
                        exact m_iret C hB hr hlocks rfl dX3_readAll_155 ⟨by decide, by decide⟩ (by
                                                  have hv : rtR (fun p => ce F (ra + n) (ra + p)) n (1 + 4 * b) 8 0 = -101 - ((1 + 4 * b + 3 * c9 : Nat) : Int) := by
                                                    rw [hrt, show 8 - c9 = (8 - (c9 + 1)) + 1 by omega, rtR_s, if_pos hgo, if_neg hg7, if_pos hs4]
                                                  exact Or.inr ⟨rfl, _, _, _, _, _, _, rfl, rfl, by unfold rText; rw [if_neg (fun q => q h98), if_neg (by omega), hlb, Int.toNat_natCast, if_pos (by rw [hv]; omega), hv]; omega, by omega, by omega⟩)
                    · refine x_if_eq (tgt := 154) hx hb dX3_readAll_136 (by decide) ⟨by decide, by decide⟩ (fun c167 => ?_) (fun c167 => by exfalso; omega)
                      refine lv_iconst (v := iI 0) hx hb dX3_readAll_154 rfl ?_
                      exact m_iret C hB hr hlocks rfl dX3_readAll_155 ⟨by decide, by decide⟩ (by
                                              have hv : rtR (fun p => ce F (ra + n) (ra + p)) n (1 + 4 * b) 8 0 = -100 - ((1 + 4 * b + 3 * c9 : Nat) : Int) := by
                                                rw [hrt, show 8 - c9 = (8 - (c9 + 1)) + 1 by omega, rtR_s, if_pos (by omega), if_pos (Or.inr (by rw [show ra + (1 + 4 * b + 3 * c9) = ra + 1 + 4 * b + 3 * c9 by omega]; exact hsg))]
                                              exact Or.inr ⟨rfl, _, _, _, _, _, _, rfl, rfl, by unfold rText; rw [if_neg (fun q => q h98), if_neg (by omega), hlb, Int.toNat_natCast, if_pos (by rw [hv]; omega), hv]; omega, by omega, by omega⟩)
            · refine lv_aload_n hx hb dX3_readAll_105 rfl (lv_at hl 0 rfl) ?_
              refine m_get C hB 17 (by decide) q1411 (v := .int (iI 0)) rfl rfl dX3_readAll_106 ?_
              refine x_if_eq (tgt := 129) hx hb dX3_readAll_109 (by decide) ⟨by decide, by decide⟩ (fun c168 => ?_) (fun c168 => by exfalso; omega)
              refine lv_aload_n hx hb dX3_readAll_129 rfl (lv_at hl 0 rfl) ?_
              refine lv_iload_n hx hb dX3_readAll_130 rfl (lv_at hl 1 rfl) ?_
              refine lv_bipush (v := iI 44) hx hb dX3_readAll_131 rfl ?_
              refine m_calli (n := 2) C hB (As := [.int (iI (((ra + n : Nat) : Int))), .int (iI 44)]) (kX3_isSign l E o Ad I F (ra + 1 + 4 * b) b 0 f g h (ra + n) 44 (by omega) (by omega) (by omega) hOK0) (lw_V q1516 q1518 qs43 q77 q1519) (by decide +kernel) ⟨Nat.le_of_ble_eq_true rfl, Nat.le_of_ble_eq_true rfl⟩ rfl hl.1 rfl (Nat.le_of_ble_eq_true rfl) dX3_readAll_133 ⟨Nat.zero_le _, Nat.zero_le _⟩ (fun z169 I170 F171 H locs hz172 hp173 hB => ?_)
              obtain ⟨hz172a, hz172b⟩ := hz172
              rcases hp173 with ⟨rfl, hsg, rfl, rfl⟩ | ⟨rfl, hsg, rfl, rfl⟩
              · exact absurd (hx59.symm.trans hsg) (by decide)
              · refine x_if_eq (tgt := 154) hx hb dX3_readAll_136 (by decide) ⟨by decide, by decide⟩ (fun c174 => ?_) (fun c174 => by exfalso; omega)
                refine lv_iconst (v := iI 0) hx hb dX3_readAll_154 rfl ?_
                exact m_iret C hB hr hlocks rfl dX3_readAll_155 ⟨by decide, by decide⟩ (by
                                  have hv : lfR (fun p => ce F (ra + n) (ra + p)) 8 0 = -129 := by rw [hlf, hb7e, show 8 - 7 = 0 + 1 from rfl, lfR_s, if_pos (Or.inr (by rw [hb7e] at hx59; exact hx59)), if_pos (Or.inl rfl)]; rfl
                                  exact Or.inr ⟨rfl, _, _, _, _, _, _, rfl, rfl, by unfold rText; rw [if_neg (fun q => q h98), if_pos (by omega)]; omega, by omega, by omega⟩)
          · have hb6 : b < 7 := by omega
            refine lv_aload_n hx hb dX3_readAll_60 rfl (lv_at hl 0 rfl) ?_
            refine lv_iload_n hx hb dX3_readAll_61 rfl (lv_at hl 1 rfl) ?_
            refine lv_bipush (v := iI 59) hx hb dX3_readAll_62 rfl ?_
            refine m_calli (n := 2) C hB (As := [.int (iI (((ra + n : Nat) : Int))), .int (iI 59)]) (kX3_isSign l E o Ad I F (ra + 1 + 4 * b) b 0 f g h (ra + n) 59 (by omega) (by omega) (by omega) hOK0) (lw_V q1516 q1518 qs43 q77 q1519) (by decide +kernel) ⟨Nat.le_of_ble_eq_true rfl, Nat.le_of_ble_eq_true rfl⟩ rfl hl.1 rfl (Nat.le_of_ble_eq_true rfl) dX3_readAll_64 ⟨Nat.zero_le _, Nat.zero_le _⟩ (fun z175 I176 F177 H locs hz178 hp179 hB => ?_)
            obtain ⟨hz178a, hz178b⟩ := hz178
            rcases hp179 with ⟨rfl, hsg, rfl, rfl⟩ | ⟨rfl, hsg, rfl, rfl⟩
            · have hgo : b = 0 ∨ ce F (ra + n) (ra + (1 + 4 * b)) = 59 := Or.inr (by rw [show ra + (1 + 4 * b) = ra + 1 + 4 * b by omega]; exact hsg)
              have hg7 : ¬ (b = 7 ∨ ce F (ra + n) (ra + (1 + 4 * b)) ≠ 59) := by rw [show ra + (1 + 4 * b) = ra + 1 + 4 * b by omega]; omega
              refine x_if_eq (tgt := 90) hx hb dX3_readAll_67 (by decide) ⟨by decide, by decide⟩ (fun c180 => by exfalso; omega) (fun c180 => ?_)
              refine lv_aload_n hx hb dX3_readAll_70 rfl (lv_at hl 0 rfl) ?_
              refine lv_iload_n hx hb dX3_readAll_71 rfl (lv_at hl 1 rfl) ?_
              refine m_calli (n := 1) C hB (As := [.int (iI (((ra + n : Nat) : Int)))]) (kX3_readKindNext l E o Ad I F (ra + 1 + 4 * b + 1) b 0 f g h (ra + n) (by omega) (by omega) (by omega) hOK0) (lw_V q1520 q1522 qs44 q77 q1523) (by decide +kernel) ⟨Nat.le_of_ble_eq_true rfl, Nat.le_of_ble_eq_true rfl⟩ rfl hl.1 rfl (Nat.le_of_ble_eq_true rfl) dX3_readAll_72 ⟨Nat.zero_le _, Nat.zero_le _⟩ (fun z181 I182 F183 H locs hz184 hp185 hB => ?_)
              obtain ⟨hz184a, hz184b⟩ := hz184
              rcases hp185 with ⟨rfl, hkk, rfl, rfl⟩ | ⟨rfl, hkk, rfl, rfl⟩
              · rw [show ra + 1 + 4 * b + 1 = ra + (2 + 4 * b) by omega] at hkk
                replace hB : mB E (xA w sz) s o Ad (rdI I (ra + 1 + 4 * b + 1 + 1) b 0) (rdF F (va_up f b (kOf (ce F (ra + n) (ra + 1 + 4 * b + 1)))) g h) H locs := hB
                rw [show ra + 1 + 4 * b + 1 = ra + (2 + 4 * b) by omega] at hB
                refine x_if_eq (tgt := 90) hx hb dX3_readAll_75 (by decide) ⟨by decide, by decide⟩ (fun c186 => by exfalso; omega) (fun c186 => ?_)
                refine lv_aload_n hx hb dX3_readAll_78 rfl (lv_at hl 0 rfl) ?_
                refine lv_iload_n hx hb dX3_readAll_79 rfl (lv_at hl 1 rfl) ?_
                refine lv_aload_n hx hb dX3_readAll_80 rfl (lv_at hl 0 rfl) ?_
                refine m_get C hB 16 (by decide) q1410 (v := .int (iI ((b : Int)))) rfl rfl dX3_readAll_81 ?_
                refine m_calli (n := 2) C hB (As := [.int (iI (((ra + n : Nat) : Int))), .int (iI ((b : Int)))]) (kX3_readSentence l E o Ad I F (ra + (2 + 4 * b) + 1) b 0 (va_up f b (kOf (ce F (ra + n) (ra + (2 + 4 * b))))) g h (ra + n) b (by omega) (by omega) (by omega) hOK0) (lw_V q1524 q1526 qs45 q77 q1527) (by decide +kernel) ⟨Nat.le_of_ble_eq_true rfl, Nat.le_of_ble_eq_true rfl⟩ rfl hl.1 rfl (Nat.le_of_ble_eq_true rfl) dX3_readAll_84 ⟨Nat.zero_le _, Nat.zero_le _⟩ (fun z187 I188 F189 H locs hz190 hp191 hB => ?_)
                obtain ⟨hz190a, hz190b⟩ := hz190
                rcases hp191 with ⟨rfl, hs4, rfl, rfl⟩ | ⟨rfl, hs4, rfl, rfl⟩ | ⟨rfl, hs4, rfl, rfl⟩
                · obtain ⟨hll, haa⟩ := hs4
                  rw [show ra + (2 + 4 * b) + 1 = ra + (3 + 4 * b) by omega] at hll
                  rw [show ra + (2 + 4 * b) + 1 + 1 = ra + (4 + 4 * b) by omega] at haa
                  rw [show ra + (2 + 4 * b) + 1 + 1 + 1 = ra + 1 + 4 * (b + 1) by omega, show ra + (2 + 4 * b) + 1 + 1 = ra + (4 + 4 * b) by omega, show ra + (2 + 4 * b) + 1 = ra + (3 + 4 * b) by omega] at hB
                  refine x_if_ne (tgt := 92) hx hb dX3_readAll_87 (by decide) ⟨by decide, by decide⟩ (fun c192 => ?_) (fun c192 => by exfalso; omega)
                  refine lv_aload_n hx hb dX3_readAll_92 rfl (lv_at hl 0 rfl) ?_
                  refine lv_dup hx hb dX3_readAll_93 rfl ?_
                  refine m_get C hB 16 (by decide) q1410 (v := .int (iI ((b : Int)))) rfl rfl dX3_readAll_94 ?_
                  refine lv_iconst (v := iI 1) hx hb dX3_readAll_97 rfl ?_
                  refine x_iadd (z := (b : Int) + 1) hx hb dX3_readAll_98 (by omega) ?_
                  refine m_put C hB 16 (by decide) rfl q1410 rfl rfl dX3_readAll_99 (fun H locs hB => ?_)
                  replace hB : mB E (xA w sz) s o Ad (va_up (rdI I (ra + 1 + 4 * (b + 1)) b 0) 16 ((b + 1 : Nat) : Int)) (rdF F (va_up f b (kOf (ce F (ra + n) (ra + (2 + 4 * b))))) (va_up g b (lOf (ce F (ra + n) (ra + (3 + 4 * b))))) (va_up h b (aOf (ce F (ra + n) (ra + (4 + 4 * b)))))) H locs := hB
                  rw [rdI_16] at hB
                  refine lv_goto (tgt := 22) hx hb dX3_readAll_102 (by decide) ?_
                  replace hB : mB E (xA w sz) s o Ad (rdI I (ra + 1 + 4 * (b + 1)) (b + 1) 0) (rdF F (va_up f b (kOf (ce F (ra + n) (ra + (2 + 4 * b))))) (va_up g b (lOf (ce F (ra + n) (ra + (3 + 4 * b))))) (va_up h b (aOf (ce F (ra + n) (ra + (4 + 4 * b)))))) H locs := hB
                  exact ih7 _ _ _ _ (by omega) ⟨b + 1, _, _, _, rfl, by omega, by rw [hlf, show 8 - b = (8 - (b + 1)) + 1 by omega, lfR_s, if_pos hgo, if_neg hg7, if_neg hkk, if_neg hll, if_neg haa], fun k hk => by
                        by_cases e : k = b
                        · subst e
                          rw [va_up_s, va_up_s, va_up_s]
                          exact ⟨rfl, rfl, rfl, hkk, hll, haa⟩
                        · rw [va_up_n _ _ e, va_up_n _ _ e, va_up_n _ _ e]
                          exact hL8 k (by omega), hB, lv_sub hl [0, 1] rfl⟩
                · obtain ⟨hll, haa⟩ := hs4
                  rw [show ra + (2 + 4 * b) + 1 = ra + (3 + 4 * b) by omega] at hll
                  rw [show ra + (2 + 4 * b) + 1 + 1 = ra + (4 + 4 * b) by omega] at haa
                  rw [show ra + (2 + 4 * b) + 1 + 1 = ra + (4 + 4 * b) by omega, show ra + (2 + 4 * b) + 1 = ra + (3 + 4 * b) by omega] at hB
                  refine x_if_ne (tgt := 92) hx hb dX3_readAll_87 (by decide) ⟨by decide, by decide⟩ (fun c193 => by exfalso; omega) (fun c193 => ?_)
                  refine lv_iconst (v := iI 0) hx hb dX3_readAll_90 rfl ?_
                  exact m_iret C hB hr hlocks rfl dX3_readAll_91 ⟨by decide, by decide⟩ (by
                                      have h98 : ce F (ra + n) (ra + 0) = 98 := h0
                                      have hv : lfR (fun p => ce F (ra + n) (ra + p)) 8 0 = -103 - ((1 + 4 * b : Nat) : Int) := by
                                        rw [hlf, show 8 - b = (8 - (b + 1)) + 1 by omega, lfR_s, if_pos hgo, if_neg hg7, if_neg hkk, if_neg hll, if_pos haa]
                                      exact Or.inr ⟨rfl, _, _, _, _, _, _, rfl, rfl, by unfold rText; rw [if_neg (fun q => q h98), if_pos (by rw [hv]; omega), hv]; omega, by omega, by omega⟩)
                · rw [show ra + (2 + 4 * b) + 1 = ra + (3 + 4 * b) by omega] at hs4
                  rw [show ra + (2 + 4 * b) + 1 = ra + (3 + 4 * b) by omega] at hB
                  refine x_if_ne (tgt := 92) hx hb dX3_readAll_87 (by decide) ⟨by decide, by decide⟩ (fun c194 => by exfalso; omega) (fun c194 => ?_)
                  refine lv_iconst (v := iI 0) hx hb dX3_readAll_90 rfl ?_
                  exact m_iret C hB hr hlocks rfl dX3_readAll_91 ⟨by decide, by decide⟩ (by
                                      have h98 : ce F (ra + n) (ra + 0) = 98 := h0
                                      have hv : lfR (fun p => ce F (ra + n) (ra + p)) 8 0 = -102 - ((1 + 4 * b : Nat) : Int) := by
                                        rw [hlf, show 8 - b = (8 - (b + 1)) + 1 by omega, lfR_s, if_pos hgo, if_neg hg7, if_neg hkk, if_pos hs4]
                                      exact Or.inr ⟨rfl, _, _, _, _, _, _, rfl, rfl, by unfold rText; rw [if_neg (fun q => q h98), if_pos (by rw [hv]; omega), hv]; omega, by omega, by omega⟩)
              · rw [show ra + 1 + 4 * b + 1 = ra + (2 + 4 * b) by omega] at hkk
                replace hB : mB E (xA w sz) s o Ad (rdI I (ra + 1 + 4 * b + 1) b 0) (rdF F (va_up f b (kOf (ce F (ra + n) (ra + 1 + 4 * b + 1)))) g h) H locs := hB
                rw [show ra + 1 + 4 * b + 1 = ra + (2 + 4 * b) by omega] at hB
                refine x_if_eq (tgt := 90) hx hb dX3_readAll_75 (by decide) ⟨by decide, by decide⟩ (fun c195 => ?_) (fun c195 => by exfalso; omega)
                refine lv_iconst (v := iI 0) hx hb dX3_readAll_90 rfl ?_
                exact m_iret C hB hr hlocks rfl dX3_readAll_91 ⟨by decide, by decide⟩ (by
                                  have h98 : ce F (ra + n) (ra + 0) = 98 := h0
                                  have hv : lfR (fun p => ce F (ra + n) (ra + p)) 8 0 = -101 - ((1 + 4 * b : Nat) : Int) := by
                                    rw [hlf, show 8 - b = (8 - (b + 1)) + 1 by omega, lfR_s, if_pos hgo, if_neg hg7, if_pos hkk]
                                  exact Or.inr ⟨rfl, _, _, _, _, _, _, rfl, rfl, by unfold rText; rw [if_neg (fun q => q h98), if_pos (by rw [hv]; omega), hv]; omega, by omega, by omega⟩)
            · refine x_if_eq (tgt := 90) hx hb dX3_readAll_67 (by decide) ⟨by decide, by decide⟩ (fun c196 => ?_) (fun c196 => by exfalso; omega)
              refine lv_iconst (v := iI 0) hx hb dX3_readAll_90 rfl ?_
              exact m_iret C hB hr hlocks rfl dX3_readAll_91 ⟨by decide, by decide⟩ (by
                              have h98 : ce F (ra + n) (ra + 0) = 98 := h0
                              have hv : lfR (fun p => ce F (ra + n) (ra + p)) 8 0 = -100 - ((1 + 4 * b : Nat) : Int) := by
                                rw [hlf, show 8 - b = (8 - (b + 1)) + 1 by omega, lfR_s, if_pos (by rw [show ra + (1 + 4 * b) = ra + 1 + 4 * b by omega]; omega), if_pos (Or.inr (by rw [show ra + (1 + 4 * b) = ra + 1 + 4 * b by omega]; exact hsg))]
                              exact Or.inr ⟨rfl, _, _, _, _, _, _, rfl, rfl, by unfold rText; rw [if_neg (fun q => q h98), if_pos (by rw [hv]; omega), hv]; omega, by omega, by omega⟩)
  · refine x_if_ne (tgt := 22) hx hb dX3_readAll_17 (by decide) ⟨by decide, by decide⟩ (fun c197 => by exfalso; omega) (fun c197 => ?_)
    refine lv_iconst (v := iI 0) hx hb dX3_readAll_20 rfl ?_
    exact m_iret C hB hr hlocks rfl dX3_readAll_21 ⟨by decide, by decide⟩ (Or.inr ⟨rfl, _, _, _, _, _, _, rfl, rfl, by unfold rText; rw [if_pos (show ((fun p => ce F (ra + n) (ra + p)) 0) ≠ 98 from h0)]; omega, by omega, by omega⟩)
