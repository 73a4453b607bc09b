/-! THE MODEL, 4: the whole table -/
set_option maxHeartbeats 400000 in
set_option maxRecDepth 100000 in
theorem kX3_findAll (l : Launch) (E : xE) (o : Nat) (Ad : Nat → Nat) (I : Nat → Int) (F : Nat → Nat → Int) (f1 f2 f3 : Nat → Int) (wd : Int) (hw : 0 ≤ wd ∧ wd ≤ 7) (hOK : mOK I F) : mi_ l E yX3_findAll cX3_findAll 4 (some .int) 3 77 [.ref o, .int (iI wd)] o Ad I (up3 F f1 f2 f3) (fun z I' F' => I = I' ∧ ∃ g1 g2 g3, up3 F g1 g2 g3 = F' ∧ (∀ i j : Nat, (i : Int) ≤ I 5 → (j : Int) ≤ I 6 → fmT (DT I F wd i j) (g1 (8 * i + j)) (g2 (8 * i + j)) (g3 (8 * i + j))) ∧ z = (if (DT I F wd 0 0).1 = 100000 then -9 else (DT I F wd 0 0).1)) := by
  intro w sz hM
  refine x_body (by decide) (Nat.le_of_ble_eq_true rfl) ?_
  intro p e s m args below meth c ls hx hb C hr hlocks _ hsz hB hl
  have C : xC E p s m args c cX3_findAll 4 RX3 := C
  replace hB : mB E (xA w sz) s o Ad I (up3 F f1 f2 f3) s.heap [] := ⟨w, hM, hB⟩
  have hl : lv_has ls 4 [(0, .ref o), (1, .int (iI wd))] := hl
  have hOK0 := hOK
  obtain ⟨⟨hf1, hf2⟩, ⟨hl1, hl2⟩, ⟨hr1, hr2⟩, hlr, ⟨hs1, hs2⟩, ⟨hj1, hj2⟩, ⟨hb1, hb2⟩, ⟨hn1, hn2⟩, hL, hR, hN, hS, hC⟩ := hOK
  refine lv_aload_n hx hb dX3_findAll_0 rfl (lv_at hl 0 rfl) ?_
  refine m_get C hB 5 (by decide) q1399 (v := .int (iI (I 5))) rfl rfl dX3_findAll_1 ?_
  refine lv_istore_n (lv' := [(2, .int (iI (I 5))), (0, .ref o), (1, .int (iI wd))]) hx hb dX3_findAll_4 rfl hl (by decide) rfl (fun ls hl => ?_)
  refine w_loop (fun n4 H locs ls => ∃ (a : Int) (g1 : Nat → Int) (g2 : Nat → Int) (g3 : Nat → Int), n4 = (a + 1).toNat ∧ (-1 ≤ a ∧ a ≤ I 5) ∧ (∀ i j : Nat, (i : Int) ≤ I 5 → (j : Int) ≤ I 6 → (a < i) → fmT (DT I F wd i j) (g1 (8 * i + j)) (g2 (8 * i + j)) (g3 (8 * i + j))) ∧ mB E (xA w sz) s o Ad I (up3 F g1 g2 g3) H locs ∧ lv_has ls 4 [(0, .ref o), (1, .int (iI wd)), (2, .int (iI a))]) _ ⟨_, _, _, _, rfl, by omega, fun i j h1 h2 h3 => absurd h1 (by omega), hB, lv_sub hl [1, 2, 0] rfl⟩ ?_
  intro n4 H locs ls hI3 ih1
  obtain ⟨a, g1, g2, g3, hn2, ha, hlat, hB, hl⟩ := hI3
  refine lv_iload_n hx hb dX3_findAll_5 rfl (lv_at hl 2 rfl) ?_
  refine x_if_lt (tgt := 37) hx hb dX3_findAll_6 (by decide) ⟨by omega, by omega⟩ (fun c5 => ?_) (fun c5 => ?_)
  · have h00 := hlat 0 0 (by omega) (by omega) (by omega)
    have hV : VB 840 (DT I F wd 0 0) := VBD (by omega) (by omega) (csM60 hOK0) (by omega) (by omega)
    have hb0 : 0 ≤ g1 0 ∧ g1 0 ≤ 99999 ∧ ((DT I F wd 0 0).1 = 100000 → g1 0 = 99999) ∧ ((DT I F wd 0 0).1 ≠ 100000 → g1 0 = (DT I F wd 0 0).1 ∧ g1 0 ≤ 840) := by
      have e := h00.1
      unfold fm at e
      unfold VB at hV
      rw [show g1 0 = g1 (8 * 0 + 0) from rfl, e]
      split <;> omega
    refine lv_aload_n hx hb dX3_findAll_37 rfl (lv_at hl 0 rfl) ?_
    refine m_get C hB 21 (by decide) q1415 (v := .ref (Ad 21)) rfl rfl dX3_findAll_38 ?_
    refine lv_iconst (v := iI 0) hx hb dX3_findAll_41 rfl ?_
    refine m_ald C hB 21 64 rfl (v := g1 0) 0 rfl (by decide) rfl dX3_findAll_42 ?_
    refine lv_ldc hx hb C.1.2.2.2.1 (C.1.2.2.2.2 _ q1552) dX3_findAll_43 ?_
    refine x_rw (y := iI 99999) (by decide) ?_
    refine x_icmp_lt (tgt := 53) hx hb dX3_findAll_45 (by decide) ⟨by omega, by omega⟩ ⟨by decide, by decide⟩ (fun c6 => ?_) (fun c6 => ?_)
    · refine lv_aload_n hx hb dX3_findAll_53 rfl (lv_at hl 0 rfl) ?_
      refine m_get C hB 21 (by decide) q1415 (v := .ref (Ad 21)) rfl rfl dX3_findAll_54 ?_
      refine lv_iconst (v := iI 0) hx hb dX3_findAll_57 rfl ?_
      refine m_ald C hB 21 64 rfl (v := g1 0) 0 rfl (by decide) rfl dX3_findAll_58 ?_
      exact m_iret C hB hr hlocks rfl dX3_findAll_59 ⟨by omega, by omega⟩ ⟨rfl, g1, g2, g3, rfl, fun i j h1 h2 => hlat i j h1 h2 (by omega), by split <;> omega⟩
    · refine lv_bipush (v := iI (-9)) hx hb dX3_findAll_48 rfl ?_
      refine lv_goto (tgt := 59) hx hb dX3_findAll_50 (by decide) ?_
      exact m_iret C hB hr hlocks rfl dX3_findAll_59 ⟨by decide, by decide⟩ ⟨rfl, g1, g2, g3, rfl, fun i j h1 h2 => hlat i j h1 h2 (by omega), by split <;> omega⟩
  · obtain ⟨n, rfl⟩ : ∃ n : Nat, a = (n : Int) := ⟨a.toNat, by omega⟩
    refine lv_aload_n hx hb dX3_findAll_9 rfl (lv_at hl 0 rfl) ?_
    refine m_get C hB 6 (by decide) q1400 (v := .int (iI (I 6))) rfl rfl dX3_findAll_10 ?_
    refine lv_istore_n (lv' := [(3, .int (iI (I 6))), (0, .ref o), (1, .int (iI wd)), (2, .int (iI ((n : Int))))]) hx hb dX3_findAll_13 rfl hl (by decide) rfl (fun ls hl => ?_)
    refine w_loop (fun n10 H locs ls => ∃ (b : Int) (g1 : Nat → Int) (g2 : Nat → Int) (g3 : Nat → Int), n10 = (b + 1).toNat ∧ (-1 ≤ b ∧ b ≤ I 6) ∧ (∀ i j : Nat, (i : Int) ≤ I 5 → (j : Int) ≤ I 6 → ((n < i ∨ (n = i ∧ b < j))) → fmT (DT I F wd i j) (g1 (8 * i + j)) (g2 (8 * i + j)) (g3 (8 * i + j))) ∧ mB E (xA w sz) s o Ad I (up3 F g1 g2 g3) H locs ∧ lv_has ls 4 [(0, .ref o), (1, .int (iI wd)), (2, .int (iI ((n : Int)))), (3, .int (iI b))]) _ ⟨_, _, _, _, rfl, by omega, fun i j h1 h2 h3 => hlat i j h1 h2 (by omega), hB, lv_sub hl [1, 2, 3, 0] rfl⟩ ?_
    intro n10 H locs ls hI9 ih7
    obtain ⟨b, g1, g2, g3, hn8, hbb, hlat, hB, hl⟩ := hI9
    refine lv_iload_n hx hb dX3_findAll_14 rfl (lv_at hl 3 rfl) ?_
    refine x_if_lt (tgt := 31) hx hb dX3_findAll_15 (by decide) ⟨by omega, by omega⟩ (fun c11 => ?_) (fun c11 => ?_)
    · refine lv_iinc (v := iI ((n : Int) + (-1))) (lv' := [(2, .int (iI ((n : Int) + (-1)))), (0, .ref o), (1, .int (iI wd)), (3, .int (iI b))]) hx hb dX3_findAll_31 hl (k := 2) rfl (iI_add _ _) (by decide) rfl (fun ls hl => ?_)
      rw [show ((n : Int) + (-1) : Int) = (n : Int) - 1 by omega] at hl
      refine lv_goto (tgt := 5) hx hb dX3_findAll_34 (by decide) ?_
      exact ih1 _ _ _ _ (by omega) ⟨_, _, _, _, rfl, by omega, fun i j h1 h2 h3 => hlat i j h1 h2 (by omega), hB, lv_sub hl [1, 2, 0] rfl⟩
    · obtain ⟨k, rfl⟩ : ∃ k : Nat, b = (k : Int) := ⟨b.toNat, by omega⟩
      refine lv_aload_n hx hb dX3_findAll_18 rfl (lv_at hl 0 rfl) ?_
      refine lv_iload_n hx hb dX3_findAll_19 rfl (lv_at hl 2 rfl) ?_
      refine lv_iload_n hx hb dX3_findAll_20 rfl (lv_at hl 3 rfl) ?_
      refine lv_iload_n hx hb dX3_findAll_21 rfl (lv_at hl 1 rfl) ?_
      refine m_callv (n := 3) C hB (As := [.int (iI ((n : Int))), .int (iI ((k : Int))), .int (iI wd)]) (kX3_findStand l E o Ad I F g1 g2 g3 n k wd (by omega) (by omega) (by omega) hOK0 (fun i j h1 h2 h3 => hlat i j h1 h2 (by omega))) (lw_V q1548 q1550 qs50 q77 q1551) (by decide +kernel) ⟨Nat.le_of_ble_eq_true rfl, Nat.le_of_ble_eq_true rfl⟩ rfl hl.1 rfl (Nat.le_of_ble_eq_true rfl) dX3_findAll_22 ⟨Nat.zero_le _, Nat.zero_le _⟩ (fun I13 F14 H locs hp16 hB => ?_)
      obtain ⟨rfl, g17, g18, g19, rfl, ho20, hd21⟩ := hp16
      refine lv_iinc (v := iI ((k : Int) + (-1))) (lv' := [(3, .int (iI ((k : Int) + (-1)))), (0, .ref o), (1, .int (iI wd)), (2, .int (iI ((n : Int))))]) hx hb dX3_findAll_25 hl (k := 3) rfl (iI_add _ _) (by decide) rfl (fun ls hl => ?_)
      rw [show ((k : Int) + (-1) : Int) = (k : Int) - 1 by omega] at hl
      refine lv_goto (tgt := 14) hx hb dX3_findAll_28 (by decide) ?_
      exact ih7 _ _ _ _ (by omega) ⟨_, _, _, _, rfl, by omega, fun i j h1 h2 h3 => by
            by_cases q : i = n ∧ j = k
            · obtain ⟨rfl, rfl⟩ := q
              exact hd21
            · rw [(ho20 (8 * i + j) (by omega)).1, (ho20 (8 * i + j) (by omega)).2.1, (ho20 (8 * i + j) (by omega)).2.2]
              exact hlat i j h1 h2 (by omega), hB, lv_sub hl [1, 2, 3, 0] rfl⟩
