/-! THE MODEL, 3: the table -/
set_option maxHeartbeats 400000 in
set_option maxRecDepth 100000 in
theorem kX3_comes (l : Launch) (E : xE) (o : Nat) (Ad : Nat → Nat) (I : Nat → Int) (F : Nat → Nat → Int) (f1 f2 f3 : Nat → Int) (k : Nat) (cc : Int) (mny : Int) (hk : k < 64) (hcr : rg cc) (h1r : 0 ≤ f1 k ∧ f1 k ≤ 99999) (h2r : 0 ≤ f2 k ∧ f2 k ≤ 99999) : mv_ l E yX3_comes cX3_comes 4 none 0 0 [.ref o, .int (iI ((k : Int))), .int (iI cc), .int (iI mny)] o Ad I (up3 F f1 f2 f3) (fun I' F' => I = I' ∧ ∃ g1 g2 g3, up3 F g1 g2 g3 = F' ∧ (∀ q, q ≠ k → g1 q = f1 q ∧ g2 q = f2 q ∧ g3 q = f3 q) ∧ (g1 k, g2 k, g3 k) = cm (f1 k) (f2 k) (f3 k) cc mny) := by
  intro w sz hM
  refine x_body (by decide) (Nat.le_of_ble_eq_true rfl) ?_
  intro p e s m args below meth c ls hx hb C hr hlocks _ hsz hB hl
  have C : xC E p s m args c cX3_comes 4 RX3 := C
  replace hB : mB E (xA w sz) s o Ad I (up3 F f1 f2 f3) s.heap [] := ⟨w, hM, hB⟩
  have hl : lv_has ls 4 [(0, .ref o), (1, .int (iI ((k : Int)))), (2, .int (iI cc)), (3, .int (iI mny))] := hl
  obtain ⟨hcr1, hcr2⟩ := hcr
  refine lv_iload_n hx hb dX3_comes_0 rfl (lv_at hl 2 rfl) ?_
  refine lv_ldc hx hb C.1.2.2.2.1 (C.1.2.2.2.2 _ q1552) dX3_comes_1 ?_
  refine x_rw (y := iI 99999) (by decide) ?_
  refine x_icmp_lt (tgt := 7) hx hb dX3_comes_3 (by decide) ⟨by omega, by omega⟩ ⟨by decide, by decide⟩ (fun c1 => ?_) (fun c1 => ?_)
  · refine lv_iload_n hx hb dX3_comes_7 rfl (lv_at hl 2 rfl) ?_
    refine lv_aload_n hx hb dX3_comes_8 rfl (lv_at hl 0 rfl) ?_
    refine m_get C hB 21 (by decide) q1415 (v := .ref (Ad 21)) rfl rfl dX3_comes_9 ?_
    refine lv_iload_n hx hb dX3_comes_12 rfl (lv_at hl 1 rfl) ?_
    refine m_ald C hB 21 64 rfl (v := f1 k) k rfl (by omega) rfl dX3_comes_13 ?_
    refine x_icmp_ge (tgt := 46) hx hb dX3_comes_14 (by decide) ⟨by omega, by omega⟩ ⟨by omega, by omega⟩ (fun c2 => ?_) (fun c2 => ?_)
    · refine lv_iload_n hx hb dX3_comes_46 rfl (lv_at hl 2 rfl) ?_
      refine lv_aload_n hx hb dX3_comes_47 rfl (lv_at hl 0 rfl) ?_
      refine m_get C hB 21 (by decide) q1415 (v := .ref (Ad 21)) rfl rfl dX3_comes_48 ?_
      refine lv_iload_n hx hb dX3_comes_51 rfl (lv_at hl 1 rfl) ?_
      refine m_ald C hB 21 64 rfl (v := f1 k) k rfl (by omega) rfl dX3_comes_52 ?_
      refine x_icmp_ne (tgt := 76) hx hb dX3_comes_53 (by decide) ⟨by omega, by omega⟩ ⟨by omega, by omega⟩ (fun c3 => ?_) (fun c3 => ?_)
      · refine lv_iload_n hx hb dX3_comes_76 rfl (lv_at hl 2 rfl) ?_
        refine lv_aload_n hx hb dX3_comes_77 rfl (lv_at hl 0 rfl) ?_
        refine m_get C hB 22 (by decide) q1416 (v := .ref (Ad 22)) rfl rfl dX3_comes_78 ?_
        refine lv_iload_n hx hb dX3_comes_81 rfl (lv_at hl 1 rfl) ?_
        refine m_ald C hB 22 64 rfl (v := f2 k) k rfl (by omega) rfl dX3_comes_82 ?_
        refine x_icmp_ge (tgt := 93) hx hb dX3_comes_83 (by decide) ⟨by omega, by omega⟩ ⟨by omega, by omega⟩ (fun c4 => ?_) (fun c4 => ?_)
        · exact m_vret C hB hr hlocks dX3_comes_93 ⟨rfl, _, _, _, rfl, fun q hq => ⟨by simp [va_up, hq], by simp [va_up, hq], by simp [va_up, hq]⟩, by unfold cm; (repeat' split) <;> first | omega | simp [va_up]⟩
        · refine lv_aload_n hx hb dX3_comes_86 rfl (lv_at hl 0 rfl) ?_
          refine m_get C hB 22 (by decide) q1416 (v := .ref (Ad 22)) rfl rfl dX3_comes_87 ?_
          refine lv_iload_n hx hb dX3_comes_90 rfl (lv_at hl 1 rfl) ?_
          refine lv_iload_n hx hb dX3_comes_91 rfl (lv_at hl 2 rfl) ?_
          refine m_ast C hB 22 64 rfl (f := f2) k rfl (by omega) rfl dX3_comes_92 (fun H locs hB => ?_)
          rw [up3_22] at hB
          exact m_vret C hB hr hlocks dX3_comes_93 ⟨rfl, _, _, _, rfl, fun q hq => ⟨by simp [va_up, hq], by simp [va_up, hq], by simp [va_up, hq]⟩, by unfold cm; (repeat' split) <;> first | omega | simp [va_up]⟩
      · refine lv_aload_n hx hb dX3_comes_56 rfl (lv_at hl 0 rfl) ?_
        refine m_get C hB 23 (by decide) q1417 (v := .ref (Ad 23)) rfl rfl dX3_comes_57 ?_
        refine lv_iload_n hx hb dX3_comes_60 rfl (lv_at hl 1 rfl) ?_
        refine lv_dup2_11 hx hb dX3_comes_61 rfl rfl ?_
        refine m_ald C hB 23 64 rfl (v := f3 k) k rfl (by omega) rfl dX3_comes_62 ?_
        refine lv_iload_n hx hb dX3_comes_63 rfl (lv_at hl 3 rfl) ?_
        refine x_iadd (z := f3 k + mny) hx hb dX3_comes_64 (by omega) ?_
        refine m_ast C hB 23 64 rfl (f := f3) k rfl (by omega) rfl dX3_comes_65 (fun H locs hB => ?_)
        rw [up3_23] at hB
        refine lv_aload_n hx hb dX3_comes_66 rfl (lv_at hl 0 rfl) ?_
        refine m_get C hB 22 (by decide) q1416 (v := .ref (Ad 22)) rfl rfl dX3_comes_67 ?_
        refine lv_iload_n hx hb dX3_comes_70 rfl (lv_at hl 1 rfl) ?_
        refine lv_iload_n hx hb dX3_comes_71 rfl (lv_at hl 2 rfl) ?_
        refine m_ast C hB 22 64 rfl (f := f2) k rfl (by omega) rfl dX3_comes_72 (fun H locs hB => ?_)
        rw [up3_22] at hB
        refine lv_goto (tgt := 93) hx hb dX3_comes_73 (by decide) ?_
        exact m_vret C hB hr hlocks dX3_comes_93 ⟨rfl, _, _, _, rfl, fun q hq => ⟨by simp [va_up, hq], by simp [va_up, hq], by simp [va_up, hq]⟩, by unfold cm; (repeat' split) <;> first | omega | simp [va_up]⟩
    · refine lv_aload_n hx hb dX3_comes_17 rfl (lv_at hl 0 rfl) ?_
      refine m_get C hB 22 (by decide) q1416 (v := .ref (Ad 22)) rfl rfl dX3_comes_18 ?_
      refine lv_iload_n hx hb dX3_comes_21 rfl (lv_at hl 1 rfl) ?_
      refine lv_aload_n hx hb dX3_comes_22 rfl (lv_at hl 0 rfl) ?_
      refine m_get C hB 21 (by decide) q1415 (v := .ref (Ad 21)) rfl rfl dX3_comes_23 ?_
      refine lv_iload_n hx hb dX3_comes_26 rfl (lv_at hl 1 rfl) ?_
      refine m_ald C hB 21 64 rfl (v := f1 k) k rfl (by omega) rfl dX3_comes_27 ?_
      refine m_ast C hB 22 64 rfl (f := f2) k rfl (by omega) rfl dX3_comes_28 (fun H locs hB => ?_)
      rw [up3_22] at hB
      refine lv_aload_n hx hb dX3_comes_29 rfl (lv_at hl 0 rfl) ?_
      refine m_get C hB 21 (by decide) q1415 (v := .ref (Ad 21)) rfl rfl dX3_comes_30 ?_
      refine lv_iload_n hx hb dX3_comes_33 rfl (lv_at hl 1 rfl) ?_
      refine lv_iload_n hx hb dX3_comes_34 rfl (lv_at hl 2 rfl) ?_
      refine m_ast C hB 21 64 rfl (f := f1) k rfl (by omega) rfl dX3_comes_35 (fun H locs hB => ?_)
      rw [up3_21] at hB
      refine lv_aload_n hx hb dX3_comes_36 rfl (lv_at hl 0 rfl) ?_
      refine m_get C hB 23 (by decide) q1417 (v := .ref (Ad 23)) rfl rfl dX3_comes_37 ?_
      refine lv_iload_n hx hb dX3_comes_40 rfl (lv_at hl 1 rfl) ?_
      refine lv_iload_n hx hb dX3_comes_41 rfl (lv_at hl 3 rfl) ?_
      refine m_ast C hB 23 64 rfl (f := f3) k rfl (by omega) rfl dX3_comes_42 (fun H locs hB => ?_)
      rw [up3_23] at hB
      refine lv_goto (tgt := 93) hx hb dX3_comes_43 (by decide) ?_
      exact m_vret C hB hr hlocks dX3_comes_93 ⟨rfl, _, _, _, rfl, fun q hq => ⟨by simp [va_up, hq], by simp [va_up, hq], by simp [va_up, hq]⟩, by unfold cm; (repeat' split) <;> first | omega | simp [va_up]⟩
  · exact m_vret C hB hr hlocks dX3_comes_6 ⟨rfl, _, _, _, rfl, fun q hq => ⟨by simp [va_up, hq], by simp [va_up, hq], by simp [va_up, hq]⟩, by unfold cm; (repeat' split) <;> first | omega | simp [va_up]⟩
set_option maxHeartbeats 400000 in
set_option maxRecDepth 100000 in
theorem kX3_findStand (l : Launch) (E : xE) (o : Nat) (Ad : Nat → Nat) (I : Nat → Int) (F : Nat → Nat → Int) (f1 f2 f3 : Nat → Int) (a : Nat) (b : Nat) (wd : Int) (ha : (a : Int) ≤ I 5) (hbb : (b : Int) ≤ I 6) (hw : 0 ≤ wd ∧ wd ≤ 7) (hOK : mOK I F) (hlat : ∀ i j : Nat, (i : Int) ≤ I 5 → (j : Int) ≤ I 6 → (a < i ∨ (a = i ∧ b < j)) → fmT (DT I F wd i j) (f1 (8 * i + j)) (f2 (8 * i + j)) (f3 (8 * i + j))) : mv_ l E yX3_findStand cX3_findStand 10 none 2 48 [.ref o, .int (iI ((a : Int))), .int (iI ((b : Int))), .int (iI wd)] o Ad I (up3 F f1 f2 f3) (fun I' F' => I = I' ∧ ∃ g1 g2 g3, up3 F g1 g2 g3 = F' ∧ (∀ q, q ≠ 8 * a + b → g1 q = f1 q ∧ g2 q = f2 q ∧ g3 q = f3 q) ∧ fmT (DT I F wd a b) (g1 (8 * a + b)) (g2 (8 * a + b)) (g3 (8 * a + b))) := by
  intro w sz hM
  refine x_body (by decide) (Nat.le_of_ble_eq_true rfl) ?_
  intro p e s m args below meth c ls hx hb C hr hlocks _ hsz hB hl
  have C : xC E p s m args c cX3_findStand 10 RX3 := C
  replace hB : mB E (xA w sz) s o Ad I (up3 F f1 f2 f3) s.heap [] := ⟨w, hM, hB⟩
  have hl : lv_has ls 10 [(0, .ref o), (1, .int (iI ((a : Int)))), (2, .int (iI ((b : Int)))), (3, .int (iI wd))] := hl
  have hOK0 := hOK
  obtain ⟨⟨hf1, hf2⟩, ⟨hl1, hl2⟩, ⟨hr1, hr2⟩, hlr, ⟨hs1, hs2⟩, ⟨hj1, hj2⟩, ⟨hb1, hb2⟩, ⟨hn1, hn2⟩, hL, hR, hN, hS, hC⟩ := hOK
  refine lv_bipush (v := iI 8) hx hb dX3_findStand_0 rfl ?_
  refine lv_iload_n hx hb dX3_findStand_2 rfl (lv_at hl 1 rfl) ?_
  refine x_imul (z := 8 * (a : Int)) hx hb dX3_findStand_3 (by omega) ?_
  refine lv_iload_n hx hb dX3_findStand_4 rfl (lv_at hl 2 rfl) ?_
  refine x_iadd (z := 8 * (a : Int) + (b : Int)) hx hb dX3_findStand_5 (by omega) ?_
  refine lv_istore (lv' := [(4, .int (iI (8 * (a : Int) + (b : Int)))), (0, .ref o), (1, .int (iI ((a : Int)))), (2, .int (iI ((b : Int)))), (3, .int (iI wd))]) hx hb dX3_findStand_6 hl (by decide) rfl (fun ls hl => ?_)
  refine lv_aload_n hx hb dX3_findStand_8 rfl (lv_at hl 1 rfl) ?_
  refine m_get C hB 21 (by decide) q1415 (v := .ref (Ad 21)) rfl rfl dX3_findStand_9 ?_
  refine lv_iload hx hb dX3_findStand_12 (lv_at hl 0 rfl) ?_
  refine lv_ldc hx hb C.1.2.2.2.1 (C.1.2.2.2.2 _ q1552) dX3_findStand_14 ?_
  refine x_rw (y := iI 99999) (by decide) ?_
  refine m_ast C hB 21 64 rfl (f := f1) (8 * a + b) (by omega) (by omega) rfl dX3_findStand_16 (fun H locs hB => ?_)
  rw [up3_21] at hB
  refine lv_aload_n hx hb dX3_findStand_17 rfl (lv_at hl 1 rfl) ?_
  refine m_get C hB 22 (by decide) q1416 (v := .ref (Ad 22)) rfl rfl dX3_findStand_18 ?_
  refine lv_iload hx hb dX3_findStand_21 (lv_at hl 0 rfl) ?_
  refine lv_ldc hx hb C.1.2.2.2.1 (C.1.2.2.2.2 _ q1552) dX3_findStand_23 ?_
  refine x_rw (y := iI 99999) (by decide) ?_
  refine m_ast C hB 22 64 rfl (f := f2) (8 * a + b) (by omega) (by omega) rfl dX3_findStand_25 (fun H locs hB => ?_)
  rw [up3_22] at hB
  refine lv_aload_n hx hb dX3_findStand_26 rfl (lv_at hl 1 rfl) ?_
  refine m_get C hB 23 (by decide) q1417 (v := .ref (Ad 23)) rfl rfl dX3_findStand_27 ?_
  refine lv_iload hx hb dX3_findStand_30 (lv_at hl 0 rfl) ?_
  refine lv_iconst (v := iI 0) hx hb dX3_findStand_32 rfl ?_
  refine m_ast C hB 23 64 rfl (f := f3) (8 * a + b) (by omega) (by omega) rfl dX3_findStand_33 (fun H locs hB => ?_)
  rw [up3_23] at hB
  refine lv_aload_n hx hb dX3_findStand_34 rfl (lv_at hl 1 rfl) ?_
  refine lv_iload_n hx hb dX3_findStand_35 rfl (lv_at hl 2 rfl) ?_
  refine lv_iload_n hx hb dX3_findStand_36 rfl (lv_at hl 3 rfl) ?_
  refine lv_iload_n hx hb dX3_findStand_37 rfl (lv_at hl 4 rfl) ?_
  refine m_calli (n := 3) C hB (As := [.int (iI ((a : Int))), .int (iI ((b : Int))), .int (iI wd)]) (kX3_isStand l E o Ad I (up3 F ((va_up f1 (8 * a + b) 99999)) ((va_up f2 (8 * a + b) 99999)) ((va_up f3 (8 * a + b) 0))) ((a : Int)) ((b : Int)) wd (by omega) (by omega) (by omega) hOK0) (lw_V q1553 q1555 qs51 q77 q1556) (by decide +kernel) ⟨Nat.le_of_ble_eq_true rfl, Nat.le_of_ble_eq_true rfl⟩ rfl hl.1 rfl (Nat.le_of_ble_eq_true rfl) dX3_findStand_38 ⟨Nat.zero_le _, Nat.zero_le _⟩ (fun z1 I2 F3 H locs hz4 hp5 hB => ?_)
  obtain ⟨hz4a, hz4b⟩ := hz4
  obtain ⟨rfl, rfl, ⟨rfl, h6⟩ | ⟨rfl, h6⟩⟩ := hp5
  · refine x_if_ne (tgt := 45) hx hb dX3_findStand_41 (by decide) ⟨by decide, by decide⟩ (fun c7 => ?_) (fun c7 => by exfalso; omega)
    refine lv_iload_n hx hb dX3_findStand_45 rfl (lv_at hl 2 rfl) ?_
    refine lv_aload_n hx hb dX3_findStand_46 rfl (lv_at hl 1 rfl) ?_
    refine m_get C hB 5 (by decide) q1399 (v := .int (iI (I 5))) rfl rfl dX3_findStand_47 ?_
    refine x_icmp_ne (tgt := 78) hx hb dX3_findStand_50 (by decide) ⟨by omega, by omega⟩ ⟨by omega, by omega⟩ (fun c8 => ?_) (fun c8 => ?_)
    · refine lv_iconst (v := iI 0) hx hb dX3_findStand_78 rfl ?_
      refine lv_istore (lv' := [(5, .int (iI 0)), (4, .int (iI (8 * (a : Int) + (b : Int)))), (0, .ref o), (1, .int (iI ((a : Int)))), (2, .int (iI ((b : Int)))), (3, .int (iI wd))]) hx hb dX3_findStand_79 hl (by decide) rfl (fun ls hl => ?_)
      refine w_loop (fun n12 H locs ls => ∃ (k : Nat) (g1 : Nat → Int) (g2 : Nat → Int) (g3 : Nat → Int), n12 = 5 - k ∧ (k ≤ 5) ∧ (∀ q, q ≠ 8 * a + b → g1 q = f1 q ∧ g2 q = f2 q ∧ g3 q = f3 q) ∧ (Rm (accT (I 5).toNat (I 6).toNat (csM I F) (DT I F wd) a b k) (g1 (8 * a + b)) (g2 (8 * a + b)) (g3 (8 * a + b))) ∧ mB E (xA w sz) s o Ad I (up3 F g1 g2 g3) H locs ∧ lv_has ls 10 [(0, .ref o), (1, .int (iI ((a : Int)))), (2, .int (iI ((b : Int)))), (3, .int (iI wd)), (4, .int (iI (8 * (a : Int) + (b : Int)))), (5, .int (iI ((k : Int))))]) _ ⟨0, _, _, _, rfl, Nat.zero_le _, fun q hq => ⟨by simp [va_up, hq], by simp [va_up, hq], by simp [va_up, hq]⟩, by simp only [va_up_s]; exact ⟨rfl, rfl, fun _ => rfl, fun h => absurd h (by decide), by decide, by decide⟩, hB, lv_sub hl [2, 3, 4, 5, 1, 0] rfl⟩ ?_
      intro n12 H locs ls hI11 ih9
      obtain ⟨k, g1, g2, g3, hn10, hk, hoth, hRm, hB, hl⟩ := hI11
      refine lv_iload hx hb dX3_findStand_81 (lv_at hl 5 rfl) ?_
      refine lv_iconst (v := iI 5) hx hb dX3_findStand_83 rfl ?_
      refine x_icmp_ge (tgt := 205) hx hb dX3_findStand_84 (by decide) ⟨by omega, by omega⟩ ⟨by decide, by decide⟩ (fun c13 => ?_) (fun c13 => ?_)
      · have hk5 : k = 5 := by omega
        subst hk5
        have hD : DT I F wd a b = accT (I 5).toNat (I 6).toNat (csM I F) (DT I F wd) a b 5 := by unfold DT; rw [D_eq (by omega) (by omega), if_neg (by omega), if_neg (by omega)]
        rw [← hD] at hRm
        have hV : VB 840 (DT I F wd a b) := VBD (by omega) (by omega) (csM60 hOK0) (by omega) (by omega)
        have hAl := D_alM (w := wd) (i := a) (j := b) (by omega) (by omega) (csM60 hOK0) (by omega) (by omega)
        replace hAl : (DT I F wd a b).2.2 ≤ 4782969 := hAl
        obtain ⟨hR1, hR2, hR3, hR4, hR5, hR6⟩ := id hRm
        have hA0 : 0 ≤ (DT I F wd a b).2.2 := by unfold VB at hV; omega
        refine lv_aload_n hx hb dX3_findStand_205 rfl (lv_at hl 0 rfl) ?_
        refine m_get C hB 22 (by decide) q1416 (v := .ref (Ad 22)) rfl rfl dX3_findStand_206 ?_
        refine lv_iload hx hb dX3_findStand_209 (lv_at hl 4 rfl) ?_
        refine lv_aload_n hx hb dX3_findStand_211 rfl (lv_at hl 0 rfl) ?_
        refine m_get C hB 23 (by decide) q1417 (v := .ref (Ad 23)) rfl rfl dX3_findStand_212 ?_
        refine lv_iload hx hb dX3_findStand_215 (lv_at hl 4 rfl) ?_
        refine m_ald C hB 23 64 rfl (v := g3 (8 * a + b)) (8 * a + b) (by omega) (by omega) rfl dX3_findStand_217 ?_
        refine lv_iconst (v := iI 1) hx hb dX3_findStand_218 rfl ?_
        refine x_icmp_le (tgt := 232) hx hb dX3_findStand_219 (by decide) ⟨by omega, by omega⟩ ⟨by decide, by decide⟩ (fun c14 => ?_) (fun c14 => ?_)
        · refine lv_aload_n hx hb dX3_findStand_232 rfl (lv_at hl 0 rfl) ?_
          refine m_get C hB 22 (by decide) q1416 (v := .ref (Ad 22)) rfl rfl dX3_findStand_233 ?_
          refine lv_iload hx hb dX3_findStand_236 (lv_at hl 4 rfl) ?_
          refine m_ald C hB 22 64 rfl (v := g2 (8 * a + b)) (8 * a + b) (by omega) (by omega) rfl dX3_findStand_238 ?_
          refine m_ast C hB 22 64 rfl (f := g2) (8 * a + b) (by omega) (by omega) rfl dX3_findStand_239 (fun H locs hB => ?_)
          rw [up3_22] at hB
          exact m_vret C hB hr hlocks dX3_findStand_240 ⟨rfl, _, _, _, rfl, fun q hq => ⟨(hoth q hq).1, (by simp [va_up, hq]; exact (hoth q hq).2.1), (hoth q hq).2.2⟩, hR1, by rw [va_up_s]; exact (hR3 (by omega)), hR2⟩
        · refine lv_aload_n hx hb dX3_findStand_222 rfl (lv_at hl 0 rfl) ?_
          refine m_get C hB 21 (by decide) q1415 (v := .ref (Ad 21)) rfl rfl dX3_findStand_223 ?_
          refine lv_iload hx hb dX3_findStand_226 (lv_at hl 4 rfl) ?_
          refine m_ald C hB 21 64 rfl (v := g1 (8 * a + b)) (8 * a + b) (by omega) (by omega) rfl dX3_findStand_228 ?_
          refine lv_goto (tgt := 239) hx hb dX3_findStand_229 (by decide) ?_
          refine m_ast C hB 22 64 rfl (f := g2) (8 * a + b) (by omega) (by omega) rfl dX3_findStand_239 (fun H locs hB => ?_)
          rw [up3_22] at hB
          exact m_vret C hB hr hlocks dX3_findStand_240 ⟨rfl, _, _, _, rfl, fun q hq => ⟨(hoth q hq).1, (by simp [va_up, hq]; exact (hoth q hq).2.1), (hoth q hq).2.2⟩, hR1, by rw [va_up_s]; exact by rw [hR1]; exact congrArg fm (hR4 (by omega)).symm, hR2⟩
      · refine lv_iload_n hx hb dX3_findStand_87 rfl (lv_at hl 1 rfl) ?_
        refine lv_iload hx hb dX3_findStand_88 (lv_at hl 5 rfl) ?_
        obtain ⟨wq, hMq, hB⟩ := hB
        refine s_calli (n := 1) C hB (As := [.int (iI ((k : Int)))]) (kX3_leftsOf l E ((k : Int)) ⟨by omega, by omega⟩) (lw_S q1557 q1558 q77 q1559) (by decide +kernel) ⟨Nat.le_of_ble_eq_true rfl, Nat.le_of_ble_eq_true rfl⟩ rfl hl.1 rfl (Nat.le_of_ble_eq_true rfl) dX3_findStand_90 ⟨Nat.zero_le _, Nat.zero_le _⟩ (fun z15 H locs hz16 hp17 hB => ?_)
        replace hB : mB E _ s o Ad I (up3 F g1 g2 g3) H locs := ⟨wq, hMq, hB⟩
        obtain ⟨hz16a, hz16b⟩ := hz16
        have h18 : z15 = (loN k : Int) := by unfold loN; (repeat' split) <;> omega
        subst h18
        refine x_iadd (z := (a : Int) + (loN k : Int)) hx hb dX3_findStand_93 (by omega) ?_
        refine lv_istore (lv' := [(6, .int (iI ((a : Int) + (loN k : Int)))), (0, .ref o), (1, .int (iI ((a : Int)))), (2, .int (iI ((b : Int)))), (3, .int (iI wd)), (4, .int (iI (8 * (a : Int) + (b : Int)))), (5, .int (iI ((k : Int))))]) hx hb dX3_findStand_94 hl (by decide) rfl (fun ls hl => ?_)
        refine lv_iload_n hx hb dX3_findStand_96 rfl (lv_at hl 3 rfl) ?_
        refine lv_iload hx hb dX3_findStand_97 (lv_at hl 6 rfl) ?_
        obtain ⟨wq, hMq, hB⟩ := hB
        refine s_calli (n := 1) C hB (As := [.int (iI ((k : Int)))]) (kX3_rightsOf l E ((k : Int)) ⟨by omega, by omega⟩) (lw_S q1560 q1561 q77 q1562) (by decide +kernel) ⟨Nat.le_of_ble_eq_true rfl, Nat.le_of_ble_eq_true rfl⟩ rfl hl.1 rfl (Nat.le_of_ble_eq_true rfl) dX3_findStand_99 ⟨Nat.zero_le _, Nat.zero_le _⟩ (fun z19 H locs hz20 hp21 hB => ?_)
        replace hB : mB E _ s o Ad I (up3 F g1 g2 g3) H locs := ⟨wq, hMq, hB⟩
        obtain ⟨hz20a, hz20b⟩ := hz20
        have h22 : z19 = (roN k : Int) := by unfold roN; (repeat' split) <;> omega
        subst h22
        refine x_iadd (z := (b : Int) + (roN k : Int)) hx hb dX3_findStand_102 (by omega) ?_
        refine lv_istore (lv' := [(7, .int (iI ((b : Int) + (roN k : Int)))), (6, .int (iI ((a : Int) + (loN k : Int)))), (0, .ref o), (1, .int (iI ((a : Int)))), (2, .int (iI ((b : Int)))), (3, .int (iI wd)), (4, .int (iI (8 * (a : Int) + (b : Int)))), (5, .int (iI ((k : Int))))]) hx hb dX3_findStand_103 hl (by decide) rfl (fun ls hl => ?_)
        have hlr := lr_pos k
        refine lv_aload_n hx hb dX3_findStand_105 rfl (lv_at hl 2 rfl) ?_
        refine lv_iload hx hb dX3_findStand_106 (lv_at hl 1 rfl) ?_
        refine lv_iload hx hb dX3_findStand_108 (lv_at hl 0 rfl) ?_
        refine lv_iload_n hx hb dX3_findStand_110 rfl (lv_at hl 5 rfl) ?_
        refine m_calli (n := 3) C hB (As := [.int (iI ((a : Int) + (loN k : Int))), .int (iI ((b : Int) + (roN k : Int))), .int (iI wd)]) (kX3_isStand l E o Ad I (up3 F g1 g2 g3) ((a : Int) + (loN k : Int)) ((b : Int) + (roN k : Int)) wd (by omega) (by omega) (by omega) hOK0) (lw_V q1553 q1555 qs51 q77 q1556) (by decide +kernel) ⟨Nat.le_of_ble_eq_true rfl, Nat.le_of_ble_eq_true rfl⟩ rfl hl.1 rfl (Nat.le_of_ble_eq_true rfl) dX3_findStand_111 ⟨Nat.zero_le _, Nat.zero_le _⟩ (fun z23 I24 F25 H locs hz26 hp27 hB => ?_)
        obtain ⟨hz26a, hz26b⟩ := hz26
        obtain ⟨rfl, rfl, ⟨rfl, h28⟩ | ⟨rfl, h28⟩⟩ := hp27
        · have hA : VB 900 (accT (I 5).toNat (I 6).toNat (csM I F) (DT I F wd) a b k) := VB_acc (by omega) (fun q hq h1 h2 => csM60 hOK0 q a b hq h1 h2) (fun q hq h1 h2 => VB_le (VBD (by omega) (by omega) (csM60 hOK0) h1 h2) (by omega)) k (by omega)
          have hT := hlat (a + loN k) (b + roN k) (by omega) (by omega) (by omega)
          have hne : 8 * (a + loN k) + (b + roN k) ≠ 8 * a + b := by omega
          have hto := hoth _ hne
          rw [← hto.1, ← hto.2.1, ← hto.2.2, show 8 * (a + loN k) + (b + roN k) = 8 * a + 8 * loN k + b + roN k by omega] at hT
          rw [show 8 * (a + loN k) + (b + roN k) = 8 * a + 8 * loN k + b + roN k by omega] at hne
          have hV : VB 840 (DT I F wd (a + loN k) (b + roN k)) := VBD (by omega) (by omega) (csM60 hOK0) (by omega) (by omega)
          have hcs := csM60 hOK0 k a b (by omega) (by omega) (by omega)
          obtain ⟨hR1, hR2, hR3, hR4, hR5, hR6⟩ := id hRm
          have hR1b : 0 ≤ g1 (8 * a + b) ∧ g1 (8 * a + b) ≤ 99999 := by rw [hR1]; unfold VB at hA; unfold fm; split <;> omega
          have hTb : 0 ≤ g1 (8 * a + 8 * loN k + b + roN k) ∧ g1 (8 * a + 8 * loN k + b + roN k) ≤ 99999 := by rw [hT.1]; unfold VB at hV; unfold fm; split <;> omega
          have hTn : 0 ≤ g2 (8 * a + 8 * loN k + b + roN k) ∧ g2 (8 * a + 8 * loN k + b + roN k) ≤ 99999 := by rw [hT.2.1]; unfold VB at hV; unfold fm; split <;> omega
          refine x_if_eq (tgt := 199) hx hb dX3_findStand_114 (by decide) ⟨by decide, by decide⟩ (fun c29 => by exfalso; omega) (fun c29 => ?_)
          refine lv_bipush (v := iI 8) hx hb dX3_findStand_117 rfl ?_
          refine lv_iload hx hb dX3_findStand_119 (lv_at hl 1 rfl) ?_
          refine x_imul (z := 8 * (a : Int) + 8 * (loN k : Int)) hx hb dX3_findStand_121 (by omega) ?_
          refine lv_iload hx hb dX3_findStand_122 (lv_at hl 0 rfl) ?_
          refine x_iadd (z := 8 * (a : Int) + 8 * (loN k : Int) + (b : Int) + (roN k : Int)) hx hb dX3_findStand_124 (by omega) ?_
          refine lv_istore (lv' := [(8, .int (iI (8 * (a : Int) + 8 * (loN k : Int) + (b : Int) + (roN k : Int)))), (7, .int (iI ((b : Int) + (roN k : Int)))), (6, .int (iI ((a : Int) + (loN k : Int)))), (0, .ref o), (1, .int (iI ((a : Int)))), (2, .int (iI ((b : Int)))), (3, .int (iI wd)), (4, .int (iI (8 * (a : Int) + (b : Int)))), (5, .int (iI ((k : Int))))]) hx hb dX3_findStand_125 hl (by decide) rfl (fun ls hl => ?_)
          refine lv_aload_n hx hb dX3_findStand_127 rfl (lv_at hl 3 rfl) ?_
          refine lv_iload hx hb dX3_findStand_128 (lv_at hl 8 rfl) ?_
          refine lv_iload_n hx hb dX3_findStand_130 rfl (lv_at hl 4 rfl) ?_
          refine lv_iload_n hx hb dX3_findStand_131 rfl (lv_at hl 5 rfl) ?_
          refine m_calli (n := 3) C hB (As := [.int (iI ((k : Int))), .int (iI ((a : Int))), .int (iI ((b : Int)))]) (kX3_costOf l E o Ad I (up3 F g1 g2 g3) ((k : Int)) a b (by omega) (fun _ => by have : lo (k : Int) = loN k := by { unfold lo loN; (repeat' split) <;> omega }; omega) (fun _ => by have : ro (k : Int) = roN k := by { unfold ro roN; (repeat' split) <;> omega }; omega) hOK0) (lw_V q1563 q1565 qs52 q77 q1566) (by decide +kernel) ⟨Nat.le_of_ble_eq_true rfl, Nat.le_of_ble_eq_true rfl⟩ rfl hl.1 rfl (Nat.le_of_ble_eq_true rfl) dX3_findStand_132 ⟨Nat.zero_le _, Nat.zero_le _⟩ (fun z30 I31 F32 H locs hz33 hp34 hB => ?_)
          obtain ⟨hz33a, hz33b⟩ := hz33
          obtain ⟨rfl, rfl, rfl⟩ := hp34
          refine x_nm (show cst I (up3 F g1 g2 g3) (k : Int) a b = csM I F k a b from rfl) ?_
          refine lv_istore (lv' := [(9, .int (iI (csM I F k a b))), (8, .int (iI (8 * (a : Int) + 8 * (loN k : Int) + (b : Int) + (roN k : Int)))), (7, .int (iI ((b : Int) + (roN k : Int)))), (6, .int (iI ((a : Int) + (loN k : Int)))), (0, .ref o), (1, .int (iI ((a : Int)))), (2, .int (iI ((b : Int)))), (3, .int (iI wd)), (4, .int (iI (8 * (a : Int) + (b : Int)))), (5, .int (iI ((k : Int))))]) hx hb dX3_findStand_135 hl (by decide) rfl (fun ls hl => ?_)
          refine lv_aload_n hx hb dX3_findStand_137 rfl (lv_at hl 4 rfl) ?_
          refine lv_iload hx hb dX3_findStand_138 (lv_at hl 8 rfl) ?_
          refine lv_iload hx hb dX3_findStand_140 (lv_at hl 0 rfl) ?_
          refine lv_aload_n hx hb dX3_findStand_142 rfl (lv_at hl 4 rfl) ?_
          refine m_get C hB 21 (by decide) q1415 (v := .ref (Ad 21)) rfl rfl dX3_findStand_143 ?_
          refine lv_iload hx hb dX3_findStand_146 (lv_at hl 1 rfl) ?_
          refine m_ald C hB 21 64 rfl (v := g1 (8 * a + 8 * loN k + b + roN k)) (8 * a + 8 * loN k + b + roN k) (by omega) (by omega) rfl dX3_findStand_148 ?_
          refine x_iadd (z := csM I F k a b + g1 (8 * a + 8 * loN k + b + roN k)) hx hb dX3_findStand_149 (by omega) ?_
          refine lv_aload_n hx hb dX3_findStand_150 rfl (lv_at hl 4 rfl) ?_
          refine m_get C hB 23 (by decide) q1417 (v := .ref (Ad 23)) rfl rfl dX3_findStand_151 ?_
          refine lv_iload hx hb dX3_findStand_154 (lv_at hl 1 rfl) ?_
          refine m_ald C hB 23 64 rfl (v := g3 (8 * a + 8 * loN k + b + roN k)) (8 * a + 8 * loN k + b + roN k) (by omega) (by omega) rfl dX3_findStand_156 ?_
          refine m_callv (n := 3) C hB (As := [.int (iI (8 * (a : Int) + (b : Int))), .int (iI (csM I F k a b + g1 (8 * a + 8 * loN k + b + roN k))), .int (iI (g3 (8 * a + 8 * loN k + b + roN k)))]) (kX3_comes l E o Ad I F g1 g2 g3 (8 * a + b) (csM I F k a b + g1 (8 * a + 8 * loN k + b + roN k)) (g3 (8 * a + 8 * loN k + b + roN k)) (by omega) ⟨by omega, by omega⟩ (by omega) (by omega)) (lw_V q1570 q1572 qs53 q77 q1573) (by decide +kernel) ⟨Nat.le_of_ble_eq_true rfl, Nat.le_of_ble_eq_true rfl⟩ rfl hl.1 rfl (Nat.le_of_ble_eq_true rfl) dX3_findStand_157 ⟨Nat.zero_le _, Nat.zero_le _⟩ (fun I36 F37 H locs hp39 hB => ?_)
          obtain ⟨rfl, g40, g41, g42, rfl, ho43, hc44⟩ := hp39
          have e1 := ho43 _ hne
          rw [← e1.1] at hTb
          rw [← e1.2.1] at hTn
          have hm := cm_b (a := g3 (8 * a + b)) (m := g3 (8 * a + 8 * loN k + b + roN k)) hR1b ⟨hR5, hR6⟩ (show 0 ≤ csM I F k a b + g1 (8 * a + 8 * loN k + b + roN k) by omega)
          rw [← hc44] at hm
          dsimp only at hm
          obtain ⟨hm1, hm2, hm3, hm4⟩ := hm
          refine lv_aload_n hx hb dX3_findStand_160 rfl (lv_at hl 4 rfl) ?_
          refine lv_iload hx hb dX3_findStand_161 (lv_at hl 8 rfl) ?_
          refine lv_aload_n hx hb dX3_findStand_163 rfl (lv_at hl 4 rfl) ?_
          refine m_get C hB 22 (by decide) q1416 (v := .ref (Ad 22)) rfl rfl dX3_findStand_164 ?_
          refine lv_iload hx hb dX3_findStand_167 (lv_at hl 1 rfl) ?_
          refine m_ald C hB 22 64 rfl (v := g41 (8 * a + 8 * loN k + b + roN k)) (8 * a + 8 * loN k + b + roN k) (by omega) (by omega) rfl dX3_findStand_169 ?_
          refine lv_aload_n hx hb dX3_findStand_170 rfl (lv_at hl 4 rfl) ?_
          refine m_get C hB 21 (by decide) q1415 (v := .ref (Ad 21)) rfl rfl dX3_findStand_171 ?_
          refine lv_iload hx hb dX3_findStand_174 (lv_at hl 1 rfl) ?_
          refine m_ald C hB 21 64 rfl (v := g40 (8 * a + 8 * loN k + b + roN k)) (8 * a + 8 * loN k + b + roN k) (by omega) (by omega) rfl dX3_findStand_176 ?_
          refine x_icmp_ne (tgt := 185) hx hb dX3_findStand_177 (by decide) ⟨by omega, by omega⟩ ⟨by omega, by omega⟩ (fun c45 => ?_) (fun c45 => ?_)
          · refine lv_iload hx hb dX3_findStand_185 (lv_at hl 0 rfl) ?_
            refine lv_aload_n hx hb dX3_findStand_187 rfl (lv_at hl 4 rfl) ?_
            refine m_get C hB 22 (by decide) q1416 (v := .ref (Ad 22)) rfl rfl dX3_findStand_188 ?_
            refine lv_iload hx hb dX3_findStand_191 (lv_at hl 1 rfl) ?_
            refine m_ald C hB 22 64 rfl (v := g41 (8 * a + 8 * loN k + b + roN k)) (8 * a + 8 * loN k + b + roN k) (by omega) (by omega) rfl dX3_findStand_193 ?_
            refine x_iadd (z := csM I F k a b + g41 (8 * a + 8 * loN k + b + roN k)) hx hb dX3_findStand_194 (by omega) ?_
            refine lv_iconst (v := iI 1) hx hb dX3_findStand_195 rfl ?_
            refine m_callv (n := 3) C hB (As := [.int (iI (8 * (a : Int) + (b : Int))), .int (iI (csM I F k a b + g41 (8 * a + 8 * loN k + b + roN k))), .int (iI 1)]) (kX3_comes l E o Ad I F g40 g41 g42 (8 * a + b) (csM I F k a b + g41 (8 * a + 8 * loN k + b + roN k)) 1 (by omega) ⟨by omega, by omega⟩ (by omega) (by omega)) (lw_V q1570 q1572 qs53 q77 q1573) (by decide +kernel) ⟨Nat.le_of_ble_eq_true rfl, Nat.le_of_ble_eq_true rfl⟩ rfl hl.1 rfl (Nat.le_of_ble_eq_true rfl) dX3_findStand_196 ⟨Nat.zero_le _, Nat.zero_le _⟩ (fun I47 F48 H locs hp50 hB => ?_)
            obtain ⟨rfl, g51, g52, g53, rfl, ho54, hc55⟩ := hp50
            have key := Rm_step hA hV hcs.1 hcs.2 hRm hT
            rw [← hc44] at key
            dsimp only at key
            rw [if_neg (by rw [← e1.1, ← e1.2.1]; exact c45)] at key
            rw [← e1.2.1, ← hc55] at key
            dsimp only at key
            refine lv_iinc (v := iI ((k : Int) + 1)) (lv' := [(5, .int (iI ((k : Int) + 1))), (9, .int (iI (csM I F k a b))), (8, .int (iI (8 * (a : Int) + 8 * (loN k : Int) + (b : Int) + (roN k : Int)))), (7, .int (iI ((b : Int) + (roN k : Int)))), (6, .int (iI ((a : Int) + (loN k : Int)))), (0, .ref o), (1, .int (iI ((a : Int)))), (2, .int (iI ((b : Int)))), (3, .int (iI wd)), (4, .int (iI (8 * (a : Int) + (b : Int))))]) hx hb dX3_findStand_199 hl (k := 9) rfl (iI_add _ _) (by decide) rfl (fun ls hl => ?_)
            refine lv_goto (tgt := 81) hx hb dX3_findStand_202 (by decide) ?_
            exact ih9 _ _ _ _ (by omega) ⟨k + 1, _, _, _, rfl, by omega, fun q hq => ⟨(ho54 q hq).1.trans ((ho43 q hq).1.trans (hoth q hq).1), (ho54 q hq).2.1.trans ((ho43 q hq).2.1.trans (hoth q hq).2.1), (ho54 q hq).2.2.trans ((ho43 q hq).2.2.trans (hoth q hq).2.2)⟩, by rw [show accT (I 5).toNat (I 6).toNat (csM I F) (DT I F wd) a b (k + 1) = (if a + loN k ≤ (I 5).toNat ∧ b + roN k ≤ (I 6).toNat then wy2 (accT (I 5).toNat (I 6).toNat (csM I F) (DT I F wd) a b k) (csM I F k a b) (DT I F wd (a + loN k) (b + roN k)) else accT (I 5).toNat (I 6).toNat (csM I F) (DT I F wd) a b k) from rfl, if_pos ⟨by omega, by omega⟩]; exact key, hB, lv_sub hl [5, 6, 7, 8, 9, 0] rfl⟩
          · refine lv_ldc hx hb C.1.2.2.2.1 (C.1.2.2.2.2 _ q1552) dX3_findStand_180 ?_
            refine x_rw (y := iI 99999) (by decide) ?_
            refine lv_goto (tgt := 195) hx hb dX3_findStand_182 (by decide) ?_
            refine lv_iconst (v := iI 1) hx hb dX3_findStand_195 rfl ?_
            refine m_callv (n := 3) C hB (As := [.int (iI (8 * (a : Int) + (b : Int))), .int (iI 99999), .int (iI 1)]) (kX3_comes l E o Ad I F g40 g41 g42 (8 * a + b) 99999 1 (by omega) ⟨by omega, by omega⟩ (by omega) (by omega)) (lw_V q1570 q1572 qs53 q77 q1573) (by decide +kernel) ⟨Nat.le_of_ble_eq_true rfl, Nat.le_of_ble_eq_true rfl⟩ rfl hl.1 rfl (Nat.le_of_ble_eq_true rfl) dX3_findStand_196 ⟨Nat.zero_le _, Nat.zero_le _⟩ (fun I57 F58 H locs hp60 hB => ?_)
            obtain ⟨rfl, g61, g62, g63, rfl, ho64, hc65⟩ := hp60
            have key := Rm_step hA hV hcs.1 hcs.2 hRm hT
            rw [← hc44] at key
            dsimp only at key
            rw [if_pos (by rw [← e1.1, ← e1.2.1]; exact c45)] at key
            rw [← hc65] at key
            dsimp only at key
            refine lv_iinc (v := iI ((k : Int) + 1)) (lv' := [(5, .int (iI ((k : Int) + 1))), (9, .int (iI (csM I F k a b))), (8, .int (iI (8 * (a : Int) + 8 * (loN k : Int) + (b : Int) + (roN k : Int)))), (7, .int (iI ((b : Int) + (roN k : Int)))), (6, .int (iI ((a : Int) + (loN k : Int)))), (0, .ref o), (1, .int (iI ((a : Int)))), (2, .int (iI ((b : Int)))), (3, .int (iI wd)), (4, .int (iI (8 * (a : Int) + (b : Int))))]) hx hb dX3_findStand_199 hl (k := 9) rfl (iI_add _ _) (by decide) rfl (fun ls hl => ?_)
            refine lv_goto (tgt := 81) hx hb dX3_findStand_202 (by decide) ?_
            exact ih9 _ _ _ _ (by omega) ⟨k + 1, _, _, _, rfl, by omega, fun q hq => ⟨(ho64 q hq).1.trans ((ho43 q hq).1.trans (hoth q hq).1), (ho64 q hq).2.1.trans ((ho43 q hq).2.1.trans (hoth q hq).2.1), (ho64 q hq).2.2.trans ((ho43 q hq).2.2.trans (hoth q hq).2.2)⟩, by rw [show accT (I 5).toNat (I 6).toNat (csM I F) (DT I F wd) a b (k + 1) = (if a + loN k ≤ (I 5).toNat ∧ b + roN k ≤ (I 6).toNat then wy2 (accT (I 5).toNat (I 6).toNat (csM I F) (DT I F wd) a b k) (csM I F k a b) (DT I F wd (a + loN k) (b + roN k)) else accT (I 5).toNat (I 6).toNat (csM I F) (DT I F wd) a b k) from rfl, if_pos ⟨by omega, by omega⟩]; exact key, hB, lv_sub hl [5, 6, 7, 8, 9, 0] rfl⟩
        · have hA : VB 900 (accT (I 5).toNat (I 6).toNat (csM I F) (DT I F wd) a b k) := VB_acc (by omega) (fun q hq h1 h2 => csM60 hOK0 q a b hq h1 h2) (fun q hq h1 h2 => VB_le (VBD (by omega) (by omega) (csM60 hOK0) h1 h2) (by omega)) k (by omega)
          refine x_if_eq (tgt := 199) hx hb dX3_findStand_114 (by decide) ⟨by decide, by decide⟩ (fun c66 => ?_) (fun c66 => by exfalso; omega)
          refine lv_iinc (v := iI ((k : Int) + 1)) (lv' := [(5, .int (iI ((k : Int) + 1))), (7, .int (iI ((b : Int) + (roN k : Int)))), (6, .int (iI ((a : Int) + (loN k : Int)))), (0, .ref o), (1, .int (iI ((a : Int)))), (2, .int (iI ((b : Int)))), (3, .int (iI wd)), (4, .int (iI (8 * (a : Int) + (b : Int))))]) hx hb dX3_findStand_199 hl (k := 7) rfl (iI_add _ _) (by decide) rfl (fun ls hl => ?_)
          refine lv_goto (tgt := 81) hx hb dX3_findStand_202 (by decide) ?_
          exact ih9 _ _ _ _ (by omega) ⟨k + 1, _, _, _, rfl, by omega, hoth, by rw [show accT (I 5).toNat (I 6).toNat (csM I F) (DT I F wd) a b (k + 1) = (if a + loN k ≤ (I 5).toNat ∧ b + roN k ≤ (I 6).toNat then wy2 (accT (I 5).toNat (I 6).toNat (csM I F) (DT I F wd) a b k) (csM I F k a b) (DT I F wd (a + loN k) (b + roN k)) else accT (I 5).toNat (I 6).toNat (csM I F) (DT I F wd) a b k) from rfl]; split; rw [show DT I F wd (a + loN k) (b + roN k) = tinf from (by unfold DT; rw [D_eq (by omega) (by omega), if_pos (by omega)]), wy2_inf hA (by omega) (csM60 hOK0 k a b (by omega) (by omega) (by omega)).1]; exact hRm; exact hRm, hB, lv_sub hl [3, 4, 5, 6, 7, 0] rfl⟩
    · refine lv_iload_n hx hb dX3_findStand_53 rfl (lv_at hl 3 rfl) ?_
      refine lv_aload_n hx hb dX3_findStand_54 rfl (lv_at hl 1 rfl) ?_
      refine m_get C hB 6 (by decide) q1400 (v := .int (iI (I 6))) rfl rfl dX3_findStand_55 ?_
      refine x_icmp_ne (tgt := 78) hx hb dX3_findStand_58 (by decide) ⟨by omega, by omega⟩ ⟨by omega, by omega⟩ (fun c67 => ?_) (fun c67 => ?_)
      · refine lv_iconst (v := iI 0) hx hb dX3_findStand_78 rfl ?_
        refine lv_istore (lv' := [(5, .int (iI 0)), (4, .int (iI (8 * (a : Int) + (b : Int)))), (0, .ref o), (1, .int (iI ((a : Int)))), (2, .int (iI ((b : Int)))), (3, .int (iI wd))]) hx hb dX3_findStand_79 hl (by decide) rfl (fun ls hl => ?_)
        refine w_loop (fun n71 H locs ls => ∃ (k : Nat) (g1 : Nat → Int) (g2 : Nat → Int) (g3 : Nat → Int), n71 = 5 - k ∧ (k ≤ 5) ∧ (∀ q, q ≠ 8 * a + b → g1 q = f1 q ∧ g2 q = f2 q ∧ g3 q = f3 q) ∧ (Rm (accT (I 5).toNat (I 6).toNat (csM I F) (DT I F wd) a b k) (g1 (8 * a + b)) (g2 (8 * a + b)) (g3 (8 * a + b))) ∧ mB E (xA w sz) s o Ad I (up3 F g1 g2 g3) H locs ∧ lv_has ls 10 [(0, .ref o), (1, .int (iI ((a : Int)))), (2, .int (iI ((b : Int)))), (3, .int (iI wd)), (4, .int (iI (8 * (a : Int) + (b : Int)))), (5, .int (iI ((k : Int))))]) _ ⟨0, _, _, _, rfl, Nat.zero_le _, fun q hq => ⟨by simp [va_up, hq], by simp [va_up, hq], by simp [va_up, hq]⟩, by simp only [va_up_s]; exact ⟨rfl, rfl, fun _ => rfl, fun h => absurd h (by decide), by decide, by decide⟩, hB, lv_sub hl [2, 3, 4, 5, 1, 0] rfl⟩ ?_
        intro n71 H locs ls hI70 ih68
        obtain ⟨k, g1, g2, g3, hn69, hk, hoth, hRm, hB, hl⟩ := hI70
        refine lv_iload hx hb dX3_findStand_81 (lv_at hl 5 rfl) ?_
        refine lv_iconst (v := iI 5) hx hb dX3_findStand_83 rfl ?_
        refine x_icmp_ge (tgt := 205) hx hb dX3_findStand_84 (by decide) ⟨by omega, by omega⟩ ⟨by decide, by decide⟩ (fun c72 => ?_) (fun c72 => ?_)
        · have hk5 : k = 5 := by omega
          subst hk5
          have hD : DT I F wd a b = accT (I 5).toNat (I 6).toNat (csM I F) (DT I F wd) a b 5 := by unfold DT; rw [D_eq (by omega) (by omega), if_neg (by omega), if_neg (by omega)]
          rw [← hD] at hRm
          have hV : VB 840 (DT I F wd a b) := VBD (by omega) (by omega) (csM60 hOK0) (by omega) (by omega)
          have hAl := D_alM (w := wd) (i := a) (j := b) (by omega) (by omega) (csM60 hOK0) (by omega) (by omega)
          replace hAl : (DT I F wd a b).2.2 ≤ 4782969 := hAl
          obtain ⟨hR1, hR2, hR3, hR4, hR5, hR6⟩ := id hRm
          have hA0 : 0 ≤ (DT I F wd a b).2.2 := by unfold VB at hV; omega
          refine lv_aload_n hx hb dX3_findStand_205 rfl (lv_at hl 0 rfl) ?_
          refine m_get C hB 22 (by decide) q1416 (v := .ref (Ad 22)) rfl rfl dX3_findStand_206 ?_
          refine lv_iload hx hb dX3_findStand_209 (lv_at hl 4 rfl) ?_
          refine lv_aload_n hx hb dX3_findStand_211 rfl (lv_at hl 0 rfl) ?_
          refine m_get C hB 23 (by decide) q1417 (v := .ref (Ad 23)) rfl rfl dX3_findStand_212 ?_
          refine lv_iload hx hb dX3_findStand_215 (lv_at hl 4 rfl) ?_
          refine m_ald C hB 23 64 rfl (v := g3 (8 * a + b)) (8 * a + b) (by omega) (by omega) rfl dX3_findStand_217 ?_
          refine lv_iconst (v := iI 1) hx hb dX3_findStand_218 rfl ?_
          refine x_icmp_le (tgt := 232) hx hb dX3_findStand_219 (by decide) ⟨by omega, by omega⟩ ⟨by decide, by decide⟩ (fun c73 => ?_) (fun c73 => ?_)
          · refine lv_aload_n hx hb dX3_findStand_232 rfl (lv_at hl 0 rfl) ?_
            refine m_get C hB 22 (by decide) q1416 (v := .ref (Ad 22)) rfl rfl dX3_findStand_233 ?_
            refine lv_iload hx hb dX3_findStand_236 (lv_at hl 4 rfl) ?_
            refine m_ald C hB 22 64 rfl (v := g2 (8 * a + b)) (8 * a + b) (by omega) (by omega) rfl dX3_findStand_238 ?_
            refine m_ast C hB 22 64 rfl (f := g2) (8 * a + b) (by omega) (by omega) rfl dX3_findStand_239 (fun H locs hB => ?_)
            rw [up3_22] at hB
            exact m_vret C hB hr hlocks dX3_findStand_240 ⟨rfl, _, _, _, rfl, fun q hq => ⟨(hoth q hq).1, (by simp [va_up, hq]; exact (hoth q hq).2.1), (hoth q hq).2.2⟩, hR1, by rw [va_up_s]; exact (hR3 (by omega)), hR2⟩
          · refine lv_aload_n hx hb dX3_findStand_222 rfl (lv_at hl 0 rfl) ?_
            refine m_get C hB 21 (by decide) q1415 (v := .ref (Ad 21)) rfl rfl dX3_findStand_223 ?_
            refine lv_iload hx hb dX3_findStand_226 (lv_at hl 4 rfl) ?_
            refine m_ald C hB 21 64 rfl (v := g1 (8 * a + b)) (8 * a + b) (by omega) (by omega) rfl dX3_findStand_228 ?_
            refine lv_goto (tgt := 239) hx hb dX3_findStand_229 (by decide) ?_
            refine m_ast C hB 22 64 rfl (f := g2) (8 * a + b) (by omega) (by omega) rfl dX3_findStand_239 (fun H locs hB => ?_)
            rw [up3_22] at hB
            exact m_vret C hB hr hlocks dX3_findStand_240 ⟨rfl, _, _, _, rfl, fun q hq => ⟨(hoth q hq).1, (by simp [va_up, hq]; exact (hoth q hq).2.1), (hoth q hq).2.2⟩, hR1, by rw [va_up_s]; exact by rw [hR1]; exact congrArg fm (hR4 (by omega)).symm, hR2⟩
        · refine lv_iload_n hx hb dX3_findStand_87 rfl (lv_at hl 1 rfl) ?_
          refine lv_iload hx hb dX3_findStand_88 (lv_at hl 5 rfl) ?_
          obtain ⟨wq, hMq, hB⟩ := hB
          refine s_calli (n := 1) C hB (As := [.int (iI ((k : Int)))]) (kX3_leftsOf l E ((k : Int)) ⟨by omega, by omega⟩) (lw_S q1557 q1558 q77 q1559) (by decide +kernel) ⟨Nat.le_of_ble_eq_true rfl, Nat.le_of_ble_eq_true rfl⟩ rfl hl.1 rfl (Nat.le_of_ble_eq_true rfl) dX3_findStand_90 ⟨Nat.zero_le _, Nat.zero_le _⟩ (fun z74 H locs hz75 hp76 hB => ?_)
          replace hB : mB E _ s o Ad I (up3 F g1 g2 g3) H locs := ⟨wq, hMq, hB⟩
          obtain ⟨hz75a, hz75b⟩ := hz75
          have h77 : z74 = (loN k : Int) := by unfold loN; (repeat' split) <;> omega
          subst h77
          refine x_iadd (z := (a : Int) + (loN k : Int)) hx hb dX3_findStand_93 (by omega) ?_
          refine lv_istore (lv' := [(6, .int (iI ((a : Int) + (loN k : Int)))), (0, .ref o), (1, .int (iI ((a : Int)))), (2, .int (iI ((b : Int)))), (3, .int (iI wd)), (4, .int (iI (8 * (a : Int) + (b : Int)))), (5, .int (iI ((k : Int))))]) hx hb dX3_findStand_94 hl (by decide) rfl (fun ls hl => ?_)
          refine lv_iload_n hx hb dX3_findStand_96 rfl (lv_at hl 3 rfl) ?_
          refine lv_iload hx hb dX3_findStand_97 (lv_at hl 6 rfl) ?_
          obtain ⟨wq, hMq, hB⟩ := hB
          refine s_calli (n := 1) C hB (As := [.int (iI ((k : Int)))]) (kX3_rightsOf l E ((k : Int)) ⟨by omega, by omega⟩) (lw_S q1560 q1561 q77 q1562) (by decide +kernel) ⟨Nat.le_of_ble_eq_true rfl, Nat.le_of_ble_eq_true rfl⟩ rfl hl.1 rfl (Nat.le_of_ble_eq_true rfl) dX3_findStand_99 ⟨Nat.zero_le _, Nat.zero_le _⟩ (fun z78 H locs hz79 hp80 hB => ?_)
          replace hB : mB E _ s o Ad I (up3 F g1 g2 g3) H locs := ⟨wq, hMq, hB⟩
          obtain ⟨hz79a, hz79b⟩ := hz79
          have h81 : z78 = (roN k : Int) := by unfold roN; (repeat' split) <;> omega
          subst h81
          refine x_iadd (z := (b : Int) + (roN k : Int)) hx hb dX3_findStand_102 (by omega) ?_
          refine lv_istore (lv' := [(7, .int (iI ((b : Int) + (roN k : Int)))), (6, .int (iI ((a : Int) + (loN k : Int)))), (0, .ref o), (1, .int (iI ((a : Int)))), (2, .int (iI ((b : Int)))), (3, .int (iI wd)), (4, .int (iI (8 * (a : Int) + (b : Int)))), (5, .int (iI ((k : Int))))]) hx hb dX3_findStand_103 hl (by decide) rfl (fun ls hl => ?_)
          have hlr := lr_pos k
          refine lv_aload_n hx hb dX3_findStand_105 rfl (lv_at hl 2 rfl) ?_
          refine lv_iload hx hb dX3_findStand_106 (lv_at hl 1 rfl) ?_
          refine lv_iload hx hb dX3_findStand_108 (lv_at hl 0 rfl) ?_
          refine lv_iload_n hx hb dX3_findStand_110 rfl (lv_at hl 5 rfl) ?_
          refine m_calli (n := 3) C hB (As := [.int (iI ((a : Int) + (loN k : Int))), .int (iI ((b : Int) + (roN k : Int))), .int (iI wd)]) (kX3_isStand l E o Ad I (up3 F g1 g2 g3) ((a : Int) + (loN k : Int)) ((b : Int) + (roN k : Int)) wd (by omega) (by omega) (by omega) hOK0) (lw_V q1553 q1555 qs51 q77 q1556) (by decide +kernel) ⟨Nat.le_of_ble_eq_true rfl, Nat.le_of_ble_eq_true rfl⟩ rfl hl.1 rfl (Nat.le_of_ble_eq_true rfl) dX3_findStand_111 ⟨Nat.zero_le _, Nat.zero_le _⟩ (fun z82 I83 F84 H locs hz85 hp86 hB => ?_)
          obtain ⟨hz85a, hz85b⟩ := hz85
          obtain ⟨rfl, rfl, ⟨rfl, h87⟩ | ⟨rfl, h87⟩⟩ := hp86
          · have hA : VB 900 (accT (I 5).toNat (I 6).toNat (csM I F) (DT I F wd) a b k) := VB_acc (by omega) (fun q hq h1 h2 => csM60 hOK0 q a b hq h1 h2) (fun q hq h1 h2 => VB_le (VBD (by omega) (by omega) (csM60 hOK0) h1 h2) (by omega)) k (by omega)
            have hT := hlat (a + loN k) (b + roN k) (by omega) (by omega) (by omega)
            have hne : 8 * (a + loN k) + (b + roN k) ≠ 8 * a + b := by omega
            have hto := hoth _ hne
            rw [← hto.1, ← hto.2.1, ← hto.2.2, show 8 * (a + loN k) + (b + roN k) = 8 * a + 8 * loN k + b + roN k by omega] at hT
            rw [show 8 * (a + loN k) + (b + roN k) = 8 * a + 8 * loN k + b + roN k by omega] at hne
            have hV : VB 840 (DT I F wd (a + loN k) (b + roN k)) := VBD (by omega) (by omega) (csM60 hOK0) (by omega) (by omega)
            have hcs := csM60 hOK0 k a b (by omega) (by omega) (by omega)
            obtain ⟨hR1, hR2, hR3, hR4, hR5, hR6⟩ := id hRm
            have hR1b : 0 ≤ g1 (8 * a + b) ∧ g1 (8 * a + b) ≤ 99999 := by rw [hR1]; unfold VB at hA; unfold fm; split <;> omega
            have hTb : 0 ≤ g1 (8 * a + 8 * loN k + b + roN k) ∧ g1 (8 * a + 8 * loN k + b + roN k) ≤ 99999 := by rw [hT.1]; unfold VB at hV; unfold fm; split <;> omega
            have hTn : 0 ≤ g2 (8 * a + 8 * loN k + b + roN k) ∧ g2 (8 * a + 8 * loN k + b + roN k) ≤ 99999 := by rw [hT.2.1]; unfold VB at hV; unfold fm; split <;> omega
            refine x_if_eq (tgt := 199) hx hb dX3_findStand_114 (by decide) ⟨by decide, by decide⟩ (fun c88 => by exfalso; omega) (fun c88 => ?_)
            refine lv_bipush (v := iI 8) hx hb dX3_findStand_117 rfl ?_
            refine lv_iload hx hb dX3_findStand_119 (lv_at hl 1 rfl) ?_
            refine x_imul (z := 8 * (a : Int) + 8 * (loN k : Int)) hx hb dX3_findStand_121 (by omega) ?_
            refine lv_iload hx hb dX3_findStand_122 (lv_at hl 0 rfl) ?_
            refine x_iadd (z := 8 * (a : Int) + 8 * (loN k : Int) + (b : Int) + (roN k : Int)) hx hb dX3_findStand_124 (by omega) ?_
            refine lv_istore (lv' := [(8, .int (iI (8 * (a : Int) + 8 * (loN k : Int) + (b : Int) + (roN k : Int)))), (7, .int (iI ((b : Int) + (roN k : Int)))), (6, .int (iI ((a : Int) + (loN k : Int)))), (0, .ref o), (1, .int (iI ((a : Int)))), (2, .int (iI ((b : Int)))), (3, .int (iI wd)), (4, .int (iI (8 * (a : Int) + (b : Int)))), (5, .int (iI ((k : Int))))]) hx hb dX3_findStand_125 hl (by decide) rfl (fun ls hl => ?_)
            refine lv_aload_n hx hb dX3_findStand_127 rfl (lv_at hl 3 rfl) ?_
            refine lv_iload hx hb dX3_findStand_128 (lv_at hl 8 rfl) ?_
            refine lv_iload_n hx hb dX3_findStand_130 rfl (lv_at hl 4 rfl) ?_
            refine lv_iload_n hx hb dX3_findStand_131 rfl (lv_at hl 5 rfl) ?_
            refine m_calli (n := 3) C hB (As := [.int (iI ((k : Int))), .int (iI ((a : Int))), .int (iI ((b : Int)))]) (kX3_costOf l E o Ad I (up3 F g1 g2 g3) ((k : Int)) a b (by omega) (fun _ => by have : lo (k : Int) = loN k := by { unfold lo loN; (repeat' split) <;> omega }; omega) (fun _ => by have : ro (k : Int) = roN k := by { unfold ro roN; (repeat' split) <;> omega }; omega) hOK0) (lw_V q1563 q1565 qs52 q77 q1566) (by decide +kernel) ⟨Nat.le_of_ble_eq_true rfl, Nat.le_of_ble_eq_true rfl⟩ rfl hl.1 rfl (Nat.le_of_ble_eq_true rfl) dX3_findStand_132 ⟨Nat.zero_le _, Nat.zero_le _⟩ (fun z89 I90 F91 H locs hz92 hp93 hB => ?_)
            obtain ⟨hz92a, hz92b⟩ := hz92
            obtain ⟨rfl, rfl, rfl⟩ := hp93
            refine x_nm (show cst I (up3 F g1 g2 g3) (k : Int) a b = csM I F k a b from rfl) ?_
            refine lv_istore (lv' := [(9, .int (iI (csM I F k a b))), (8, .int (iI (8 * (a : Int) + 8 * (loN k : Int) + (b : Int) + (roN k : Int)))), (7, .int (iI ((b : Int) + (roN k : Int)))), (6, .int (iI ((a : Int) + (loN k : Int)))), (0, .ref o), (1, .int (iI ((a : Int)))), (2, .int (iI ((b : Int)))), (3, .int (iI wd)), (4, .int (iI (8 * (a : Int) + (b : Int)))), (5, .int (iI ((k : Int))))]) hx hb dX3_findStand_135 hl (by decide) rfl (fun ls hl => ?_)
            refine lv_aload_n hx hb dX3_findStand_137 rfl (lv_at hl 4 rfl) ?_
            refine lv_iload hx hb dX3_findStand_138 (lv_at hl 8 rfl) ?_
            refine lv_iload hx hb dX3_findStand_140 (lv_at hl 0 rfl) ?_
            refine lv_aload_n hx hb dX3_findStand_142 rfl (lv_at hl 4 rfl) ?_
            refine m_get C hB 21 (by decide) q1415 (v := .ref (Ad 21)) rfl rfl dX3_findStand_143 ?_
            refine lv_iload hx hb dX3_findStand_146 (lv_at hl 1 rfl) ?_
            refine m_ald C hB 21 64 rfl (v := g1 (8 * a + 8 * loN k + b + roN k)) (8 * a + 8 * loN k + b + roN k) (by omega) (by omega) rfl dX3_findStand_148 ?_
            refine x_iadd (z := csM I F k a b + g1 (8 * a + 8 * loN k + b + roN k)) hx hb dX3_findStand_149 (by omega) ?_
            refine lv_aload_n hx hb dX3_findStand_150 rfl (lv_at hl 4 rfl) ?_
            refine m_get C hB 23 (by decide) q1417 (v := .ref (Ad 23)) rfl rfl dX3_findStand_151 ?_
            refine lv_iload hx hb dX3_findStand_154 (lv_at hl 1 rfl) ?_
            refine m_ald C hB 23 64 rfl (v := g3 (8 * a + 8 * loN k + b + roN k)) (8 * a + 8 * loN k + b + roN k) (by omega) (by omega) rfl dX3_findStand_156 ?_
            refine m_callv (n := 3) C hB (As := [.int (iI (8 * (a : Int) + (b : Int))), .int (iI (csM I F k a b + g1 (8 * a + 8 * loN k + b + roN k))), .int (iI (g3 (8 * a + 8 * loN k + b + roN k)))]) (kX3_comes l E o Ad I F g1 g2 g3 (8 * a + b) (csM I F k a b + g1 (8 * a + 8 * loN k + b + roN k)) (g3 (8 * a + 8 * loN k + b + roN k)) (by omega) ⟨by omega, by omega⟩ (by omega) (by omega)) (lw_V q1570 q1572 qs53 q77 q1573) (by decide +kernel) ⟨Nat.le_of_ble_eq_true rfl, Nat.le_of_ble_eq_true rfl⟩ rfl hl.1 rfl (Nat.le_of_ble_eq_true rfl) dX3_findStand_157 ⟨Nat.zero_le _, Nat.zero_le _⟩ (fun I95 F96 H locs hp98 hB => ?_)
            obtain ⟨rfl, g99, g100, g101, rfl, ho102, hc103⟩ := hp98
            have e1 := ho102 _ hne
            rw [← e1.1] at hTb
            rw [← e1.2.1] at hTn
            have hm := cm_b (a := g3 (8 * a + b)) (m := g3 (8 * a + 8 * loN k + b + roN k)) hR1b ⟨hR5, hR6⟩ (show 0 ≤ csM I F k a b + g1 (8 * a + 8 * loN k + b + roN k) by omega)
            rw [← hc103] at hm
            dsimp only at hm
            obtain ⟨hm1, hm2, hm3, hm4⟩ := hm
            refine lv_aload_n hx hb dX3_findStand_160 rfl (lv_at hl 4 rfl) ?_
            refine lv_iload hx hb dX3_findStand_161 (lv_at hl 8 rfl) ?_
            refine lv_aload_n hx hb dX3_findStand_163 rfl (lv_at hl 4 rfl) ?_
            refine m_get C hB 22 (by decide) q1416 (v := .ref (Ad 22)) rfl rfl dX3_findStand_164 ?_
            refine lv_iload hx hb dX3_findStand_167 (lv_at hl 1 rfl) ?_
            refine m_ald C hB 22 64 rfl (v := g100 (8 * a + 8 * loN k + b + roN k)) (8 * a + 8 * loN k + b + roN k) (by omega) (by omega) rfl dX3_findStand_169 ?_
            refine lv_aload_n hx hb dX3_findStand_170 rfl (lv_at hl 4 rfl) ?_
            refine m_get C hB 21 (by decide) q1415 (v := .ref (Ad 21)) rfl rfl dX3_findStand_171 ?_
            refine lv_iload hx hb dX3_findStand_174 (lv_at hl 1 rfl) ?_
            refine m_ald C hB 21 64 rfl (v := g99 (8 * a + 8 * loN k + b + roN k)) (8 * a + 8 * loN k + b + roN k) (by omega) (by omega) rfl dX3_findStand_176 ?_
            refine x_icmp_ne (tgt := 185) hx hb dX3_findStand_177 (by decide) ⟨by omega, by omega⟩ ⟨by omega, by omega⟩ (fun c104 => ?_) (fun c104 => ?_)
            · refine lv_iload hx hb dX3_findStand_185 (lv_at hl 0 rfl) ?_
              refine lv_aload_n hx hb dX3_findStand_187 rfl (lv_at hl 4 rfl) ?_
              refine m_get C hB 22 (by decide) q1416 (v := .ref (Ad 22)) rfl rfl dX3_findStand_188 ?_
              refine lv_iload hx hb dX3_findStand_191 (lv_at hl 1 rfl) ?_
              refine m_ald C hB 22 64 rfl (v := g100 (8 * a + 8 * loN k + b + roN k)) (8 * a + 8 * loN k + b + roN k) (by omega) (by omega) rfl dX3_findStand_193 ?_
              refine x_iadd (z := csM I F k a b + g100 (8 * a + 8 * loN k + b + roN k)) hx hb dX3_findStand_194 (by omega) ?_
              refine lv_iconst (v := iI 1) hx hb dX3_findStand_195 rfl ?_
              refine m_callv (n := 3) C hB (As := [.int (iI (8 * (a : Int) + (b : Int))), .int (iI (csM I F k a b + g100 (8 * a + 8 * loN k + b + roN k))), .int (iI 1)]) (kX3_comes l E o Ad I F g99 g100 g101 (8 * a + b) (csM I F k a b + g100 (8 * a + 8 * loN k + b + roN k)) 1 (by omega) ⟨by omega, by omega⟩ (by omega) (by omega)) (lw_V q1570 q1572 qs53 q77 q1573) (by decide +kernel) ⟨Nat.le_of_ble_eq_true rfl, Nat.le_of_ble_eq_true rfl⟩ rfl hl.1 rfl (Nat.le_of_ble_eq_true rfl) dX3_findStand_196 ⟨Nat.zero_le _, Nat.zero_le _⟩ (fun I106 F107 H locs hp109 hB => ?_)
              obtain ⟨rfl, g110, g111, g112, rfl, ho113, hc114⟩ := hp109
              have key := Rm_step hA hV hcs.1 hcs.2 hRm hT
              rw [← hc103] at key
              dsimp only at key
              rw [if_neg (by rw [← e1.1, ← e1.2.1]; exact c104)] at key
              rw [← e1.2.1, ← hc114] at key
              dsimp only at key
              refine lv_iinc (v := iI ((k : Int) + 1)) (lv' := [(5, .int (iI ((k : Int) + 1))), (9, .int (iI (csM I F k a b))), (8, .int (iI (8 * (a : Int) + 8 * (loN k : Int) + (b : Int) + (roN k : Int)))), (7, .int (iI ((b : Int) + (roN k : Int)))), (6, .int (iI ((a : Int) + (loN k : Int)))), (0, .ref o), (1, .int (iI ((a : Int)))), (2, .int (iI ((b : Int)))), (3, .int (iI wd)), (4, .int (iI (8 * (a : Int) + (b : Int))))]) hx hb dX3_findStand_199 hl (k := 9) rfl (iI_add _ _) (by decide) rfl (fun ls hl => ?_)
              refine lv_goto (tgt := 81) hx hb dX3_findStand_202 (by decide) ?_
              exact ih68 _ _ _ _ (by omega) ⟨k + 1, _, _, _, rfl, by omega, fun q hq => ⟨(ho113 q hq).1.trans ((ho102 q hq).1.trans (hoth q hq).1), (ho113 q hq).2.1.trans ((ho102 q hq).2.1.trans (hoth q hq).2.1), (ho113 q hq).2.2.trans ((ho102 q hq).2.2.trans (hoth q hq).2.2)⟩, by rw [show accT (I 5).toNat (I 6).toNat (csM I F) (DT I F wd) a b (k + 1) = (if a + loN k ≤ (I 5).toNat ∧ b + roN k ≤ (I 6).toNat then wy2 (accT (I 5).toNat (I 6).toNat (csM I F) (DT I F wd) a b k) (csM I F k a b) (DT I F wd (a + loN k) (b + roN k)) else accT (I 5).toNat (I 6).toNat (csM I F) (DT I F wd) a b k) from rfl, if_pos ⟨by omega, by omega⟩]; exact key, hB, lv_sub hl [5, 6, 7, 8, 9, 0] rfl⟩
            · refine lv_ldc hx hb C.1.2.2.2.1 (C.1.2.2.2.2 _ q1552) dX3_findStand_180 ?_
              refine x_rw (y := iI 99999) (by decide) ?_
              refine lv_goto (tgt := 195) hx hb dX3_findStand_182 (by decide) ?_
              refine lv_iconst (v := iI 1) hx hb dX3_findStand_195 rfl ?_
              refine m_callv (n := 3) C hB (As := [.int (iI (8 * (a : Int) + (b : Int))), .int (iI 99999), .int (iI 1)]) (kX3_comes l E o Ad I F g99 g100 g101 (8 * a + b) 99999 1 (by omega) ⟨by omega, by omega⟩ (by omega) (by omega)) (lw_V q1570 q1572 qs53 q77 q1573) (by decide +kernel) ⟨Nat.le_of_ble_eq_true rfl, Nat.le_of_ble_eq_true rfl⟩ rfl hl.1 rfl (Nat.le_of_ble_eq_true rfl) dX3_findStand_196 ⟨Nat.zero_le _, Nat.zero_le _⟩ (fun I116 F117 H locs hp119 hB => ?_)
              obtain ⟨rfl, g120, g121, g122, rfl, ho123, hc124⟩ := hp119
              have key := Rm_step hA hV hcs.1 hcs.2 hRm hT
              rw [← hc103] at key
              dsimp only at key
              rw [if_pos (by rw [← e1.1, ← e1.2.1]; exact c104)] at key
              rw [← hc124] at key
              dsimp only at key
              refine lv_iinc (v := iI ((k : Int) + 1)) (lv' := [(5, .int (iI ((k : Int) + 1))), (9, .int (iI (csM I F k a b))), (8, .int (iI (8 * (a : Int) + 8 * (loN k : Int) + (b : Int) + (roN k : Int)))), (7, .int (iI ((b : Int) + (roN k : Int)))), (6, .int (iI ((a : Int) + (loN k : Int)))), (0, .ref o), (1, .int (iI ((a : Int)))), (2, .int (iI ((b : Int)))), (3, .int (iI wd)), (4, .int (iI (8 * (a : Int) + (b : Int))))]) hx hb dX3_findStand_199 hl (k := 9) rfl (iI_add _ _) (by decide) rfl (fun ls hl => ?_)
              refine lv_goto (tgt := 81) hx hb dX3_findStand_202 (by decide) ?_
              exact ih68 _ _ _ _ (by omega) ⟨k + 1, _, _, _, rfl, by omega, fun q hq => ⟨(ho123 q hq).1.trans ((ho102 q hq).1.trans (hoth q hq).1), (ho123 q hq).2.1.trans ((ho102 q hq).2.1.trans (hoth q hq).2.1), (ho123 q hq).2.2.trans ((ho102 q hq).2.2.trans (hoth q hq).2.2)⟩, by rw [show accT (I 5).toNat (I 6).toNat (csM I F) (DT I F wd) a b (k + 1) = (if a + loN k ≤ (I 5).toNat ∧ b + roN k ≤ (I 6).toNat then wy2 (accT (I 5).toNat (I 6).toNat (csM I F) (DT I F wd) a b k) (csM I F k a b) (DT I F wd (a + loN k) (b + roN k)) else accT (I 5).toNat (I 6).toNat (csM I F) (DT I F wd) a b k) from rfl, if_pos ⟨by omega, by omega⟩]; exact key, hB, lv_sub hl [5, 6, 7, 8, 9, 0] rfl⟩
          · have hA : VB 900 (accT (I 5).toNat (I 6).toNat (csM I F) (DT I F wd) a b k) := VB_acc (by omega) (fun q hq h1 h2 => csM60 hOK0 q a b hq h1 h2) (fun q hq h1 h2 => VB_le (VBD (by omega) (by omega) (csM60 hOK0) h1 h2) (by omega)) k (by omega)
            refine x_if_eq (tgt := 199) hx hb dX3_findStand_114 (by decide) ⟨by decide, by decide⟩ (fun c125 => ?_) (fun c125 => by exfalso; omega)
            refine lv_iinc (v := iI ((k : Int) + 1)) (lv' := [(5, .int (iI ((k : Int) + 1))), (7, .int (iI ((b : Int) + (roN k : Int)))), (6, .int (iI ((a : Int) + (loN k : Int)))), (0, .ref o), (1, .int (iI ((a : Int)))), (2, .int (iI ((b : Int)))), (3, .int (iI wd)), (4, .int (iI (8 * (a : Int) + (b : Int))))]) hx hb dX3_findStand_199 hl (k := 7) rfl (iI_add _ _) (by decide) rfl (fun ls hl => ?_)
            refine lv_goto (tgt := 81) hx hb dX3_findStand_202 (by decide) ?_
            exact ih68 _ _ _ _ (by omega) ⟨k + 1, _, _, _, rfl, by omega, hoth, by rw [show accT (I 5).toNat (I 6).toNat (csM I F) (DT I F wd) a b (k + 1) = (if a + loN k ≤ (I 5).toNat ∧ b + roN k ≤ (I 6).toNat then wy2 (accT (I 5).toNat (I 6).toNat (csM I F) (DT I F wd) a b k) (csM I F k a b) (DT I F wd (a + loN k) (b + roN k)) else accT (I 5).toNat (I 6).toNat (csM I F) (DT I F wd) a b k) from rfl]; split; rw [show DT I F wd (a + loN k) (b + roN k) = tinf from (by unfold DT; rw [D_eq (by omega) (by omega), if_pos (by omega)]), wy2_inf hA (by omega) (csM60 hOK0 k a b (by omega) (by omega) (by omega)).1]; exact hRm; exact hRm, hB, lv_sub hl [3, 4, 5, 6, 7, 0] rfl⟩
      · refine lv_aload_n hx hb dX3_findStand_61 rfl (lv_at hl 1 rfl) ?_
        refine m_get C hB 21 (by decide) q1415 (v := .ref (Ad 21)) rfl rfl dX3_findStand_62 ?_
        refine lv_iload hx hb dX3_findStand_65 (lv_at hl 0 rfl) ?_
        refine lv_iconst (v := iI 0) hx hb dX3_findStand_67 rfl ?_
        refine m_ast C hB 21 64 rfl (f := ((va_up f1 (8 * a + b) 99999))) (8 * a + b) (by omega) (by omega) rfl dX3_findStand_68 (fun H locs hB => ?_)
        rw [up3_21] at hB
        refine lv_aload_n hx hb dX3_findStand_69 rfl (lv_at hl 1 rfl) ?_
        refine m_get C hB 23 (by decide) q1417 (v := .ref (Ad 23)) rfl rfl dX3_findStand_70 ?_
        refine lv_iload hx hb dX3_findStand_73 (lv_at hl 0 rfl) ?_
        refine lv_iconst (v := iI 1) hx hb dX3_findStand_75 rfl ?_
        refine m_ast C hB 23 64 rfl (f := ((va_up f3 (8 * a + b) 0))) (8 * a + b) (by omega) (by omega) rfl dX3_findStand_76 (fun H locs hB => ?_)
        rw [up3_23] at hB
        exact m_vret C hB hr hlocks dX3_findStand_77 ⟨rfl, _, _, _, rfl, fun q hq => ⟨by simp [va_up, hq], by simp [va_up, hq], by simp [va_up, hq]⟩, by unfold DT; rw [D_eq (by omega) (by omega), if_neg (by omega), if_pos (by omega)]; simp only [va_up_s]; exact ⟨rfl, rfl, rfl⟩⟩
  · refine x_if_ne (tgt := 45) hx hb dX3_findStand_41 (by decide) ⟨by decide, by decide⟩ (fun c126 => by exfalso; omega) (fun c126 => ?_)
    exact m_vret C hB hr hlocks dX3_findStand_44 ⟨rfl, _, _, _, rfl, fun q hq => ⟨by simp [va_up, hq], by simp [va_up, hq], by simp [va_up, hq]⟩, by unfold DT; rw [D_eq (by omega) (by omega), if_pos (by omega)]; simp only [va_up_s]; exact ⟨rfl, rfl, rfl⟩⟩
