/-! THE COMPONENT: its sheets (the walks are printed) -/
set_option maxRecDepth 100000
theorem rowF_rg {F : Nat → Nat → Int} {k : Nat} (h : ∀ k : Nat, k < 240 → rg (F 4 k)) (hk : k < 4) (h60 : F 3 k ≤ 60) : ∀ j : Nat, (j : Int) < F 3 k → rg (rowF F k j) := by
  intro j hj
  unfold rowF
  rw [if_pos hj]
  exact h _ (by omega)
theorem rowF_at {F : Nat → Nat → Int} {k : Nat} {i : Int} (hi : 0 ≤ i ∧ i < F 3 k) : rowF F k i.toNat = F 4 (60 * k + i.toNat) := by
  unfold rowF
  rw [if_pos (by omega)]
theorem rowF_up {F : Nat → Nat → Int} {k : Nat} {i v : Int} (hi : 0 ≤ i ∧ i < F 3 k) (h60 : F 3 k ≤ 60) : ∀ j, j < (F 3 k).toNat → va_up (rowF F k) i.toNat v j = va_up (F 4) (60 * k + i.toNat) v (60 * k + j) := by
  intro j hj
  by_cases g : j = i.toNat
  · subst g
    rw [va_up_s, va_up_s]
  · rw [va_up_n _ _ g, va_up_n _ _ (by omega)]
    unfold rowF
    rw [if_pos (by omega)]
set_option maxHeartbeats 800000 in
set_option maxRecDepth 100000 in
theorem kX0_rowIn (l : Launch) (E : xE) (o : Nat) (Ad : Nat → Nat) (I : Nat → Int) (F : Nat → Nat → Int) (X : xw) (k : Nat) (hk : k < 4) : cq_ l E yX0_rowIn cX0_rowIn 2 (some (.object "java/lang/Object")) 0 0 0 0 [.ref o, .int (iI ((k : Int)))] o Ad I F X (fun z Ad' I' F' X' => Ad = Ad' ∧ I = I' ∧ F = F' ∧ X = X' ∧ ((F 2 k = -9 ∧ z = none) ∨ (F 2 k ≠ -9 ∧ z = some (Ad (310 + k))))) := by
  intro w hI hd sz
  refine x_bodyz (by decide) (Nat.le_of_ble_eq_true rfl) ?_
  intro p e s m args below meth c ls hx hb C hr hlocks hin hsz hZ hB hl
  have C : xC E p s m args c cX0_rowIn 2 RX0 := C
  replace hB : xBB E (xA (wU w X) sz) s o Ad I F X s.heap [] := ⟨w, hI, hd, hB⟩
  have hl : lv_has ls 2 [(0, .ref o), (1, .int (iI ((k : Int))))] := hl
  refine lv_aload_n hx hb dX0_rowIn_0 rfl (lv_at hl 0 rfl) ?_
  refine b_get C hB 18 (by decide) q315 (v := .ref (Ad 19)) rfl rfl dX0_rowIn_1 ?_
  refine lv_iload_n hx hb dX0_rowIn_4 rfl (lv_at hl 1 rfl) ?_
  by_cases hs9 : (F 2) k = -9
  · refine r_aald C hB 19 6 rfl C0_19 k rfl (by omega) (by omega) (v := none) (if_pos hs9) dX0_rowIn_5 ?_
    refine lv_ifnonnullN hx hb dX0_rowIn_6 ?_
    refine lv_null hx hb dX0_rowIn_9 ?_
    refine lv_goto (tgt := 22) hx hb dX0_rowIn_10 (by decide) ?_
    exact b_qret C hB hr (Or.inl ⟨_, rfl⟩) hlocks none dX0_rowIn_22 (Nat.le_of_ble_eq_true rfl) (Nat.le_of_ble_eq_true rfl) ⟨rfl, rfl, rfl, rfl, Or.inl ⟨hs9, rfl⟩⟩
  · refine r_aald C hB 19 6 rfl C0_19 k rfl (by omega) (by omega) (v := some (Ad (300 + k))) (if_neg hs9) dX0_rowIn_5 ?_
    refine lv_ifnonnull (tgt := 13) hx hb dX0_rowIn_6 (by decide) ?_
    refine lv_aload_n hx hb dX0_rowIn_13 rfl (lv_at hl 0 rfl) ?_
    refine b_get C hB 18 (by decide) q315 (v := .ref (Ad 19)) rfl rfl dX0_rowIn_14 ?_
    refine lv_iload_n hx hb dX0_rowIn_17 rfl (lv_at hl 1 rfl) ?_
    refine r_aald C hB 19 6 rfl C0_19 k rfl (by omega) (by omega) (v := some (Ad (300 + k))) (if_neg hs9) dX0_rowIn_18 ?_
    refine r_get C hB (300 + k) (C0_sh (by omega) hs9) rfl in_X17 0 (by decide) q953 (fun x h => h) rfl dX0_rowIn_19 ?_
    exact b_qret C hB hr (Or.inl ⟨_, rfl⟩) hlocks ((some (Ad (310 + k)))) dX0_rowIn_22 (Nat.le_of_ble_eq_true rfl) (Nat.le_of_ble_eq_true rfl) ⟨rfl, rfl, rfl, rfl, Or.inr ⟨hs9, rfl⟩⟩
set_option maxHeartbeats 800000 in
set_option maxRecDepth 100000 in
theorem kX0_lose (l : Launch) (E : xE) (o : Nat) (Ad : Nat → Nat) (I : Nat → Int) (F : Nat → Nat → Int) (X : xw) (k : Int) (hk : rg k) : ci_ l E yX0_lose cX0_lose 3 (some .int) 2 45 0 0 [.ref o, .int (iI k)] o Ad I F X (fun z Ad' I' F' X' => Ad = Ad' ∧ I = I' ∧ nLose F k = F' ∧ z = rLose F k) := by
  intro w hI hd sz
  refine x_bodyz (by decide) (Nat.le_of_ble_eq_true rfl) ?_
  intro p e s m args below meth c ls hx hb C hr hlocks hin hsz hZ hB hl
  have C : xC E p s m args c cX0_lose 3 RX0 := C
  replace hB : xBB E (xA (wU w X) sz) s o Ad I F X s.heap [] := ⟨w, hI, hd, hB⟩
  have hl : lv_has ls 3 [(0, .ref o), (1, .int (iI k))] := hl
  obtain ⟨hk1, hk2⟩ := hk
  refine lv_iload_n hx hb dX0_lose_0 rfl (lv_at hl 1 rfl) ?_
  refine bs_calli (n := 1) C hB (As := [.int (iI k)]) (kX0_noSheet l E k ⟨by omega, by omega⟩) (lw_S q937 q938 q68 q939) (by decide +kernel) ⟨Nat.le_of_ble_eq_true rfl, Nat.le_of_ble_eq_true rfl⟩ rfl hl.1 rfl (Nat.le_of_ble_eq_true rfl) dX0_lose_1 ⟨Nat.le_of_ble_eq_true rfl, Nat.le_of_ble_eq_true rfl⟩ (fun z1 H locs hz2 hp3 hB => ?_)
  obtain ⟨hz2a, hz2b⟩ := hz2
  rcases hp3 with ⟨rfl, h4⟩ | ⟨rfl, h4⟩
  · refine x_if_eq (tgt := 9) hx hb dX0_lose_4 (by decide) ⟨by decide, by decide⟩ (fun c5 => by exfalso; omega) (fun c5 => ?_)
    refine lv_iconst (v := iI (-1)) hx hb dX0_lose_7 rfl ?_
    exact b_iret C hB hr hlocks rfl dX0_lose_8 (Nat.le_of_ble_eq_true rfl) (Nat.le_of_ble_eq_true rfl) ⟨by decide, by decide⟩ ⟨rfl, rfl, by unfold nLose; rw [if_pos (by omega)], by unfold rLose; rw [if_pos (by omega)]⟩
  · refine x_if_eq (tgt := 9) hx hb dX0_lose_4 (by decide) ⟨by decide, by decide⟩ (fun c6 => ?_) (fun c6 => by exfalso; omega)
    obtain ⟨kk, rfl⟩ : ∃ kk : Nat, k = (kk : Int) := ⟨k.toNat, by omega⟩
    refine lv_aload_n hx hb dX0_lose_9 rfl (lv_at hl 0 rfl) ?_
    refine b_get C hB 18 (by decide) q315 (v := .ref (Ad 19)) rfl rfl dX0_lose_10 ?_
    refine lv_iload_n hx hb dX0_lose_13 rfl (lv_at hl 1 rfl) ?_
    by_cases hs9 : (F 2) kk = -9
    · refine r_aald C hB 19 6 rfl C0_19 kk rfl (by omega) (by omega) (v := none) (if_pos hs9) dX0_lose_14 ?_
      refine lv_ifnonnullN hx hb dX0_lose_15 ?_
      refine lv_iconst (v := iI 0) hx hb dX0_lose_18 rfl ?_
      refine lv_goto (tgt := 23) hx hb dX0_lose_19 (by decide) ?_
      refine lv_istore_n (lv' := [(2, .int (iI 0)), (0, .ref o), (1, .int (iI ((kk : Int))))]) hx hb dX0_lose_23 rfl hl (by decide) rfl (fun ls hl => ?_)
      refine lv_aload_n hx hb dX0_lose_24 rfl (lv_at hl 1 rfl) ?_
      refine b_get C hB 18 (by decide) q315 (v := .ref (Ad 19)) rfl rfl dX0_lose_25 ?_
      refine lv_iload_n hx hb dX0_lose_28 rfl (lv_at hl 2 rfl) ?_
      refine lv_null hx hb dX0_lose_29 ?_
      refine b_shnull C hB kk rfl (by omega) dX0_lose_30 (fun H locs hB => ?_)
      refine lv_iload_n hx hb dX0_lose_31 rfl (lv_at hl 0 rfl) ?_
      exact b_iret C hB hr hlocks rfl dX0_lose_32 (Nat.le_of_ble_eq_true rfl) (Nat.le_of_ble_eq_true rfl) ⟨by decide, by decide⟩ ⟨rfl, rfl, by unfold nLose; rw [if_neg (by omega)]; rfl, by unfold rLose; simp only [Int.toNat_natCast]; rw [if_neg (by omega), if_pos hs9]⟩
    · refine r_aald C hB 19 6 rfl C0_19 kk rfl (by omega) (by omega) (v := some (Ad (300 + kk))) (if_neg hs9) dX0_lose_14 ?_
      refine lv_ifnonnull (tgt := 22) hx hb dX0_lose_15 (by decide) ?_
      refine lv_iconst (v := iI 1) hx hb dX0_lose_22 rfl ?_
      refine lv_istore_n (lv' := [(2, .int (iI 1)), (0, .ref o), (1, .int (iI ((kk : Int))))]) hx hb dX0_lose_23 rfl hl (by decide) rfl (fun ls hl => ?_)
      refine lv_aload_n hx hb dX0_lose_24 rfl (lv_at hl 1 rfl) ?_
      refine b_get C hB 18 (by decide) q315 (v := .ref (Ad 19)) rfl rfl dX0_lose_25 ?_
      refine lv_iload_n hx hb dX0_lose_28 rfl (lv_at hl 2 rfl) ?_
      refine lv_null hx hb dX0_lose_29 ?_
      refine b_shnull C hB kk rfl (by omega) dX0_lose_30 (fun H locs hB => ?_)
      refine lv_iload_n hx hb dX0_lose_31 rfl (lv_at hl 0 rfl) ?_
      exact b_iret C hB hr hlocks rfl dX0_lose_32 (Nat.le_of_ble_eq_true rfl) (Nat.le_of_ble_eq_true rfl) ⟨by decide, by decide⟩ ⟨rfl, rfl, by unfold nLose; rw [if_neg (by omega)]; rfl, by unfold rLose; simp only [Int.toNat_natCast]; rw [if_neg (by omega), if_neg hs9]⟩
set_option maxHeartbeats 800000 in
set_option maxRecDepth 100000 in
theorem kX0_sheet (l : Launch) (hfl : l.stackTraces = false) (E : xE) (o : Nat) (Ad : Nat → Nat) (I : Nat → Int) (F : Nat → Nat → Int) (X : xw) (k : Int) (so : Int) (n : Int) (hk : rg k) (hso : rg so) (hn : rg n) (hOK : mOK I F) : zi_ l E yX0_sheet (wsW_ yX0_sheet cX0_sheet 5 (some .int) [(43, 62, 63, 388)]) 10 10341 9 900 [.ref o, .int (iI k), .int (iI so), .int (iI n)] o Ad I F X (fun z Ad' I' F' X' => I' = nSheetI I k so n ∧ F' = nSheetF F k so n ∧ z = rSheet k so n) := by
  intro w hI hd sz
  refine x_bodyh (by decide) (Nat.le_of_ble_eq_true rfl) ?_
  intro p e s m args below meth c ls hx hb C hr hlocks htab hsz hV hB hl
  have hZ := hV.1
  have C : xC E p s m args c cX0_sheet 5 RX0 := C
  replace hB : xBB E (xA (wU w X) sz) s o Ad I F X s.heap [] := ⟨w, hI, hd, hB⟩
  have hl : lv_has ls 5 [(0, .ref o), (1, .int (iI k)), (2, .int (iI so)), (3, .int (iI n))] := hl
  have hOK0 := hOK
  obtain ⟨⟨hf1, hf2⟩, ⟨hl1, hl2⟩, ⟨hr1, hr2⟩, hlr, ⟨hs1, hs2⟩, ⟨hj1, hj2⟩, ⟨hb1, hb2⟩, ⟨hn1, hn2⟩, hL, hR, hN, hS, hC⟩ := hOK
  obtain ⟨hk1, hk2⟩ := hk
  obtain ⟨hso1, hso2⟩ := hso
  obtain ⟨hn1, hn2⟩ := hn
  have h60 : ∀ k : Nat, k < 4 → F 3 k ≤ 60 := fun k hk => (hS k hk).2.2
  refine lv_iload_n hx hb dX0_sheet_0 rfl (lv_at hl 1 rfl) ?_
  refine bs_calli (n := 1) C hB (As := [.int (iI k)]) (kX0_noSheet l E k ⟨by omega, by omega⟩) (lw_S q937 q938 q68 q939) (by decide +kernel) ⟨Nat.le_of_ble_eq_true rfl, Nat.le_of_ble_eq_true rfl⟩ rfl hl.1 rfl (Nat.le_of_ble_eq_true rfl) dX0_sheet_1 ⟨Nat.le_of_ble_eq_true rfl, Nat.le_of_ble_eq_true rfl⟩ (fun z1 H locs hz2 hp3 hB => ?_)
  obtain ⟨hz2a, hz2b⟩ := hz2
  rcases hp3 with ⟨rfl, h4⟩ | ⟨rfl, h4⟩
  · refine x_if_eq (tgt := 13) hx hb dX0_sheet_4 (by decide) ⟨by decide, by decide⟩ (fun c5 => by exfalso; omega) (fun c5 => ?_)
    refine lv_aload_n hx hb dX0_sheet_7 rfl (lv_at hl 0 rfl) ?_
    refine lv_iconst (v := iI (-1)) hx hb dX0_sheet_8 rfl ?_
    refine b_calli 0 0 (Nat.le_of_ble_eq_true rfl) (Nat.le_of_ble_eq_true rfl) hB (fun w hI hd hB => rV (As := [.int (iI (-1))]) (n := 1) C hZ hB (kX0_refused l E o Ad I F X (-1) ⟨by omega, by omega⟩ w hI hd _) (lw_V q940 q942 qs29 q68 q943) (by decide +kernel) ⟨Nat.le_of_ble_eq_true rfl, Nat.le_of_ble_eq_true rfl⟩ (wU_l hI.x) rfl rfl rfl hl.1 rfl (Nat.le_of_ble_eq_true rfl) dX0_sheet_9 ⟨Nat.le_of_ble_eq_true rfl, Nat.le_of_ble_eq_true rfl⟩) (fun z6 Ad7 I8 F9 X10 H locs hz11 hp12 hB => ?_)
    obtain ⟨hz11a, hz11b⟩ := hz11
    obtain ⟨rfl, rfl, rfl, rfl, rfl⟩ := hp12
    replace hB : xBB E (xA (wU w X) sz) s o Ad (va_up I 0 0) F X _ _ := hB
    refine vx_ret ?_
    exact b_iret C hB hr hlocks rfl dX0_sheet_12 (Nat.le_of_ble_eq_true rfl) (Nat.le_of_ble_eq_true rfl) ⟨by decide, by decide⟩ (by have hrs : rSheet k so n = -1 := (by unfold rSheet; rw [if_pos (by omega)]); exact ⟨by unfold nSheetI fI; rw [hrs]; rfl, by unfold nSheetF; rw [if_neg (by rw [hrs]; decide)], hrs.symm⟩)
  · refine x_if_eq (tgt := 13) hx hb dX0_sheet_4 (by decide) ⟨by decide, by decide⟩ (fun c13 => ?_) (fun c13 => by exfalso; omega)
    refine lv_iload_n hx hb dX0_sheet_13 rfl (lv_at hl 2 rfl) ?_
    refine x_i2l hx hb dX0_sheet_14 ⟨by omega, by omega⟩ ?_
    refine lv_lconst (v := lI 0) hx hb dX0_sheet_15 rfl ?_
    refine lv_ldc2 hx hb C.1.2.2.2.1 (C.1.2.2.2.2 _ q274) dX0_sheet_16 ?_
    refine x_rwl (y := lI 2) (by decide) ?_
    refine bs_calli (n := 3) C hB (As := [.long (lI so), .long (lI 0), .long (lI 2)]) (kX0_in l E so 0 2 ⟨by omega, by omega⟩ ⟨by omega, by omega⟩ ⟨by omega, by omega⟩) (lw_S q234 q235 q68 q236) (by decide +kernel) ⟨Nat.le_of_ble_eq_true rfl, Nat.le_of_ble_eq_true rfl⟩ rfl hl.1 rfl (Nat.le_of_ble_eq_true rfl) dX0_sheet_19 ⟨Nat.le_of_ble_eq_true rfl, Nat.le_of_ble_eq_true rfl⟩ (fun z14 H locs hz15 hp16 hB => ?_)
    obtain ⟨hz15a, hz15b⟩ := hz15
    rcases hp16 with ⟨rfl, h17⟩ | ⟨rfl, h17⟩
    · refine x_if_eq (tgt := 31) hx hb dX0_sheet_22 (by decide) ⟨by decide, by decide⟩ (fun c18 => by exfalso; omega) (fun c18 => ?_)
      refine lv_iload_n hx hb dX0_sheet_25 rfl (lv_at hl 3 rfl) ?_
      refine lv_bipush (v := iI 60) hx hb dX0_sheet_26 rfl ?_
      refine x_icmp_le (tgt := 38) hx hb dX0_sheet_28 (by decide) ⟨by omega, by omega⟩ ⟨by decide, by decide⟩ (fun c19 => ?_) (fun c19 => ?_)
      · obtain ⟨kk, rfl⟩ : ∃ kk : Nat, k = (kk : Int) := ⟨k.toNat, by omega⟩
        refine lv_aload_n hx hb dX0_sheet_38 rfl (lv_at hl 0 rfl) ?_
        refine lv_iconst (v := iI 0) hx hb dX0_sheet_39 rfl ?_
        refine b_put C hB 17 0 (by decide) rfl q314 rfl rfl rfl dX0_sheet_40 (fun H locs hB => ?_)
        refine lv_aload_n hx hb dX0_sheet_43 rfl (lv_at hl 0 rfl) ?_
        refine b_get C hB 18 (by decide) q315 (v := .ref (Ad 19)) rfl rfl dX0_sheet_44 ?_
        refine lv_iload_n hx hb dX0_sheet_47 rfl (lv_at hl 1 rfl) ?_
        refine t_new C hB (ci := 15) (fs := [.null]) rfl in_X17 tyX17_ok q145 q944 q104 dvX17 (Nat.le_of_ble_eq_true rfl) (Nat.le_of_ble_eq_true rfl) dX0_sheet_48 (fun q20 H hq21 hs22 hB => ?_)
        refine x_up (c2 := 1) (s2 := 1) (Nat.le_of_ble_eq_true rfl) (Nat.le_of_ble_eq_true rfl) ?_
        replace hB : xBB E (xA (wU w X) sz) s o Ad (va_up I 0 0) F (va_up X q20 (some (xO 15 [.null]))) _ _ := hB
        refine lv_dup hx hb dX0_sheet_51 rfl ?_
        refine lv_iload_n hx hb dX0_sheet_52 rfl (lv_at hl 2 rfl) ?_
        refine lv_iload_n hx hb dX0_sheet_53 rfl (lv_at hl 3 rfl) ?_
        obtain ⟨wq, hIq, hdq, hB⟩ := hB
        refine g_callXq 5 891 (Nat.le_of_ble_eq_true rfl) (Nat.le_of_ble_eq_true rfl) hB (rXS (As := [.int (iI so), .int (iI n)]) (n := 2) C hV hB (kX0_rowOf l hfl E (wU wq (va_up X q20 (some (xO 15 [.null])))) so n (by omega) ⟨by omega, by omega⟩ (by omega) _) (lw_S q945 q946 q68 q947) (by decide +kernel) ⟨Nat.le_of_ble_eq_true rfl, Nat.le_of_ble_eq_true rfl⟩ rfl hl.1 rfl (Nat.le_of_ble_eq_true rfl) dX0_sheet_54 ⟨Nat.le_of_ble_eq_true rfl, Nat.le_of_ble_eq_true rfl⟩) (fun En qx27 w24 H locs hp26 hB hE => ?_) (fun z23 w24 H locs hp26 hB => ?_)
        · obtain ⟨rfl, hp26⟩ := hp26
          replace hB : xBB E (xA (wU w X) sz) s o Ad (va_up I 0 0) F (va_up X q20 (some (xO 15 [.null]))) _ _ := ⟨wq, hIq, hdq, hB⟩
          rcases hp26 with ⟨hp26, rfl⟩
          · refine e_catch C hV htab (pc := 54) hE [] [] ⟨43, 62, 63, 388⟩ rfl (fun z hz => by cases hz) (by decide) (by decide) q850 q914 ?_
            refine lv_astore (lv' := [(4, .ref qx27), (0, .ref o), (1, .int (iI ((kk : Int)))), (2, .int (iI so)), (3, .int (iI n))]) hx hb dX0_sheet_63 hl (by decide) rfl (fun ls hl => ?_)
            refine lv_aload_n hx hb dX0_sheet_65 rfl (lv_at hl 1 rfl) ?_
            refine lv_iconst (v := iI 4) hx hb dX0_sheet_66 rfl ?_
            refine b_calli 5 891 (Nat.le_of_ble_eq_true rfl) (Nat.le_of_ble_eq_true rfl) hB (fun w hI hd hB => rV (As := [.int (iI 4)]) (n := 1) C hZ hB (kX0_fails l E o Ad (va_up I 0 0) F (va_up X q20 (some (xO 15 [.null]))) 4 (by omega) w hI hd _) (lw_V q958 q960 qs30 q68 q961) (by decide +kernel) ⟨Nat.le_of_ble_eq_true rfl, Nat.le_of_ble_eq_true rfl⟩ (wU_l hI.x) rfl rfl rfl hl.1 rfl (Nat.le_of_ble_eq_true rfl) dX0_sheet_67 ⟨Nat.le_of_ble_eq_true rfl, Nat.le_of_ble_eq_true rfl⟩) (fun z29 Ad30 I31 F32 X33 H locs hz34 hp35 hB => ?_)
            obtain ⟨hz34a, hz34b⟩ := hz34
            obtain ⟨rfl, rfl, rfl, rfl, rfl⟩ := hp35
            replace hB : xBB E (xA (wU w X) sz) s o Ad (va_up (va_up I 0 0) 0 4) F (va_up X q20 (some (xO 15 [.null]))) _ _ := hB
            refine vx_ret ?_
            exact b_iret C hB hr hlocks rfl dX0_sheet_70 (Nat.le_of_ble_eq_true rfl) (Nat.le_of_ble_eq_true rfl) ⟨by decide, by decide⟩ (by have hrs : rSheet (kk : Int) so n = -14 := (by unfold rSheet; rw [if_neg (by omega), if_neg (by omega), if_pos (by omega)]); exact ⟨by unfold nSheetI fI; rw [hrs]; exact bx_uu _ _ _ _, by unfold nSheetF; rw [if_neg (by rw [hrs]; decide)], hrs.symm⟩)
        · obtain ⟨hn0, q36, rfl, hq37, rfl⟩ := hp26
          obtain ⟨hq37a, hq37b⟩ := wU_n hq37
          rw [wU_up_r hq37a] at hB
          have hne38 : q20 ≠ q36 := fun e => by cases (hq37b.symm.trans ((congrArg _ e.symm).trans (va_up_s _ _ _)))
          replace hB : xBB E (xA (wU w X) sz) s o Ad (va_up I 0 0) F (va_up (va_up X q20 (some (xO 15 [.null]))) q36 (some (rowE E so n (fun _ => 0)))) _ _ := ⟨wq, hIq, hdq.put_r hq37a, hB⟩
          obtain ⟨wq, hIq, hdq, hB⟩ := hB
          refine g_callv 5 891 (Nat.le_of_ble_eq_true rfl) (Nat.le_of_ble_eq_true rfl) hB (rI (As := [.ref q36]) (n := 1) C hZ hB (kX17_init l E (wU wq (va_up (va_up X q20 (some (xO 15 [.null]))) q36 (some (rowE E so n (fun _ => 0))))) q20 q36 (wU_r hdq ((va_up_n _ _ hne38).trans (va_up_s _ _ _))) _) (lw_meth q950) q104 q948 q949 rfl (by decide +kernel) ⟨Nat.le_of_ble_eq_true rfl, Nat.le_of_ble_eq_true rfl⟩ rfl hl.1 rfl (Nat.le_of_ble_eq_true rfl) dX0_sheet_57 ⟨Nat.le_of_ble_eq_true rfl, Nat.le_of_ble_eq_true rfl⟩) (fun w40 H locs hp42 hB => ?_)
          subst hp42
          rw [(hdq.put_t (xO 15 [.ref q36]) ((va_up_n _ _ hne38).trans (va_up_s _ _ _))).2] at hB
          replace hB : xBB E (xA (wU w X) sz) s o Ad (va_up I 0 0) F (va_up (va_up (va_up X q20 (some (xO 15 [.null]))) q36 (some (rowE E so n (fun _ => 0)))) q20 (some (xO 15 [.ref q36]))) _ _ := ⟨wq, hIq, (hdq.put_t _ ((va_up_n _ _ hne38).trans (va_up_s _ _ _))).1, hB⟩
          rw [up_aba] at hB
          replace hB : xBB E (xA (wU w X) sz) s o Ad (va_up I 0 0) F (va_up (va_up X q36 (some (rowE E so n (fun _ => 0)))) q20 (some (xO 15 [.ref q36]))) _ _ := hB
          refine b_shput C hB kk rfl (by omega) h60 (show I 5 ≤ 7 by omega) (show I 29 ≤ 8 by omega) (by omega) (by omega) (ln := so) (n := n) (va_up_s _ _ _) ((va_up_n _ _ (Ne.symm hne38)).trans (va_up_s _ _ _)) (Ne.symm hne38) dX0_sheet_60 (fun H locs X1 hB => ?_)
          refine lv_iconst (v := iI 1) hx hb dX0_sheet_61 rfl ?_
          refine vx_ret ?_
          exact b_iret C hB hr hlocks rfl dX0_sheet_62 (Nat.le_of_ble_eq_true rfl) (Nat.le_of_ble_eq_true rfl) ⟨by decide, by decide⟩ (by have hrs : rSheet (kk : Int) so n = 1 := (by unfold rSheet; rw [if_neg (by omega), if_neg (by omega), if_neg (by omega)]); exact ⟨by unfold nSheetI; rw [hrs]; rfl, by unfold nSheetF; rw [if_pos hrs]; rfl, hrs.symm⟩)
      · refine lv_aload_n hx hb dX0_sheet_31 rfl (lv_at hl 0 rfl) ?_
        refine lv_bipush (v := iI (-2)) hx hb dX0_sheet_32 rfl ?_
        refine b_calli 0 0 (Nat.le_of_ble_eq_true rfl) (Nat.le_of_ble_eq_true rfl) hB (fun w hI hd hB => rV (As := [.int (iI (-2))]) (n := 1) C hZ hB (kX0_refused l E o Ad I F X (-2) ⟨by omega, by omega⟩ w hI hd _) (lw_V q940 q942 qs29 q68 q943) (by decide +kernel) ⟨Nat.le_of_ble_eq_true rfl, Nat.le_of_ble_eq_true rfl⟩ (wU_l hI.x) rfl rfl rfl hl.1 rfl (Nat.le_of_ble_eq_true rfl) dX0_sheet_34 ⟨Nat.le_of_ble_eq_true rfl, Nat.le_of_ble_eq_true rfl⟩) (fun z43 Ad44 I45 F46 X47 H locs hz48 hp49 hB => ?_)
        obtain ⟨hz48a, hz48b⟩ := hz48
        obtain ⟨rfl, rfl, rfl, rfl, rfl⟩ := hp49
        replace hB : xBB E (xA (wU w X) sz) s o Ad (va_up I 0 0) F X _ _ := hB
        refine vx_ret ?_
        exact b_iret C hB hr hlocks rfl dX0_sheet_37 (Nat.le_of_ble_eq_true rfl) (Nat.le_of_ble_eq_true rfl) ⟨by decide, by decide⟩ (by have hrs : rSheet k so n = -2 := (by unfold rSheet; rw [if_neg (by omega), if_pos (by omega)]); exact ⟨by unfold nSheetI fI; rw [hrs]; rfl, by unfold nSheetF; rw [if_neg (by rw [hrs]; decide)], hrs.symm⟩)
    · refine x_if_eq (tgt := 31) hx hb dX0_sheet_22 (by decide) ⟨by decide, by decide⟩ (fun c50 => ?_) (fun c50 => by exfalso; omega)
      refine lv_aload_n hx hb dX0_sheet_31 rfl (lv_at hl 0 rfl) ?_
      refine lv_bipush (v := iI (-2)) hx hb dX0_sheet_32 rfl ?_
      refine b_calli 0 0 (Nat.le_of_ble_eq_true rfl) (Nat.le_of_ble_eq_true rfl) hB (fun w hI hd hB => rV (As := [.int (iI (-2))]) (n := 1) C hZ hB (kX0_refused l E o Ad I F X (-2) ⟨by omega, by omega⟩ w hI hd _) (lw_V q940 q942 qs29 q68 q943) (by decide +kernel) ⟨Nat.le_of_ble_eq_true rfl, Nat.le_of_ble_eq_true rfl⟩ (wU_l hI.x) rfl rfl rfl hl.1 rfl (Nat.le_of_ble_eq_true rfl) dX0_sheet_34 ⟨Nat.le_of_ble_eq_true rfl, Nat.le_of_ble_eq_true rfl⟩) (fun z51 Ad52 I53 F54 X55 H locs hz56 hp57 hB => ?_)
      obtain ⟨hz56a, hz56b⟩ := hz56
      obtain ⟨rfl, rfl, rfl, rfl, rfl⟩ := hp57
      replace hB : xBB E (xA (wU w X) sz) s o Ad (va_up I 0 0) F X _ _ := hB
      refine vx_ret ?_
      exact b_iret C hB hr hlocks rfl dX0_sheet_37 (Nat.le_of_ble_eq_true rfl) (Nat.le_of_ble_eq_true rfl) ⟨by decide, by decide⟩ (by have hrs : rSheet k so n = -2 := (by unfold rSheet; rw [if_neg (by omega), if_pos (by omega)]); exact ⟨by unfold nSheetI fI; rw [hrs]; rfl, by unfold nSheetF; rw [if_neg (by rw [hrs]; decide)], hrs.symm⟩)
set_option maxHeartbeats 800000 in
set_option maxRecDepth 100000 in
theorem kX0_put (l : Launch) (hfl : l.stackTraces = false) (E : xE) (o : Nat) (Ad : Nat → Nat) (I : Nat → Int) (F : Nat → Nat → Int) (X : xw) (k : Int) (i : Int) (v : Int) (hk : rg k) (hi : rg i) (hv : rg v) (hOK : mOK I F) : zi_ l E yX0_put (wsW_ yX0_put cX0_put 5 (some .int) [(18, 33, 34, 397), (18, 33, 42, 399)]) 10 10342 9 900 [.ref o, .int (iI k), .int (iI i), .int (iI v)] o Ad I F X (fun z Ad' I' F' X' => Ad = Ad' ∧ I' = nPutI I F k i ∧ F' = nPutF F k i v ∧ z = rPut F k i) := by
  intro w hI hd sz
  refine x_bodyh (by decide) (Nat.le_of_ble_eq_true rfl) ?_
  intro p e s m args below meth c ls hx hb C hr hlocks htab hsz hV hB hl
  have hZ := hV.1
  have C : xC E p s m args c cX0_put 5 RX0 := C
  replace hB : xBB E (xA (wU w X) sz) s o Ad I F X s.heap [] := ⟨w, hI, hd, hB⟩
  have hl : lv_has ls 5 [(0, .ref o), (1, .int (iI k)), (2, .int (iI i)), (3, .int (iI v))] := hl
  have hOK0 := hOK
  obtain ⟨⟨hf1, hf2⟩, ⟨hl1, hl2⟩, ⟨hr1, hr2⟩, hlr, ⟨hs1, hs2⟩, ⟨hj1, hj2⟩, ⟨hb1, hb2⟩, ⟨hn1, hn2⟩, hL, hR, hN, hS, hC⟩ := hOK
  obtain ⟨hk1, hk2⟩ := hk
  obtain ⟨hi1, hi2⟩ := hi
  obtain ⟨hv1, hv2⟩ := hv
  have h60 : ∀ k : Nat, k < 4 → F 3 k ≤ 60 := fun k hk => (hS k hk).2.2
  refine lv_iload_n hx hb dX0_put_0 rfl (lv_at hl 1 rfl) ?_
  refine bs_calli (n := 1) C hB (As := [.int (iI k)]) (kX0_noSheet l E k ⟨by omega, by omega⟩) (lw_S q937 q938 q68 q939) (by decide +kernel) ⟨Nat.le_of_ble_eq_true rfl, Nat.le_of_ble_eq_true rfl⟩ rfl hl.1 rfl (Nat.le_of_ble_eq_true rfl) dX0_put_1 ⟨Nat.le_of_ble_eq_true rfl, Nat.le_of_ble_eq_true rfl⟩ (fun z1 H locs hz2 hp3 hB => ?_)
  obtain ⟨hz2a, hz2b⟩ := hz2
  rcases hp3 with ⟨rfl, h4⟩ | ⟨rfl, h4⟩
  · refine x_if_eq (tgt := 13) hx hb dX0_put_4 (by decide) ⟨by decide, by decide⟩ (fun c5 => by exfalso; omega) (fun c5 => ?_)
    refine lv_aload_n hx hb dX0_put_7 rfl (lv_at hl 0 rfl) ?_
    refine lv_iconst (v := iI (-1)) hx hb dX0_put_8 rfl ?_
    refine b_calli 0 0 (Nat.le_of_ble_eq_true rfl) (Nat.le_of_ble_eq_true rfl) hB (fun w hI hd hB => rV (As := [.int (iI (-1))]) (n := 1) C hZ hB (kX0_refused l E o Ad I F X (-1) ⟨by omega, by omega⟩ w hI hd _) (lw_V q940 q942 qs29 q68 q943) (by decide +kernel) ⟨Nat.le_of_ble_eq_true rfl, Nat.le_of_ble_eq_true rfl⟩ (wU_l hI.x) rfl rfl rfl hl.1 rfl (Nat.le_of_ble_eq_true rfl) dX0_put_9 ⟨Nat.le_of_ble_eq_true rfl, Nat.le_of_ble_eq_true rfl⟩) (fun z6 Ad7 I8 F9 X10 H locs hz11 hp12 hB => ?_)
    obtain ⟨hz11a, hz11b⟩ := hz11
    obtain ⟨rfl, rfl, rfl, rfl, rfl⟩ := hp12
    replace hB : xBB E (xA (wU w X) sz) s o Ad (va_up I 0 0) F X _ _ := hB
    refine vx_ret ?_
    exact b_iret C hB hr hlocks rfl dX0_put_12 (Nat.le_of_ble_eq_true rfl) (Nat.le_of_ble_eq_true rfl) ⟨by decide, by decide⟩ (by have hrs : rPut F k i = -1 := (by unfold rPut; rw [if_pos (by omega)]); exact ⟨rfl, by unfold nPutI fI; rw [hrs]; rfl, by unfold nPutF; rw [if_neg (by rw [hrs]; decide)], hrs.symm⟩)
  · refine x_if_eq (tgt := 13) hx hb dX0_put_4 (by decide) ⟨by decide, by decide⟩ (fun c13 => ?_) (fun c13 => by exfalso; omega)
    refine lv_aload_n hx hb dX0_put_13 rfl (lv_at hl 0 rfl) ?_
    refine lv_iconst (v := iI 0) hx hb dX0_put_14 rfl ?_
    refine b_put C hB 17 0 (by decide) rfl q314 rfl rfl rfl dX0_put_15 (fun H locs hB => ?_)
    obtain ⟨kk, rfl⟩ : ∃ kk : Nat, k = (kk : Int) := ⟨k.toNat, by omega⟩
    refine lv_aload_n hx hb dX0_put_18 rfl (lv_at hl 0 rfl) ?_
    refine b_get C hB 18 (by decide) q315 (v := .ref (Ad 19)) rfl rfl dX0_put_19 ?_
    refine lv_iload_n hx hb dX0_put_22 rfl (lv_at hl 1 rfl) ?_
    by_cases hs9 : (F 2) kk = -9
    · refine r_aald C hB 19 6 rfl C0_19 kk rfl (by omega) (by omega) (v := none) (if_pos hs9) dX0_put_23 ?_
      obtain ⟨wq, hIq, hdq, hB⟩ := hB
      refine x_getX hfl C hV hB (ci := 15) rfl in_X17 0 (by decide) q953 (fun x h => h) hl.1 ⟨hlocks, Nat.le_of_ble_eq_true rfl, Nat.le_of_ble_eq_true rfl, Nat.le_of_ble_eq_true rfl, Nat.le_of_ble_eq_true rfl⟩ dX0_put_24 (fun H qx14 hB hE => ?_)
      replace hB : xBB E (xA (wU w X) sz) s o Ad (va_up I 0 0) F X _ _ := ⟨wq, hIq, hdq, hB⟩
      refine e_catch C hV htab (pc := 24) hE [] [⟨18, 33, 42, 399⟩] ⟨18, 33, 34, 397⟩ rfl (fun z hz => by cases hz) (by decide) (by decide) q970 q992 ?_
      refine lv_astore (lv' := [(4, .ref qx14), (0, .ref o), (1, .int (iI ((kk : Int)))), (2, .int (iI i)), (3, .int (iI v))]) hx hb dX0_put_34 hl (by decide) rfl (fun ls hl => ?_)
      refine lv_aload_n hx hb dX0_put_36 rfl (lv_at hl 1 rfl) ?_
      refine lv_iconst (v := iI 1) hx hb dX0_put_37 rfl ?_
      refine b_calli 3 890 (Nat.le_of_ble_eq_true rfl) (Nat.le_of_ble_eq_true rfl) hB (fun w hI hd hB => rV (As := [.int (iI 1)]) (n := 1) C hZ hB (kX0_fails l E o Ad (va_up I 0 0) F X 1 (by omega) w hI hd _) (lw_V q958 q960 qs30 q68 q961) (by decide +kernel) ⟨Nat.le_of_ble_eq_true rfl, Nat.le_of_ble_eq_true rfl⟩ (wU_l hI.x) rfl rfl rfl hl.1 rfl (Nat.le_of_ble_eq_true rfl) dX0_put_38 ⟨Nat.le_of_ble_eq_true rfl, Nat.le_of_ble_eq_true rfl⟩) (fun z16 Ad17 I18 F19 X20 H locs hz21 hp22 hB => ?_)
      obtain ⟨hz21a, hz21b⟩ := hz21
      obtain ⟨rfl, rfl, rfl, rfl, rfl⟩ := hp22
      replace hB : xBB E (xA (wU w X) sz) s o Ad (va_up (va_up I 0 0) 0 1) F X _ _ := hB
      refine vx_ret ?_
      exact b_iret C hB hr hlocks rfl dX0_put_41 (Nat.le_of_ble_eq_true rfl) (Nat.le_of_ble_eq_true rfl) ⟨by decide, by decide⟩ (by have hrs : rPut F (kk : Int) i = -11 := (by unfold rPut; simp only [Int.toNat_natCast]; rw [if_neg (by omega), if_pos hs9]); exact ⟨rfl, by unfold nPutI fI; rw [hrs]; exact bx_uu _ _ _ _, by unfold nPutF; rw [if_neg (by rw [hrs]; decide)], hrs.symm⟩)
    · refine r_aald C hB 19 6 rfl C0_19 kk rfl (by omega) (by omega) (v := some (Ad (300 + kk))) (if_neg hs9) dX0_put_23 ?_
      refine r_get C hB (300 + kk) (C0_sh (by omega) hs9) rfl in_X17 0 (by decide) q953 (fun x h => h) rfl dX0_put_24 ?_
      refine lv_iload_n hx hb dX0_put_27 rfl (lv_at hl 2 rfl) ?_
      refine lv_iload_n hx hb dX0_put_28 rfl (lv_at hl 3 rfl) ?_
      obtain ⟨wq, hIq, hdq, hB⟩ := hB
      refine g_callXv 3 890 (Nat.le_of_ble_eq_true rfl) (Nat.le_of_ble_eq_true rfl) hB (rXS (As := [.ref (Ad (310 + kk)), .int (iI i), .int (iI v)]) (n := 3) C hV hB (kX0_setIn l hfl E (wU wq X) (Ad (310 + kk)) (F 2 kk) (F 3 kk) (rowF F kk) i v (wU_l (hIq.at (C0_row (by omega) hs9))) (by have := hS kk (by omega); omega) (hS kk (by omega)).2 ⟨by omega, by omega⟩ ⟨by omega, by omega⟩ _) (lw_S q1014 q1015 q68 q1016) (by decide +kernel) ⟨Nat.le_of_ble_eq_true rfl, Nat.le_of_ble_eq_true rfl⟩ rfl hl.1 rfl (Nat.le_of_ble_eq_true rfl) dX0_put_29 ⟨Nat.le_of_ble_eq_true rfl, Nat.le_of_ble_eq_true rfl⟩) (fun En qx27 w24 H locs hp26 hB hE => ?_) (fun w24 H locs hp26 hB => ?_)
      · obtain ⟨rfl, hp26⟩ := hp26
        replace hB : xBB E (xA (wU w X) sz) s o Ad (va_up I 0 0) F X _ _ := ⟨wq, hIq, hdq, hB⟩
        rcases hp26 with ⟨hp26, rfl⟩
        · refine e_catch C hV htab (pc := 29) hE [⟨18, 33, 34, 397⟩] [] ⟨18, 33, 42, 399⟩ rfl (fun z hz => ?_) (by decide) (by decide) q995 q1748 ?_
          · simp only [List.mem_cons, List.not_mem_nil, or_false] at hz
            rcases hz with rfl
            · exact Or.inr ⟨by decide, "java/lang/NullPointerException", q970, by decide +kernel⟩
          refine lv_astore (lv' := [(4, .ref qx27), (0, .ref o), (1, .int (iI ((kk : Int)))), (2, .int (iI i)), (3, .int (iI v))]) hx hb dX0_put_42 hl (by decide) rfl (fun ls hl => ?_)
          refine lv_aload_n hx hb dX0_put_44 rfl (lv_at hl 1 rfl) ?_
          refine lv_iconst (v := iI 3) hx hb dX0_put_45 rfl ?_
          refine b_calli 3 890 (Nat.le_of_ble_eq_true rfl) (Nat.le_of_ble_eq_true rfl) hB (fun w hI hd hB => rV (As := [.int (iI 3)]) (n := 1) C hZ hB (kX0_fails l E o Ad (va_up I 0 0) F X 3 (by omega) w hI hd _) (lw_V q958 q960 qs30 q68 q961) (by decide +kernel) ⟨Nat.le_of_ble_eq_true rfl, Nat.le_of_ble_eq_true rfl⟩ (wU_l hI.x) rfl rfl rfl hl.1 rfl (Nat.le_of_ble_eq_true rfl) dX0_put_46 ⟨Nat.le_of_ble_eq_true rfl, Nat.le_of_ble_eq_true rfl⟩) (fun z29 Ad30 I31 F32 X33 H locs hz34 hp35 hB => ?_)
          obtain ⟨hz34a, hz34b⟩ := hz34
          obtain ⟨rfl, rfl, rfl, rfl, rfl⟩ := hp35
          replace hB : xBB E (xA (wU w X) sz) s o Ad (va_up (va_up I 0 0) 0 3) F X _ _ := hB
          refine vx_ret ?_
          exact b_iret C hB hr hlocks rfl dX0_put_49 (Nat.le_of_ble_eq_true rfl) (Nat.le_of_ble_eq_true rfl) ⟨by decide, by decide⟩ (by have hrs : rPut F (kk : Int) i = -13 := (by unfold rPut; simp only [Int.toNat_natCast]; rw [if_neg (by omega), if_neg hs9, if_pos (by have := hp26; omega)]); exact ⟨rfl, by unfold nPutI fI; rw [hrs]; exact bx_uu _ _ _ _, by unfold nPutF; rw [if_neg (by rw [hrs]; decide)], hrs.symm⟩)
      · obtain ⟨hir, rfl⟩ := hp26
        have hk60 := h60 kk (by omega)
        replace hB := b_row2 hIq hdq (k := kk) (by omega) hs9 h60 (va_up (F 4) (60 * kk + i.toNat) (if F 2 kk = 0 then bB v else if F 2 kk = 1 then bS v else v)) (fun k2 j h1 h2 h3 => va_up_n _ _ (by omega)) (rowF_up (k := kk) (v := (if F 2 kk = 0 then bB v else if F 2 kk = 1 then bS v else v)) hir hk60) hB
        replace hB : xBB E (xA (wU w X) sz) s o Ad (va_up I 0 0) (va_up F 4 (va_up (F 4) (60 * kk + i.toNat) (if F 2 kk = 0 then bB v else if F 2 kk = 1 then bS v else v))) X _ _ := hB
        refine lv_iconst (v := iI 1) hx hb dX0_put_32 rfl ?_
        refine vx_ret ?_
        exact b_iret C hB hr hlocks rfl dX0_put_33 (Nat.le_of_ble_eq_true rfl) (Nat.le_of_ble_eq_true rfl) ⟨by decide, by decide⟩ (by have hrs : rPut F (kk : Int) i = 1 := (by unfold rPut; simp only [Int.toNat_natCast]; rw [if_neg (by omega), if_neg hs9, if_neg (by have := hir; omega)]); exact ⟨rfl, by unfold nPutI fI; rw [hrs]; rfl, by unfold nPutF; rw [if_pos hrs]; rfl, hrs.symm⟩)
set_option maxHeartbeats 800000 in
set_option maxRecDepth 100000 in
theorem kX0_cell (l : Launch) (hfl : l.stackTraces = false) (E : xE) (o : Nat) (Ad : Nat → Nat) (I : Nat → Int) (F : Nat → Nat → Int) (X : xw) (k : Int) (i : Int) (so : Int) (hk : rg k) (hi : rg i) (hso : rg so) (hOK : mOK I F) : zl_ l E yX0_cell (wsW_ yX0_cell cX0_cell 5 (some .long) [(28, 39, 40, 397), (28, 39, 48, 412), (28, 39, 56, 399)]) 10 10342 9 900 [.ref o, .int (iI k), .int (iI i), .int (iI so)] o Ad I F X (fun z Ad' I' F' X' => Ad = Ad' ∧ I' = fI I (eCell F k i so) ∧ F' = F ∧ z = rCell F k i so) := by
  intro w hI hd sz
  refine x_bodyh (by decide) (Nat.le_of_ble_eq_true rfl) ?_
  intro p e s m args below meth c ls hx hb C hr hlocks htab hsz hV hB hl
  have hZ := hV.1
  have C : xC E p s m args c cX0_cell 5 RX0 := C
  replace hB : xBB E (xA (wU w X) sz) s o Ad I F X s.heap [] := ⟨w, hI, hd, hB⟩
  have hl : lv_has ls 5 [(0, .ref o), (1, .int (iI k)), (2, .int (iI i)), (3, .int (iI so))] := hl
  have hOK0 := hOK
  obtain ⟨⟨hf1, hf2⟩, ⟨hl1, hl2⟩, ⟨hr1, hr2⟩, hlr, ⟨hs1, hs2⟩, ⟨hj1, hj2⟩, ⟨hb1, hb2⟩, ⟨hn1, hn2⟩, hL, hR, hN, hS, hC⟩ := hOK
  obtain ⟨hk1, hk2⟩ := hk
  obtain ⟨hi1, hi2⟩ := hi
  obtain ⟨hso1, hso2⟩ := hso
  have h60 : ∀ k : Nat, k < 4 → F 3 k ≤ 60 := fun k hk => (hS k hk).2.2
  refine lv_aload_n hx hb dX0_cell_0 rfl (lv_at hl 0 rfl) ?_
  refine lv_iconst (v := iI 0) hx hb dX0_cell_1 rfl ?_
  refine b_put C hB 17 0 (by decide) rfl q314 rfl rfl rfl dX0_cell_2 (fun H locs hB => ?_)
  refine lv_iload_n hx hb dX0_cell_5 rfl (lv_at hl 1 rfl) ?_
  refine bs_calli (n := 1) C hB (As := [.int (iI k)]) (kX0_noSheet l E k ⟨by omega, by omega⟩) (lw_S q937 q938 q68 q939) (by decide +kernel) ⟨Nat.le_of_ble_eq_true rfl, Nat.le_of_ble_eq_true rfl⟩ rfl hl.1 rfl (Nat.le_of_ble_eq_true rfl) dX0_cell_6 ⟨Nat.le_of_ble_eq_true rfl, Nat.le_of_ble_eq_true rfl⟩ (fun z1 H locs hz2 hp3 hB => ?_)
  obtain ⟨hz2a, hz2b⟩ := hz2
  rcases hp3 with ⟨rfl, h4⟩ | ⟨rfl, h4⟩
  · refine x_if_ne (tgt := 24) hx hb dX0_cell_9 (by decide) ⟨by decide, by decide⟩ (fun c5 => ?_) (fun c5 => by exfalso; omega)
    refine lv_ldc2 hx hb C.1.2.2.2.1 (C.1.2.2.2.2 _ q842) dX0_cell_24 ?_
    refine x_rwl (y := lI (-9223372036854775808)) (by decide) ?_
    refine vx_ret ?_
    exact b_lret C hB hr hlocks dX0_cell_27 (Nat.le_of_ble_eq_true rfl) (Nat.le_of_ble_eq_true rfl) ⟨by decide, by decide⟩ (by have hrs : eCell F k i so = 0 := (by unfold eCell; rw [if_pos (by omega)]); exact ⟨rfl, by unfold fI; rw [hrs], rfl, by unfold rCell; rw [hrs, if_pos (by omega)]⟩)
  · refine x_if_ne (tgt := 24) hx hb dX0_cell_9 (by decide) ⟨by decide, by decide⟩ (fun c6 => by exfalso; omega) (fun c6 => ?_)
    refine lv_iload_n hx hb dX0_cell_12 rfl (lv_at hl 3 rfl) ?_
    refine x_i2l hx hb dX0_cell_13 ⟨by omega, by omega⟩ ?_
    refine lv_lconst (v := lI 0) hx hb dX0_cell_14 rfl ?_
    refine lv_ldc2 hx hb C.1.2.2.2.1 (C.1.2.2.2.2 _ q274) dX0_cell_15 ?_
    refine x_rwl (y := lI 2) (by decide) ?_
    refine bs_calli (n := 3) C hB (As := [.long (lI so), .long (lI 0), .long (lI 2)]) (kX0_in l E so 0 2 ⟨by omega, by omega⟩ ⟨by omega, by omega⟩ ⟨by omega, by omega⟩) (lw_S q234 q235 q68 q236) (by decide +kernel) ⟨Nat.le_of_ble_eq_true rfl, Nat.le_of_ble_eq_true rfl⟩ rfl hl.1 rfl (Nat.le_of_ble_eq_true rfl) dX0_cell_18 ⟨Nat.le_of_ble_eq_true rfl, Nat.le_of_ble_eq_true rfl⟩ (fun z7 H locs hz8 hp9 hB => ?_)
    obtain ⟨hz8a, hz8b⟩ := hz8
    rcases hp9 with ⟨rfl, h10⟩ | ⟨rfl, h10⟩
    · refine x_if_ne (tgt := 28) hx hb dX0_cell_21 (by decide) ⟨by decide, by decide⟩ (fun c11 => ?_) (fun c11 => by exfalso; omega)
      obtain ⟨kk, rfl⟩ : ∃ kk : Nat, k = (kk : Int) := ⟨k.toNat, by omega⟩
      refine lv_aload_n hx hb dX0_cell_28 rfl (lv_at hl 0 rfl) ?_
      refine lv_iload_n hx hb dX0_cell_29 rfl (lv_at hl 1 rfl) ?_
      refine b_callq 0 0 (Nat.le_of_ble_eq_true rfl) (Nat.le_of_ble_eq_true rfl) hB (fun w hI hd hB => rV (As := [.int (iI ((kk : Int)))]) (n := 1) C hZ hB (kX0_rowIn l E o Ad (va_up I 0 0) F X kk (by omega) w hI hd _) (lw_V q1038 q1040 qs31 q68 q1041) (by decide +kernel) ⟨Nat.le_of_ble_eq_true rfl, Nat.le_of_ble_eq_true rfl⟩ (wU_l hI.x) rfl rfl rfl hl.1 rfl (Nat.le_of_ble_eq_true rfl) dX0_cell_30 ⟨Nat.le_of_ble_eq_true rfl, Nat.le_of_ble_eq_true rfl⟩) (fun z12 Ad13 I14 F15 X16 H locs hp18 hB => ?_)
      obtain ⟨rfl, rfl, rfl, rfl, ⟨hs9, rfl⟩ | ⟨hs9, rfl⟩⟩ := hp18
      · refine lv_iload_n hx hb dX0_cell_33 rfl (lv_at hl 3 rfl) ?_
        refine lv_iload_n hx hb dX0_cell_34 rfl (lv_at hl 2 rfl) ?_
        obtain ⟨wq, hIq, hdq, hB⟩ := hB
        refine g_callXi 3 890 (Nat.le_of_ble_eq_true rfl) (Nat.le_of_ble_eq_true rfl) hB (rXS (As := [.null, .int (iI so), .int (iI i)]) (n := 3) C hV hB (kX0_cellOf l hfl E (wU wq X) none 0 0 (fun _ => 0) so i (Or.inl rfl) (by omega) (by omega) (by omega) ⟨by omega, by omega⟩ (fun j hj => by omega) _) (lw_S q1042 q1043 q68 q1044) (by decide +kernel) ⟨Nat.le_of_ble_eq_true rfl, Nat.le_of_ble_eq_true rfl⟩ rfl hl.1 rfl (Nat.le_of_ble_eq_true rfl) dX0_cell_35 ⟨Nat.le_of_ble_eq_true rfl, Nat.le_of_ble_eq_true rfl⟩) (fun En qx23 w20 H locs hp22 hB hE => ?_) (fun z19 w20 H locs hz21 hp22 hB => ?_)
        · obtain ⟨rfl, hp22⟩ := hp22
          replace hB : xBB E (xA (wU w X) sz) s o Ad (va_up I 0 0) F X _ _ := ⟨wq, hIq, hdq, hB⟩
          rcases hp22 with ⟨hp22, rfl⟩ | ⟨hp22, rfl⟩ | ⟨hp22, rfl⟩
          · refine e_catch C hV htab (pc := 35) hE [] [⟨28, 39, 48, 412⟩, ⟨28, 39, 56, 399⟩] ⟨28, 39, 40, 397⟩ rfl (fun z hz => by cases hz) (by decide) (by decide) q970 q992 ?_
            refine lv_astore (lv' := [(4, .ref qx23), (0, .ref o), (1, .int (iI ((kk : Int)))), (2, .int (iI i)), (3, .int (iI so))]) hx hb dX0_cell_40 hl (by decide) rfl (fun ls hl => ?_)
            refine lv_aload_n hx hb dX0_cell_42 rfl (lv_at hl 1 rfl) ?_
            refine lv_iconst (v := iI 1) hx hb dX0_cell_43 rfl ?_
            refine b_calll 3 890 (Nat.le_of_ble_eq_true rfl) (Nat.le_of_ble_eq_true rfl) hB (fun w hI hd hB => rV (As := [.int (iI 1)]) (n := 1) C hZ hB (kX0_failsLong l E o Ad (va_up I 0 0) F X 1 (by omega) w hI hd _) (lw_V q1045 q1047 qs32 q68 q1048) (by decide +kernel) ⟨Nat.le_of_ble_eq_true rfl, Nat.le_of_ble_eq_true rfl⟩ (wU_l hI.x) rfl rfl rfl hl.1 rfl (Nat.le_of_ble_eq_true rfl) dX0_cell_44 ⟨Nat.le_of_ble_eq_true rfl, Nat.le_of_ble_eq_true rfl⟩) (fun z25 Ad26 I27 F28 X29 H locs hz30 hp31 hB => ?_)
            obtain ⟨hz30a, hz30b⟩ := hz30
            obtain ⟨rfl, rfl, rfl, rfl, rfl⟩ := hp31
            replace hB : xBB E (xA (wU w X) sz) s o Ad (va_up (va_up I 0 0) 0 1) F X _ _ := hB
            refine vx_ret ?_
            exact b_lret C hB hr hlocks dX0_cell_47 (Nat.le_of_ble_eq_true rfl) (Nat.le_of_ble_eq_true rfl) ⟨by decide, by decide⟩ (by have hrs : eCell F (kk : Int) i so = 1 := (by unfold eCell; simp only [Int.toNat_natCast]; rw [if_neg (by omega), if_neg (by omega), if_pos hs9]); exact ⟨rfl, by unfold fI; rw [hrs]; exact bx_uu _ _ _ _, rfl, by unfold rCell; rw [hrs, if_pos (by omega)]⟩)
          · exact absurd rfl hp22.1
          · exact absurd rfl hp22.1
        · obtain ⟨hz21a, hz21b⟩ := hz21
          obtain ⟨rfl, hrn, hlt, hir, rfl⟩ := hp22
          replace hB : xBB E (xA (wU w X) sz) s o Ad (va_up I 0 0) F X _ _ := ⟨wq, hIq, hdq, hB⟩
          exact absurd rfl hrn
      · refine lv_iload_n hx hb dX0_cell_33 rfl (lv_at hl 3 rfl) ?_
        refine lv_iload_n hx hb dX0_cell_34 rfl (lv_at hl 2 rfl) ?_
        obtain ⟨wq, hIq, hdq, hB⟩ := hB
        refine g_callXi 3 890 (Nat.le_of_ble_eq_true rfl) (Nat.le_of_ble_eq_true rfl) hB (rXS (As := [.ref (Ad (310 + kk)), .int (iI so), .int (iI i)]) (n := 3) C hV hB (kX0_cellOf l hfl E (wU wq X) (some (Ad (310 + kk))) (F 2 kk) (F 3 kk) (rowF F kk) so i (Or.inr ⟨_, rfl, wU_l (hIq.at (C0_row (by omega) hs9))⟩) (by have := hS kk (by omega); omega) (hS kk (by omega)).2 (by omega) ⟨by omega, by omega⟩ (rowF_rg hC (by omega) (h60 kk (by omega))) _) (lw_S q1042 q1043 q68 q1044) (by decide +kernel) ⟨Nat.le_of_ble_eq_true rfl, Nat.le_of_ble_eq_true rfl⟩ rfl hl.1 rfl (Nat.le_of_ble_eq_true rfl) dX0_cell_35 ⟨Nat.le_of_ble_eq_true rfl, Nat.le_of_ble_eq_true rfl⟩) (fun En qx36 w33 H locs hp35 hB hE => ?_) (fun z32 w33 H locs hz34 hp35 hB => ?_)
        · obtain ⟨rfl, hp35⟩ := hp35
          replace hB : xBB E (xA (wU w X) sz) s o Ad (va_up I 0 0) F X _ _ := ⟨wq, hIq, hdq, hB⟩
          rcases hp35 with ⟨hp35, rfl⟩ | ⟨hp35, rfl⟩ | ⟨hp35, rfl⟩
          · cases hp35
          · refine e_catch C hV htab (pc := 35) hE [⟨28, 39, 40, 397⟩] [⟨28, 39, 56, 399⟩] ⟨28, 39, 48, 412⟩ rfl (fun z hz => ?_) (by decide) (by decide) q1024 q1036 ?_
            · simp only [List.mem_cons, List.not_mem_nil, or_false] at hz
              rcases hz with rfl
              · exact Or.inr ⟨by decide, "java/lang/NullPointerException", q970, by decide +kernel⟩
            refine lv_astore (lv' := [(4, .ref qx36), (0, .ref o), (1, .int (iI ((kk : Int)))), (2, .int (iI i)), (3, .int (iI so))]) hx hb dX0_cell_48 hl (by decide) rfl (fun ls hl => ?_)
            refine lv_aload_n hx hb dX0_cell_50 rfl (lv_at hl 1 rfl) ?_
            refine lv_iconst (v := iI 2) hx hb dX0_cell_51 rfl ?_
            refine b_calll 3 890 (Nat.le_of_ble_eq_true rfl) (Nat.le_of_ble_eq_true rfl) hB (fun w hI hd hB => rV (As := [.int (iI 2)]) (n := 1) C hZ hB (kX0_failsLong l E o Ad (va_up I 0 0) F X 2 (by omega) w hI hd _) (lw_V q1045 q1047 qs32 q68 q1048) (by decide +kernel) ⟨Nat.le_of_ble_eq_true rfl, Nat.le_of_ble_eq_true rfl⟩ (wU_l hI.x) rfl rfl rfl hl.1 rfl (Nat.le_of_ble_eq_true rfl) dX0_cell_52 ⟨Nat.le_of_ble_eq_true rfl, Nat.le_of_ble_eq_true rfl⟩) (fun z38 Ad39 I40 F41 X42 H locs hz43 hp44 hB => ?_)
            obtain ⟨hz43a, hz43b⟩ := hz43
            obtain ⟨rfl, rfl, rfl, rfl, rfl⟩ := hp44
            replace hB : xBB E (xA (wU w X) sz) s o Ad (va_up (va_up I 0 0) 0 2) F X _ _ := hB
            refine vx_ret ?_
            exact b_lret C hB hr hlocks dX0_cell_55 (Nat.le_of_ble_eq_true rfl) (Nat.le_of_ble_eq_true rfl) ⟨by decide, by decide⟩ (by have hrs : eCell F (kk : Int) i so = 2 := (by unfold eCell; simp only [Int.toNat_natCast]; rw [if_neg (by omega), if_pos (by have := hp35; exact ⟨hs9, hp35.2⟩)]); exact ⟨rfl, by unfold fI; rw [hrs]; exact bx_uu _ _ _ _, rfl, by unfold rCell; rw [hrs, if_pos (by omega)]⟩)
          · refine e_catch C hV htab (pc := 35) hE [⟨28, 39, 40, 397⟩, ⟨28, 39, 48, 412⟩] [] ⟨28, 39, 56, 399⟩ rfl (fun z hz => ?_) (by decide) (by decide) q995 q1748 ?_
            · simp only [List.mem_cons, List.not_mem_nil, or_false] at hz
              rcases hz with rfl | rfl
              · exact Or.inr ⟨by decide, "java/lang/NullPointerException", q970, by decide +kernel⟩
              · exact Or.inr ⟨by decide, "java/lang/ClassCastException", q1024, by decide +kernel⟩
            refine lv_astore (lv' := [(4, .ref qx36), (0, .ref o), (1, .int (iI ((kk : Int)))), (2, .int (iI i)), (3, .int (iI so))]) hx hb dX0_cell_56 hl (by decide) rfl (fun ls hl => ?_)
            refine lv_aload_n hx hb dX0_cell_58 rfl (lv_at hl 1 rfl) ?_
            refine lv_iconst (v := iI 3) hx hb dX0_cell_59 rfl ?_
            refine b_calll 3 890 (Nat.le_of_ble_eq_true rfl) (Nat.le_of_ble_eq_true rfl) hB (fun w hI hd hB => rV (As := [.int (iI 3)]) (n := 1) C hZ hB (kX0_failsLong l E o Ad (va_up I 0 0) F X 3 (by omega) w hI hd _) (lw_V q1045 q1047 qs32 q68 q1048) (by decide +kernel) ⟨Nat.le_of_ble_eq_true rfl, Nat.le_of_ble_eq_true rfl⟩ (wU_l hI.x) rfl rfl rfl hl.1 rfl (Nat.le_of_ble_eq_true rfl) dX0_cell_60 ⟨Nat.le_of_ble_eq_true rfl, Nat.le_of_ble_eq_true rfl⟩) (fun z46 Ad47 I48 F49 X50 H locs hz51 hp52 hB => ?_)
            obtain ⟨hz51a, hz51b⟩ := hz51
            obtain ⟨rfl, rfl, rfl, rfl, rfl⟩ := hp52
            replace hB : xBB E (xA (wU w X) sz) s o Ad (va_up (va_up I 0 0) 0 3) F X _ _ := hB
            refine vx_ret ?_
            exact b_lret C hB hr hlocks dX0_cell_63 (Nat.le_of_ble_eq_true rfl) (Nat.le_of_ble_eq_true rfl) ⟨by decide, by decide⟩ (by have hrs : eCell F (kk : Int) i so = 3 := (by unfold eCell; simp only [Int.toNat_natCast]; rw [if_neg (by omega), if_neg (by have := hp35.2.1; omega), if_neg hs9, if_pos hp35.2.2]); exact ⟨rfl, by unfold fI; rw [hrs]; exact bx_uu _ _ _ _, rfl, by unfold rCell; rw [hrs, if_pos (by omega)]⟩)
        · obtain ⟨hz34a, hz34b⟩ := hz34
          obtain ⟨rfl, hrn, hlt, hir, rfl⟩ := hp35
          replace hB : xBB E (xA (wU w X) sz) s o Ad (va_up I 0 0) F X _ _ := ⟨wq, hIq, hdq, hB⟩
          have hk60 := h60 kk (by omega)
          refine x_nm (b := F 4 (60 * kk + i.toNat)) (rowF_at (by omega)) ?_
          obtain ⟨hca, hcb⟩ := hC (60 * kk + i.toNat) (by omega)
          refine x_i2l hx hb dX0_cell_38 ⟨by omega, by omega⟩ ?_
          refine vx_ret ?_
          exact b_lret C hB hr hlocks dX0_cell_39 (Nat.le_of_ble_eq_true rfl) (Nat.le_of_ble_eq_true rfl) ⟨by omega, by omega⟩ (by have hrs : eCell F (kk : Int) i so = 0 := (by unfold eCell; simp only [Int.toNat_natCast]; rw [if_neg (by omega), if_neg (by omega), if_neg hs9, if_neg (by have := hir; omega)]); exact ⟨rfl, by unfold fI; rw [hrs], rfl, by unfold rCell; rw [hrs, if_neg (by omega)]; rfl⟩)
    · refine x_if_ne (tgt := 28) hx hb dX0_cell_21 (by decide) ⟨by decide, by decide⟩ (fun c53 => by exfalso; omega) (fun c53 => ?_)
      refine lv_ldc2 hx hb C.1.2.2.2.1 (C.1.2.2.2.2 _ q842) dX0_cell_24 ?_
      refine x_rwl (y := lI (-9223372036854775808)) (by decide) ?_
      refine vx_ret ?_
      exact b_lret C hB hr hlocks dX0_cell_27 (Nat.le_of_ble_eq_true rfl) (Nat.le_of_ble_eq_true rfl) ⟨by decide, by decide⟩ (by have hrs : eCell F k i so = 0 := (by unfold eCell; rw [if_pos (by omega)]); exact ⟨rfl, by unfold fI; rw [hrs], rfl, by unfold rCell; rw [hrs, if_pos (by omega)]⟩)
