/-! THE MODEL, 14: reading -/
set_option maxHeartbeats 400000 in
set_option maxRecDepth 100000 in
theorem kX3_isSign (l : Launch) (E : xE) (o : Nat) (Ad : Nat → Nat) (I : Nat → Int) (F : Nat → Nat → Int) (ra rb rc : Nat) (rf rgg rh : Nat → Int) (en : Nat) (code : Int) (hen : en ≤ 240) (hra : ra ≤ 1000) (hcode : 0 ≤ code ∧ code ≤ 1000) (hOK : mOK I F) : mi_ l E yX3_isSign cX3_isSign 3 (some .boolean) 0 0 [.ref o, .int (iI ((en : Int))), .int (iI code)] o Ad (rdI I ra rb rc) (rdF F rf rgg rh) (fun z I' F' => (z = 1 ∧ ce F en ra = code ∧ rdI I (ra + 1) rb rc = I' ∧ rdF F rf rgg rh = F') ∨ (z = 0 ∧ ce F en ra ≠ code ∧ rdI I ra rb rc = I' ∧ rdF F rf rgg rh = F')) := by
  intro w sz hM
  refine x_body (by decide) (Nat.le_of_ble_eq_true rfl) ?_
  intro p e s m args below meth c ls hx hb C hr hlocks _ hsz hB hl
  have C : xC E p s m args c cX3_isSign 3 RX3 := C
  replace hB : mB E (xA w sz) s o Ad (rdI I ra rb rc) (rdF F rf rgg rh) s.heap [] := ⟨w, hM, hB⟩
  have hl : lv_has ls 3 [(0, .ref o), (1, .int (iI ((en : Int)))), (2, .int (iI code))] := hl
  have hOK0 := hOK
  obtain ⟨⟨hf1, hf2⟩, ⟨hl1, hl2⟩, ⟨hr1, hr2⟩, hlr, ⟨hs1, hs2⟩, ⟨hj1, hj2⟩, ⟨hb1, hb2⟩, ⟨hn1, hn2⟩, hL, hR, hN, hS, hC⟩ := hOK
  have hce := ce_c F en ra
  refine lv_aload_n hx hb dX3_isSign_0 rfl (lv_at hl 0 rfl) ?_
  refine m_get C hB 15 (by decide) q1409 (v := .int (iI ((ra : Int)))) rfl rfl dX3_isSign_1 ?_
  refine lv_iload_n hx hb dX3_isSign_4 rfl (lv_at hl 1 rfl) ?_
  refine x_icmp_ge (tgt := 21) hx hb dX3_isSign_5 (by decide) ⟨by omega, by omega⟩ ⟨by omega, by omega⟩ (fun c1 => ?_) (fun c1 => ?_)
  · refine lv_iconst (v := iI 0) hx hb dX3_isSign_21 rfl ?_
    exact m_iret C hB hr hlocks rfl dX3_isSign_22 ⟨by decide, by decide⟩ (Or.inr ⟨rfl, by omega, rfl, rfl⟩)
  · refine lv_aload_n hx hb dX3_isSign_8 rfl (lv_at hl 0 rfl) ?_
    refine m_get C hB 4 (by decide) q1398 (v := .ref (Ad 4)) rfl rfl dX3_isSign_9 ?_
    refine lv_aload_n hx hb dX3_isSign_12 rfl (lv_at hl 0 rfl) ?_
    refine m_get C hB 15 (by decide) q1409 (v := .int (iI ((ra : Int)))) rfl rfl dX3_isSign_13 ?_
    refine m_ald C hB 4 240 rfl (v := F 4 ra) ra rfl (by omega) rfl dX3_isSign_16 ?_
    have := hC ra (by omega)
    refine lv_iload_n hx hb dX3_isSign_17 rfl (lv_at hl 2 rfl) ?_
    refine x_icmp_eq (tgt := 23) hx hb dX3_isSign_18 (by decide) ⟨by omega, by omega⟩ ⟨by omega, by omega⟩ (fun c2 => ?_) (fun c2 => ?_)
    · refine lv_aload_n hx hb dX3_isSign_23 rfl (lv_at hl 0 rfl) ?_
      refine lv_dup hx hb dX3_isSign_24 rfl ?_
      refine m_get C hB 15 (by decide) q1409 (v := .int (iI ((ra : Int)))) rfl rfl dX3_isSign_25 ?_
      refine lv_iconst (v := iI 1) hx hb dX3_isSign_28 rfl ?_
      refine x_iadd (z := (ra : Int) + 1) hx hb dX3_isSign_29 (by omega) ?_
      refine m_put C hB 15 (by decide) rfl q1409 rfl rfl dX3_isSign_30 (fun H locs hB => ?_)
      replace hB : mB E (xA w sz) s o Ad (va_up (rdI I ra rb rc) 15 ((ra + 1 : Nat) : Int)) (rdF F rf rgg rh) H locs := hB
      rw [rdI_15] at hB
      refine lv_iconst (v := iI 1) hx hb dX3_isSign_33 rfl ?_
      exact m_iret C hB hr hlocks rfl dX3_isSign_34 ⟨by decide, by decide⟩ (Or.inl ⟨rfl, by omega, rfl, rfl⟩)
    · refine lv_iconst (v := iI 0) hx hb dX3_isSign_21 rfl ?_
      exact m_iret C hB hr hlocks rfl dX3_isSign_22 ⟨by decide, by decide⟩ (Or.inr ⟨rfl, by omega, rfl, rfl⟩)
set_option maxHeartbeats 400000 in
set_option maxRecDepth 100000 in
theorem kX3_readKindNext (l : Launch) (E : xE) (o : Nat) (Ad : Nat → Nat) (I : Nat → Int) (F : Nat → Nat → Int) (ra rb rc : Nat) (rf rgg rh : Nat → Int) (en : Nat) (hen : en ≤ 240) (hra : ra ≤ 1000) (hrb : rb < 7) (hOK : mOK I F) : mi_ l E yX3_readKindNext cX3_readKindNext 3 (some .boolean) 0 0 [.ref o, .int (iI ((en : Int)))] o Ad (rdI I ra rb rc) (rdF F rf rgg rh) (fun z I' F' => (z = 1 ∧ kOf (ce F en ra) ≠ -9 ∧ rdI I (ra + 1) rb rc = I' ∧ rdF F (va_up rf rb (kOf (ce F en ra))) rgg rh = F') ∨ (z = 0 ∧ kOf (ce F en ra) = -9 ∧ rdI I ra rb rc = I' ∧ rdF F (va_up rf rb (kOf (ce F en ra))) rgg rh = F')) := by
  intro w sz hM
  refine x_body (by decide) (Nat.le_of_ble_eq_true rfl) ?_
  intro p e s m args below meth c ls hx hb C hr hlocks _ hsz hB hl
  have C : xC E p s m args c cX3_readKindNext 3 RX3 := C
  replace hB : mB E (xA w sz) s o Ad (rdI I ra rb rc) (rdF F rf rgg rh) s.heap [] := ⟨w, hM, hB⟩
  have hl : lv_has ls 3 [(0, .ref o), (1, .int (iI ((en : Int))))] := hl
  have hOK0 := hOK
  obtain ⟨⟨hf1, hf2⟩, ⟨hl1, hl2⟩, ⟨hr1, hr2⟩, hlr, ⟨hs1, hs2⟩, ⟨hj1, hj2⟩, ⟨hb1, hb2⟩, ⟨hn1, hn2⟩, hL, hR, hN, hS, hC⟩ := hOK
  have hce := ce_c F en ra
  refine lv_aload_n hx hb dX3_readKindNext_0 rfl (lv_at hl 0 rfl) ?_
  refine m_get C hB 15 (by decide) q1409 (v := .int (iI ((ra : Int)))) rfl rfl dX3_readKindNext_1 ?_
  refine lv_iload_n hx hb dX3_readKindNext_4 rfl (lv_at hl 1 rfl) ?_
  refine x_icmp_ge (tgt := 20) hx hb dX3_readKindNext_5 (by decide) ⟨by omega, by omega⟩ ⟨by omega, by omega⟩ (fun c1 => ?_) (fun c1 => ?_)
  · refine lv_iconst (v := iI 0) hx hb dX3_readKindNext_20 rfl ?_
    refine lv_istore_n (lv' := [(2, .int (iI 0)), (0, .ref o), (1, .int (iI ((en : Int))))]) hx hb dX3_readKindNext_21 rfl hl (by decide) rfl (fun ls hl => ?_)
    refine lv_aload_n hx hb dX3_readKindNext_22 rfl (lv_at hl 1 rfl) ?_
    refine m_get C hB 18 (by decide) q1412 (v := .ref (Ad 18)) rfl rfl dX3_readKindNext_23 ?_
    refine lv_aload_n hx hb dX3_readKindNext_26 rfl (lv_at hl 1 rfl) ?_
    refine m_get C hB 16 (by decide) q1410 (v := .int (iI ((rb : Int)))) rfl rfl dX3_readKindNext_27 ?_
    refine lv_iload_n hx hb dX3_readKindNext_30 rfl (lv_at hl 0 rfl) ?_
    refine lv_bipush (v := iI 80) hx hb dX3_readKindNext_31 rfl ?_
    refine x_icmp_ne (tgt := 40) hx hb dX3_readKindNext_33 (by decide) ⟨by decide, by decide⟩ ⟨by decide, by decide⟩ (fun c2 => ?_) (fun c2 => by exfalso; omega)
    refine lv_iload_n hx hb dX3_readKindNext_40 rfl (lv_at hl 0 rfl) ?_
    refine lv_bipush (v := iI 76) hx hb dX3_readKindNext_41 rfl ?_
    refine x_icmp_ne (tgt := 50) hx hb dX3_readKindNext_43 (by decide) ⟨by decide, by decide⟩ ⟨by decide, by decide⟩ (fun c3 => ?_) (fun c3 => by exfalso; omega)
    refine lv_iload_n hx hb dX3_readKindNext_50 rfl (lv_at hl 0 rfl) ?_
    refine lv_bipush (v := iI 68) hx hb dX3_readKindNext_51 rfl ?_
    refine x_icmp_ne (tgt := 60) hx hb dX3_readKindNext_53 (by decide) ⟨by decide, by decide⟩ ⟨by decide, by decide⟩ (fun c4 => ?_) (fun c4 => by exfalso; omega)
    refine lv_bipush (v := iI (-9)) hx hb dX3_readKindNext_60 rfl ?_
    have hkv : kOf (ce F en ra) = -9 := by unfold kOf; (repeat' split) <;> omega
    refine x_nm hkv.symm ?_
    refine m_ast C hB 18 7 rfl (f := rf) rb rfl (by omega) rfl dX3_readKindNext_62 (fun H locs hB => ?_)
    rw [rdF_18] at hB
    refine lv_aload_n hx hb dX3_readKindNext_63 rfl (lv_at hl 1 rfl) ?_
    refine m_get C hB 18 (by decide) q1412 (v := .ref (Ad 18)) rfl rfl dX3_readKindNext_64 ?_
    refine lv_aload_n hx hb dX3_readKindNext_67 rfl (lv_at hl 1 rfl) ?_
    refine m_get C hB 16 (by decide) q1410 (v := .int (iI ((rb : Int)))) rfl rfl dX3_readKindNext_68 ?_
    refine m_ald C hB 18 7 rfl (v := kOf (ce F en ra)) rb rfl (by omega) (va_up_s _ _ _) dX3_readKindNext_71 ?_
    refine lv_bipush (v := iI (-9)) hx hb dX3_readKindNext_72 rfl ?_
    refine x_icmp_ne (tgt := 79) hx hb dX3_readKindNext_74 (by decide) ⟨by omega, by omega⟩ ⟨by decide, by decide⟩ (fun c5 => ?_) (fun c5 => ?_)
    · refine lv_aload_n hx hb dX3_readKindNext_79 rfl (lv_at hl 1 rfl) ?_
      refine lv_dup hx hb dX3_readKindNext_80 rfl ?_
      refine m_get C hB 15 (by decide) q1409 (v := .int (iI ((ra : Int)))) rfl rfl dX3_readKindNext_81 ?_
      refine lv_iconst (v := iI 1) hx hb dX3_readKindNext_84 rfl ?_
      refine x_iadd (z := (ra : Int) + 1) hx hb dX3_readKindNext_85 (by omega) ?_
      refine m_put C hB 15 (by decide) rfl q1409 rfl rfl dX3_readKindNext_86 (fun H locs hB => ?_)
      replace hB : mB E (xA w sz) s o Ad (va_up (rdI I ra rb rc) 15 ((ra + 1 : Nat) : Int)) (rdF F ((va_up rf rb (kOf (ce F en ra)))) rgg rh) H locs := hB
      rw [rdI_15] at hB
      refine lv_iconst (v := iI 1) hx hb dX3_readKindNext_89 rfl ?_
      exact m_iret C hB hr hlocks rfl dX3_readKindNext_90 ⟨by decide, by decide⟩ (Or.inl ⟨rfl, by omega, rfl, rfl⟩)
    · refine lv_iconst (v := iI 0) hx hb dX3_readKindNext_77 rfl ?_
      exact m_iret C hB hr hlocks rfl dX3_readKindNext_78 ⟨by decide, by decide⟩ (Or.inr ⟨rfl, by omega, rfl, rfl⟩)
  · refine lv_aload_n hx hb dX3_readKindNext_8 rfl (lv_at hl 0 rfl) ?_
    refine m_get C hB 4 (by decide) q1398 (v := .ref (Ad 4)) rfl rfl dX3_readKindNext_9 ?_
    refine lv_aload_n hx hb dX3_readKindNext_12 rfl (lv_at hl 0 rfl) ?_
    refine m_get C hB 15 (by decide) q1409 (v := .int (iI ((ra : Int)))) rfl rfl dX3_readKindNext_13 ?_
    refine m_ald C hB 4 240 rfl (v := F 4 ra) ra rfl (by omega) rfl dX3_readKindNext_16 ?_
    have := hC ra (by omega)
    refine lv_goto (tgt := 21) hx hb dX3_readKindNext_17 (by decide) ?_
    refine lv_istore_n (lv' := [(2, .int (iI (F 4 ra))), (0, .ref o), (1, .int (iI ((en : Int))))]) hx hb dX3_readKindNext_21 rfl hl (by decide) rfl (fun ls hl => ?_)
    refine lv_aload_n hx hb dX3_readKindNext_22 rfl (lv_at hl 1 rfl) ?_
    refine m_get C hB 18 (by decide) q1412 (v := .ref (Ad 18)) rfl rfl dX3_readKindNext_23 ?_
    refine lv_aload_n hx hb dX3_readKindNext_26 rfl (lv_at hl 1 rfl) ?_
    refine m_get C hB 16 (by decide) q1410 (v := .int (iI ((rb : Int)))) rfl rfl dX3_readKindNext_27 ?_
    refine lv_iload_n hx hb dX3_readKindNext_30 rfl (lv_at hl 0 rfl) ?_
    refine lv_bipush (v := iI 80) hx hb dX3_readKindNext_31 rfl ?_
    refine x_icmp_ne (tgt := 40) hx hb dX3_readKindNext_33 (by decide) ⟨by omega, by omega⟩ ⟨by decide, by decide⟩ (fun c6 => ?_) (fun c6 => ?_)
    · refine lv_iload_n hx hb dX3_readKindNext_40 rfl (lv_at hl 0 rfl) ?_
      refine lv_bipush (v := iI 76) hx hb dX3_readKindNext_41 rfl ?_
      refine x_icmp_ne (tgt := 50) hx hb dX3_readKindNext_43 (by decide) ⟨by omega, by omega⟩ ⟨by decide, by decide⟩ (fun c7 => ?_) (fun c7 => ?_)
      · refine lv_iload_n hx hb dX3_readKindNext_50 rfl (lv_at hl 0 rfl) ?_
        refine lv_bipush (v := iI 68) hx hb dX3_readKindNext_51 rfl ?_
        refine x_icmp_ne (tgt := 60) hx hb dX3_readKindNext_53 (by decide) ⟨by omega, by omega⟩ ⟨by decide, by decide⟩ (fun c8 => ?_) (fun c8 => ?_)
        · refine lv_bipush (v := iI (-9)) hx hb dX3_readKindNext_60 rfl ?_
          have hkv : kOf (ce F en ra) = -9 := by unfold kOf; (repeat' split) <;> omega
          refine x_nm hkv.symm ?_
          refine m_ast C hB 18 7 rfl (f := rf) rb rfl (by omega) rfl dX3_readKindNext_62 (fun H locs hB => ?_)
          rw [rdF_18] at hB
          refine lv_aload_n hx hb dX3_readKindNext_63 rfl (lv_at hl 1 rfl) ?_
          refine m_get C hB 18 (by decide) q1412 (v := .ref (Ad 18)) rfl rfl dX3_readKindNext_64 ?_
          refine lv_aload_n hx hb dX3_readKindNext_67 rfl (lv_at hl 1 rfl) ?_
          refine m_get C hB 16 (by decide) q1410 (v := .int (iI ((rb : Int)))) rfl rfl dX3_readKindNext_68 ?_
          refine m_ald C hB 18 7 rfl (v := kOf (ce F en ra)) rb rfl (by omega) (va_up_s _ _ _) dX3_readKindNext_71 ?_
          refine lv_bipush (v := iI (-9)) hx hb dX3_readKindNext_72 rfl ?_
          refine x_icmp_ne (tgt := 79) hx hb dX3_readKindNext_74 (by decide) ⟨by omega, by omega⟩ ⟨by decide, by decide⟩ (fun c9 => ?_) (fun c9 => ?_)
          · refine lv_aload_n hx hb dX3_readKindNext_79 rfl (lv_at hl 1 rfl) ?_
            refine lv_dup hx hb dX3_readKindNext_80 rfl ?_
            refine m_get C hB 15 (by decide) q1409 (v := .int (iI ((ra : Int)))) rfl rfl dX3_readKindNext_81 ?_
            refine lv_iconst (v := iI 1) hx hb dX3_readKindNext_84 rfl ?_
            refine x_iadd (z := (ra : Int) + 1) hx hb dX3_readKindNext_85 (by omega) ?_
            refine m_put C hB 15 (by decide) rfl q1409 rfl rfl dX3_readKindNext_86 (fun H locs hB => ?_)
            replace hB : mB E (xA w sz) s o Ad (va_up (rdI I ra rb rc) 15 ((ra + 1 : Nat) : Int)) (rdF F ((va_up rf rb (kOf (ce F en ra)))) rgg rh) H locs := hB
            rw [rdI_15] at hB
            refine lv_iconst (v := iI 1) hx hb dX3_readKindNext_89 rfl ?_
            exact m_iret C hB hr hlocks rfl dX3_readKindNext_90 ⟨by decide, by decide⟩ (Or.inl ⟨rfl, by omega, rfl, rfl⟩)
          · refine lv_iconst (v := iI 0) hx hb dX3_readKindNext_77 rfl ?_
            exact m_iret C hB hr hlocks rfl dX3_readKindNext_78 ⟨by decide, by decide⟩ (Or.inr ⟨rfl, by omega, rfl, rfl⟩)
        · refine lv_iconst (v := iI 2) hx hb dX3_readKindNext_56 rfl ?_
          refine lv_goto (tgt := 62) hx hb dX3_readKindNext_57 (by decide) ?_
          have hkv : kOf (ce F en ra) = 2 := by unfold kOf; (repeat' split) <;> omega
          refine x_nm hkv.symm ?_
          refine m_ast C hB 18 7 rfl (f := rf) rb rfl (by omega) rfl dX3_readKindNext_62 (fun H locs hB => ?_)
          rw [rdF_18] at hB
          refine lv_aload_n hx hb dX3_readKindNext_63 rfl (lv_at hl 1 rfl) ?_
          refine m_get C hB 18 (by decide) q1412 (v := .ref (Ad 18)) rfl rfl dX3_readKindNext_64 ?_
          refine lv_aload_n hx hb dX3_readKindNext_67 rfl (lv_at hl 1 rfl) ?_
          refine m_get C hB 16 (by decide) q1410 (v := .int (iI ((rb : Int)))) rfl rfl dX3_readKindNext_68 ?_
          refine m_ald C hB 18 7 rfl (v := kOf (ce F en ra)) rb rfl (by omega) (va_up_s _ _ _) dX3_readKindNext_71 ?_
          refine lv_bipush (v := iI (-9)) hx hb dX3_readKindNext_72 rfl ?_
          refine x_icmp_ne (tgt := 79) hx hb dX3_readKindNext_74 (by decide) ⟨by omega, by omega⟩ ⟨by decide, by decide⟩ (fun c10 => ?_) (fun c10 => ?_)
          · refine lv_aload_n hx hb dX3_readKindNext_79 rfl (lv_at hl 1 rfl) ?_
            refine lv_dup hx hb dX3_readKindNext_80 rfl ?_
            refine m_get C hB 15 (by decide) q1409 (v := .int (iI ((ra : Int)))) rfl rfl dX3_readKindNext_81 ?_
            refine lv_iconst (v := iI 1) hx hb dX3_readKindNext_84 rfl ?_
            refine x_iadd (z := (ra : Int) + 1) hx hb dX3_readKindNext_85 (by omega) ?_
            refine m_put C hB 15 (by decide) rfl q1409 rfl rfl dX3_readKindNext_86 (fun H locs hB => ?_)
            replace hB : mB E (xA w sz) s o Ad (va_up (rdI I ra rb rc) 15 ((ra + 1 : Nat) : Int)) (rdF F ((va_up rf rb (kOf (ce F en ra)))) rgg rh) H locs := hB
            rw [rdI_15] at hB
            refine lv_iconst (v := iI 1) hx hb dX3_readKindNext_89 rfl ?_
            exact m_iret C hB hr hlocks rfl dX3_readKindNext_90 ⟨by decide, by decide⟩ (Or.inl ⟨rfl, by omega, rfl, rfl⟩)
          · refine lv_iconst (v := iI 0) hx hb dX3_readKindNext_77 rfl ?_
            exact m_iret C hB hr hlocks rfl dX3_readKindNext_78 ⟨by decide, by decide⟩ (Or.inr ⟨rfl, by omega, rfl, rfl⟩)
      · refine lv_iconst (v := iI 1) hx hb dX3_readKindNext_46 rfl ?_
        refine lv_goto (tgt := 62) hx hb dX3_readKindNext_47 (by decide) ?_
        have hkv : kOf (ce F en ra) = 1 := by unfold kOf; (repeat' split) <;> omega
        refine x_nm hkv.symm ?_
        refine m_ast C hB 18 7 rfl (f := rf) rb rfl (by omega) rfl dX3_readKindNext_62 (fun H locs hB => ?_)
        rw [rdF_18] at hB
        refine lv_aload_n hx hb dX3_readKindNext_63 rfl (lv_at hl 1 rfl) ?_
        refine m_get C hB 18 (by decide) q1412 (v := .ref (Ad 18)) rfl rfl dX3_readKindNext_64 ?_
        refine lv_aload_n hx hb dX3_readKindNext_67 rfl (lv_at hl 1 rfl) ?_
        refine m_get C hB 16 (by decide) q1410 (v := .int (iI ((rb : Int)))) rfl rfl dX3_readKindNext_68 ?_
        refine m_ald C hB 18 7 rfl (v := kOf (ce F en ra)) rb rfl (by omega) (va_up_s _ _ _) dX3_readKindNext_71 ?_
        refine lv_bipush (v := iI (-9)) hx hb dX3_readKindNext_72 rfl ?_
        refine x_icmp_ne (tgt := 79) hx hb dX3_readKindNext_74 (by decide) ⟨by omega, by omega⟩ ⟨by decide, by decide⟩ (fun c11 => ?_) (fun c11 => ?_)
        · refine lv_aload_n hx hb dX3_readKindNext_79 rfl (lv_at hl 1 rfl) ?_
          refine lv_dup hx hb dX3_readKindNext_80 rfl ?_
          refine m_get C hB 15 (by decide) q1409 (v := .int (iI ((ra : Int)))) rfl rfl dX3_readKindNext_81 ?_
          refine lv_iconst (v := iI 1) hx hb dX3_readKindNext_84 rfl ?_
          refine x_iadd (z := (ra : Int) + 1) hx hb dX3_readKindNext_85 (by omega) ?_
          refine m_put C hB 15 (by decide) rfl q1409 rfl rfl dX3_readKindNext_86 (fun H locs hB => ?_)
          replace hB : mB E (xA w sz) s o Ad (va_up (rdI I ra rb rc) 15 ((ra + 1 : Nat) : Int)) (rdF F ((va_up rf rb (kOf (ce F en ra)))) rgg rh) H locs := hB
          rw [rdI_15] at hB
          refine lv_iconst (v := iI 1) hx hb dX3_readKindNext_89 rfl ?_
          exact m_iret C hB hr hlocks rfl dX3_readKindNext_90 ⟨by decide, by decide⟩ (Or.inl ⟨rfl, by omega, rfl, rfl⟩)
        · refine lv_iconst (v := iI 0) hx hb dX3_readKindNext_77 rfl ?_
          exact m_iret C hB hr hlocks rfl dX3_readKindNext_78 ⟨by decide, by decide⟩ (Or.inr ⟨rfl, by omega, rfl, rfl⟩)
    · refine lv_iconst (v := iI 0) hx hb dX3_readKindNext_36 rfl ?_
      refine lv_goto (tgt := 62) hx hb dX3_readKindNext_37 (by decide) ?_
      have hkv : kOf (ce F en ra) = 0 := by unfold kOf; (repeat' split) <;> omega
      refine x_nm hkv.symm ?_
      refine m_ast C hB 18 7 rfl (f := rf) rb rfl (by omega) rfl dX3_readKindNext_62 (fun H locs hB => ?_)
      rw [rdF_18] at hB
      refine lv_aload_n hx hb dX3_readKindNext_63 rfl (lv_at hl 1 rfl) ?_
      refine m_get C hB 18 (by decide) q1412 (v := .ref (Ad 18)) rfl rfl dX3_readKindNext_64 ?_
      refine lv_aload_n hx hb dX3_readKindNext_67 rfl (lv_at hl 1 rfl) ?_
      refine m_get C hB 16 (by decide) q1410 (v := .int (iI ((rb : Int)))) rfl rfl dX3_readKindNext_68 ?_
      refine m_ald C hB 18 7 rfl (v := kOf (ce F en ra)) rb rfl (by omega) (va_up_s _ _ _) dX3_readKindNext_71 ?_
      refine lv_bipush (v := iI (-9)) hx hb dX3_readKindNext_72 rfl ?_
      refine x_icmp_ne (tgt := 79) hx hb dX3_readKindNext_74 (by decide) ⟨by omega, by omega⟩ ⟨by decide, by decide⟩ (fun c12 => ?_) (fun c12 => ?_)
      · refine lv_aload_n hx hb dX3_readKindNext_79 rfl (lv_at hl 1 rfl) ?_
        refine lv_dup hx hb dX3_readKindNext_80 rfl ?_
        refine m_get C hB 15 (by decide) q1409 (v := .int (iI ((ra : Int)))) rfl rfl dX3_readKindNext_81 ?_
        refine lv_iconst (v := iI 1) hx hb dX3_readKindNext_84 rfl ?_
        refine x_iadd (z := (ra : Int) + 1) hx hb dX3_readKindNext_85 (by omega) ?_
        refine m_put C hB 15 (by decide) rfl q1409 rfl rfl dX3_readKindNext_86 (fun H locs hB => ?_)
        replace hB : mB E (xA w sz) s o Ad (va_up (rdI I ra rb rc) 15 ((ra + 1 : Nat) : Int)) (rdF F ((va_up rf rb (kOf (ce F en ra)))) rgg rh) H locs := hB
        rw [rdI_15] at hB
        refine lv_iconst (v := iI 1) hx hb dX3_readKindNext_89 rfl ?_
        exact m_iret C hB hr hlocks rfl dX3_readKindNext_90 ⟨by decide, by decide⟩ (Or.inl ⟨rfl, by omega, rfl, rfl⟩)
      · refine lv_iconst (v := iI 0) hx hb dX3_readKindNext_77 rfl ?_
        exact m_iret C hB hr hlocks rfl dX3_readKindNext_78 ⟨by decide, by decide⟩ (Or.inr ⟨rfl, by omega, rfl, rfl⟩)
set_option maxHeartbeats 400000 in
set_option maxRecDepth 100000 in
theorem kX3_readSentence (l : Launch) (E : xE) (o : Nat) (Ad : Nat → Nat) (I : Nat → Int) (F : Nat → Nat → Int) (ra rb rc : Nat) (rf rgg rh : Nat → Int) (en : Nat) (k : Nat) (hen : en ≤ 240) (hra : ra ≤ 1000) (hk : k < 14) (hOK : mOK I F) : mi_ l E yX3_readSentence cX3_readSentence 3 (some .boolean) 1 22 [.ref o, .int (iI ((en : Int))), .int (iI ((k : Int)))] o Ad (rdI I ra rb rc) (rdF F rf rgg rh) (fun z I' F' => (z = 1 ∧ (lOf (ce F en ra) ≠ -9 ∧ aOf (ce F en (ra + 1)) ≠ -9) ∧ rdI I (ra + 1 + 1) rb rc = I' ∧ rdF F rf (va_up rgg k (lOf (ce F en ra))) (va_up rh k (aOf (ce F en (ra + 1)))) = F') ∨ (z = 0 ∧ (lOf (ce F en ra) ≠ -9 ∧ aOf (ce F en (ra + 1)) = -9) ∧ rdI I (ra + 1) rb rc = I' ∧ rdF F rf (va_up rgg k (lOf (ce F en ra))) rh = F') ∨ (z = 0 ∧ lOf (ce F en ra) = -9 ∧ rdI I ra rb rc = I' ∧ rdF F rf rgg rh = F')) := by
  intro w sz hM
  refine x_body (by decide) (Nat.le_of_ble_eq_true rfl) ?_
  intro p e s m args below meth c ls hx hb C hr hlocks _ hsz hB hl
  have C : xC E p s m args c cX3_readSentence 3 RX3 := C
  replace hB : mB E (xA w sz) s o Ad (rdI I ra rb rc) (rdF F rf rgg rh) s.heap [] := ⟨w, hM, hB⟩
  have hl : lv_has ls 3 [(0, .ref o), (1, .int (iI ((en : Int)))), (2, .int (iI ((k : Int))))] := hl
  have hOK0 := hOK
  obtain ⟨⟨hf1, hf2⟩, ⟨hl1, hl2⟩, ⟨hr1, hr2⟩, hlr, ⟨hs1, hs2⟩, ⟨hj1, hj2⟩, ⟨hb1, hb2⟩, ⟨hn1, hn2⟩, hL, hR, hN, hS, hC⟩ := hOK
  have hce := ce_c F en ra
  have hce2 := ce_c F en (ra + 1)
  refine lv_aload_n hx hb dX3_readSentence_0 rfl (lv_at hl 0 rfl) ?_
  refine m_get C hB 15 (by decide) q1409 (v := .int (iI ((ra : Int)))) rfl rfl dX3_readSentence_1 ?_
  refine lv_iload_n hx hb dX3_readSentence_4 rfl (lv_at hl 1 rfl) ?_
  refine x_icmp_ge (tgt := 27) hx hb dX3_readSentence_5 (by decide) ⟨by omega, by omega⟩ ⟨by omega, by omega⟩ (fun c1 => ?_) (fun c1 => ?_)
  · refine lv_iconst (v := iI 0) hx hb dX3_readSentence_27 rfl ?_
    exact m_iret C hB hr hlocks rfl dX3_readSentence_28 ⟨by decide, by decide⟩ (Or.inr (Or.inr ⟨rfl, by unfold lOf; (repeat' split) <;> omega, rfl, rfl⟩))
  · refine lv_aload_n hx hb dX3_readSentence_8 rfl (lv_at hl 0 rfl) ?_
    refine m_get C hB 4 (by decide) q1398 (v := .ref (Ad 4)) rfl rfl dX3_readSentence_9 ?_
    refine lv_aload_n hx hb dX3_readSentence_12 rfl (lv_at hl 0 rfl) ?_
    refine m_get C hB 15 (by decide) q1409 (v := .int (iI ((ra : Int)))) rfl rfl dX3_readSentence_13 ?_
    refine m_ald C hB 4 240 rfl (v := F 4 ra) ra rfl (by omega) rfl dX3_readSentence_16 ?_
    have := hC ra (by omega)
    refine lv_bipush (v := iI 49) hx hb dX3_readSentence_17 rfl ?_
    refine lv_bipush (v := iI 57) hx hb dX3_readSentence_19 rfl ?_
    obtain ⟨wq, hMq, hB⟩ := hB
    refine s_calli (n := 3) C hB (As := [.int (iI (F 4 ra)), .int (iI 49), .int (iI 57)]) (kX3_within l E (F 4 ra) 49 57 ⟨by omega, by omega⟩ ⟨by omega, by omega⟩ ⟨by omega, by omega⟩) (lw_S q1498 q1499 q77 q1500) (by decide +kernel) ⟨Nat.le_of_ble_eq_true rfl, Nat.le_of_ble_eq_true rfl⟩ rfl hl.1 rfl (Nat.le_of_ble_eq_true rfl) dX3_readSentence_21 ⟨Nat.zero_le _, Nat.zero_le _⟩ (fun z2 H locs hz3 hp4 hB => ?_)
    replace hB : mB E _ s o Ad (rdI I ra rb rc) (rdF F rf rgg rh) H locs := ⟨wq, hMq, hB⟩
    obtain ⟨hz3a, hz3b⟩ := hz3
    rcases hp4 with ⟨rfl, h5⟩ | ⟨rfl, h5⟩
    · refine x_if_ne (tgt := 29) hx hb dX3_readSentence_24 (by decide) ⟨by decide, by decide⟩ (fun c6 => ?_) (fun c6 => by exfalso; omega)
      refine lv_aload_n hx hb dX3_readSentence_29 rfl (lv_at hl 0 rfl) ?_
      refine m_get C hB 19 (by decide) q1413 (v := .ref (Ad 19)) rfl rfl dX3_readSentence_30 ?_
      refine lv_iload_n hx hb dX3_readSentence_33 rfl (lv_at hl 2 rfl) ?_
      refine lv_aload_n hx hb dX3_readSentence_34 rfl (lv_at hl 0 rfl) ?_
      refine m_get C hB 4 (by decide) q1398 (v := .ref (Ad 4)) rfl rfl dX3_readSentence_35 ?_
      refine lv_aload_n hx hb dX3_readSentence_38 rfl (lv_at hl 0 rfl) ?_
      refine m_get C hB 15 (by decide) q1409 (v := .int (iI ((ra : Int)))) rfl rfl dX3_readSentence_39 ?_
      refine m_ald C hB 4 240 rfl (v := F 4 ra) ra rfl (by omega) rfl dX3_readSentence_42 ?_
      have := hC ra (by omega)
      refine lv_bipush (v := iI 48) hx hb dX3_readSentence_43 rfl ?_
      refine x_isub (z := F 4 ra - 48) hx hb dX3_readSentence_45 (by omega) ?_
      have hlv : lOf (ce F en ra) = F 4 ra - 48 := by unfold lOf; (repeat' split) <;> omega
      refine x_nm hlv.symm ?_
      refine m_ast C hB 19 14 rfl (f := rgg) k rfl (by omega) rfl dX3_readSentence_46 (fun H locs hB => ?_)
      rw [rdF_19] at hB
      refine lv_aload_n hx hb dX3_readSentence_47 rfl (lv_at hl 0 rfl) ?_
      refine lv_dup hx hb dX3_readSentence_48 rfl ?_
      refine m_get C hB 15 (by decide) q1409 (v := .int (iI ((ra : Int)))) rfl rfl dX3_readSentence_49 ?_
      refine lv_iconst (v := iI 1) hx hb dX3_readSentence_52 rfl ?_
      refine x_iadd (z := (ra : Int) + 1) hx hb dX3_readSentence_53 (by omega) ?_
      refine m_put C hB 15 (by decide) rfl q1409 rfl rfl dX3_readSentence_54 (fun H locs hB => ?_)
      replace hB : mB E (xA w sz) s o Ad (va_up (rdI I ra rb rc) 15 ((ra + 1 : Nat) : Int)) (rdF F rf ((va_up rgg k (lOf (ce F en ra)))) rh) H locs := hB
      rw [rdI_15] at hB
      refine lv_aload_n hx hb dX3_readSentence_57 rfl (lv_at hl 0 rfl) ?_
      refine m_get C hB 15 (by decide) q1409 (v := .int (iI (((ra + 1 : Nat) : Int)))) rfl rfl dX3_readSentence_58 ?_
      refine lv_iload_n hx hb dX3_readSentence_61 rfl (lv_at hl 1 rfl) ?_
      refine x_icmp_ge (tgt := 98) hx hb dX3_readSentence_62 (by decide) ⟨by omega, by omega⟩ ⟨by omega, by omega⟩ (fun c7 => ?_) (fun c7 => ?_)
      · refine lv_iconst (v := iI 0) hx hb dX3_readSentence_98 rfl ?_
        exact m_iret C hB hr hlocks rfl dX3_readSentence_99 ⟨by decide, by decide⟩ (Or.inr (Or.inl ⟨rfl, ⟨by omega, by unfold aOf; (repeat' split) <;> omega⟩, rfl, rfl⟩))
      · refine lv_aload_n hx hb dX3_readSentence_65 rfl (lv_at hl 0 rfl) ?_
        refine m_get C hB 4 (by decide) q1398 (v := .ref (Ad 4)) rfl rfl dX3_readSentence_66 ?_
        refine lv_aload_n hx hb dX3_readSentence_69 rfl (lv_at hl 0 rfl) ?_
        refine m_get C hB 15 (by decide) q1409 (v := .int (iI (((ra + 1 : Nat) : Int)))) rfl rfl dX3_readSentence_70 ?_
        refine m_ald C hB 4 240 rfl (v := F 4 (ra + 1)) (ra + 1) rfl (by omega) rfl dX3_readSentence_73 ?_
        have := hC (ra + 1) (by omega)
        refine lv_bipush (v := iI 45) hx hb dX3_readSentence_74 rfl ?_
        refine x_icmp_eq (tgt := 100) hx hb dX3_readSentence_76 (by decide) ⟨by omega, by omega⟩ ⟨by decide, by decide⟩ (fun c8 => ?_) (fun c8 => ?_)
        · refine lv_aload_n hx hb dX3_readSentence_100 rfl (lv_at hl 0 rfl) ?_
          refine m_get C hB 20 (by decide) q1414 (v := .ref (Ad 20)) rfl rfl dX3_readSentence_101 ?_
          refine lv_iload_n hx hb dX3_readSentence_104 rfl (lv_at hl 2 rfl) ?_
          refine lv_aload_n hx hb dX3_readSentence_105 rfl (lv_at hl 0 rfl) ?_
          refine m_get C hB 4 (by decide) q1398 (v := .ref (Ad 4)) rfl rfl dX3_readSentence_106 ?_
          refine lv_aload_n hx hb dX3_readSentence_109 rfl (lv_at hl 0 rfl) ?_
          refine m_get C hB 15 (by decide) q1409 (v := .int (iI (((ra + 1 : Nat) : Int)))) rfl rfl dX3_readSentence_110 ?_
          refine m_ald C hB 4 240 rfl (v := F 4 (ra + 1)) (ra + 1) rfl (by omega) rfl dX3_readSentence_113 ?_
          have := hC (ra + 1) (by omega)
          refine lv_bipush (v := iI 45) hx hb dX3_readSentence_114 rfl ?_
          refine x_icmp_ne (tgt := 123) hx hb dX3_readSentence_116 (by decide) ⟨by omega, by omega⟩ ⟨by decide, by decide⟩ (fun c9 => by exfalso; omega) (fun c9 => ?_)
          refine lv_iconst (v := iI 4) hx hb dX3_readSentence_119 rfl ?_
          refine lv_goto (tgt := 135) hx hb dX3_readSentence_120 (by decide) ?_
          have hav : aOf (ce F en (ra + 1)) = 4 := by unfold aOf; (repeat' split) <;> omega
          refine x_nm hav.symm ?_
          refine m_ast C hB 20 14 rfl (f := rh) k rfl (by omega) rfl dX3_readSentence_135 (fun H locs hB => ?_)
          rw [rdF_20] at hB
          refine lv_aload_n hx hb dX3_readSentence_136 rfl (lv_at hl 0 rfl) ?_
          refine lv_dup hx hb dX3_readSentence_137 rfl ?_
          refine m_get C hB 15 (by decide) q1409 (v := .int (iI (((ra + 1 : Nat) : Int)))) rfl rfl dX3_readSentence_138 ?_
          refine lv_iconst (v := iI 1) hx hb dX3_readSentence_141 rfl ?_
          refine x_iadd (z := ((ra + 1 : Nat) : Int) + 1) hx hb dX3_readSentence_142 (by omega) ?_
          refine m_put C hB 15 (by decide) rfl q1409 rfl rfl dX3_readSentence_143 (fun H locs hB => ?_)
          replace hB : mB E (xA w sz) s o Ad (va_up (rdI I (ra + 1) rb rc) 15 ((ra + 1 + 1 : Nat) : Int)) (rdF F rf ((va_up rgg k (lOf (ce F en ra)))) ((va_up rh k (aOf (ce F en (ra + 1)))))) H locs := hB
          rw [rdI_15] at hB
          refine lv_iconst (v := iI 1) hx hb dX3_readSentence_146 rfl ?_
          exact m_iret C hB hr hlocks rfl dX3_readSentence_147 ⟨by decide, by decide⟩ (Or.inl ⟨rfl, ⟨by omega, by omega⟩, rfl, rfl⟩)
        · refine lv_aload_n hx hb dX3_readSentence_79 rfl (lv_at hl 0 rfl) ?_
          refine m_get C hB 4 (by decide) q1398 (v := .ref (Ad 4)) rfl rfl dX3_readSentence_80 ?_
          refine lv_aload_n hx hb dX3_readSentence_83 rfl (lv_at hl 0 rfl) ?_
          refine m_get C hB 15 (by decide) q1409 (v := .int (iI (((ra + 1 : Nat) : Int)))) rfl rfl dX3_readSentence_84 ?_
          refine m_ald C hB 4 240 rfl (v := F 4 (ra + 1)) (ra + 1) rfl (by omega) rfl dX3_readSentence_87 ?_
          have := hC (ra + 1) (by omega)
          refine lv_bipush (v := iI 97) hx hb dX3_readSentence_88 rfl ?_
          refine lv_bipush (v := iI 100) hx hb dX3_readSentence_90 rfl ?_
          obtain ⟨wq, hMq, hB⟩ := hB
          refine s_calli (n := 3) C hB (As := [.int (iI (F 4 (ra + 1))), .int (iI 97), .int (iI 100)]) (kX3_within l E (F 4 (ra + 1)) 97 100 ⟨by omega, by omega⟩ ⟨by omega, by omega⟩ ⟨by omega, by omega⟩) (lw_S q1498 q1499 q77 q1500) (by decide +kernel) ⟨Nat.le_of_ble_eq_true rfl, Nat.le_of_ble_eq_true rfl⟩ rfl hl.1 rfl (Nat.le_of_ble_eq_true rfl) dX3_readSentence_92 ⟨Nat.zero_le _, Nat.zero_le _⟩ (fun z10 H locs hz11 hp12 hB => ?_)
          replace hB : mB E _ s o Ad (rdI I (ra + 1) rb rc) (rdF F rf ((va_up rgg k (lOf (ce F en ra)))) rh) H locs := ⟨wq, hMq, hB⟩
          obtain ⟨hz11a, hz11b⟩ := hz11
          rcases hp12 with ⟨rfl, h13⟩ | ⟨rfl, h13⟩
          · refine x_if_ne (tgt := 100) hx hb dX3_readSentence_95 (by decide) ⟨by decide, by decide⟩ (fun c14 => ?_) (fun c14 => by exfalso; omega)
            refine lv_aload_n hx hb dX3_readSentence_100 rfl (lv_at hl 0 rfl) ?_
            refine m_get C hB 20 (by decide) q1414 (v := .ref (Ad 20)) rfl rfl dX3_readSentence_101 ?_
            refine lv_iload_n hx hb dX3_readSentence_104 rfl (lv_at hl 2 rfl) ?_
            refine lv_aload_n hx hb dX3_readSentence_105 rfl (lv_at hl 0 rfl) ?_
            refine m_get C hB 4 (by decide) q1398 (v := .ref (Ad 4)) rfl rfl dX3_readSentence_106 ?_
            refine lv_aload_n hx hb dX3_readSentence_109 rfl (lv_at hl 0 rfl) ?_
            refine m_get C hB 15 (by decide) q1409 (v := .int (iI (((ra + 1 : Nat) : Int)))) rfl rfl dX3_readSentence_110 ?_
            refine m_ald C hB 4 240 rfl (v := F 4 (ra + 1)) (ra + 1) rfl (by omega) rfl dX3_readSentence_113 ?_
            have := hC (ra + 1) (by omega)
            refine lv_bipush (v := iI 45) hx hb dX3_readSentence_114 rfl ?_
            refine x_icmp_ne (tgt := 123) hx hb dX3_readSentence_116 (by decide) ⟨by omega, by omega⟩ ⟨by decide, by decide⟩ (fun c15 => ?_) (fun c15 => by exfalso; omega)
            refine lv_aload_n hx hb dX3_readSentence_123 rfl (lv_at hl 0 rfl) ?_
            refine m_get C hB 4 (by decide) q1398 (v := .ref (Ad 4)) rfl rfl dX3_readSentence_124 ?_
            refine lv_aload_n hx hb dX3_readSentence_127 rfl (lv_at hl 0 rfl) ?_
            refine m_get C hB 15 (by decide) q1409 (v := .int (iI (((ra + 1 : Nat) : Int)))) rfl rfl dX3_readSentence_128 ?_
            refine m_ald C hB 4 240 rfl (v := F 4 (ra + 1)) (ra + 1) rfl (by omega) rfl dX3_readSentence_131 ?_
            have := hC (ra + 1) (by omega)
            refine lv_bipush (v := iI 97) hx hb dX3_readSentence_132 rfl ?_
            refine x_isub (z := F 4 (ra + 1) - 97) hx hb dX3_readSentence_134 (by omega) ?_
            have hav : aOf (ce F en (ra + 1)) = F 4 (ra + 1) - 97 := by unfold aOf; (repeat' split) <;> omega
            refine x_nm hav.symm ?_
            refine m_ast C hB 20 14 rfl (f := rh) k rfl (by omega) rfl dX3_readSentence_135 (fun H locs hB => ?_)
            rw [rdF_20] at hB
            refine lv_aload_n hx hb dX3_readSentence_136 rfl (lv_at hl 0 rfl) ?_
            refine lv_dup hx hb dX3_readSentence_137 rfl ?_
            refine m_get C hB 15 (by decide) q1409 (v := .int (iI (((ra + 1 : Nat) : Int)))) rfl rfl dX3_readSentence_138 ?_
            refine lv_iconst (v := iI 1) hx hb dX3_readSentence_141 rfl ?_
            refine x_iadd (z := ((ra + 1 : Nat) : Int) + 1) hx hb dX3_readSentence_142 (by omega) ?_
            refine m_put C hB 15 (by decide) rfl q1409 rfl rfl dX3_readSentence_143 (fun H locs hB => ?_)
            replace hB : mB E (xA w sz) s o Ad (va_up (rdI I (ra + 1) rb rc) 15 ((ra + 1 + 1 : Nat) : Int)) (rdF F rf ((va_up rgg k (lOf (ce F en ra)))) ((va_up rh k (aOf (ce F en (ra + 1)))))) H locs := hB
            rw [rdI_15] at hB
            refine lv_iconst (v := iI 1) hx hb dX3_readSentence_146 rfl ?_
            exact m_iret C hB hr hlocks rfl dX3_readSentence_147 ⟨by decide, by decide⟩ (Or.inl ⟨rfl, ⟨by omega, by omega⟩, rfl, rfl⟩)
          · refine x_if_ne (tgt := 100) hx hb dX3_readSentence_95 (by decide) ⟨by decide, by decide⟩ (fun c16 => by exfalso; omega) (fun c16 => ?_)
            refine lv_iconst (v := iI 0) hx hb dX3_readSentence_98 rfl ?_
            exact m_iret C hB hr hlocks rfl dX3_readSentence_99 ⟨by decide, by decide⟩ (Or.inr (Or.inl ⟨rfl, ⟨by omega, by unfold aOf; (repeat' split) <;> omega⟩, rfl, rfl⟩))
    · refine x_if_ne (tgt := 29) hx hb dX3_readSentence_24 (by decide) ⟨by decide, by decide⟩ (fun c17 => by exfalso; omega) (fun c17 => ?_)
      refine lv_iconst (v := iI 0) hx hb dX3_readSentence_27 rfl ?_
      exact m_iret C hB hr hlocks rfl dX3_readSentence_28 ⟨by decide, by decide⟩ (Or.inr (Or.inr ⟨rfl, by unfold lOf; (repeat' split) <;> omega, rfl, rfl⟩))
