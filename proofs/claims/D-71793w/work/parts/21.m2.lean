/-! THE MODEL, 2: costs -/
set_option maxHeartbeats 400000 in
set_option maxRecDepth 100000 in
theorem kX3_fails (l : Launch) (E : xE) (o : Nat) (Ad : Nat → Nat) (I : Nat → Int) (F : Nat → Nat → Int) (k : Int) (hk : 0 ≤ k ∧ k ≤ 4) : mi_ l E yX3_fails cX3_fails 2 (some .int) 0 0 [.ref o, .int (iI k)] o Ad I F (fun z I' F' => va_up I 0 k = I' ∧ F = F' ∧ z = -10 - k) := by
  intro w sz hM
  refine x_body (by decide) (Nat.le_of_ble_eq_true rfl) ?_
  intro p e s m args below meth c ls hx hb C hr hlocks _ hsz hB hl
  have C : xC E p s m args c cX3_fails 2 RX3 := C
  replace hB : mB E (xA w sz) s o Ad I F s.heap [] := ⟨w, hM, hB⟩
  have hl : lv_has ls 2 [(0, .ref o), (1, .int (iI k))] := hl
  refine lv_aload_n hx hb dX3_fails_0 rfl (lv_at hl 0 rfl) ?_
  refine lv_iload_n hx hb dX3_fails_1 rfl (lv_at hl 1 rfl) ?_
  refine m_put C hB 0 (by decide) rfl q1394 rfl rfl dX3_fails_2 (fun H locs hB => ?_)
  refine lv_bipush (v := iI (-10)) hx hb dX3_fails_5 rfl ?_
  refine lv_iload_n hx hb dX3_fails_7 rfl (lv_at hl 1 rfl) ?_
  refine x_isub (z := -k - 10) hx hb dX3_fails_8 (by omega) ?_
  exact m_iret C hB hr hlocks rfl dX3_fails_9 ⟨by omega, by omega⟩ ⟨rfl, rfl, by omega⟩
set_option maxHeartbeats 400000 in
set_option maxRecDepth 100000 in
theorem kX3_lost (l : Launch) (E : xE) (o : Nat) (Ad : Nat → Nat) (I : Nat → Int) (F : Nat → Nat → Int) (k : Int) (hk : 0 ≤ k ∧ k ≤ 4) : ml_ l E yX3_lost cX3_lost 2 (some .long) 0 0 [.ref o, .int (iI k)] o Ad I F (fun z I' F' => va_up I 0 k = I' ∧ F = F' ∧ z = -9223372036854775808) := by
  intro w sz hM
  refine x_body (by decide) (Nat.le_of_ble_eq_true rfl) ?_
  intro p e s m args below meth c ls hx hb C hr hlocks _ hsz hB hl
  have C : xC E p s m args c cX3_lost 2 RX3 := C
  replace hB : mB E (xA w sz) s o Ad I F s.heap [] := ⟨w, hM, hB⟩
  have hl : lv_has ls 2 [(0, .ref o), (1, .int (iI k))] := hl
  refine lv_aload_n hx hb dX3_lost_0 rfl (lv_at hl 0 rfl) ?_
  refine lv_iload_n hx hb dX3_lost_1 rfl (lv_at hl 1 rfl) ?_
  refine m_put C hB 0 (by decide) rfl q1394 rfl rfl dX3_lost_2 (fun H locs hB => ?_)
  refine lv_ldc2 hx hb C.1.2.2.2.1 (C.1.2.2.2.2 _ q1681) dX3_lost_5 ?_
  refine x_rwl (y := lI (-9223372036854775808)) (by decide) ?_
  exact m_lret C hB hr hlocks dX3_lost_8 ⟨by decide, by decide⟩ ⟨rfl, rfl, by omega⟩
set_option maxHeartbeats 400000 in
set_option maxRecDepth 100000 in
theorem kX3_begins (l : Launch) (E : xE) (o : Nat) (Ad : Nat → Nat) (I : Nat → Int) (F : Nat → Nat → Int) (k : Int) : mv_ l E yX3_begins cX3_begins 2 none 0 0 [.ref o, .int (iI k)] o Ad I F (fun I' F' => va_up I 1 (31 * I 1 + k) = I' ∧ F = F') := by
  intro w sz hM
  refine x_body (by decide) (Nat.le_of_ble_eq_true rfl) ?_
  intro p e s m args below meth c ls hx hb C hr hlocks _ hsz hB hl
  have C : xC E p s m args c cX3_begins 2 RX3 := C
  replace hB : mB E (xA w sz) s o Ad I F s.heap [] := ⟨w, hM, hB⟩
  have hl : lv_has ls 2 [(0, .ref o), (1, .int (iI k))] := hl
  refine lv_aload_n hx hb dX3_begins_0 rfl (lv_at hl 0 rfl) ?_
  refine lv_bipush (v := iI 31) hx hb dX3_begins_1 rfl ?_
  refine lv_aload_n hx hb dX3_begins_3 rfl (lv_at hl 0 rfl) ?_
  refine m_get C hB 1 (by decide) q1395 (v := .int (iI (I 1))) rfl rfl dX3_begins_4 ?_
  refine x_imul (z := 31 * I 1) hx hb dX3_begins_7 (by omega) ?_
  refine lv_iload_n hx hb dX3_begins_8 rfl (lv_at hl 1 rfl) ?_
  refine x_iadd (z := 31 * I 1 + k) hx hb dX3_begins_9 (by omega) ?_
  refine m_put C hB 1 (by decide) rfl q1395 rfl rfl dX3_begins_10 (fun H locs hB => ?_)
  exact m_vret C hB hr hlocks dX3_begins_13 ⟨by congr 1, rfl⟩
set_option maxHeartbeats 400000 in
set_option maxRecDepth 100000 in
theorem kX3_against (l : Launch) (E : xE) (o : Nat) (Ad : Nat → Nat) (I : Nat → Int) (F : Nat → Nat → Int) (k : Nat) (sort : Int) (i : Int) (n : Int) (hk : k < 4) (hsr : rg sort) (hir : rg i) (hnr : rg n) (hOK : mOK I F) : mi_ l E yX3_against cX3_against 5 (some .int) 0 0 [.ref o, .int (iI ((k : Int))), .int (iI sort), .int (iI i), .int (iI n)] o Ad I F (fun z I' F' => I = I' ∧ F = F' ∧ z = agn F k sort i n) := by
  intro w sz hM
  refine x_body (by decide) (Nat.le_of_ble_eq_true rfl) ?_
  intro p e s m args below meth c ls hx hb C hr hlocks _ hsz hB hl
  have C : xC E p s m args c cX3_against 5 RX3 := C
  replace hB : mB E (xA w sz) s o Ad I F s.heap [] := ⟨w, hM, hB⟩
  have hl : lv_has ls 5 [(0, .ref o), (1, .int (iI ((k : Int)))), (2, .int (iI sort)), (3, .int (iI i)), (4, .int (iI n))] := hl
  obtain ⟨hsr1, hsr2⟩ := hsr
  obtain ⟨hir1, hir2⟩ := hir
  obtain ⟨hnr1, hnr2⟩ := hnr
  have hOK0 := hOK
  obtain ⟨⟨hf1, hf2⟩, ⟨hl1, hl2⟩, ⟨hr1, hr2⟩, hlr, ⟨hs1, hs2⟩, ⟨hj1, hj2⟩, ⟨hb1, hb2⟩, ⟨hn1, hn2⟩, hL, hR, hN, hS, hC⟩ := hOK
  refine lv_aload_n hx hb dX3_against_0 rfl (lv_at hl 0 rfl) ?_
  refine m_get C hB 2 (by decide) q1396 (v := .ref (Ad 2)) rfl rfl dX3_against_1 ?_
  refine lv_iload_n hx hb dX3_against_4 rfl (lv_at hl 1 rfl) ?_
  refine m_ald C hB 2 4 rfl (v := F 2 k) k rfl (by omega) rfl dX3_against_5 ?_
  have := hS k (by omega)
  refine lv_bipush (v := iI (-9)) hx hb dX3_against_6 rfl ?_
  refine x_icmp_eq (tgt := 23) hx hb dX3_against_8 (by decide) ⟨by omega, by omega⟩ ⟨by decide, by decide⟩ (fun c1 => ?_) (fun c1 => ?_)
  · refine lv_aload_n hx hb dX3_against_23 rfl (lv_at hl 0 rfl) ?_
    refine m_get C hB 2 (by decide) q1396 (v := .ref (Ad 2)) rfl rfl dX3_against_24 ?_
    refine lv_iload_n hx hb dX3_against_27 rfl (lv_at hl 1 rfl) ?_
    refine m_ald C hB 2 4 rfl (v := F 2 k) k rfl (by omega) rfl dX3_against_28 ?_
    have := hS k (by omega)
    refine lv_bipush (v := iI (-9)) hx hb dX3_against_29 rfl ?_
    refine x_icmp_ne (tgt := 36) hx hb dX3_against_31 (by decide) ⟨by omega, by omega⟩ ⟨by decide, by decide⟩ (fun c2 => ?_) (fun c2 => ?_)
    · refine lv_iload hx hb dX3_against_36 (lv_at hl 4 rfl) ?_
      refine x_if_ge (tgt := 43) hx hb dX3_against_38 (by decide) ⟨by omega, by omega⟩ (fun c3 => ?_) (fun c3 => ?_)
      · refine lv_iload_n hx hb dX3_against_43 rfl (lv_at hl 3 rfl) ?_
        refine x_if_lt (tgt := 70) hx hb dX3_against_44 (by decide) ⟨by omega, by omega⟩ (fun c4 => ?_) (fun c4 => ?_)
        · refine lv_iconst (v := iI 3) hx hb dX3_against_70 rfl ?_
          refine lv_goto (tgt := 75) hx hb dX3_against_71 (by decide) ?_
          exact m_iret C hB hr hlocks rfl dX3_against_75 ⟨by decide, by decide⟩ ⟨rfl, rfl, by unfold agn; (repeat' split) <;> omega⟩
        · refine lv_iload_n hx hb dX3_against_47 rfl (lv_at hl 3 rfl) ?_
          refine lv_aload_n hx hb dX3_against_48 rfl (lv_at hl 0 rfl) ?_
          refine m_get C hB 3 (by decide) q1397 (v := .ref (Ad 3)) rfl rfl dX3_against_49 ?_
          refine lv_iload_n hx hb dX3_against_52 rfl (lv_at hl 1 rfl) ?_
          refine m_ald C hB 3 4 rfl (v := F 3 k) k rfl (by omega) rfl dX3_against_53 ?_
          have := hS k (by omega)
          refine x_icmp_gt (tgt := 70) hx hb dX3_against_54 (by decide) ⟨by omega, by omega⟩ ⟨by omega, by omega⟩ (fun c5 => ?_) (fun c5 => ?_)
          · refine lv_iconst (v := iI 3) hx hb dX3_against_70 rfl ?_
            refine lv_goto (tgt := 75) hx hb dX3_against_71 (by decide) ?_
            exact m_iret C hB hr hlocks rfl dX3_against_75 ⟨by decide, by decide⟩ ⟨rfl, rfl, by unfold agn; (repeat' split) <;> omega⟩
          · refine lv_iload hx hb dX3_against_57 (lv_at hl 4 rfl) ?_
            refine lv_aload_n hx hb dX3_against_59 rfl (lv_at hl 0 rfl) ?_
            refine m_get C hB 3 (by decide) q1397 (v := .ref (Ad 3)) rfl rfl dX3_against_60 ?_
            refine lv_iload_n hx hb dX3_against_63 rfl (lv_at hl 1 rfl) ?_
            refine m_ald C hB 3 4 rfl (v := F 3 k) k rfl (by omega) rfl dX3_against_64 ?_
            have := hS k (by omega)
            refine lv_iload_n hx hb dX3_against_65 rfl (lv_at hl 3 rfl) ?_
            refine x_isub (z := F 3 k - i) hx hb dX3_against_66 (by omega) ?_
            refine x_icmp_le (tgt := 74) hx hb dX3_against_67 (by decide) ⟨by omega, by omega⟩ ⟨by omega, by omega⟩ (fun c6 => ?_) (fun c6 => ?_)
            · refine lv_iconst (v := iI 0) hx hb dX3_against_74 rfl ?_
              exact m_iret C hB hr hlocks rfl dX3_against_75 ⟨by decide, by decide⟩ ⟨rfl, rfl, by unfold agn; (repeat' split) <;> omega⟩
            · refine lv_iconst (v := iI 3) hx hb dX3_against_70 rfl ?_
              refine lv_goto (tgt := 75) hx hb dX3_against_71 (by decide) ?_
              exact m_iret C hB hr hlocks rfl dX3_against_75 ⟨by decide, by decide⟩ ⟨rfl, rfl, by unfold agn; (repeat' split) <;> omega⟩
      · refine lv_iconst (v := iI 4) hx hb dX3_against_41 rfl ?_
        exact m_iret C hB hr hlocks rfl dX3_against_42 ⟨by decide, by decide⟩ ⟨rfl, rfl, by unfold agn; (repeat' split) <;> omega⟩
    · refine lv_iconst (v := iI 1) hx hb dX3_against_34 rfl ?_
      exact m_iret C hB hr hlocks rfl dX3_against_35 ⟨by decide, by decide⟩ ⟨rfl, rfl, by unfold agn; (repeat' split) <;> omega⟩
  · refine lv_aload_n hx hb dX3_against_11 rfl (lv_at hl 0 rfl) ?_
    refine m_get C hB 2 (by decide) q1396 (v := .ref (Ad 2)) rfl rfl dX3_against_12 ?_
    refine lv_iload_n hx hb dX3_against_15 rfl (lv_at hl 1 rfl) ?_
    refine m_ald C hB 2 4 rfl (v := F 2 k) k rfl (by omega) rfl dX3_against_16 ?_
    have := hS k (by omega)
    refine lv_iload_n hx hb dX3_against_17 rfl (lv_at hl 2 rfl) ?_
    refine x_icmp_eq (tgt := 23) hx hb dX3_against_18 (by decide) ⟨by omega, by omega⟩ ⟨by omega, by omega⟩ (fun c7 => ?_) (fun c7 => ?_)
    · refine lv_aload_n hx hb dX3_against_23 rfl (lv_at hl 0 rfl) ?_
      refine m_get C hB 2 (by decide) q1396 (v := .ref (Ad 2)) rfl rfl dX3_against_24 ?_
      refine lv_iload_n hx hb dX3_against_27 rfl (lv_at hl 1 rfl) ?_
      refine m_ald C hB 2 4 rfl (v := F 2 k) k rfl (by omega) rfl dX3_against_28 ?_
      have := hS k (by omega)
      refine lv_bipush (v := iI (-9)) hx hb dX3_against_29 rfl ?_
      refine x_icmp_ne (tgt := 36) hx hb dX3_against_31 (by decide) ⟨by omega, by omega⟩ ⟨by decide, by decide⟩ (fun c8 => ?_) (fun c8 => ?_)
      · refine lv_iload hx hb dX3_against_36 (lv_at hl 4 rfl) ?_
        refine x_if_ge (tgt := 43) hx hb dX3_against_38 (by decide) ⟨by omega, by omega⟩ (fun c9 => ?_) (fun c9 => ?_)
        · refine lv_iload_n hx hb dX3_against_43 rfl (lv_at hl 3 rfl) ?_
          refine x_if_lt (tgt := 70) hx hb dX3_against_44 (by decide) ⟨by omega, by omega⟩ (fun c10 => ?_) (fun c10 => ?_)
          · refine lv_iconst (v := iI 3) hx hb dX3_against_70 rfl ?_
            refine lv_goto (tgt := 75) hx hb dX3_against_71 (by decide) ?_
            exact m_iret C hB hr hlocks rfl dX3_against_75 ⟨by decide, by decide⟩ ⟨rfl, rfl, by unfold agn; (repeat' split) <;> omega⟩
          · refine lv_iload_n hx hb dX3_against_47 rfl (lv_at hl 3 rfl) ?_
            refine lv_aload_n hx hb dX3_against_48 rfl (lv_at hl 0 rfl) ?_
            refine m_get C hB 3 (by decide) q1397 (v := .ref (Ad 3)) rfl rfl dX3_against_49 ?_
            refine lv_iload_n hx hb dX3_against_52 rfl (lv_at hl 1 rfl) ?_
            refine m_ald C hB 3 4 rfl (v := F 3 k) k rfl (by omega) rfl dX3_against_53 ?_
            have := hS k (by omega)
            refine x_icmp_gt (tgt := 70) hx hb dX3_against_54 (by decide) ⟨by omega, by omega⟩ ⟨by omega, by omega⟩ (fun c11 => ?_) (fun c11 => ?_)
            · refine lv_iconst (v := iI 3) hx hb dX3_against_70 rfl ?_
              refine lv_goto (tgt := 75) hx hb dX3_against_71 (by decide) ?_
              exact m_iret C hB hr hlocks rfl dX3_against_75 ⟨by decide, by decide⟩ ⟨rfl, rfl, by unfold agn; (repeat' split) <;> omega⟩
            · refine lv_iload hx hb dX3_against_57 (lv_at hl 4 rfl) ?_
              refine lv_aload_n hx hb dX3_against_59 rfl (lv_at hl 0 rfl) ?_
              refine m_get C hB 3 (by decide) q1397 (v := .ref (Ad 3)) rfl rfl dX3_against_60 ?_
              refine lv_iload_n hx hb dX3_against_63 rfl (lv_at hl 1 rfl) ?_
              refine m_ald C hB 3 4 rfl (v := F 3 k) k rfl (by omega) rfl dX3_against_64 ?_
              have := hS k (by omega)
              refine lv_iload_n hx hb dX3_against_65 rfl (lv_at hl 3 rfl) ?_
              refine x_isub (z := F 3 k - i) hx hb dX3_against_66 (by omega) ?_
              refine x_icmp_le (tgt := 74) hx hb dX3_against_67 (by decide) ⟨by omega, by omega⟩ ⟨by omega, by omega⟩ (fun c12 => ?_) (fun c12 => ?_)
              · refine lv_iconst (v := iI 0) hx hb dX3_against_74 rfl ?_
                exact m_iret C hB hr hlocks rfl dX3_against_75 ⟨by decide, by decide⟩ ⟨rfl, rfl, by unfold agn; (repeat' split) <;> omega⟩
              · refine lv_iconst (v := iI 3) hx hb dX3_against_70 rfl ?_
                refine lv_goto (tgt := 75) hx hb dX3_against_71 (by decide) ?_
                exact m_iret C hB hr hlocks rfl dX3_against_75 ⟨by decide, by decide⟩ ⟨rfl, rfl, by unfold agn; (repeat' split) <;> omega⟩
        · refine lv_iconst (v := iI 4) hx hb dX3_against_41 rfl ?_
          exact m_iret C hB hr hlocks rfl dX3_against_42 ⟨by decide, by decide⟩ ⟨rfl, rfl, by unfold agn; (repeat' split) <;> omega⟩
      · refine lv_iconst (v := iI 1) hx hb dX3_against_34 rfl ?_
        exact m_iret C hB hr hlocks rfl dX3_against_35 ⟨by decide, by decide⟩ ⟨rfl, rfl, by unfold agn; (repeat' split) <;> omega⟩
    · refine lv_iconst (v := iI 2) hx hb dX3_against_21 rfl ?_
      exact m_iret C hB hr hlocks rfl dX3_against_22 ⟨by decide, by decide⟩ ⟨rfl, rfl, by unfold agn; (repeat' split) <;> omega⟩
set_option maxHeartbeats 400000 in
set_option maxRecDepth 100000 in
theorem kX3_lengthOf (l : Launch) (E : xE) (o : Nat) (Ad : Nat → Nat) (I : Nat → Int) (F : Nat → Nat → Int) (a : Nat) (ha : (a : Int) < I 5) (hOK : mOK I F) : mi_ l E yX3_lengthOf cX3_lengthOf 2 (some .int) 0 0 [.ref o, .int (iI ((a : Int)))] o Ad I F (fun z I' F' => I = I' ∧ F = F' ∧ z = lenF F a ∧ 1 ≤ z ∧ z ≤ 18) := by
  intro w sz hM
  refine x_body (by decide) (Nat.le_of_ble_eq_true rfl) ?_
  intro p e s m args below meth c ls hx hb C hr hlocks _ hsz hB hl
  have C : xC E p s m args c cX3_lengthOf 2 RX3 := C
  replace hB : mB E (xA w sz) s o Ad I F s.heap [] := ⟨w, hM, hB⟩
  have hl : lv_has ls 2 [(0, .ref o), (1, .int (iI ((a : Int))))] := hl
  have hOK0 := hOK
  obtain ⟨⟨hf1, hf2⟩, ⟨hl1, hl2⟩, ⟨hr1, hr2⟩, hlr, ⟨hs1, hs2⟩, ⟨hj1, hj2⟩, ⟨hb1, hb2⟩, ⟨hn1, hn2⟩, hL, hR, hN, hS, hC⟩ := hOK
  refine lv_aload_n hx hb dX3_lengthOf_0 rfl (lv_at hl 0 rfl) ?_
  refine m_get C hB 10 (by decide) q1404 (v := .ref (Ad 10)) rfl rfl dX3_lengthOf_1 ?_
  refine lv_iload_n hx hb dX3_lengthOf_4 rfl (lv_at hl 1 rfl) ?_
  refine m_ald C hB 10 7 rfl (v := F 10 a) a rfl (by omega) rfl dX3_lengthOf_5 ?_
  have := hL a (by omega)
  refine x_if_ne (tgt := 18) hx hb dX3_lengthOf_6 (by decide) ⟨by omega, by omega⟩ (fun c1 => ?_) (fun c1 => ?_)
  · refine lv_aload_n hx hb dX3_lengthOf_18 rfl (lv_at hl 0 rfl) ?_
    refine m_get C hB 10 (by decide) q1404 (v := .ref (Ad 10)) rfl rfl dX3_lengthOf_19 ?_
    refine lv_iload_n hx hb dX3_lengthOf_22 rfl (lv_at hl 1 rfl) ?_
    refine m_ald C hB 10 7 rfl (v := F 10 a) a rfl (by omega) rfl dX3_lengthOf_23 ?_
    have := hL a (by omega)
    refine lv_iconst (v := iI 1) hx hb dX3_lengthOf_24 rfl ?_
    refine x_icmp_ne (tgt := 39) hx hb dX3_lengthOf_25 (by decide) ⟨by omega, by omega⟩ ⟨by decide, by decide⟩ (fun c2 => ?_) (fun c2 => ?_)
    · refine lv_iconst (v := iI 2) hx hb dX3_lengthOf_39 rfl ?_
      refine lv_aload_n hx hb dX3_lengthOf_40 rfl (lv_at hl 0 rfl) ?_
      refine m_get C hB 11 (by decide) q1405 (v := .ref (Ad 11)) rfl rfl dX3_lengthOf_41 ?_
      refine lv_iload_n hx hb dX3_lengthOf_44 rfl (lv_at hl 1 rfl) ?_
      refine m_ald C hB 11 7 rfl (v := F 11 a) a rfl (by omega) rfl dX3_lengthOf_45 ?_
      have := hL a (by omega)
      refine x_imul (z := 2 * F 11 a) hx hb dX3_lengthOf_46 (by omega) ?_
      exact m_iret C hB hr hlocks rfl dX3_lengthOf_47 ⟨by omega, by omega⟩ ⟨rfl, rfl, by unfold lenF; (repeat' split) <;> omega, by omega, by omega⟩
    · refine lv_aload_n hx hb dX3_lengthOf_28 rfl (lv_at hl 0 rfl) ?_
      refine m_get C hB 11 (by decide) q1405 (v := .ref (Ad 11)) rfl rfl dX3_lengthOf_29 ?_
      refine lv_iload_n hx hb dX3_lengthOf_32 rfl (lv_at hl 1 rfl) ?_
      refine m_ald C hB 11 7 rfl (v := F 11 a) a rfl (by omega) rfl dX3_lengthOf_33 ?_
      have := hL a (by omega)
      refine lv_iconst (v := iI 1) hx hb dX3_lengthOf_34 rfl ?_
      refine x_iadd (z := F 11 a + 1) hx hb dX3_lengthOf_35 (by omega) ?_
      refine lv_goto (tgt := 47) hx hb dX3_lengthOf_36 (by decide) ?_
      exact m_iret C hB hr hlocks rfl dX3_lengthOf_47 ⟨by omega, by omega⟩ ⟨rfl, rfl, by unfold lenF; (repeat' split) <;> omega, by omega, by omega⟩
  · refine lv_aload_n hx hb dX3_lengthOf_9 rfl (lv_at hl 0 rfl) ?_
    refine m_get C hB 11 (by decide) q1405 (v := .ref (Ad 11)) rfl rfl dX3_lengthOf_10 ?_
    refine lv_iload_n hx hb dX3_lengthOf_13 rfl (lv_at hl 1 rfl) ?_
    refine m_ald C hB 11 7 rfl (v := F 11 a) a rfl (by omega) rfl dX3_lengthOf_14 ?_
    have := hL a (by omega)
    refine lv_goto (tgt := 47) hx hb dX3_lengthOf_15 (by decide) ?_
    exact m_iret C hB hr hlocks rfl dX3_lengthOf_47 ⟨by omega, by omega⟩ ⟨rfl, rfl, by unfold lenF; (repeat' split) <;> omega, by omega, by omega⟩
set_option maxHeartbeats 400000 in
set_option maxRecDepth 100000 in
theorem kX3_leftsOf (l : Launch) (E : xE) (so : Int) (hs : rg so) : si_ l E yX3_leftsOf cX3_leftsOf 1 (some .int) 0 0 [.int (iI so)] (fun z => (so = 2 ∧ z = 0) ∨ (so = 3 ∧ z = 2) ∨ (so ≠ 2 ∧ so ≠ 3 ∧ z = 1)) := by
  intro w sz
  refine x_body (by decide) (Nat.le_of_ble_eq_true rfl) ?_
  intro p e s m args below meth c ls hx hb C hr hlocks _ hsz hB hl
  have C : xC E p s m args c cX3_leftsOf 1 RX3 := C
  have hl : lv_has ls 1 [(0, .int (iI so))] := hl
  obtain ⟨hs1, hs2⟩ := hs
  refine lv_iload_n hx hb dX3_leftsOf_0 rfl (lv_at hl 0 rfl) ?_
  refine lv_iconst (v := iI 2) hx hb dX3_leftsOf_1 rfl ?_
  refine x_icmp_ne (tgt := 9) hx hb dX3_leftsOf_2 (by decide) ⟨by omega, by omega⟩ ⟨by decide, by decide⟩ (fun c1 => ?_) (fun c1 => ?_)
  · refine lv_iload_n hx hb dX3_leftsOf_9 rfl (lv_at hl 0 rfl) ?_
    refine lv_iconst (v := iI 3) hx hb dX3_leftsOf_10 rfl ?_
    refine x_icmp_ne (tgt := 18) hx hb dX3_leftsOf_11 (by decide) ⟨by omega, by omega⟩ ⟨by decide, by decide⟩ (fun c2 => ?_) (fun c2 => ?_)
    · refine lv_iconst (v := iI 1) hx hb dX3_leftsOf_18 rfl ?_
      exact s_iret C hB hr hlocks rfl dX3_leftsOf_19 ⟨by decide, by decide⟩ (by omega)
    · refine lv_iconst (v := iI 2) hx hb dX3_leftsOf_14 rfl ?_
      refine lv_goto (tgt := 19) hx hb dX3_leftsOf_15 (by decide) ?_
      exact s_iret C hB hr hlocks rfl dX3_leftsOf_19 ⟨by decide, by decide⟩ (by omega)
  · refine lv_iconst (v := iI 0) hx hb dX3_leftsOf_5 rfl ?_
    refine lv_goto (tgt := 19) hx hb dX3_leftsOf_6 (by decide) ?_
    exact s_iret C hB hr hlocks rfl dX3_leftsOf_19 ⟨by decide, by decide⟩ (by omega)
set_option maxHeartbeats 400000 in
set_option maxRecDepth 100000 in
theorem kX3_rightsOf (l : Launch) (E : xE) (so : Int) (hs : rg so) : si_ l E yX3_rightsOf cX3_rightsOf 1 (some .int) 0 0 [.int (iI so)] (fun z => (so = 1 ∧ z = 0) ∨ (so = 4 ∧ z = 2) ∨ (so ≠ 1 ∧ so ≠ 4 ∧ z = 1)) := by
  intro w sz
  refine x_body (by decide) (Nat.le_of_ble_eq_true rfl) ?_
  intro p e s m args below meth c ls hx hb C hr hlocks _ hsz hB hl
  have C : xC E p s m args c cX3_rightsOf 1 RX3 := C
  have hl : lv_has ls 1 [(0, .int (iI so))] := hl
  obtain ⟨hs1, hs2⟩ := hs
  refine lv_iload_n hx hb dX3_rightsOf_0 rfl (lv_at hl 0 rfl) ?_
  refine lv_iconst (v := iI 1) hx hb dX3_rightsOf_1 rfl ?_
  refine x_icmp_ne (tgt := 9) hx hb dX3_rightsOf_2 (by decide) ⟨by omega, by omega⟩ ⟨by decide, by decide⟩ (fun c1 => ?_) (fun c1 => ?_)
  · refine lv_iload_n hx hb dX3_rightsOf_9 rfl (lv_at hl 0 rfl) ?_
    refine lv_iconst (v := iI 4) hx hb dX3_rightsOf_10 rfl ?_
    refine x_icmp_ne (tgt := 18) hx hb dX3_rightsOf_11 (by decide) ⟨by omega, by omega⟩ ⟨by decide, by decide⟩ (fun c2 => ?_) (fun c2 => ?_)
    · refine lv_iconst (v := iI 1) hx hb dX3_rightsOf_18 rfl ?_
      exact s_iret C hB hr hlocks rfl dX3_rightsOf_19 ⟨by decide, by decide⟩ (by omega)
    · refine lv_iconst (v := iI 2) hx hb dX3_rightsOf_14 rfl ?_
      refine lv_goto (tgt := 19) hx hb dX3_rightsOf_15 (by decide) ?_
      exact s_iret C hB hr hlocks rfl dX3_rightsOf_19 ⟨by decide, by decide⟩ (by omega)
  · refine lv_iconst (v := iI 0) hx hb dX3_rightsOf_5 rfl ?_
    refine lv_goto (tgt := 19) hx hb dX3_rightsOf_6 (by decide) ?_
    exact s_iret C hB hr hlocks rfl dX3_rightsOf_19 ⟨by decide, by decide⟩ (by omega)
set_option maxHeartbeats 400000 in
set_option maxRecDepth 100000 in
theorem kX3_anchorSet (l : Launch) (E : xE) (x : Int) (hx0 : 0 ≤ x ∧ x ≤ 4) : si_ l E yX3_anchorSet cX3_anchorSet 1 (some .int) 0 0 [.int (iI x)] (fun z => z = aset x) := by
  intro w sz
  refine x_body (by decide) (Nat.le_of_ble_eq_true rfl) ?_
  intro p e s m args below meth c ls hx hb C hr hlocks _ hsz hB hl
  have C : xC E p s m args c cX3_anchorSet 1 RX3 := C
  have hl : lv_has ls 1 [(0, .int (iI x))] := hl
  have := rg_shl 1 x
  refine lv_iload_n hx hb dX3_anchorSet_0 rfl (lv_at hl 0 rfl) ?_
  refine lv_iconst (v := iI 4) hx hb dX3_anchorSet_1 rfl ?_
  refine x_icmp_ne (tgt := 9) hx hb dX3_anchorSet_2 (by decide) ⟨by omega, by omega⟩ ⟨by decide, by decide⟩ (fun c1 => ?_) (fun c1 => ?_)
  · refine lv_iconst (v := iI 1) hx hb dX3_anchorSet_9 rfl ?_
    refine lv_iload_n hx hb dX3_anchorSet_10 rfl (lv_at hl 0 rfl) ?_
    refine x_ishl hx hb dX3_anchorSet_11 ?_
    exact s_iret C hB hr hlocks rfl dX3_anchorSet_12 ⟨by omega, by omega⟩ (by unfold aset; rw [if_neg (by omega)])
  · refine lv_iconst (v := iI 0) hx hb dX3_anchorSet_5 rfl ?_
    refine lv_goto (tgt := 12) hx hb dX3_anchorSet_6 (by decide) ?_
    exact s_iret C hB hr hlocks rfl dX3_anchorSet_12 ⟨by decide, by decide⟩ (by unfold aset; rw [if_pos (by omega)])
set_option maxHeartbeats 400000 in
set_option maxRecDepth 100000 in
theorem kX3_costOf (l : Launch) (E : xE) (o : Nat) (Ad : Nat → Nat) (I : Nat → Int) (F : Nat → Nat → Int) (so : Int) (a : Nat) (b : Nat) (hso : 0 ≤ so ∧ so ≤ 4) (ha : so ≠ 2 → (a : Int) + lo so ≤ I 5) (hbb : so ≠ 1 → (b : Int) + ro so ≤ I 6) (hOK : mOK I F) : mi_ l E yX3_costOf cX3_costOf 8 (some .int) 1 21 [.ref o, .int (iI so), .int (iI ((a : Int))), .int (iI ((b : Int)))] o Ad I F (fun z I' F' => I = I' ∧ F = F' ∧ z = cst I F so a b) := by
  intro w sz hM
  refine x_body (by decide) (Nat.le_of_ble_eq_true rfl) ?_
  intro p e s m args below meth c ls hx hb C hr hlocks _ hsz hB hl
  have C : xC E p s m args c cX3_costOf 8 RX3 := C
  replace hB : mB E (xA w sz) s o Ad I F s.heap [] := ⟨w, hM, hB⟩
  have hl : lv_has ls 8 [(0, .ref o), (1, .int (iI so)), (2, .int (iI ((a : Int)))), (3, .int (iI ((b : Int))))] := hl
  have hOK0 := hOK
  obtain ⟨⟨hf1, hf2⟩, ⟨hl1, hl2⟩, ⟨hr1, hr2⟩, hlr, ⟨hs1, hs2⟩, ⟨hj1, hj2⟩, ⟨hb1, hb2⟩, ⟨hn1, hn2⟩, hL, hR, hN, hS, hC⟩ := hOK
  unfold lo at ha
  unfold ro at hbb
  refine lv_iload_n hx hb dX3_costOf_0 rfl (lv_at hl 1 rfl) ?_
  refine lv_iconst (v := iI 1) hx hb dX3_costOf_1 rfl ?_
  refine x_icmp_ne (tgt := 16) hx hb dX3_costOf_2 (by decide) ⟨by omega, by omega⟩ ⟨by decide, by decide⟩ (fun c1 => ?_) (fun c1 => ?_)
  · refine lv_iload_n hx hb dX3_costOf_16 rfl (lv_at hl 1 rfl) ?_
    refine lv_iconst (v := iI 2) hx hb dX3_costOf_17 rfl ?_
    refine x_icmp_ne (tgt := 33) hx hb dX3_costOf_18 (by decide) ⟨by omega, by omega⟩ ⟨by decide, by decide⟩ (fun c2 => ?_) (fun c2 => ?_)
    · rcases (show so = 0 ∨ so = 3 ∨ so = 4 by omega) with rfl | rfl | rfl
      · refine lv_iconst (v := iI 0) hx hb dX3_costOf_33 rfl ?_
        refine lv_istore (lv' := [(4, .int (iI 0)), (0, .ref o), (1, .int (iI 0)), (2, .int (iI ((a : Int)))), (3, .int (iI ((b : Int))))]) hx hb dX3_costOf_34 hl (by decide) rfl (fun ls hl => ?_)
        refine lv_iconst (v := iI 0) hx hb dX3_costOf_36 rfl ?_
        refine lv_istore (lv' := [(5, .int (iI 0)), (4, .int (iI 0)), (0, .ref o), (1, .int (iI 0)), (2, .int (iI ((a : Int)))), (3, .int (iI ((b : Int))))]) hx hb dX3_costOf_37 hl (by decide) rfl (fun ls hl => ?_)
        refine lv_iconst (v := iI 0) hx hb dX3_costOf_39 rfl ?_
        refine lv_istore (lv' := [(6, .int (iI 0)), (5, .int (iI 0)), (4, .int (iI 0)), (0, .ref o), (1, .int (iI 0)), (2, .int (iI ((a : Int)))), (3, .int (iI ((b : Int))))]) hx hb dX3_costOf_40 hl (by decide) rfl (fun ls hl => ?_)
        refine lv_iload_n hx hb dX3_costOf_42 rfl (lv_at hl 5 rfl) ?_
        refine lv_istore (lv' := [(7, .int (iI ((a : Int)))), (6, .int (iI 0)), (5, .int (iI 0)), (4, .int (iI 0)), (0, .ref o), (1, .int (iI 0)), (2, .int (iI ((a : Int)))), (3, .int (iI ((b : Int))))]) hx hb dX3_costOf_43 hl (by decide) rfl (fun ls hl => ?_)
        refine lv_iload hx hb dX3_costOf_45 (lv_at hl 0 rfl) ?_
        refine lv_iload_n hx hb dX3_costOf_47 rfl (lv_at hl 6 rfl) ?_
        refine lv_iload_n hx hb dX3_costOf_48 rfl (lv_at hl 5 rfl) ?_
        obtain ⟨wq, hMq, hB⟩ := hB
        refine s_calli (n := 1) C hB (As := [.int (iI 0)]) (kX3_leftsOf l E 0 ⟨by omega, by omega⟩) (lw_S q1557 q1558 q77 q1559) (by decide +kernel) ⟨Nat.le_of_ble_eq_true rfl, Nat.le_of_ble_eq_true rfl⟩ rfl hl.1 rfl (Nat.le_of_ble_eq_true rfl) dX3_costOf_49 ⟨Nat.zero_le _, Nat.zero_le _⟩ (fun z3 H locs hz4 hp5 hB => ?_)
        replace hB : mB E _ s o Ad I F H locs := ⟨wq, hMq, hB⟩
        obtain ⟨hz4a, hz4b⟩ := hz4
        obtain rfl : z3 = 1 := by omega
        refine x_iadd (z := (a : Int) + 1) hx hb dX3_costOf_52 (by omega) ?_
        refine x_icmp_ge (tgt := 88) hx hb dX3_costOf_53 (by decide) ⟨by omega, by omega⟩ ⟨by omega, by omega⟩ (fun c6 => by exfalso; omega) (fun c6 => ?_)
        refine lv_iload hx hb dX3_costOf_56 (lv_at hl 3 rfl) ?_
        refine lv_aload_n hx hb dX3_costOf_58 rfl (lv_at hl 4 rfl) ?_
        refine lv_iload hx hb dX3_costOf_59 (lv_at hl 0 rfl) ?_
        refine m_calli (n := 1) C hB (As := [.int (iI ((a : Int)))]) (kX3_lengthOf l E o Ad I F a (by omega) hOK0) (lw_V q1536 q1538 qs47 q77 q1539) (by decide +kernel) ⟨Nat.le_of_ble_eq_true rfl, Nat.le_of_ble_eq_true rfl⟩ rfl hl.1 rfl (Nat.le_of_ble_eq_true rfl) dX3_costOf_61 ⟨Nat.zero_le _, Nat.zero_le _⟩ (fun z7 I8 F9 H locs hz10 hp11 hB => ?_)
        obtain ⟨hz10a, hz10b⟩ := hz10
        obtain ⟨rfl, rfl, rfl, h12, h13⟩ := hp11
        refine x_iadd (z := lenF F a) hx hb dX3_costOf_64 (by omega) ?_
        refine lv_istore (lv' := [(4, .int (iI (lenF F a))), (7, .int (iI ((a : Int)))), (6, .int (iI 0)), (5, .int (iI 0)), (0, .ref o), (1, .int (iI 0)), (2, .int (iI ((a : Int)))), (3, .int (iI ((b : Int))))]) hx hb dX3_costOf_65 hl (by decide) rfl (fun ls hl => ?_)
        refine lv_iload hx hb dX3_costOf_67 (lv_at hl 3 rfl) ?_
        refine lv_aload_n hx hb dX3_costOf_69 rfl (lv_at hl 4 rfl) ?_
        refine m_get C hB 12 (by decide) q1406 (v := .ref (Ad 12)) rfl rfl dX3_costOf_70 ?_
        refine lv_iload hx hb dX3_costOf_73 (lv_at hl 1 rfl) ?_
        refine m_ald C hB 12 7 rfl (v := F 12 a) a rfl (by omega) rfl dX3_costOf_75 ?_
        have := hL a (by omega)
        obtain ⟨wq, hMq, hB⟩ := hB
        refine s_calli (n := 1) C hB (As := [.int (iI (F 12 a))]) (kX3_anchorSet l E (F 12 a) (by omega)) (lw_S q1567 q1568 q77 q1569) (by decide +kernel) ⟨Nat.le_of_ble_eq_true rfl, Nat.le_of_ble_eq_true rfl⟩ rfl hl.1 rfl (Nat.le_of_ble_eq_true rfl) dX3_costOf_76 ⟨Nat.zero_le _, Nat.zero_le _⟩ (fun z14 H locs hz15 hp16 hB => ?_)
        replace hB : mB E _ s o Ad I F H locs := ⟨wq, hMq, hB⟩
        obtain ⟨hz15a, hz15b⟩ := hz15
        subst hp16
        have := rg_or 0 (aset (F 12 a))
        refine x_ior hx hb dX3_costOf_79 ?_
        refine lv_istore (lv' := [(5, .int (iI (bOr 0 (aset (F 12 a))))), (4, .int (iI (lenF F a))), (7, .int (iI ((a : Int)))), (6, .int (iI 0)), (0, .ref o), (1, .int (iI 0)), (2, .int (iI ((a : Int)))), (3, .int (iI ((b : Int))))]) hx hb dX3_costOf_80 hl (by decide) rfl (fun ls hl => ?_)
        refine lv_iinc (v := iI ((a : Int) + 1)) (lv' := [(7, .int (iI ((a : Int) + 1))), (5, .int (iI (bOr 0 (aset (F 12 a))))), (4, .int (iI (lenF F a))), (6, .int (iI 0)), (0, .ref o), (1, .int (iI 0)), (2, .int (iI ((a : Int)))), (3, .int (iI ((b : Int))))]) hx hb dX3_costOf_82 hl (k := 2) rfl (iI_add _ _) (by decide) rfl (fun ls hl => ?_)
        refine lv_goto (tgt := 45) hx hb dX3_costOf_85 (by decide) ?_
        refine lv_iload hx hb dX3_costOf_45 (lv_at hl 0 rfl) ?_
        refine lv_iload_n hx hb dX3_costOf_47 rfl (lv_at hl 6 rfl) ?_
        refine lv_iload_n hx hb dX3_costOf_48 rfl (lv_at hl 5 rfl) ?_
        obtain ⟨wq, hMq, hB⟩ := hB
        refine s_calli (n := 1) C hB (As := [.int (iI 0)]) (kX3_leftsOf l E 0 ⟨by omega, by omega⟩) (lw_S q1557 q1558 q77 q1559) (by decide +kernel) ⟨Nat.le_of_ble_eq_true rfl, Nat.le_of_ble_eq_true rfl⟩ rfl hl.1 rfl (Nat.le_of_ble_eq_true rfl) dX3_costOf_49 ⟨Nat.zero_le _, Nat.zero_le _⟩ (fun z17 H locs hz18 hp19 hB => ?_)
        replace hB : mB E _ s o Ad I F H locs := ⟨wq, hMq, hB⟩
        obtain ⟨hz18a, hz18b⟩ := hz18
        obtain rfl : z17 = 1 := by omega
        refine x_iadd (z := (a : Int) + 1) hx hb dX3_costOf_52 (by omega) ?_
        refine x_icmp_ge (tgt := 88) hx hb dX3_costOf_53 (by decide) ⟨by omega, by omega⟩ ⟨by omega, by omega⟩ (fun c20 => ?_) (fun c20 => by exfalso; omega)
        refine lv_iload_n hx hb dX3_costOf_88 rfl (lv_at hl 7 rfl) ?_
        refine lv_istore (lv' := [(7, .int (iI ((b : Int)))), (5, .int (iI (bOr 0 (aset (F 12 a))))), (4, .int (iI (lenF F a))), (6, .int (iI 0)), (0, .ref o), (1, .int (iI 0)), (2, .int (iI ((a : Int)))), (3, .int (iI ((b : Int))))]) hx hb dX3_costOf_89 hl (by decide) rfl (fun ls hl => ?_)
        refine lv_iload hx hb dX3_costOf_91 (lv_at hl 0 rfl) ?_
        refine lv_iload_n hx hb dX3_costOf_93 rfl (lv_at hl 7 rfl) ?_
        refine lv_iload_n hx hb dX3_costOf_94 rfl (lv_at hl 5 rfl) ?_
        obtain ⟨wq, hMq, hB⟩ := hB
        refine s_calli (n := 1) C hB (As := [.int (iI 0)]) (kX3_rightsOf l E 0 ⟨by omega, by omega⟩) (lw_S q1560 q1561 q77 q1562) (by decide +kernel) ⟨Nat.le_of_ble_eq_true rfl, Nat.le_of_ble_eq_true rfl⟩ rfl hl.1 rfl (Nat.le_of_ble_eq_true rfl) dX3_costOf_95 ⟨Nat.zero_le _, Nat.zero_le _⟩ (fun z21 H locs hz22 hp23 hB => ?_)
        replace hB : mB E _ s o Ad I F H locs := ⟨wq, hMq, hB⟩
        obtain ⟨hz22a, hz22b⟩ := hz22
        obtain rfl : z21 = 1 := by omega
        refine x_iadd (z := (b : Int) + 1) hx hb dX3_costOf_98 (by omega) ?_
        refine x_icmp_ge (tgt := 135) hx hb dX3_costOf_99 (by decide) ⟨by omega, by omega⟩ ⟨by omega, by omega⟩ (fun c24 => by exfalso; omega) (fun c24 => ?_)
        refine lv_iload hx hb dX3_costOf_102 (lv_at hl 2 rfl) ?_
        refine lv_aload_n hx hb dX3_costOf_104 rfl (lv_at hl 4 rfl) ?_
        refine m_get C hB 13 (by decide) q1407 (v := .ref (Ad 13)) rfl rfl dX3_costOf_105 ?_
        refine lv_iload hx hb dX3_costOf_108 (lv_at hl 0 rfl) ?_
        refine m_ald C hB 13 7 rfl (v := F 13 b) b rfl (by omega) rfl dX3_costOf_110 ?_
        have := hR b (by omega)
        refine x_isub (z := lenF F a - F 13 b) hx hb dX3_costOf_111 (by omega) ?_
        refine lv_istore (lv' := [(4, .int (iI (lenF F a - F 13 b))), (7, .int (iI ((b : Int)))), (5, .int (iI (bOr 0 (aset (F 12 a))))), (6, .int (iI 0)), (0, .ref o), (1, .int (iI 0)), (2, .int (iI ((a : Int)))), (3, .int (iI ((b : Int))))]) hx hb dX3_costOf_112 hl (by decide) rfl (fun ls hl => ?_)
        refine lv_iload hx hb dX3_costOf_114 (lv_at hl 3 rfl) ?_
        refine lv_aload_n hx hb dX3_costOf_116 rfl (lv_at hl 4 rfl) ?_
        refine m_get C hB 14 (by decide) q1408 (v := .ref (Ad 14)) rfl rfl dX3_costOf_117 ?_
        refine lv_iload hx hb dX3_costOf_120 (lv_at hl 1 rfl) ?_
        refine m_ald C hB 14 7 rfl (v := F 14 b) b rfl (by omega) rfl dX3_costOf_122 ?_
        have := hR b (by omega)
        obtain ⟨wq, hMq, hB⟩ := hB
        refine s_calli (n := 1) C hB (As := [.int (iI (F 14 b))]) (kX3_anchorSet l E (F 14 b) (by omega)) (lw_S q1567 q1568 q77 q1569) (by decide +kernel) ⟨Nat.le_of_ble_eq_true rfl, Nat.le_of_ble_eq_true rfl⟩ rfl hl.1 rfl (Nat.le_of_ble_eq_true rfl) dX3_costOf_123 ⟨Nat.zero_le _, Nat.zero_le _⟩ (fun z25 H locs hz26 hp27 hB => ?_)
        replace hB : mB E _ s o Ad I F H locs := ⟨wq, hMq, hB⟩
        obtain ⟨hz26a, hz26b⟩ := hz26
        subst hp27
        have := rg_or 0 (aset (F 14 b))
        refine x_ior hx hb dX3_costOf_126 ?_
        refine lv_istore (lv' := [(6, .int (iI (bOr 0 (aset (F 14 b))))), (4, .int (iI (lenF F a - F 13 b))), (7, .int (iI ((b : Int)))), (5, .int (iI (bOr 0 (aset (F 12 a))))), (0, .ref o), (1, .int (iI 0)), (2, .int (iI ((a : Int)))), (3, .int (iI ((b : Int))))]) hx hb dX3_costOf_127 hl (by decide) rfl (fun ls hl => ?_)
        refine lv_iinc (v := iI ((b : Int) + 1)) (lv' := [(7, .int (iI ((b : Int) + 1))), (6, .int (iI (bOr 0 (aset (F 14 b))))), (4, .int (iI (lenF F a - F 13 b))), (5, .int (iI (bOr 0 (aset (F 12 a))))), (0, .ref o), (1, .int (iI 0)), (2, .int (iI ((a : Int)))), (3, .int (iI ((b : Int))))]) hx hb dX3_costOf_129 hl (k := 2) rfl (iI_add _ _) (by decide) rfl (fun ls hl => ?_)
        refine lv_goto (tgt := 91) hx hb dX3_costOf_132 (by decide) ?_
        refine lv_iload hx hb dX3_costOf_91 (lv_at hl 0 rfl) ?_
        refine lv_iload_n hx hb dX3_costOf_93 rfl (lv_at hl 7 rfl) ?_
        refine lv_iload_n hx hb dX3_costOf_94 rfl (lv_at hl 5 rfl) ?_
        obtain ⟨wq, hMq, hB⟩ := hB
        refine s_calli (n := 1) C hB (As := [.int (iI 0)]) (kX3_rightsOf l E 0 ⟨by omega, by omega⟩) (lw_S q1560 q1561 q77 q1562) (by decide +kernel) ⟨Nat.le_of_ble_eq_true rfl, Nat.le_of_ble_eq_true rfl⟩ rfl hl.1 rfl (Nat.le_of_ble_eq_true rfl) dX3_costOf_95 ⟨Nat.zero_le _, Nat.zero_le _⟩ (fun z28 H locs hz29 hp30 hB => ?_)
        replace hB : mB E _ s o Ad I F H locs := ⟨wq, hMq, hB⟩
        obtain ⟨hz29a, hz29b⟩ := hz29
        obtain rfl : z28 = 1 := by omega
        refine x_iadd (z := (b : Int) + 1) hx hb dX3_costOf_98 (by omega) ?_
        refine x_icmp_ge (tgt := 135) hx hb dX3_costOf_99 (by decide) ⟨by omega, by omega⟩ ⟨by omega, by omega⟩ (fun c31 => ?_) (fun c31 => by exfalso; omega)
        refine lv_iload hx hb dX3_costOf_135 (lv_at hl 2 rfl) ?_
        refine x_if_ge (tgt := 146) hx hb dX3_costOf_137 (by decide) ⟨by omega, by omega⟩ (fun c32 => ?_) (fun c32 => ?_)
        · refine lv_iload hx hb dX3_costOf_146 (lv_at hl 2 rfl) ?_
          refine lv_iload hx hb dX3_costOf_148 (lv_at hl 3 rfl) ?_
          refine lv_iload hx hb dX3_costOf_150 (lv_at hl 1 rfl) ?_
          refine x_icmp_ne (tgt := 159) hx hb dX3_costOf_152 (by decide) ⟨by omega, by omega⟩ ⟨by omega, by omega⟩ (fun c33 => ?_) (fun c33 => ?_)
          · refine lv_iconst (v := iI 3) hx hb dX3_costOf_159 rfl ?_
            refine x_iadd (z := lenF F a - F 13 b + 3) hx hb dX3_costOf_160 (by omega) ?_
            refine lv_iload_n hx hb dX3_costOf_161 rfl (lv_at hl 5 rfl) ?_
            refine lv_iconst (v := iI 2) hx hb dX3_costOf_162 rfl ?_
            refine x_icmp_le (tgt := 173) hx hb dX3_costOf_163 (by decide) ⟨by decide, by decide⟩ ⟨by decide, by decide⟩ (fun c34 => ?_) (fun c34 => by exfalso; omega)
            refine lv_iconst (v := iI 0) hx hb dX3_costOf_173 rfl ?_
            refine x_iadd (z := lenF F a - F 13 b + 3) hx hb dX3_costOf_174 (by omega) ?_
            exact m_iret C hB hr hlocks rfl dX3_costOf_175 ⟨by omega, by omega⟩ ⟨rfl, rfl, by rw [cst_0]; unfold aabs miss; (repeat' split) <;> omega⟩
          · refine lv_iconst (v := iI 0) hx hb dX3_costOf_155 rfl ?_
            refine lv_goto (tgt := 160) hx hb dX3_costOf_156 (by decide) ?_
            refine x_iadd (z := lenF F a - F 13 b) hx hb dX3_costOf_160 (by omega) ?_
            refine lv_iload_n hx hb dX3_costOf_161 rfl (lv_at hl 5 rfl) ?_
            refine lv_iconst (v := iI 2) hx hb dX3_costOf_162 rfl ?_
            refine x_icmp_le (tgt := 173) hx hb dX3_costOf_163 (by decide) ⟨by decide, by decide⟩ ⟨by decide, by decide⟩ (fun c35 => ?_) (fun c35 => by exfalso; omega)
            refine lv_iconst (v := iI 0) hx hb dX3_costOf_173 rfl ?_
            refine x_iadd (z := lenF F a - F 13 b) hx hb dX3_costOf_174 (by omega) ?_
            exact m_iret C hB hr hlocks rfl dX3_costOf_175 ⟨by omega, by omega⟩ ⟨rfl, rfl, by rw [cst_0]; unfold aabs miss; (repeat' split) <;> omega⟩
        · refine lv_iload hx hb dX3_costOf_140 (lv_at hl 2 rfl) ?_
          refine x_ineg (z := -(lenF F a) + F 13 b) hx hb dX3_costOf_142 (by omega) ?_
          refine lv_goto (tgt := 148) hx hb dX3_costOf_143 (by decide) ?_
          refine lv_iload hx hb dX3_costOf_148 (lv_at hl 3 rfl) ?_
          refine lv_iload hx hb dX3_costOf_150 (lv_at hl 1 rfl) ?_
          refine x_icmp_ne (tgt := 159) hx hb dX3_costOf_152 (by decide) ⟨by omega, by omega⟩ ⟨by omega, by omega⟩ (fun c36 => ?_) (fun c36 => ?_)
          · refine lv_iconst (v := iI 3) hx hb dX3_costOf_159 rfl ?_
            refine x_iadd (z := -(lenF F a) + F 13 b + 3) hx hb dX3_costOf_160 (by omega) ?_
            refine lv_iload_n hx hb dX3_costOf_161 rfl (lv_at hl 5 rfl) ?_
            refine lv_iconst (v := iI 2) hx hb dX3_costOf_162 rfl ?_
            refine x_icmp_le (tgt := 173) hx hb dX3_costOf_163 (by decide) ⟨by decide, by decide⟩ ⟨by decide, by decide⟩ (fun c37 => ?_) (fun c37 => by exfalso; omega)
            refine lv_iconst (v := iI 0) hx hb dX3_costOf_173 rfl ?_
            refine x_iadd (z := -(lenF F a) + F 13 b + 3) hx hb dX3_costOf_174 (by omega) ?_
            exact m_iret C hB hr hlocks rfl dX3_costOf_175 ⟨by omega, by omega⟩ ⟨rfl, rfl, by rw [cst_0]; unfold aabs miss; (repeat' split) <;> omega⟩
          · refine lv_iconst (v := iI 0) hx hb dX3_costOf_155 rfl ?_
            refine lv_goto (tgt := 160) hx hb dX3_costOf_156 (by decide) ?_
            refine x_iadd (z := -(lenF F a) + F 13 b) hx hb dX3_costOf_160 (by omega) ?_
            refine lv_iload_n hx hb dX3_costOf_161 rfl (lv_at hl 5 rfl) ?_
            refine lv_iconst (v := iI 2) hx hb dX3_costOf_162 rfl ?_
            refine x_icmp_le (tgt := 173) hx hb dX3_costOf_163 (by decide) ⟨by decide, by decide⟩ ⟨by decide, by decide⟩ (fun c38 => ?_) (fun c38 => by exfalso; omega)
            refine lv_iconst (v := iI 0) hx hb dX3_costOf_173 rfl ?_
            refine x_iadd (z := -(lenF F a) + F 13 b) hx hb dX3_costOf_174 (by omega) ?_
            exact m_iret C hB hr hlocks rfl dX3_costOf_175 ⟨by omega, by omega⟩ ⟨rfl, rfl, by rw [cst_0]; unfold aabs miss; (repeat' split) <;> omega⟩
      · refine lv_iconst (v := iI 0) hx hb dX3_costOf_33 rfl ?_
        refine lv_istore (lv' := [(4, .int (iI 0)), (0, .ref o), (1, .int (iI 3)), (2, .int (iI ((a : Int)))), (3, .int (iI ((b : Int))))]) hx hb dX3_costOf_34 hl (by decide) rfl (fun ls hl => ?_)
        refine lv_iconst (v := iI 0) hx hb dX3_costOf_36 rfl ?_
        refine lv_istore (lv' := [(5, .int (iI 0)), (4, .int (iI 0)), (0, .ref o), (1, .int (iI 3)), (2, .int (iI ((a : Int)))), (3, .int (iI ((b : Int))))]) hx hb dX3_costOf_37 hl (by decide) rfl (fun ls hl => ?_)
        refine lv_iconst (v := iI 0) hx hb dX3_costOf_39 rfl ?_
        refine lv_istore (lv' := [(6, .int (iI 0)), (5, .int (iI 0)), (4, .int (iI 0)), (0, .ref o), (1, .int (iI 3)), (2, .int (iI ((a : Int)))), (3, .int (iI ((b : Int))))]) hx hb dX3_costOf_40 hl (by decide) rfl (fun ls hl => ?_)
        refine lv_iload_n hx hb dX3_costOf_42 rfl (lv_at hl 5 rfl) ?_
        refine lv_istore (lv' := [(7, .int (iI ((a : Int)))), (6, .int (iI 0)), (5, .int (iI 0)), (4, .int (iI 0)), (0, .ref o), (1, .int (iI 3)), (2, .int (iI ((a : Int)))), (3, .int (iI ((b : Int))))]) hx hb dX3_costOf_43 hl (by decide) rfl (fun ls hl => ?_)
        refine lv_iload hx hb dX3_costOf_45 (lv_at hl 0 rfl) ?_
        refine lv_iload_n hx hb dX3_costOf_47 rfl (lv_at hl 6 rfl) ?_
        refine lv_iload_n hx hb dX3_costOf_48 rfl (lv_at hl 5 rfl) ?_
        obtain ⟨wq, hMq, hB⟩ := hB
        refine s_calli (n := 1) C hB (As := [.int (iI 3)]) (kX3_leftsOf l E 3 ⟨by omega, by omega⟩) (lw_S q1557 q1558 q77 q1559) (by decide +kernel) ⟨Nat.le_of_ble_eq_true rfl, Nat.le_of_ble_eq_true rfl⟩ rfl hl.1 rfl (Nat.le_of_ble_eq_true rfl) dX3_costOf_49 ⟨Nat.zero_le _, Nat.zero_le _⟩ (fun z39 H locs hz40 hp41 hB => ?_)
        replace hB : mB E _ s o Ad I F H locs := ⟨wq, hMq, hB⟩
        obtain ⟨hz40a, hz40b⟩ := hz40
        obtain rfl : z39 = 2 := by omega
        refine x_iadd (z := (a : Int) + 2) hx hb dX3_costOf_52 (by omega) ?_
        refine x_icmp_ge (tgt := 88) hx hb dX3_costOf_53 (by decide) ⟨by omega, by omega⟩ ⟨by omega, by omega⟩ (fun c42 => by exfalso; omega) (fun c42 => ?_)
        refine lv_iload hx hb dX3_costOf_56 (lv_at hl 3 rfl) ?_
        refine lv_aload_n hx hb dX3_costOf_58 rfl (lv_at hl 4 rfl) ?_
        refine lv_iload hx hb dX3_costOf_59 (lv_at hl 0 rfl) ?_
        refine m_calli (n := 1) C hB (As := [.int (iI ((a : Int)))]) (kX3_lengthOf l E o Ad I F a (by omega) hOK0) (lw_V q1536 q1538 qs47 q77 q1539) (by decide +kernel) ⟨Nat.le_of_ble_eq_true rfl, Nat.le_of_ble_eq_true rfl⟩ rfl hl.1 rfl (Nat.le_of_ble_eq_true rfl) dX3_costOf_61 ⟨Nat.zero_le _, Nat.zero_le _⟩ (fun z43 I44 F45 H locs hz46 hp47 hB => ?_)
        obtain ⟨hz46a, hz46b⟩ := hz46
        obtain ⟨rfl, rfl, rfl, h48, h49⟩ := hp47
        refine x_iadd (z := lenF F a) hx hb dX3_costOf_64 (by omega) ?_
        refine lv_istore (lv' := [(4, .int (iI (lenF F a))), (7, .int (iI ((a : Int)))), (6, .int (iI 0)), (5, .int (iI 0)), (0, .ref o), (1, .int (iI 3)), (2, .int (iI ((a : Int)))), (3, .int (iI ((b : Int))))]) hx hb dX3_costOf_65 hl (by decide) rfl (fun ls hl => ?_)
        refine lv_iload hx hb dX3_costOf_67 (lv_at hl 3 rfl) ?_
        refine lv_aload_n hx hb dX3_costOf_69 rfl (lv_at hl 4 rfl) ?_
        refine m_get C hB 12 (by decide) q1406 (v := .ref (Ad 12)) rfl rfl dX3_costOf_70 ?_
        refine lv_iload hx hb dX3_costOf_73 (lv_at hl 1 rfl) ?_
        refine m_ald C hB 12 7 rfl (v := F 12 a) a rfl (by omega) rfl dX3_costOf_75 ?_
        have := hL a (by omega)
        obtain ⟨wq, hMq, hB⟩ := hB
        refine s_calli (n := 1) C hB (As := [.int (iI (F 12 a))]) (kX3_anchorSet l E (F 12 a) (by omega)) (lw_S q1567 q1568 q77 q1569) (by decide +kernel) ⟨Nat.le_of_ble_eq_true rfl, Nat.le_of_ble_eq_true rfl⟩ rfl hl.1 rfl (Nat.le_of_ble_eq_true rfl) dX3_costOf_76 ⟨Nat.zero_le _, Nat.zero_le _⟩ (fun z50 H locs hz51 hp52 hB => ?_)
        replace hB : mB E _ s o Ad I F H locs := ⟨wq, hMq, hB⟩
        obtain ⟨hz51a, hz51b⟩ := hz51
        subst hp52
        have := rg_or 0 (aset (F 12 a))
        refine x_ior hx hb dX3_costOf_79 ?_
        refine lv_istore (lv' := [(5, .int (iI (bOr 0 (aset (F 12 a))))), (4, .int (iI (lenF F a))), (7, .int (iI ((a : Int)))), (6, .int (iI 0)), (0, .ref o), (1, .int (iI 3)), (2, .int (iI ((a : Int)))), (3, .int (iI ((b : Int))))]) hx hb dX3_costOf_80 hl (by decide) rfl (fun ls hl => ?_)
        refine lv_iinc (v := iI ((a : Int) + 1)) (lv' := [(7, .int (iI ((a : Int) + 1))), (5, .int (iI (bOr 0 (aset (F 12 a))))), (4, .int (iI (lenF F a))), (6, .int (iI 0)), (0, .ref o), (1, .int (iI 3)), (2, .int (iI ((a : Int)))), (3, .int (iI ((b : Int))))]) hx hb dX3_costOf_82 hl (k := 2) rfl (iI_add _ _) (by decide) rfl (fun ls hl => ?_)
        refine lv_goto (tgt := 45) hx hb dX3_costOf_85 (by decide) ?_
        refine lv_iload hx hb dX3_costOf_45 (lv_at hl 0 rfl) ?_
        refine lv_iload_n hx hb dX3_costOf_47 rfl (lv_at hl 6 rfl) ?_
        refine lv_iload_n hx hb dX3_costOf_48 rfl (lv_at hl 5 rfl) ?_
        obtain ⟨wq, hMq, hB⟩ := hB
        refine s_calli (n := 1) C hB (As := [.int (iI 3)]) (kX3_leftsOf l E 3 ⟨by omega, by omega⟩) (lw_S q1557 q1558 q77 q1559) (by decide +kernel) ⟨Nat.le_of_ble_eq_true rfl, Nat.le_of_ble_eq_true rfl⟩ rfl hl.1 rfl (Nat.le_of_ble_eq_true rfl) dX3_costOf_49 ⟨Nat.zero_le _, Nat.zero_le _⟩ (fun z53 H locs hz54 hp55 hB => ?_)
        replace hB : mB E _ s o Ad I F H locs := ⟨wq, hMq, hB⟩
        obtain ⟨hz54a, hz54b⟩ := hz54
        obtain rfl : z53 = 2 := by omega
        refine x_iadd (z := (a : Int) + 2) hx hb dX3_costOf_52 (by omega) ?_
        refine x_icmp_ge (tgt := 88) hx hb dX3_costOf_53 (by decide) ⟨by omega, by omega⟩ ⟨by omega, by omega⟩ (fun c56 => by exfalso; omega) (fun c56 => ?_)
        refine lv_iload hx hb dX3_costOf_56 (lv_at hl 2 rfl) ?_
        refine lv_aload_n hx hb dX3_costOf_58 rfl (lv_at hl 4 rfl) ?_
        refine lv_iload hx hb dX3_costOf_59 (lv_at hl 0 rfl) ?_
        refine m_calli (n := 1) C hB (As := [.int (iI ((a : Int) + 1))]) (kX3_lengthOf l E o Ad I F (a + 1) (by omega) hOK0) (lw_V q1536 q1538 qs47 q77 q1539) (by decide +kernel) ⟨Nat.le_of_ble_eq_true rfl, Nat.le_of_ble_eq_true rfl⟩ rfl hl.1 rfl (Nat.le_of_ble_eq_true rfl) dX3_costOf_61 ⟨Nat.zero_le _, Nat.zero_le _⟩ (fun z57 I58 F59 H locs hz60 hp61 hB => ?_)
        obtain ⟨hz60a, hz60b⟩ := hz60
        obtain ⟨rfl, rfl, rfl, h62, h63⟩ := hp61
        refine x_iadd (z := lenF F a + lenF F (a + 1)) hx hb dX3_costOf_64 (by omega) ?_
        refine lv_istore (lv' := [(4, .int (iI (lenF F a + lenF F (a + 1)))), (7, .int (iI ((a : Int) + 1))), (5, .int (iI (bOr 0 (aset (F 12 a))))), (6, .int (iI 0)), (0, .ref o), (1, .int (iI 3)), (2, .int (iI ((a : Int)))), (3, .int (iI ((b : Int))))]) hx hb dX3_costOf_65 hl (by decide) rfl (fun ls hl => ?_)
        refine lv_iload hx hb dX3_costOf_67 (lv_at hl 2 rfl) ?_
        refine lv_aload_n hx hb dX3_costOf_69 rfl (lv_at hl 4 rfl) ?_
        refine m_get C hB 12 (by decide) q1406 (v := .ref (Ad 12)) rfl rfl dX3_costOf_70 ?_
        refine lv_iload hx hb dX3_costOf_73 (lv_at hl 1 rfl) ?_
        refine m_ald C hB 12 7 rfl (v := F 12 (a + 1)) (a + 1) (by omega) (by omega) rfl dX3_costOf_75 ?_
        have := hL (a + 1) (by omega)
        obtain ⟨wq, hMq, hB⟩ := hB
        refine s_calli (n := 1) C hB (As := [.int (iI (F 12 (a + 1)))]) (kX3_anchorSet l E (F 12 (a + 1)) (by omega)) (lw_S q1567 q1568 q77 q1569) (by decide +kernel) ⟨Nat.le_of_ble_eq_true rfl, Nat.le_of_ble_eq_true rfl⟩ rfl hl.1 rfl (Nat.le_of_ble_eq_true rfl) dX3_costOf_76 ⟨Nat.zero_le _, Nat.zero_le _⟩ (fun z64 H locs hz65 hp66 hB => ?_)
        replace hB : mB E _ s o Ad I F H locs := ⟨wq, hMq, hB⟩
        obtain ⟨hz65a, hz65b⟩ := hz65
        subst hp66
        have := rg_or (bOr 0 (aset (F 12 a))) (aset (F 12 (a + 1)))
        refine x_ior hx hb dX3_costOf_79 ?_
        refine lv_istore (lv' := [(5, .int (iI (bOr (bOr 0 (aset (F 12 a))) (aset (F 12 (a + 1)))))), (4, .int (iI (lenF F a + lenF F (a + 1)))), (7, .int (iI ((a : Int) + 1))), (6, .int (iI 0)), (0, .ref o), (1, .int (iI 3)), (2, .int (iI ((a : Int)))), (3, .int (iI ((b : Int))))]) hx hb dX3_costOf_80 hl (by decide) rfl (fun ls hl => ?_)
        refine lv_iinc (v := iI ((a : Int) + 1 + 1)) (lv' := [(7, .int (iI ((a : Int) + 1 + 1))), (5, .int (iI (bOr (bOr 0 (aset (F 12 a))) (aset (F 12 (a + 1)))))), (4, .int (iI (lenF F a + lenF F (a + 1)))), (6, .int (iI 0)), (0, .ref o), (1, .int (iI 3)), (2, .int (iI ((a : Int)))), (3, .int (iI ((b : Int))))]) hx hb dX3_costOf_82 hl (k := 2) rfl (iI_add _ _) (by decide) rfl (fun ls hl => ?_)
        rw [show ((a : Int) + 1 + 1 : Int) = (a : Int) + 2 by omega] at hl
        refine lv_goto (tgt := 45) hx hb dX3_costOf_85 (by decide) ?_
        refine lv_iload hx hb dX3_costOf_45 (lv_at hl 0 rfl) ?_
        refine lv_iload_n hx hb dX3_costOf_47 rfl (lv_at hl 6 rfl) ?_
        refine lv_iload_n hx hb dX3_costOf_48 rfl (lv_at hl 5 rfl) ?_
        obtain ⟨wq, hMq, hB⟩ := hB
        refine s_calli (n := 1) C hB (As := [.int (iI 3)]) (kX3_leftsOf l E 3 ⟨by omega, by omega⟩) (lw_S q1557 q1558 q77 q1559) (by decide +kernel) ⟨Nat.le_of_ble_eq_true rfl, Nat.le_of_ble_eq_true rfl⟩ rfl hl.1 rfl (Nat.le_of_ble_eq_true rfl) dX3_costOf_49 ⟨Nat.zero_le _, Nat.zero_le _⟩ (fun z67 H locs hz68 hp69 hB => ?_)
        replace hB : mB E _ s o Ad I F H locs := ⟨wq, hMq, hB⟩
        obtain ⟨hz68a, hz68b⟩ := hz68
        obtain rfl : z67 = 2 := by omega
        refine x_iadd (z := (a : Int) + 2) hx hb dX3_costOf_52 (by omega) ?_
        refine x_icmp_ge (tgt := 88) hx hb dX3_costOf_53 (by decide) ⟨by omega, by omega⟩ ⟨by omega, by omega⟩ (fun c70 => ?_) (fun c70 => by exfalso; omega)
        refine lv_iload_n hx hb dX3_costOf_88 rfl (lv_at hl 7 rfl) ?_
        refine lv_istore (lv' := [(7, .int (iI ((b : Int)))), (5, .int (iI (bOr (bOr 0 (aset (F 12 a))) (aset (F 12 (a + 1)))))), (4, .int (iI (lenF F a + lenF F (a + 1)))), (6, .int (iI 0)), (0, .ref o), (1, .int (iI 3)), (2, .int (iI ((a : Int)))), (3, .int (iI ((b : Int))))]) hx hb dX3_costOf_89 hl (by decide) rfl (fun ls hl => ?_)
        refine lv_iload hx hb dX3_costOf_91 (lv_at hl 0 rfl) ?_
        refine lv_iload_n hx hb dX3_costOf_93 rfl (lv_at hl 7 rfl) ?_
        refine lv_iload_n hx hb dX3_costOf_94 rfl (lv_at hl 5 rfl) ?_
        obtain ⟨wq, hMq, hB⟩ := hB
        refine s_calli (n := 1) C hB (As := [.int (iI 3)]) (kX3_rightsOf l E 3 ⟨by omega, by omega⟩) (lw_S q1560 q1561 q77 q1562) (by decide +kernel) ⟨Nat.le_of_ble_eq_true rfl, Nat.le_of_ble_eq_true rfl⟩ rfl hl.1 rfl (Nat.le_of_ble_eq_true rfl) dX3_costOf_95 ⟨Nat.zero_le _, Nat.zero_le _⟩ (fun z71 H locs hz72 hp73 hB => ?_)
        replace hB : mB E _ s o Ad I F H locs := ⟨wq, hMq, hB⟩
        obtain ⟨hz72a, hz72b⟩ := hz72
        obtain rfl : z71 = 1 := by omega
        refine x_iadd (z := (b : Int) + 1) hx hb dX3_costOf_98 (by omega) ?_
        refine x_icmp_ge (tgt := 135) hx hb dX3_costOf_99 (by decide) ⟨by omega, by omega⟩ ⟨by omega, by omega⟩ (fun c74 => by exfalso; omega) (fun c74 => ?_)
        refine lv_iload hx hb dX3_costOf_102 (lv_at hl 2 rfl) ?_
        refine lv_aload_n hx hb dX3_costOf_104 rfl (lv_at hl 4 rfl) ?_
        refine m_get C hB 13 (by decide) q1407 (v := .ref (Ad 13)) rfl rfl dX3_costOf_105 ?_
        refine lv_iload hx hb dX3_costOf_108 (lv_at hl 0 rfl) ?_
        refine m_ald C hB 13 7 rfl (v := F 13 b) b rfl (by omega) rfl dX3_costOf_110 ?_
        have := hR b (by omega)
        refine x_isub (z := lenF F a + lenF F (a + 1) - F 13 b) hx hb dX3_costOf_111 (by omega) ?_
        refine lv_istore (lv' := [(4, .int (iI (lenF F a + lenF F (a + 1) - F 13 b))), (7, .int (iI ((b : Int)))), (5, .int (iI (bOr (bOr 0 (aset (F 12 a))) (aset (F 12 (a + 1)))))), (6, .int (iI 0)), (0, .ref o), (1, .int (iI 3)), (2, .int (iI ((a : Int)))), (3, .int (iI ((b : Int))))]) hx hb dX3_costOf_112 hl (by decide) rfl (fun ls hl => ?_)
        refine lv_iload hx hb dX3_costOf_114 (lv_at hl 3 rfl) ?_
        refine lv_aload_n hx hb dX3_costOf_116 rfl (lv_at hl 4 rfl) ?_
        refine m_get C hB 14 (by decide) q1408 (v := .ref (Ad 14)) rfl rfl dX3_costOf_117 ?_
        refine lv_iload hx hb dX3_costOf_120 (lv_at hl 1 rfl) ?_
        refine m_ald C hB 14 7 rfl (v := F 14 b) b rfl (by omega) rfl dX3_costOf_122 ?_
        have := hR b (by omega)
        obtain ⟨wq, hMq, hB⟩ := hB
        refine s_calli (n := 1) C hB (As := [.int (iI (F 14 b))]) (kX3_anchorSet l E (F 14 b) (by omega)) (lw_S q1567 q1568 q77 q1569) (by decide +kernel) ⟨Nat.le_of_ble_eq_true rfl, Nat.le_of_ble_eq_true rfl⟩ rfl hl.1 rfl (Nat.le_of_ble_eq_true rfl) dX3_costOf_123 ⟨Nat.zero_le _, Nat.zero_le _⟩ (fun z75 H locs hz76 hp77 hB => ?_)
        replace hB : mB E _ s o Ad I F H locs := ⟨wq, hMq, hB⟩
        obtain ⟨hz76a, hz76b⟩ := hz76
        subst hp77
        have := rg_or 0 (aset (F 14 b))
        refine x_ior hx hb dX3_costOf_126 ?_
        refine lv_istore (lv' := [(6, .int (iI (bOr 0 (aset (F 14 b))))), (4, .int (iI (lenF F a + lenF F (a + 1) - F 13 b))), (7, .int (iI ((b : Int)))), (5, .int (iI (bOr (bOr 0 (aset (F 12 a))) (aset (F 12 (a + 1)))))), (0, .ref o), (1, .int (iI 3)), (2, .int (iI ((a : Int)))), (3, .int (iI ((b : Int))))]) hx hb dX3_costOf_127 hl (by decide) rfl (fun ls hl => ?_)
        refine lv_iinc (v := iI ((b : Int) + 1)) (lv' := [(7, .int (iI ((b : Int) + 1))), (6, .int (iI (bOr 0 (aset (F 14 b))))), (4, .int (iI (lenF F a + lenF F (a + 1) - F 13 b))), (5, .int (iI (bOr (bOr 0 (aset (F 12 a))) (aset (F 12 (a + 1)))))), (0, .ref o), (1, .int (iI 3)), (2, .int (iI ((a : Int)))), (3, .int (iI ((b : Int))))]) hx hb dX3_costOf_129 hl (k := 2) rfl (iI_add _ _) (by decide) rfl (fun ls hl => ?_)
        refine lv_goto (tgt := 91) hx hb dX3_costOf_132 (by decide) ?_
        refine lv_iload hx hb dX3_costOf_91 (lv_at hl 0 rfl) ?_
        refine lv_iload_n hx hb dX3_costOf_93 rfl (lv_at hl 7 rfl) ?_
        refine lv_iload_n hx hb dX3_costOf_94 rfl (lv_at hl 5 rfl) ?_
        obtain ⟨wq, hMq, hB⟩ := hB
        refine s_calli (n := 1) C hB (As := [.int (iI 3)]) (kX3_rightsOf l E 3 ⟨by omega, by omega⟩) (lw_S q1560 q1561 q77 q1562) (by decide +kernel) ⟨Nat.le_of_ble_eq_true rfl, Nat.le_of_ble_eq_true rfl⟩ rfl hl.1 rfl (Nat.le_of_ble_eq_true rfl) dX3_costOf_95 ⟨Nat.zero_le _, Nat.zero_le _⟩ (fun z78 H locs hz79 hp80 hB => ?_)
        replace hB : mB E _ s o Ad I F H locs := ⟨wq, hMq, hB⟩
        obtain ⟨hz79a, hz79b⟩ := hz79
        obtain rfl : z78 = 1 := by omega
        refine x_iadd (z := (b : Int) + 1) hx hb dX3_costOf_98 (by omega) ?_
        refine x_icmp_ge (tgt := 135) hx hb dX3_costOf_99 (by decide) ⟨by omega, by omega⟩ ⟨by omega, by omega⟩ (fun c81 => ?_) (fun c81 => by exfalso; omega)
        refine lv_iload hx hb dX3_costOf_135 (lv_at hl 2 rfl) ?_
        refine x_if_ge (tgt := 146) hx hb dX3_costOf_137 (by decide) ⟨by omega, by omega⟩ (fun c82 => ?_) (fun c82 => ?_)
        · refine lv_iload hx hb dX3_costOf_146 (lv_at hl 2 rfl) ?_
          refine lv_iload hx hb dX3_costOf_148 (lv_at hl 3 rfl) ?_
          refine lv_iload hx hb dX3_costOf_150 (lv_at hl 1 rfl) ?_
          refine x_icmp_ne (tgt := 159) hx hb dX3_costOf_152 (by decide) ⟨by omega, by omega⟩ ⟨by omega, by omega⟩ (fun c83 => ?_) (fun c83 => ?_)
          · refine lv_iconst (v := iI 3) hx hb dX3_costOf_159 rfl ?_
            refine x_iadd (z := lenF F a + lenF F (a + 1) - F 13 b + 3) hx hb dX3_costOf_160 (by omega) ?_
            refine lv_iload_n hx hb dX3_costOf_161 rfl (lv_at hl 5 rfl) ?_
            refine lv_iconst (v := iI 2) hx hb dX3_costOf_162 rfl ?_
            refine x_icmp_le (tgt := 173) hx hb dX3_costOf_163 (by decide) ⟨by decide, by decide⟩ ⟨by decide, by decide⟩ (fun c84 => by exfalso; omega) (fun c84 => ?_)
            refine lv_aload_n hx hb dX3_costOf_166 rfl (lv_at hl 4 rfl) ?_
            refine m_get C hB 8 (by decide) q1402 (v := .int (iI (I 8))) rfl rfl dX3_costOf_167 ?_
            refine lv_goto (tgt := 174) hx hb dX3_costOf_170 (by decide) ?_
            refine x_iadd (z := lenF F a + lenF F (a + 1) - F 13 b + I 8 + 3) hx hb dX3_costOf_174 (by omega) ?_
            exact m_iret C hB hr hlocks rfl dX3_costOf_175 ⟨by omega, by omega⟩ ⟨rfl, rfl, by rw [cst_3]; unfold aabs miss; (repeat' split) <;> omega⟩
          · refine lv_iconst (v := iI 0) hx hb dX3_costOf_155 rfl ?_
            refine lv_goto (tgt := 160) hx hb dX3_costOf_156 (by decide) ?_
            refine x_iadd (z := lenF F a + lenF F (a + 1) - F 13 b) hx hb dX3_costOf_160 (by omega) ?_
            refine lv_iload_n hx hb dX3_costOf_161 rfl (lv_at hl 5 rfl) ?_
            refine lv_iconst (v := iI 2) hx hb dX3_costOf_162 rfl ?_
            refine x_icmp_le (tgt := 173) hx hb dX3_costOf_163 (by decide) ⟨by decide, by decide⟩ ⟨by decide, by decide⟩ (fun c85 => by exfalso; omega) (fun c85 => ?_)
            refine lv_aload_n hx hb dX3_costOf_166 rfl (lv_at hl 4 rfl) ?_
            refine m_get C hB 8 (by decide) q1402 (v := .int (iI (I 8))) rfl rfl dX3_costOf_167 ?_
            refine lv_goto (tgt := 174) hx hb dX3_costOf_170 (by decide) ?_
            refine x_iadd (z := lenF F a + lenF F (a + 1) - F 13 b + I 8) hx hb dX3_costOf_174 (by omega) ?_
            exact m_iret C hB hr hlocks rfl dX3_costOf_175 ⟨by omega, by omega⟩ ⟨rfl, rfl, by rw [cst_3]; unfold aabs miss; (repeat' split) <;> omega⟩
        · refine lv_iload hx hb dX3_costOf_140 (lv_at hl 2 rfl) ?_
          refine x_ineg (z := -(lenF F a) - lenF F (a + 1) + F 13 b) hx hb dX3_costOf_142 (by omega) ?_
          refine lv_goto (tgt := 148) hx hb dX3_costOf_143 (by decide) ?_
          refine lv_iload hx hb dX3_costOf_148 (lv_at hl 3 rfl) ?_
          refine lv_iload hx hb dX3_costOf_150 (lv_at hl 1 rfl) ?_
          refine x_icmp_ne (tgt := 159) hx hb dX3_costOf_152 (by decide) ⟨by omega, by omega⟩ ⟨by omega, by omega⟩ (fun c86 => ?_) (fun c86 => ?_)
          · refine lv_iconst (v := iI 3) hx hb dX3_costOf_159 rfl ?_
            refine x_iadd (z := -(lenF F a) - lenF F (a + 1) + F 13 b + 3) hx hb dX3_costOf_160 (by omega) ?_
            refine lv_iload_n hx hb dX3_costOf_161 rfl (lv_at hl 5 rfl) ?_
            refine lv_iconst (v := iI 2) hx hb dX3_costOf_162 rfl ?_
            refine x_icmp_le (tgt := 173) hx hb dX3_costOf_163 (by decide) ⟨by decide, by decide⟩ ⟨by decide, by decide⟩ (fun c87 => by exfalso; omega) (fun c87 => ?_)
            refine lv_aload_n hx hb dX3_costOf_166 rfl (lv_at hl 4 rfl) ?_
            refine m_get C hB 8 (by decide) q1402 (v := .int (iI (I 8))) rfl rfl dX3_costOf_167 ?_
            refine lv_goto (tgt := 174) hx hb dX3_costOf_170 (by decide) ?_
            refine x_iadd (z := -(lenF F a) - lenF F (a + 1) + F 13 b + I 8 + 3) hx hb dX3_costOf_174 (by omega) ?_
            exact m_iret C hB hr hlocks rfl dX3_costOf_175 ⟨by omega, by omega⟩ ⟨rfl, rfl, by rw [cst_3]; unfold aabs miss; (repeat' split) <;> omega⟩
          · refine lv_iconst (v := iI 0) hx hb dX3_costOf_155 rfl ?_
            refine lv_goto (tgt := 160) hx hb dX3_costOf_156 (by decide) ?_
            refine x_iadd (z := -(lenF F a) - lenF F (a + 1) + F 13 b) hx hb dX3_costOf_160 (by omega) ?_
            refine lv_iload_n hx hb dX3_costOf_161 rfl (lv_at hl 5 rfl) ?_
            refine lv_iconst (v := iI 2) hx hb dX3_costOf_162 rfl ?_
            refine x_icmp_le (tgt := 173) hx hb dX3_costOf_163 (by decide) ⟨by decide, by decide⟩ ⟨by decide, by decide⟩ (fun c88 => by exfalso; omega) (fun c88 => ?_)
            refine lv_aload_n hx hb dX3_costOf_166 rfl (lv_at hl 4 rfl) ?_
            refine m_get C hB 8 (by decide) q1402 (v := .int (iI (I 8))) rfl rfl dX3_costOf_167 ?_
            refine lv_goto (tgt := 174) hx hb dX3_costOf_170 (by decide) ?_
            refine x_iadd (z := -(lenF F a) - lenF F (a + 1) + F 13 b + I 8) hx hb dX3_costOf_174 (by omega) ?_
            exact m_iret C hB hr hlocks rfl dX3_costOf_175 ⟨by omega, by omega⟩ ⟨rfl, rfl, by rw [cst_3]; unfold aabs miss; (repeat' split) <;> omega⟩
      · refine lv_iconst (v := iI 0) hx hb dX3_costOf_33 rfl ?_
        refine lv_istore (lv' := [(4, .int (iI 0)), (0, .ref o), (1, .int (iI 4)), (2, .int (iI ((a : Int)))), (3, .int (iI ((b : Int))))]) hx hb dX3_costOf_34 hl (by decide) rfl (fun ls hl => ?_)
        refine lv_iconst (v := iI 0) hx hb dX3_costOf_36 rfl ?_
        refine lv_istore (lv' := [(5, .int (iI 0)), (4, .int (iI 0)), (0, .ref o), (1, .int (iI 4)), (2, .int (iI ((a : Int)))), (3, .int (iI ((b : Int))))]) hx hb dX3_costOf_37 hl (by decide) rfl (fun ls hl => ?_)
        refine lv_iconst (v := iI 0) hx hb dX3_costOf_39 rfl ?_
        refine lv_istore (lv' := [(6, .int (iI 0)), (5, .int (iI 0)), (4, .int (iI 0)), (0, .ref o), (1, .int (iI 4)), (2, .int (iI ((a : Int)))), (3, .int (iI ((b : Int))))]) hx hb dX3_costOf_40 hl (by decide) rfl (fun ls hl => ?_)
        refine lv_iload_n hx hb dX3_costOf_42 rfl (lv_at hl 5 rfl) ?_
        refine lv_istore (lv' := [(7, .int (iI ((a : Int)))), (6, .int (iI 0)), (5, .int (iI 0)), (4, .int (iI 0)), (0, .ref o), (1, .int (iI 4)), (2, .int (iI ((a : Int)))), (3, .int (iI ((b : Int))))]) hx hb dX3_costOf_43 hl (by decide) rfl (fun ls hl => ?_)
        refine lv_iload hx hb dX3_costOf_45 (lv_at hl 0 rfl) ?_
        refine lv_iload_n hx hb dX3_costOf_47 rfl (lv_at hl 6 rfl) ?_
        refine lv_iload_n hx hb dX3_costOf_48 rfl (lv_at hl 5 rfl) ?_
        obtain ⟨wq, hMq, hB⟩ := hB
        refine s_calli (n := 1) C hB (As := [.int (iI 4)]) (kX3_leftsOf l E 4 ⟨by omega, by omega⟩) (lw_S q1557 q1558 q77 q1559) (by decide +kernel) ⟨Nat.le_of_ble_eq_true rfl, Nat.le_of_ble_eq_true rfl⟩ rfl hl.1 rfl (Nat.le_of_ble_eq_true rfl) dX3_costOf_49 ⟨Nat.zero_le _, Nat.zero_le _⟩ (fun z89 H locs hz90 hp91 hB => ?_)
        replace hB : mB E _ s o Ad I F H locs := ⟨wq, hMq, hB⟩
        obtain ⟨hz90a, hz90b⟩ := hz90
        obtain rfl : z89 = 1 := by omega
        refine x_iadd (z := (a : Int) + 1) hx hb dX3_costOf_52 (by omega) ?_
        refine x_icmp_ge (tgt := 88) hx hb dX3_costOf_53 (by decide) ⟨by omega, by omega⟩ ⟨by omega, by omega⟩ (fun c92 => by exfalso; omega) (fun c92 => ?_)
        refine lv_iload hx hb dX3_costOf_56 (lv_at hl 3 rfl) ?_
        refine lv_aload_n hx hb dX3_costOf_58 rfl (lv_at hl 4 rfl) ?_
        refine lv_iload hx hb dX3_costOf_59 (lv_at hl 0 rfl) ?_
        refine m_calli (n := 1) C hB (As := [.int (iI ((a : Int)))]) (kX3_lengthOf l E o Ad I F a (by omega) hOK0) (lw_V q1536 q1538 qs47 q77 q1539) (by decide +kernel) ⟨Nat.le_of_ble_eq_true rfl, Nat.le_of_ble_eq_true rfl⟩ rfl hl.1 rfl (Nat.le_of_ble_eq_true rfl) dX3_costOf_61 ⟨Nat.zero_le _, Nat.zero_le _⟩ (fun z93 I94 F95 H locs hz96 hp97 hB => ?_)
        obtain ⟨hz96a, hz96b⟩ := hz96
        obtain ⟨rfl, rfl, rfl, h98, h99⟩ := hp97
        refine x_iadd (z := lenF F a) hx hb dX3_costOf_64 (by omega) ?_
        refine lv_istore (lv' := [(4, .int (iI (lenF F a))), (7, .int (iI ((a : Int)))), (6, .int (iI 0)), (5, .int (iI 0)), (0, .ref o), (1, .int (iI 4)), (2, .int (iI ((a : Int)))), (3, .int (iI ((b : Int))))]) hx hb dX3_costOf_65 hl (by decide) rfl (fun ls hl => ?_)
        refine lv_iload hx hb dX3_costOf_67 (lv_at hl 3 rfl) ?_
        refine lv_aload_n hx hb dX3_costOf_69 rfl (lv_at hl 4 rfl) ?_
        refine m_get C hB 12 (by decide) q1406 (v := .ref (Ad 12)) rfl rfl dX3_costOf_70 ?_
        refine lv_iload hx hb dX3_costOf_73 (lv_at hl 1 rfl) ?_
        refine m_ald C hB 12 7 rfl (v := F 12 a) a rfl (by omega) rfl dX3_costOf_75 ?_
        have := hL a (by omega)
        obtain ⟨wq, hMq, hB⟩ := hB
        refine s_calli (n := 1) C hB (As := [.int (iI (F 12 a))]) (kX3_anchorSet l E (F 12 a) (by omega)) (lw_S q1567 q1568 q77 q1569) (by decide +kernel) ⟨Nat.le_of_ble_eq_true rfl, Nat.le_of_ble_eq_true rfl⟩ rfl hl.1 rfl (Nat.le_of_ble_eq_true rfl) dX3_costOf_76 ⟨Nat.zero_le _, Nat.zero_le _⟩ (fun z100 H locs hz101 hp102 hB => ?_)
        replace hB : mB E _ s o Ad I F H locs := ⟨wq, hMq, hB⟩
        obtain ⟨hz101a, hz101b⟩ := hz101
        subst hp102
        have := rg_or 0 (aset (F 12 a))
        refine x_ior hx hb dX3_costOf_79 ?_
        refine lv_istore (lv' := [(5, .int (iI (bOr 0 (aset (F 12 a))))), (4, .int (iI (lenF F a))), (7, .int (iI ((a : Int)))), (6, .int (iI 0)), (0, .ref o), (1, .int (iI 4)), (2, .int (iI ((a : Int)))), (3, .int (iI ((b : Int))))]) hx hb dX3_costOf_80 hl (by decide) rfl (fun ls hl => ?_)
        refine lv_iinc (v := iI ((a : Int) + 1)) (lv' := [(7, .int (iI ((a : Int) + 1))), (5, .int (iI (bOr 0 (aset (F 12 a))))), (4, .int (iI (lenF F a))), (6, .int (iI 0)), (0, .ref o), (1, .int (iI 4)), (2, .int (iI ((a : Int)))), (3, .int (iI ((b : Int))))]) hx hb dX3_costOf_82 hl (k := 2) rfl (iI_add _ _) (by decide) rfl (fun ls hl => ?_)
        refine lv_goto (tgt := 45) hx hb dX3_costOf_85 (by decide) ?_
        refine lv_iload hx hb dX3_costOf_45 (lv_at hl 0 rfl) ?_
        refine lv_iload_n hx hb dX3_costOf_47 rfl (lv_at hl 6 rfl) ?_
        refine lv_iload_n hx hb dX3_costOf_48 rfl (lv_at hl 5 rfl) ?_
        obtain ⟨wq, hMq, hB⟩ := hB
        refine s_calli (n := 1) C hB (As := [.int (iI 4)]) (kX3_leftsOf l E 4 ⟨by omega, by omega⟩) (lw_S q1557 q1558 q77 q1559) (by decide +kernel) ⟨Nat.le_of_ble_eq_true rfl, Nat.le_of_ble_eq_true rfl⟩ rfl hl.1 rfl (Nat.le_of_ble_eq_true rfl) dX3_costOf_49 ⟨Nat.zero_le _, Nat.zero_le _⟩ (fun z103 H locs hz104 hp105 hB => ?_)
        replace hB : mB E _ s o Ad I F H locs := ⟨wq, hMq, hB⟩
        obtain ⟨hz104a, hz104b⟩ := hz104
        obtain rfl : z103 = 1 := by omega
        refine x_iadd (z := (a : Int) + 1) hx hb dX3_costOf_52 (by omega) ?_
        refine x_icmp_ge (tgt := 88) hx hb dX3_costOf_53 (by decide) ⟨by omega, by omega⟩ ⟨by omega, by omega⟩ (fun c106 => ?_) (fun c106 => by exfalso; omega)
        refine lv_iload_n hx hb dX3_costOf_88 rfl (lv_at hl 7 rfl) ?_
        refine lv_istore (lv' := [(7, .int (iI ((b : Int)))), (5, .int (iI (bOr 0 (aset (F 12 a))))), (4, .int (iI (lenF F a))), (6, .int (iI 0)), (0, .ref o), (1, .int (iI 4)), (2, .int (iI ((a : Int)))), (3, .int (iI ((b : Int))))]) hx hb dX3_costOf_89 hl (by decide) rfl (fun ls hl => ?_)
        refine lv_iload hx hb dX3_costOf_91 (lv_at hl 0 rfl) ?_
        refine lv_iload_n hx hb dX3_costOf_93 rfl (lv_at hl 7 rfl) ?_
        refine lv_iload_n hx hb dX3_costOf_94 rfl (lv_at hl 5 rfl) ?_
        obtain ⟨wq, hMq, hB⟩ := hB
        refine s_calli (n := 1) C hB (As := [.int (iI 4)]) (kX3_rightsOf l E 4 ⟨by omega, by omega⟩) (lw_S q1560 q1561 q77 q1562) (by decide +kernel) ⟨Nat.le_of_ble_eq_true rfl, Nat.le_of_ble_eq_true rfl⟩ rfl hl.1 rfl (Nat.le_of_ble_eq_true rfl) dX3_costOf_95 ⟨Nat.zero_le _, Nat.zero_le _⟩ (fun z107 H locs hz108 hp109 hB => ?_)
        replace hB : mB E _ s o Ad I F H locs := ⟨wq, hMq, hB⟩
        obtain ⟨hz108a, hz108b⟩ := hz108
        obtain rfl : z107 = 2 := by omega
        refine x_iadd (z := (b : Int) + 2) hx hb dX3_costOf_98 (by omega) ?_
        refine x_icmp_ge (tgt := 135) hx hb dX3_costOf_99 (by decide) ⟨by omega, by omega⟩ ⟨by omega, by omega⟩ (fun c110 => by exfalso; omega) (fun c110 => ?_)
        refine lv_iload hx hb dX3_costOf_102 (lv_at hl 2 rfl) ?_
        refine lv_aload_n hx hb dX3_costOf_104 rfl (lv_at hl 4 rfl) ?_
        refine m_get C hB 13 (by decide) q1407 (v := .ref (Ad 13)) rfl rfl dX3_costOf_105 ?_
        refine lv_iload hx hb dX3_costOf_108 (lv_at hl 0 rfl) ?_
        refine m_ald C hB 13 7 rfl (v := F 13 b) b rfl (by omega) rfl dX3_costOf_110 ?_
        have := hR b (by omega)
        refine x_isub (z := lenF F a - F 13 b) hx hb dX3_costOf_111 (by omega) ?_
        refine lv_istore (lv' := [(4, .int (iI (lenF F a - F 13 b))), (7, .int (iI ((b : Int)))), (5, .int (iI (bOr 0 (aset (F 12 a))))), (6, .int (iI 0)), (0, .ref o), (1, .int (iI 4)), (2, .int (iI ((a : Int)))), (3, .int (iI ((b : Int))))]) hx hb dX3_costOf_112 hl (by decide) rfl (fun ls hl => ?_)
        refine lv_iload hx hb dX3_costOf_114 (lv_at hl 3 rfl) ?_
        refine lv_aload_n hx hb dX3_costOf_116 rfl (lv_at hl 4 rfl) ?_
        refine m_get C hB 14 (by decide) q1408 (v := .ref (Ad 14)) rfl rfl dX3_costOf_117 ?_
        refine lv_iload hx hb dX3_costOf_120 (lv_at hl 1 rfl) ?_
        refine m_ald C hB 14 7 rfl (v := F 14 b) b rfl (by omega) rfl dX3_costOf_122 ?_
        have := hR b (by omega)
        obtain ⟨wq, hMq, hB⟩ := hB
        refine s_calli (n := 1) C hB (As := [.int (iI (F 14 b))]) (kX3_anchorSet l E (F 14 b) (by omega)) (lw_S q1567 q1568 q77 q1569) (by decide +kernel) ⟨Nat.le_of_ble_eq_true rfl, Nat.le_of_ble_eq_true rfl⟩ rfl hl.1 rfl (Nat.le_of_ble_eq_true rfl) dX3_costOf_123 ⟨Nat.zero_le _, Nat.zero_le _⟩ (fun z111 H locs hz112 hp113 hB => ?_)
        replace hB : mB E _ s o Ad I F H locs := ⟨wq, hMq, hB⟩
        obtain ⟨hz112a, hz112b⟩ := hz112
        subst hp113
        have := rg_or 0 (aset (F 14 b))
        refine x_ior hx hb dX3_costOf_126 ?_
        refine lv_istore (lv' := [(6, .int (iI (bOr 0 (aset (F 14 b))))), (4, .int (iI (lenF F a - F 13 b))), (7, .int (iI ((b : Int)))), (5, .int (iI (bOr 0 (aset (F 12 a))))), (0, .ref o), (1, .int (iI 4)), (2, .int (iI ((a : Int)))), (3, .int (iI ((b : Int))))]) hx hb dX3_costOf_127 hl (by decide) rfl (fun ls hl => ?_)
        refine lv_iinc (v := iI ((b : Int) + 1)) (lv' := [(7, .int (iI ((b : Int) + 1))), (6, .int (iI (bOr 0 (aset (F 14 b))))), (4, .int (iI (lenF F a - F 13 b))), (5, .int (iI (bOr 0 (aset (F 12 a))))), (0, .ref o), (1, .int (iI 4)), (2, .int (iI ((a : Int)))), (3, .int (iI ((b : Int))))]) hx hb dX3_costOf_129 hl (k := 2) rfl (iI_add _ _) (by decide) rfl (fun ls hl => ?_)
        refine lv_goto (tgt := 91) hx hb dX3_costOf_132 (by decide) ?_
        refine lv_iload hx hb dX3_costOf_91 (lv_at hl 0 rfl) ?_
        refine lv_iload_n hx hb dX3_costOf_93 rfl (lv_at hl 7 rfl) ?_
        refine lv_iload_n hx hb dX3_costOf_94 rfl (lv_at hl 5 rfl) ?_
        obtain ⟨wq, hMq, hB⟩ := hB
        refine s_calli (n := 1) C hB (As := [.int (iI 4)]) (kX3_rightsOf l E 4 ⟨by omega, by omega⟩) (lw_S q1560 q1561 q77 q1562) (by decide +kernel) ⟨Nat.le_of_ble_eq_true rfl, Nat.le_of_ble_eq_true rfl⟩ rfl hl.1 rfl (Nat.le_of_ble_eq_true rfl) dX3_costOf_95 ⟨Nat.zero_le _, Nat.zero_le _⟩ (fun z114 H locs hz115 hp116 hB => ?_)
        replace hB : mB E _ s o Ad I F H locs := ⟨wq, hMq, hB⟩
        obtain ⟨hz115a, hz115b⟩ := hz115
        obtain rfl : z114 = 2 := by omega
        refine x_iadd (z := (b : Int) + 2) hx hb dX3_costOf_98 (by omega) ?_
        refine x_icmp_ge (tgt := 135) hx hb dX3_costOf_99 (by decide) ⟨by omega, by omega⟩ ⟨by omega, by omega⟩ (fun c117 => by exfalso; omega) (fun c117 => ?_)
        refine lv_iload hx hb dX3_costOf_102 (lv_at hl 2 rfl) ?_
        refine lv_aload_n hx hb dX3_costOf_104 rfl (lv_at hl 4 rfl) ?_
        refine m_get C hB 13 (by decide) q1407 (v := .ref (Ad 13)) rfl rfl dX3_costOf_105 ?_
        refine lv_iload hx hb dX3_costOf_108 (lv_at hl 0 rfl) ?_
        refine m_ald C hB 13 7 rfl (v := F 13 (b + 1)) (b + 1) (by omega) (by omega) rfl dX3_costOf_110 ?_
        have := hR (b + 1) (by omega)
        refine x_isub (z := lenF F a - F 13 b - F 13 (b + 1)) hx hb dX3_costOf_111 (by omega) ?_
        refine lv_istore (lv' := [(4, .int (iI (lenF F a - F 13 b - F 13 (b + 1)))), (7, .int (iI ((b : Int) + 1))), (6, .int (iI (bOr 0 (aset (F 14 b))))), (5, .int (iI (bOr 0 (aset (F 12 a))))), (0, .ref o), (1, .int (iI 4)), (2, .int (iI ((a : Int)))), (3, .int (iI ((b : Int))))]) hx hb dX3_costOf_112 hl (by decide) rfl (fun ls hl => ?_)
        refine lv_iload hx hb dX3_costOf_114 (lv_at hl 2 rfl) ?_
        refine lv_aload_n hx hb dX3_costOf_116 rfl (lv_at hl 4 rfl) ?_
        refine m_get C hB 14 (by decide) q1408 (v := .ref (Ad 14)) rfl rfl dX3_costOf_117 ?_
        refine lv_iload hx hb dX3_costOf_120 (lv_at hl 1 rfl) ?_
        refine m_ald C hB 14 7 rfl (v := F 14 (b + 1)) (b + 1) (by omega) (by omega) rfl dX3_costOf_122 ?_
        have := hR (b + 1) (by omega)
        obtain ⟨wq, hMq, hB⟩ := hB
        refine s_calli (n := 1) C hB (As := [.int (iI (F 14 (b + 1)))]) (kX3_anchorSet l E (F 14 (b + 1)) (by omega)) (lw_S q1567 q1568 q77 q1569) (by decide +kernel) ⟨Nat.le_of_ble_eq_true rfl, Nat.le_of_ble_eq_true rfl⟩ rfl hl.1 rfl (Nat.le_of_ble_eq_true rfl) dX3_costOf_123 ⟨Nat.zero_le _, Nat.zero_le _⟩ (fun z118 H locs hz119 hp120 hB => ?_)
        replace hB : mB E _ s o Ad I F H locs := ⟨wq, hMq, hB⟩
        obtain ⟨hz119a, hz119b⟩ := hz119
        subst hp120
        have := rg_or (bOr 0 (aset (F 14 b))) (aset (F 14 (b + 1)))
        refine x_ior hx hb dX3_costOf_126 ?_
        refine lv_istore (lv' := [(6, .int (iI (bOr (bOr 0 (aset (F 14 b))) (aset (F 14 (b + 1)))))), (4, .int (iI (lenF F a - F 13 b - F 13 (b + 1)))), (7, .int (iI ((b : Int) + 1))), (5, .int (iI (bOr 0 (aset (F 12 a))))), (0, .ref o), (1, .int (iI 4)), (2, .int (iI ((a : Int)))), (3, .int (iI ((b : Int))))]) hx hb dX3_costOf_127 hl (by decide) rfl (fun ls hl => ?_)
        refine lv_iinc (v := iI ((b : Int) + 1 + 1)) (lv' := [(7, .int (iI ((b : Int) + 1 + 1))), (6, .int (iI (bOr (bOr 0 (aset (F 14 b))) (aset (F 14 (b + 1)))))), (4, .int (iI (lenF F a - F 13 b - F 13 (b + 1)))), (5, .int (iI (bOr 0 (aset (F 12 a))))), (0, .ref o), (1, .int (iI 4)), (2, .int (iI ((a : Int)))), (3, .int (iI ((b : Int))))]) hx hb dX3_costOf_129 hl (k := 2) rfl (iI_add _ _) (by decide) rfl (fun ls hl => ?_)
        rw [show ((b : Int) + 1 + 1 : Int) = (b : Int) + 2 by omega] at hl
        refine lv_goto (tgt := 91) hx hb dX3_costOf_132 (by decide) ?_
        refine lv_iload hx hb dX3_costOf_91 (lv_at hl 0 rfl) ?_
        refine lv_iload_n hx hb dX3_costOf_93 rfl (lv_at hl 7 rfl) ?_
        refine lv_iload_n hx hb dX3_costOf_94 rfl (lv_at hl 5 rfl) ?_
        obtain ⟨wq, hMq, hB⟩ := hB
        refine s_calli (n := 1) C hB (As := [.int (iI 4)]) (kX3_rightsOf l E 4 ⟨by omega, by omega⟩) (lw_S q1560 q1561 q77 q1562) (by decide +kernel) ⟨Nat.le_of_ble_eq_true rfl, Nat.le_of_ble_eq_true rfl⟩ rfl hl.1 rfl (Nat.le_of_ble_eq_true rfl) dX3_costOf_95 ⟨Nat.zero_le _, Nat.zero_le _⟩ (fun z121 H locs hz122 hp123 hB => ?_)
        replace hB : mB E _ s o Ad I F H locs := ⟨wq, hMq, hB⟩
        obtain ⟨hz122a, hz122b⟩ := hz122
        obtain rfl : z121 = 2 := by omega
        refine x_iadd (z := (b : Int) + 2) hx hb dX3_costOf_98 (by omega) ?_
        refine x_icmp_ge (tgt := 135) hx hb dX3_costOf_99 (by decide) ⟨by omega, by omega⟩ ⟨by omega, by omega⟩ (fun c124 => ?_) (fun c124 => by exfalso; omega)
        refine lv_iload hx hb dX3_costOf_135 (lv_at hl 2 rfl) ?_
        refine x_if_ge (tgt := 146) hx hb dX3_costOf_137 (by decide) ⟨by omega, by omega⟩ (fun c125 => ?_) (fun c125 => ?_)
        · refine lv_iload hx hb dX3_costOf_146 (lv_at hl 2 rfl) ?_
          refine lv_iload hx hb dX3_costOf_148 (lv_at hl 3 rfl) ?_
          refine lv_iload hx hb dX3_costOf_150 (lv_at hl 1 rfl) ?_
          refine x_icmp_ne (tgt := 159) hx hb dX3_costOf_152 (by decide) ⟨by omega, by omega⟩ ⟨by omega, by omega⟩ (fun c126 => ?_) (fun c126 => ?_)
          · refine lv_iconst (v := iI 3) hx hb dX3_costOf_159 rfl ?_
            refine x_iadd (z := lenF F a - F 13 b - F 13 (b + 1) + 3) hx hb dX3_costOf_160 (by omega) ?_
            refine lv_iload_n hx hb dX3_costOf_161 rfl (lv_at hl 5 rfl) ?_
            refine lv_iconst (v := iI 2) hx hb dX3_costOf_162 rfl ?_
            refine x_icmp_le (tgt := 173) hx hb dX3_costOf_163 (by decide) ⟨by decide, by decide⟩ ⟨by decide, by decide⟩ (fun c127 => by exfalso; omega) (fun c127 => ?_)
            refine lv_aload_n hx hb dX3_costOf_166 rfl (lv_at hl 4 rfl) ?_
            refine m_get C hB 8 (by decide) q1402 (v := .int (iI (I 8))) rfl rfl dX3_costOf_167 ?_
            refine lv_goto (tgt := 174) hx hb dX3_costOf_170 (by decide) ?_
            refine x_iadd (z := lenF F a - F 13 b - F 13 (b + 1) + I 8 + 3) hx hb dX3_costOf_174 (by omega) ?_
            exact m_iret C hB hr hlocks rfl dX3_costOf_175 ⟨by omega, by omega⟩ ⟨rfl, rfl, by rw [cst_4]; unfold aabs miss; (repeat' split) <;> omega⟩
          · refine lv_iconst (v := iI 0) hx hb dX3_costOf_155 rfl ?_
            refine lv_goto (tgt := 160) hx hb dX3_costOf_156 (by decide) ?_
            refine x_iadd (z := lenF F a - F 13 b - F 13 (b + 1)) hx hb dX3_costOf_160 (by omega) ?_
            refine lv_iload_n hx hb dX3_costOf_161 rfl (lv_at hl 5 rfl) ?_
            refine lv_iconst (v := iI 2) hx hb dX3_costOf_162 rfl ?_
            refine x_icmp_le (tgt := 173) hx hb dX3_costOf_163 (by decide) ⟨by decide, by decide⟩ ⟨by decide, by decide⟩ (fun c128 => by exfalso; omega) (fun c128 => ?_)
            refine lv_aload_n hx hb dX3_costOf_166 rfl (lv_at hl 4 rfl) ?_
            refine m_get C hB 8 (by decide) q1402 (v := .int (iI (I 8))) rfl rfl dX3_costOf_167 ?_
            refine lv_goto (tgt := 174) hx hb dX3_costOf_170 (by decide) ?_
            refine x_iadd (z := lenF F a - F 13 b - F 13 (b + 1) + I 8) hx hb dX3_costOf_174 (by omega) ?_
            exact m_iret C hB hr hlocks rfl dX3_costOf_175 ⟨by omega, by omega⟩ ⟨rfl, rfl, by rw [cst_4]; unfold aabs miss; (repeat' split) <;> omega⟩
        · refine lv_iload hx hb dX3_costOf_140 (lv_at hl 2 rfl) ?_
          refine x_ineg (z := -(lenF F a) + F 13 b + F 13 (b + 1)) hx hb dX3_costOf_142 (by omega) ?_
          refine lv_goto (tgt := 148) hx hb dX3_costOf_143 (by decide) ?_
          refine lv_iload hx hb dX3_costOf_148 (lv_at hl 3 rfl) ?_
          refine lv_iload hx hb dX3_costOf_150 (lv_at hl 1 rfl) ?_
          refine x_icmp_ne (tgt := 159) hx hb dX3_costOf_152 (by decide) ⟨by omega, by omega⟩ ⟨by omega, by omega⟩ (fun c129 => ?_) (fun c129 => ?_)
          · refine lv_iconst (v := iI 3) hx hb dX3_costOf_159 rfl ?_
            refine x_iadd (z := -(lenF F a) + F 13 b + F 13 (b + 1) + 3) hx hb dX3_costOf_160 (by omega) ?_
            refine lv_iload_n hx hb dX3_costOf_161 rfl (lv_at hl 5 rfl) ?_
            refine lv_iconst (v := iI 2) hx hb dX3_costOf_162 rfl ?_
            refine x_icmp_le (tgt := 173) hx hb dX3_costOf_163 (by decide) ⟨by decide, by decide⟩ ⟨by decide, by decide⟩ (fun c130 => by exfalso; omega) (fun c130 => ?_)
            refine lv_aload_n hx hb dX3_costOf_166 rfl (lv_at hl 4 rfl) ?_
            refine m_get C hB 8 (by decide) q1402 (v := .int (iI (I 8))) rfl rfl dX3_costOf_167 ?_
            refine lv_goto (tgt := 174) hx hb dX3_costOf_170 (by decide) ?_
            refine x_iadd (z := -(lenF F a) + F 13 b + F 13 (b + 1) + I 8 + 3) hx hb dX3_costOf_174 (by omega) ?_
            exact m_iret C hB hr hlocks rfl dX3_costOf_175 ⟨by omega, by omega⟩ ⟨rfl, rfl, by rw [cst_4]; unfold aabs miss; (repeat' split) <;> omega⟩
          · refine lv_iconst (v := iI 0) hx hb dX3_costOf_155 rfl ?_
            refine lv_goto (tgt := 160) hx hb dX3_costOf_156 (by decide) ?_
            refine x_iadd (z := -(lenF F a) + F 13 b + F 13 (b + 1)) hx hb dX3_costOf_160 (by omega) ?_
            refine lv_iload_n hx hb dX3_costOf_161 rfl (lv_at hl 5 rfl) ?_
            refine lv_iconst (v := iI 2) hx hb dX3_costOf_162 rfl ?_
            refine x_icmp_le (tgt := 173) hx hb dX3_costOf_163 (by decide) ⟨by decide, by decide⟩ ⟨by decide, by decide⟩ (fun c131 => by exfalso; omega) (fun c131 => ?_)
            refine lv_aload_n hx hb dX3_costOf_166 rfl (lv_at hl 4 rfl) ?_
            refine m_get C hB 8 (by decide) q1402 (v := .int (iI (I 8))) rfl rfl dX3_costOf_167 ?_
            refine lv_goto (tgt := 174) hx hb dX3_costOf_170 (by decide) ?_
            refine x_iadd (z := -(lenF F a) + F 13 b + F 13 (b + 1) + I 8) hx hb dX3_costOf_174 (by omega) ?_
            exact m_iret C hB hr hlocks rfl dX3_costOf_175 ⟨by omega, by omega⟩ ⟨rfl, rfl, by rw [cst_4]; unfold aabs miss; (repeat' split) <;> omega⟩
    · refine lv_aload_n hx hb dX3_costOf_21 rfl (lv_at hl 0 rfl) ?_
      refine m_get C hB 7 (by decide) q1401 (v := .int (iI (I 7))) rfl rfl dX3_costOf_22 ?_
      refine lv_aload_n hx hb dX3_costOf_25 rfl (lv_at hl 0 rfl) ?_
      refine m_get C hB 13 (by decide) q1407 (v := .ref (Ad 13)) rfl rfl dX3_costOf_26 ?_
      refine lv_iload_n hx hb dX3_costOf_29 rfl (lv_at hl 3 rfl) ?_
      refine m_ald C hB 13 7 rfl (v := F 13 b) b rfl (by omega) rfl dX3_costOf_30 ?_
      have := hR b (by omega)
      refine x_iadd (z := I 7 + F 13 b) hx hb dX3_costOf_31 (by omega) ?_
      exact m_iret C hB hr hlocks rfl dX3_costOf_32 ⟨by omega, by omega⟩ ⟨rfl, rfl, by rw [show so = 2 by omega, cst_2]⟩
  · refine lv_aload_n hx hb dX3_costOf_5 rfl (lv_at hl 0 rfl) ?_
    refine m_get C hB 7 (by decide) q1401 (v := .int (iI (I 7))) rfl rfl dX3_costOf_6 ?_
    refine lv_aload_n hx hb dX3_costOf_9 rfl (lv_at hl 0 rfl) ?_
    refine lv_iload_n hx hb dX3_costOf_10 rfl (lv_at hl 2 rfl) ?_
    refine m_calli (n := 1) C hB (As := [.int (iI ((a : Int)))]) (kX3_lengthOf l E o Ad I F a (by omega) hOK0) (lw_V q1536 q1538 qs47 q77 q1539) (by decide +kernel) ⟨Nat.le_of_ble_eq_true rfl, Nat.le_of_ble_eq_true rfl⟩ rfl hl.1 rfl (Nat.le_of_ble_eq_true rfl) dX3_costOf_11 ⟨Nat.zero_le _, Nat.zero_le _⟩ (fun z132 I133 F134 H locs hz135 hp136 hB => ?_)
    obtain ⟨hz135a, hz135b⟩ := hz135
    obtain ⟨rfl, rfl, rfl, h137, h138⟩ := hp136
    refine x_iadd (z := I 7 + lenF F a) hx hb dX3_costOf_14 (by omega) ?_
    exact m_iret C hB hr hlocks rfl dX3_costOf_15 ⟨by omega, by omega⟩ ⟨rfl, rfl, by rw [show so = 1 by omega, cst_1]⟩
set_option maxHeartbeats 400000 in
set_option maxRecDepth 100000 in
theorem kX3_isStand (l : Launch) (E : xE) (o : Nat) (Ad : Nat → Nat) (I : Nat → Int) (F : Nat → Nat → Int) (a : Int) (b : Int) (wd : Int) (ha : 0 ≤ a ∧ a ≤ 100) (hbb : 0 ≤ b ∧ b ≤ 100) (hw : 0 ≤ wd ∧ wd ≤ 100) (hOK : mOK I F) : mi_ l E yX3_isStand cX3_isStand 4 (some .boolean) 0 0 [.ref o, .int (iI a), .int (iI b), .int (iI wd)] o Ad I F (fun z I' F' => I = I' ∧ F = F' ∧ ((z = 1 ∧ (a ≤ I 5 ∧ b ≤ I 6 ∧ a - b ≤ wd ∧ b - a ≤ wd)) ∨ (z = 0 ∧ ¬ (a ≤ I 5 ∧ b ≤ I 6 ∧ a - b ≤ wd ∧ b - a ≤ wd)))) := by
  intro w sz hM
  refine x_body (by decide) (Nat.le_of_ble_eq_true rfl) ?_
  intro p e s m args below meth c ls hx hb C hr hlocks _ hsz hB hl
  have C : xC E p s m args c cX3_isStand 4 RX3 := C
  replace hB : mB E (xA w sz) s o Ad I F s.heap [] := ⟨w, hM, hB⟩
  have hl : lv_has ls 4 [(0, .ref o), (1, .int (iI a)), (2, .int (iI b)), (3, .int (iI wd))] := hl
  have hOK0 := hOK
  obtain ⟨⟨hf1, hf2⟩, ⟨hl1, hl2⟩, ⟨hr1, hr2⟩, hlr, ⟨hs1, hs2⟩, ⟨hj1, hj2⟩, ⟨hb1, hb2⟩, ⟨hn1, hn2⟩, hL, hR, hN, hS, hC⟩ := hOK
  refine lv_iload_n hx hb dX3_isStand_0 rfl (lv_at hl 1 rfl) ?_
  refine lv_aload_n hx hb dX3_isStand_1 rfl (lv_at hl 0 rfl) ?_
  refine m_get C hB 5 (by decide) q1399 (v := .int (iI (I 5))) rfl rfl dX3_isStand_2 ?_
  refine x_icmp_gt (tgt := 34) hx hb dX3_isStand_5 (by decide) ⟨by omega, by omega⟩ ⟨by omega, by omega⟩ (fun c1 => ?_) (fun c1 => ?_)
  · refine lv_iconst (v := iI 0) hx hb dX3_isStand_34 rfl ?_
    exact m_iret C hB hr hlocks rfl dX3_isStand_35 ⟨by decide, by decide⟩ ⟨rfl, rfl, by omega⟩
  · refine lv_iload_n hx hb dX3_isStand_8 rfl (lv_at hl 2 rfl) ?_
    refine lv_aload_n hx hb dX3_isStand_9 rfl (lv_at hl 0 rfl) ?_
    refine m_get C hB 6 (by decide) q1400 (v := .int (iI (I 6))) rfl rfl dX3_isStand_10 ?_
    refine x_icmp_gt (tgt := 34) hx hb dX3_isStand_13 (by decide) ⟨by omega, by omega⟩ ⟨by omega, by omega⟩ (fun c2 => ?_) (fun c2 => ?_)
    · refine lv_iconst (v := iI 0) hx hb dX3_isStand_34 rfl ?_
      exact m_iret C hB hr hlocks rfl dX3_isStand_35 ⟨by decide, by decide⟩ ⟨rfl, rfl, by omega⟩
    · refine lv_iload_n hx hb dX3_isStand_16 rfl (lv_at hl 1 rfl) ?_
      refine lv_iload_n hx hb dX3_isStand_17 rfl (lv_at hl 2 rfl) ?_
      refine x_isub (z := a - b) hx hb dX3_isStand_18 (by omega) ?_
      refine lv_iload_n hx hb dX3_isStand_19 rfl (lv_at hl 3 rfl) ?_
      refine x_icmp_gt (tgt := 34) hx hb dX3_isStand_20 (by decide) ⟨by omega, by omega⟩ ⟨by omega, by omega⟩ (fun c3 => ?_) (fun c3 => ?_)
      · refine lv_iconst (v := iI 0) hx hb dX3_isStand_34 rfl ?_
        exact m_iret C hB hr hlocks rfl dX3_isStand_35 ⟨by decide, by decide⟩ ⟨rfl, rfl, by omega⟩
      · refine lv_iload_n hx hb dX3_isStand_23 rfl (lv_at hl 2 rfl) ?_
        refine lv_iload_n hx hb dX3_isStand_24 rfl (lv_at hl 1 rfl) ?_
        refine x_isub (z := b - a) hx hb dX3_isStand_25 (by omega) ?_
        refine lv_iload_n hx hb dX3_isStand_26 rfl (lv_at hl 3 rfl) ?_
        refine x_icmp_gt (tgt := 34) hx hb dX3_isStand_27 (by decide) ⟨by omega, by omega⟩ ⟨by omega, by omega⟩ (fun c4 => ?_) (fun c4 => ?_)
        · refine lv_iconst (v := iI 0) hx hb dX3_isStand_34 rfl ?_
          exact m_iret C hB hr hlocks rfl dX3_isStand_35 ⟨by decide, by decide⟩ ⟨rfl, rfl, by omega⟩
        · refine lv_iconst (v := iI 1) hx hb dX3_isStand_30 rfl ?_
          refine lv_goto (tgt := 35) hx hb dX3_isStand_31 (by decide) ?_
          exact m_iret C hB hr hlocks rfl dX3_isStand_35 ⟨by decide, by decide⟩ ⟨rfl, rfl, by omega⟩
