/-! THE MODEL, 8 -/
set_option maxHeartbeats 400000 in
set_option maxRecDepth 100000 in
theorem kX3_letters (l : Launch) (E : xE) (o : Nat) (Ad : Nat → Nat) (I : Nat → Int) (F : Nat → Nat → Int) (sd : Int) (k : Int) (v : Int) (hsd : rg sd) (hk : rg k) (hv : rg v) (hOK : mOK I F) : mi_ l E yX3_letters cX3_letters 5 (some .int) 1 22 [.ref o, .int (iI sd), .int (iI k), .int (iI v)] o Ad I F (fun z I' F' => z = rLet I F sd k v ∧ mAg I (nLet I F sd k v) I' F') := by
  intro w sz hM
  refine x_body (by decide) (Nat.le_of_ble_eq_true rfl) ?_
  intro p e s m args below meth c ls hx hb C hr hlocks _ hsz hB hl
  have C : xC E p s m args c cX3_letters 5 RX3 := C
  replace hB : mB E (xA w sz) s o Ad I F s.heap [] := ⟨w, hM, hB⟩
  have hl : lv_has ls 5 [(0, .ref o), (1, .int (iI sd)), (2, .int (iI k)), (3, .int (iI v))] := hl
  obtain ⟨hsd1, hsd2⟩ := hsd
  obtain ⟨hk1, hk2⟩ := hk
  obtain ⟨hv1, hv2⟩ := hv
  have hOK0 := hOK
  obtain ⟨⟨hf1, hf2⟩, ⟨hl1, hl2⟩, ⟨hr1, hr2⟩, hlr, ⟨hs1, hs2⟩, ⟨hj1, hj2⟩, ⟨hb1, hb2⟩, ⟨hn1, hn2⟩, hL, hR, hN, hS, hC⟩ := hOK
  refine lv_iload_n hx hb dX3_letters_0 rfl (lv_at hl 1 rfl) ?_
  refine lv_iconst (v := iI 0) hx hb dX3_letters_1 rfl ?_
  refine lv_iconst (v := iI 1) hx hb dX3_letters_2 rfl ?_
  obtain ⟨wq, hMq, hB⟩ := hB
  refine s_calli (n := 3) C hB (As := [.int (iI sd), .int (iI 0), .int (iI 1)]) (kX3_within l E sd 0 1 ⟨by omega, by omega⟩ ⟨by omega, by omega⟩ ⟨by omega, by omega⟩) (lw_S q1498 q1499 q77 q1500) (by decide +kernel) ⟨Nat.le_of_ble_eq_true rfl, Nat.le_of_ble_eq_true rfl⟩ rfl hl.1 rfl (Nat.le_of_ble_eq_true rfl) dX3_letters_3 ⟨Nat.zero_le _, Nat.zero_le _⟩ (fun z1 H locs hz2 hp3 hB => ?_)
  replace hB : mB E _ s o Ad I F H locs := ⟨wq, hMq, hB⟩
  obtain ⟨hz2a, hz2b⟩ := hz2
  rcases hp3 with ⟨rfl, h4⟩ | ⟨rfl, h4⟩
  · refine x_if_ne (tgt := 12) hx hb dX3_letters_6 (by decide) ⟨by decide, by decide⟩ (fun c5 => ?_) (fun c5 => by exfalso; omega)
    rcases (show sd = 0 ∨ sd = 1 by omega) with rfl | rfl
    · refine lv_iload_n hx hb dX3_letters_12 rfl (lv_at hl 1 rfl) ?_
      refine x_if_ne (tgt := 27) hx hb dX3_letters_13 (by decide) ⟨by decide, by decide⟩ (fun c6 => by exfalso; omega) (fun c6 => ?_)
      refine lv_aload_n hx hb dX3_letters_16 rfl (lv_at hl 0 rfl) ?_
      refine lv_iload_n hx hb dX3_letters_17 rfl (lv_at hl 2 rfl) ?_
      refine m_calli (n := 1) C hB (As := [.int (iI k)]) (kX3_isLeft l E o Ad I F k ⟨by omega, by omega⟩ ⟨by omega, by omega⟩) (lw_V q1532 q1534 qs46 q77 q1535) (by decide +kernel) ⟨Nat.le_of_ble_eq_true rfl, Nat.le_of_ble_eq_true rfl⟩ rfl hl.1 rfl (Nat.le_of_ble_eq_true rfl) dX3_letters_18 ⟨Nat.zero_le _, Nat.zero_le _⟩ (fun z7 I8 F9 H locs hz10 hp11 hB => ?_)
      obtain ⟨hz10a, hz10b⟩ := hz10
      obtain ⟨rfl, rfl, ⟨rfl, h12⟩ | ⟨rfl, h12⟩⟩ := hp11
      · refine x_if_ne (tgt := 37) hx hb dX3_letters_21 (by decide) ⟨by decide, by decide⟩ (fun c13 => ?_) (fun c13 => by exfalso; omega)
        refine lv_iload_n hx hb dX3_letters_37 rfl (lv_at hl 3 rfl) ?_
        refine lv_iconst (v := iI 1) hx hb dX3_letters_38 rfl ?_
        refine lv_bipush (v := iI 9) hx hb dX3_letters_39 rfl ?_
        obtain ⟨wq, hMq, hB⟩ := hB
        refine s_calli (n := 3) C hB (As := [.int (iI v), .int (iI 1), .int (iI 9)]) (kX3_within l E v 1 9 ⟨by omega, by omega⟩ ⟨by omega, by omega⟩ ⟨by omega, by omega⟩) (lw_S q1498 q1499 q77 q1500) (by decide +kernel) ⟨Nat.le_of_ble_eq_true rfl, Nat.le_of_ble_eq_true rfl⟩ rfl hl.1 rfl (Nat.le_of_ble_eq_true rfl) dX3_letters_41 ⟨Nat.zero_le _, Nat.zero_le _⟩ (fun z14 H locs hz15 hp16 hB => ?_)
        replace hB : mB E _ s o Ad I F H locs := ⟨wq, hMq, hB⟩
        obtain ⟨hz15a, hz15b⟩ := hz15
        rcases hp16 with ⟨rfl, h17⟩ | ⟨rfl, h17⟩
        · refine x_if_ne (tgt := 50) hx hb dX3_letters_44 (by decide) ⟨by decide, by decide⟩ (fun c18 => ?_) (fun c18 => by exfalso; omega)
          obtain ⟨kk, rfl⟩ : ∃ kk : Nat, k = (kk : Int) := ⟨k.toNat, by omega⟩
          refine lv_iload_n hx hb dX3_letters_50 rfl (lv_at hl 1 rfl) ?_
          refine x_if_ne (tgt := 63) hx hb dX3_letters_51 (by decide) ⟨by decide, by decide⟩ (fun c19 => by exfalso; omega) (fun c19 => ?_)
          refine lv_aload_n hx hb dX3_letters_54 rfl (lv_at hl 0 rfl) ?_
          refine m_get C hB 11 (by decide) q1405 (v := .ref (Ad 11)) rfl rfl dX3_letters_55 ?_
          refine lv_iload_n hx hb dX3_letters_58 rfl (lv_at hl 2 rfl) ?_
          refine m_ald C hB 11 7 rfl (v := F 11 kk) kk rfl (by omega) rfl dX3_letters_59 ?_
          have := hL kk (by omega)
          refine lv_goto (tgt := 69) hx hb dX3_letters_60 (by decide) ?_
          refine lv_istore (lv' := [(4, .int (iI (F 11 kk))), (0, .ref o), (1, .int (iI 0)), (2, .int (iI ((kk : Int)))), (3, .int (iI v))]) hx hb dX3_letters_69 hl (by decide) rfl (fun ls hl => ?_)
          refine lv_iload_n hx hb dX3_letters_71 rfl (lv_at hl 2 rfl) ?_
          refine x_if_ne (tgt := 85) hx hb dX3_letters_72 (by decide) ⟨by decide, by decide⟩ (fun c20 => by exfalso; omega) (fun c20 => ?_)
          refine lv_aload_n hx hb dX3_letters_75 rfl (lv_at hl 1 rfl) ?_
          refine m_get C hB 11 (by decide) q1405 (v := .ref (Ad 11)) rfl rfl dX3_letters_76 ?_
          refine lv_iload_n hx hb dX3_letters_79 rfl (lv_at hl 3 rfl) ?_
          refine lv_iload_n hx hb dX3_letters_80 rfl (lv_at hl 4 rfl) ?_
          refine m_ast C hB 11 7 rfl (f := F 11) kk rfl (by omega) rfl dX3_letters_81 (fun H locs hB => ?_)
          refine lv_goto (tgt := 92) hx hb dX3_letters_82 (by decide) ?_
          refine lv_iload hx hb dX3_letters_92 (lv_at hl 0 rfl) ?_
          exact m_iret C hB hr hlocks rfl dX3_letters_94 ⟨by omega, by omega⟩ ⟨by unfold rLet; rw [if_neg (by omega), if_neg (by first | (rw [if_pos rfl]; omega) | (rw [if_neg (by decide)]; omega)), if_neg (by omega), if_pos rfl]; rfl, by unfold nLet; rw [if_pos ⟨⟨rfl, by omega, by omega⟩, by omega, by omega⟩]; exact mAg_rfl _ _⟩
        · refine x_if_ne (tgt := 50) hx hb dX3_letters_44 (by decide) ⟨by decide, by decide⟩ (fun c21 => by exfalso; omega) (fun c21 => ?_)
          refine lv_bipush (v := iI (-2)) hx hb dX3_letters_47 rfl ?_
          exact m_iret C hB hr hlocks rfl dX3_letters_49 ⟨by decide, by decide⟩ ⟨by unfold rLet; (repeat' split) <;> omega, by unfold nLet; rw [if_neg (by omega), if_neg (by omega)]; exact mAg_rfl I F⟩
      · refine x_if_ne (tgt := 37) hx hb dX3_letters_21 (by decide) ⟨by decide, by decide⟩ (fun c22 => by exfalso; omega) (fun c22 => ?_)
        refine lv_goto (tgt := 35) hx hb dX3_letters_24 (by decide) ?_
        refine lv_iconst (v := iI (-1)) hx hb dX3_letters_35 rfl ?_
        exact m_iret C hB hr hlocks rfl dX3_letters_36 ⟨by decide, by decide⟩ ⟨by unfold rLet; (repeat' split) <;> omega, by unfold nLet; rw [if_neg (by omega), if_neg (by omega)]; exact mAg_rfl I F⟩
    · refine lv_iload_n hx hb dX3_letters_12 rfl (lv_at hl 1 rfl) ?_
      refine x_if_ne (tgt := 27) hx hb dX3_letters_13 (by decide) ⟨by decide, by decide⟩ (fun c23 => ?_) (fun c23 => by exfalso; omega)
      refine lv_aload_n hx hb dX3_letters_27 rfl (lv_at hl 0 rfl) ?_
      refine lv_iload_n hx hb dX3_letters_28 rfl (lv_at hl 2 rfl) ?_
      refine m_calli (n := 1) C hB (As := [.int (iI k)]) (kX3_isRight l E o Ad I F k ⟨by omega, by omega⟩ ⟨by omega, by omega⟩) (lw_V q1586 q1588 qs56 q77 q1589) (by decide +kernel) ⟨Nat.le_of_ble_eq_true rfl, Nat.le_of_ble_eq_true rfl⟩ rfl hl.1 rfl (Nat.le_of_ble_eq_true rfl) dX3_letters_29 ⟨Nat.zero_le _, Nat.zero_le _⟩ (fun z24 I25 F26 H locs hz27 hp28 hB => ?_)
      obtain ⟨hz27a, hz27b⟩ := hz27
      obtain ⟨rfl, rfl, ⟨rfl, h29⟩ | ⟨rfl, h29⟩⟩ := hp28
      · refine x_if_ne (tgt := 37) hx hb dX3_letters_32 (by decide) ⟨by decide, by decide⟩ (fun c30 => ?_) (fun c30 => by exfalso; omega)
        refine lv_iload_n hx hb dX3_letters_37 rfl (lv_at hl 3 rfl) ?_
        refine lv_iconst (v := iI 1) hx hb dX3_letters_38 rfl ?_
        refine lv_bipush (v := iI 9) hx hb dX3_letters_39 rfl ?_
        obtain ⟨wq, hMq, hB⟩ := hB
        refine s_calli (n := 3) C hB (As := [.int (iI v), .int (iI 1), .int (iI 9)]) (kX3_within l E v 1 9 ⟨by omega, by omega⟩ ⟨by omega, by omega⟩ ⟨by omega, by omega⟩) (lw_S q1498 q1499 q77 q1500) (by decide +kernel) ⟨Nat.le_of_ble_eq_true rfl, Nat.le_of_ble_eq_true rfl⟩ rfl hl.1 rfl (Nat.le_of_ble_eq_true rfl) dX3_letters_41 ⟨Nat.zero_le _, Nat.zero_le _⟩ (fun z31 H locs hz32 hp33 hB => ?_)
        replace hB : mB E _ s o Ad I F H locs := ⟨wq, hMq, hB⟩
        obtain ⟨hz32a, hz32b⟩ := hz32
        rcases hp33 with ⟨rfl, h34⟩ | ⟨rfl, h34⟩
        · refine x_if_ne (tgt := 50) hx hb dX3_letters_44 (by decide) ⟨by decide, by decide⟩ (fun c35 => ?_) (fun c35 => by exfalso; omega)
          obtain ⟨kk, rfl⟩ : ∃ kk : Nat, k = (kk : Int) := ⟨k.toNat, by omega⟩
          refine lv_iload_n hx hb dX3_letters_50 rfl (lv_at hl 1 rfl) ?_
          refine x_if_ne (tgt := 63) hx hb dX3_letters_51 (by decide) ⟨by decide, by decide⟩ (fun c36 => ?_) (fun c36 => by exfalso; omega)
          refine lv_aload_n hx hb dX3_letters_63 rfl (lv_at hl 0 rfl) ?_
          refine m_get C hB 13 (by decide) q1407 (v := .ref (Ad 13)) rfl rfl dX3_letters_64 ?_
          refine lv_iload_n hx hb dX3_letters_67 rfl (lv_at hl 2 rfl) ?_
          refine m_ald C hB 13 7 rfl (v := F 13 kk) kk rfl (by omega) rfl dX3_letters_68 ?_
          have := hR kk (by omega)
          refine lv_istore (lv' := [(4, .int (iI (F 13 kk))), (0, .ref o), (1, .int (iI 1)), (2, .int (iI ((kk : Int)))), (3, .int (iI v))]) hx hb dX3_letters_69 hl (by decide) rfl (fun ls hl => ?_)
          refine lv_iload_n hx hb dX3_letters_71 rfl (lv_at hl 2 rfl) ?_
          refine x_if_ne (tgt := 85) hx hb dX3_letters_72 (by decide) ⟨by decide, by decide⟩ (fun c37 => ?_) (fun c37 => by exfalso; omega)
          refine lv_aload_n hx hb dX3_letters_85 rfl (lv_at hl 1 rfl) ?_
          refine m_get C hB 13 (by decide) q1407 (v := .ref (Ad 13)) rfl rfl dX3_letters_86 ?_
          refine lv_iload_n hx hb dX3_letters_89 rfl (lv_at hl 3 rfl) ?_
          refine lv_iload_n hx hb dX3_letters_90 rfl (lv_at hl 4 rfl) ?_
          refine m_ast C hB 13 7 rfl (f := F 13) kk rfl (by omega) rfl dX3_letters_91 (fun H locs hB => ?_)
          refine lv_iload hx hb dX3_letters_92 (lv_at hl 0 rfl) ?_
          exact m_iret C hB hr hlocks rfl dX3_letters_94 ⟨by omega, by omega⟩ ⟨by unfold rLet; rw [if_neg (by omega), if_neg (by first | (rw [if_pos rfl]; omega) | (rw [if_neg (by decide)]; omega)), if_neg (by omega), if_neg (by decide)]; rfl, by unfold nLet; rw [if_neg (by omega), if_pos ⟨⟨rfl, by omega, by omega⟩, by omega, by omega⟩]; exact mAg_rfl _ _⟩
        · refine x_if_ne (tgt := 50) hx hb dX3_letters_44 (by decide) ⟨by decide, by decide⟩ (fun c38 => by exfalso; omega) (fun c38 => ?_)
          refine lv_bipush (v := iI (-2)) hx hb dX3_letters_47 rfl ?_
          exact m_iret C hB hr hlocks rfl dX3_letters_49 ⟨by decide, by decide⟩ ⟨by unfold rLet; (repeat' split) <;> omega, by unfold nLet; rw [if_neg (by omega), if_neg (by omega)]; exact mAg_rfl I F⟩
      · refine x_if_ne (tgt := 37) hx hb dX3_letters_32 (by decide) ⟨by decide, by decide⟩ (fun c39 => by exfalso; omega) (fun c39 => ?_)
        refine lv_iconst (v := iI (-1)) hx hb dX3_letters_35 rfl ?_
        exact m_iret C hB hr hlocks rfl dX3_letters_36 ⟨by decide, by decide⟩ ⟨by unfold rLet; (repeat' split) <;> omega, by unfold nLet; rw [if_neg (by omega), if_neg (by omega)]; exact mAg_rfl I F⟩
  · refine x_if_ne (tgt := 12) hx hb dX3_letters_6 (by decide) ⟨by decide, by decide⟩ (fun c40 => by exfalso; omega) (fun c40 => ?_)
    refine lv_bipush (v := iI (-2)) hx hb dX3_letters_9 rfl ?_
    exact m_iret C hB hr hlocks rfl dX3_letters_11 ⟨by decide, by decide⟩ ⟨by unfold rLet; rw [if_pos (by omega)], by unfold nLet; rw [if_neg (by omega), if_neg (by omega)]; exact mAg_rfl I F⟩
set_option maxHeartbeats 400000 in
set_option maxRecDepth 100000 in
theorem kX3_price (l : Launch) (E : xE) (o : Nat) (Ad : Nat → Nat) (I : Nat → Int) (F : Nat → Nat → Int) (wh : Int) (v : Int) (hw : rg wh) (hv : rg v) (hOK : mOK I F) : mi_ l E yX3_price cX3_price 4 (some .int) 1 22 [.ref o, .int (iI wh), .int (iI v)] o Ad I F (fun z I' F' => z = rPrice I wh v ∧ mAg (nPrice I wh v) F I' F') := by
  intro w sz hM
  refine x_body (by decide) (Nat.le_of_ble_eq_true rfl) ?_
  intro p e s m args below meth c ls hx hb C hr hlocks _ hsz hB hl
  have C : xC E p s m args c cX3_price 4 RX3 := C
  replace hB : mB E (xA w sz) s o Ad I F s.heap [] := ⟨w, hM, hB⟩
  have hl : lv_has ls 4 [(0, .ref o), (1, .int (iI wh)), (2, .int (iI v))] := hl
  obtain ⟨hw1, hw2⟩ := hw
  obtain ⟨hv1, hv2⟩ := hv
  have hOK0 := hOK
  obtain ⟨⟨hf1, hf2⟩, ⟨hl1, hl2⟩, ⟨hr1, hr2⟩, hlr, ⟨hs1, hs2⟩, ⟨hj1, hj2⟩, ⟨hb1, hb2⟩, ⟨hn1, hn2⟩, hL, hR, hN, hS, hC⟩ := hOK
  refine lv_iload_n hx hb dX3_price_0 rfl (lv_at hl 1 rfl) ?_
  refine lv_iconst (v := iI 0) hx hb dX3_price_1 rfl ?_
  refine lv_iconst (v := iI 2) hx hb dX3_price_2 rfl ?_
  obtain ⟨wq, hMq, hB⟩ := hB
  refine s_calli (n := 3) C hB (As := [.int (iI wh), .int (iI 0), .int (iI 2)]) (kX3_within l E wh 0 2 ⟨by omega, by omega⟩ ⟨by omega, by omega⟩ ⟨by omega, by omega⟩) (lw_S q1498 q1499 q77 q1500) (by decide +kernel) ⟨Nat.le_of_ble_eq_true rfl, Nat.le_of_ble_eq_true rfl⟩ rfl hl.1 rfl (Nat.le_of_ble_eq_true rfl) dX3_price_3 ⟨Nat.zero_le _, Nat.zero_le _⟩ (fun z1 H locs hz2 hp3 hB => ?_)
  replace hB : mB E _ s o Ad I F H locs := ⟨wq, hMq, hB⟩
  obtain ⟨hz2a, hz2b⟩ := hz2
  rcases hp3 with ⟨rfl, h4⟩ | ⟨rfl, h4⟩
  · refine x_if_ne (tgt := 12) hx hb dX3_price_6 (by decide) ⟨by decide, by decide⟩ (fun c5 => ?_) (fun c5 => by exfalso; omega)
    refine lv_aload_n hx hb dX3_price_12 rfl (lv_at hl 0 rfl) ?_
    refine m_get C hB 5 (by decide) q1399 (v := .int (iI (I 5))) rfl rfl dX3_price_13 ?_
    refine x_if_ne (tgt := 22) hx hb dX3_price_16 (by decide) ⟨by omega, by omega⟩ (fun c6 => ?_) (fun c6 => ?_)
    · refine lv_iload_n hx hb dX3_price_22 rfl (lv_at hl 2 rfl) ?_
      refine lv_iconst (v := iI 0) hx hb dX3_price_23 rfl ?_
      refine lv_iload_n hx hb dX3_price_24 rfl (lv_at hl 1 rfl) ?_
      refine lv_iconst (v := iI 2) hx hb dX3_price_25 rfl ?_
      refine x_icmp_ne (tgt := 34) hx hb dX3_price_26 (by decide) ⟨by omega, by omega⟩ ⟨by decide, by decide⟩ (fun c7 => ?_) (fun c7 => ?_)
      · refine lv_bipush (v := iI 9) hx hb dX3_price_34 rfl ?_
        obtain ⟨wq, hMq, hB⟩ := hB
        refine s_calli (n := 3) C hB (As := [.int (iI v), .int (iI 0), .int (iI 9)]) (kX3_within l E v 0 9 ⟨by omega, by omega⟩ ⟨by omega, by omega⟩ ⟨by omega, by omega⟩) (lw_S q1498 q1499 q77 q1500) (by decide +kernel) ⟨Nat.le_of_ble_eq_true rfl, Nat.le_of_ble_eq_true rfl⟩ rfl hl.1 rfl (Nat.le_of_ble_eq_true rfl) dX3_price_36 ⟨Nat.zero_le _, Nat.zero_le _⟩ (fun z8 H locs hz9 hp10 hB => ?_)
        replace hB : mB E _ s o Ad I F H locs := ⟨wq, hMq, hB⟩
        obtain ⟨hz9a, hz9b⟩ := hz9
        rcases hp10 with ⟨rfl, h11⟩ | ⟨rfl, h11⟩
        · refine x_if_ne (tgt := 45) hx hb dX3_price_39 (by decide) ⟨by decide, by decide⟩ (fun c12 => ?_) (fun c12 => by exfalso; omega)
          rcases (show wh = 0 ∨ wh = 1 ∨ wh = 2 by omega) with rfl | rfl | rfl
          · refine lv_iload_n hx hb dX3_price_45 rfl (lv_at hl 1 rfl) ?_
            refine x_if_ne (tgt := 56) hx hb dX3_price_46 (by decide) ⟨by decide, by decide⟩ (fun c13 => by exfalso; omega) (fun c13 => ?_)
            refine lv_aload_n hx hb dX3_price_49 rfl (lv_at hl 0 rfl) ?_
            refine m_get C hB 7 (by decide) q1401 (v := .int (iI (I 7))) rfl rfl dX3_price_50 ?_
            refine lv_goto (tgt := 72) hx hb dX3_price_53 (by decide) ?_
            refine lv_istore_n (lv' := [(3, .int (iI (I 7))), (0, .ref o), (1, .int (iI 0)), (2, .int (iI v))]) hx hb dX3_price_72 rfl hl (by decide) rfl (fun ls hl => ?_)
            refine lv_aload_n hx hb dX3_price_73 rfl (lv_at hl 1 rfl) ?_
            refine lv_iload_n hx hb dX3_price_74 rfl (lv_at hl 2 rfl) ?_
            refine x_if_ne (tgt := 82) hx hb dX3_price_75 (by decide) ⟨by decide, by decide⟩ (fun c14 => by exfalso; omega) (fun c14 => ?_)
            refine lv_iload_n hx hb dX3_price_78 rfl (lv_at hl 3 rfl) ?_
            refine lv_goto (tgt := 86) hx hb dX3_price_79 (by decide) ?_
            refine m_put C hB 7 (by decide) rfl q1401 rfl rfl dX3_price_86 (fun H locs hB => ?_)
            refine lv_aload_n hx hb dX3_price_89 rfl (lv_at hl 1 rfl) ?_
            refine lv_iload_n hx hb dX3_price_90 rfl (lv_at hl 2 rfl) ?_
            refine lv_iconst (v := iI 1) hx hb dX3_price_91 rfl ?_
            refine x_icmp_ne (tgt := 99) hx hb dX3_price_92 (by decide) ⟨by decide, by decide⟩ ⟨by decide, by decide⟩ (fun c15 => ?_) (fun c15 => by exfalso; omega)
            refine lv_aload_n hx hb dX3_price_99 rfl (lv_at hl 1 rfl) ?_
            refine m_get C hB 8 (by decide) q1402 (v := .int (iI (I 8))) rfl rfl dX3_price_100 ?_
            refine m_put C hB 8 (by decide) rfl q1402 rfl rfl dX3_price_103 (fun H locs hB => ?_)
            refine lv_aload_n hx hb dX3_price_106 rfl (lv_at hl 1 rfl) ?_
            refine lv_iload_n hx hb dX3_price_107 rfl (lv_at hl 2 rfl) ?_
            refine lv_iconst (v := iI 2) hx hb dX3_price_108 rfl ?_
            refine x_icmp_ne (tgt := 116) hx hb dX3_price_109 (by decide) ⟨by decide, by decide⟩ ⟨by decide, by decide⟩ (fun c16 => ?_) (fun c16 => by exfalso; omega)
            refine lv_aload_n hx hb dX3_price_116 rfl (lv_at hl 1 rfl) ?_
            refine m_get C hB 9 (by decide) q1403 (v := .int (iI (I 9))) rfl rfl dX3_price_117 ?_
            refine m_put C hB 9 (by decide) rfl q1403 rfl rfl dX3_price_120 (fun H locs hB => ?_)
            refine lv_iload_n hx hb dX3_price_123 rfl (lv_at hl 0 rfl) ?_
            exact m_iret C hB hr hlocks rfl dX3_price_124 ⟨by omega, by omega⟩ ⟨by unfold rPrice; rw [if_neg (by omega), if_neg (by omega), if_neg (by split <;> omega)]; rfl, by unfold nPrice; rw [if_pos ⟨by omega, by omega, by omega, by split <;> omega⟩]; exact ⟨rfl, rfl, rfl, rfl, rfl, rfl, rfl, rfl, fun _ _ => ⟨rfl, rfl, rfl⟩, fun _ _ => ⟨rfl, rfl⟩, fun _ _ => ⟨rfl, rfl⟩, fun _ _ => ⟨rfl, rfl⟩, fun _ _ => rfl⟩⟩
          · refine lv_iload_n hx hb dX3_price_45 rfl (lv_at hl 1 rfl) ?_
            refine x_if_ne (tgt := 56) hx hb dX3_price_46 (by decide) ⟨by decide, by decide⟩ (fun c17 => ?_) (fun c17 => by exfalso; omega)
            refine lv_iload_n hx hb dX3_price_56 rfl (lv_at hl 1 rfl) ?_
            refine lv_iconst (v := iI 1) hx hb dX3_price_57 rfl ?_
            refine x_icmp_ne (tgt := 68) hx hb dX3_price_58 (by decide) ⟨by decide, by decide⟩ ⟨by decide, by decide⟩ (fun c18 => by exfalso; omega) (fun c18 => ?_)
            refine lv_aload_n hx hb dX3_price_61 rfl (lv_at hl 0 rfl) ?_
            refine m_get C hB 8 (by decide) q1402 (v := .int (iI (I 8))) rfl rfl dX3_price_62 ?_
            refine lv_goto (tgt := 72) hx hb dX3_price_65 (by decide) ?_
            refine lv_istore_n (lv' := [(3, .int (iI (I 8))), (0, .ref o), (1, .int (iI 1)), (2, .int (iI v))]) hx hb dX3_price_72 rfl hl (by decide) rfl (fun ls hl => ?_)
            refine lv_aload_n hx hb dX3_price_73 rfl (lv_at hl 1 rfl) ?_
            refine lv_iload_n hx hb dX3_price_74 rfl (lv_at hl 2 rfl) ?_
            refine x_if_ne (tgt := 82) hx hb dX3_price_75 (by decide) ⟨by decide, by decide⟩ (fun c19 => ?_) (fun c19 => by exfalso; omega)
            refine lv_aload_n hx hb dX3_price_82 rfl (lv_at hl 1 rfl) ?_
            refine m_get C hB 7 (by decide) q1401 (v := .int (iI (I 7))) rfl rfl dX3_price_83 ?_
            refine m_put C hB 7 (by decide) rfl q1401 rfl rfl dX3_price_86 (fun H locs hB => ?_)
            refine lv_aload_n hx hb dX3_price_89 rfl (lv_at hl 1 rfl) ?_
            refine lv_iload_n hx hb dX3_price_90 rfl (lv_at hl 2 rfl) ?_
            refine lv_iconst (v := iI 1) hx hb dX3_price_91 rfl ?_
            refine x_icmp_ne (tgt := 99) hx hb dX3_price_92 (by decide) ⟨by decide, by decide⟩ ⟨by decide, by decide⟩ (fun c20 => by exfalso; omega) (fun c20 => ?_)
            refine lv_iload_n hx hb dX3_price_95 rfl (lv_at hl 3 rfl) ?_
            refine lv_goto (tgt := 103) hx hb dX3_price_96 (by decide) ?_
            refine m_put C hB 8 (by decide) rfl q1402 rfl rfl dX3_price_103 (fun H locs hB => ?_)
            refine lv_aload_n hx hb dX3_price_106 rfl (lv_at hl 1 rfl) ?_
            refine lv_iload_n hx hb dX3_price_107 rfl (lv_at hl 2 rfl) ?_
            refine lv_iconst (v := iI 2) hx hb dX3_price_108 rfl ?_
            refine x_icmp_ne (tgt := 116) hx hb dX3_price_109 (by decide) ⟨by decide, by decide⟩ ⟨by decide, by decide⟩ (fun c21 => ?_) (fun c21 => by exfalso; omega)
            refine lv_aload_n hx hb dX3_price_116 rfl (lv_at hl 1 rfl) ?_
            refine m_get C hB 9 (by decide) q1403 (v := .int (iI (I 9))) rfl rfl dX3_price_117 ?_
            refine m_put C hB 9 (by decide) rfl q1403 rfl rfl dX3_price_120 (fun H locs hB => ?_)
            refine lv_iload_n hx hb dX3_price_123 rfl (lv_at hl 0 rfl) ?_
            exact m_iret C hB hr hlocks rfl dX3_price_124 ⟨by omega, by omega⟩ ⟨by unfold rPrice; rw [if_neg (by omega), if_neg (by omega), if_neg (by split <;> omega)]; rfl, by unfold nPrice; rw [if_pos ⟨by omega, by omega, by omega, by split <;> omega⟩]; exact ⟨rfl, rfl, rfl, rfl, rfl, rfl, rfl, rfl, fun _ _ => ⟨rfl, rfl, rfl⟩, fun _ _ => ⟨rfl, rfl⟩, fun _ _ => ⟨rfl, rfl⟩, fun _ _ => ⟨rfl, rfl⟩, fun _ _ => rfl⟩⟩
          · refine lv_iload_n hx hb dX3_price_45 rfl (lv_at hl 1 rfl) ?_
            refine x_if_ne (tgt := 56) hx hb dX3_price_46 (by decide) ⟨by decide, by decide⟩ (fun c22 => ?_) (fun c22 => by exfalso; omega)
            refine lv_iload_n hx hb dX3_price_56 rfl (lv_at hl 1 rfl) ?_
            refine lv_iconst (v := iI 1) hx hb dX3_price_57 rfl ?_
            refine x_icmp_ne (tgt := 68) hx hb dX3_price_58 (by decide) ⟨by decide, by decide⟩ ⟨by decide, by decide⟩ (fun c23 => ?_) (fun c23 => by exfalso; omega)
            refine lv_aload_n hx hb dX3_price_68 rfl (lv_at hl 0 rfl) ?_
            refine m_get C hB 9 (by decide) q1403 (v := .int (iI (I 9))) rfl rfl dX3_price_69 ?_
            refine lv_istore_n (lv' := [(3, .int (iI (I 9))), (0, .ref o), (1, .int (iI 2)), (2, .int (iI v))]) hx hb dX3_price_72 rfl hl (by decide) rfl (fun ls hl => ?_)
            refine lv_aload_n hx hb dX3_price_73 rfl (lv_at hl 1 rfl) ?_
            refine lv_iload_n hx hb dX3_price_74 rfl (lv_at hl 2 rfl) ?_
            refine x_if_ne (tgt := 82) hx hb dX3_price_75 (by decide) ⟨by decide, by decide⟩ (fun c24 => ?_) (fun c24 => by exfalso; omega)
            refine lv_aload_n hx hb dX3_price_82 rfl (lv_at hl 1 rfl) ?_
            refine m_get C hB 7 (by decide) q1401 (v := .int (iI (I 7))) rfl rfl dX3_price_83 ?_
            refine m_put C hB 7 (by decide) rfl q1401 rfl rfl dX3_price_86 (fun H locs hB => ?_)
            refine lv_aload_n hx hb dX3_price_89 rfl (lv_at hl 1 rfl) ?_
            refine lv_iload_n hx hb dX3_price_90 rfl (lv_at hl 2 rfl) ?_
            refine lv_iconst (v := iI 1) hx hb dX3_price_91 rfl ?_
            refine x_icmp_ne (tgt := 99) hx hb dX3_price_92 (by decide) ⟨by decide, by decide⟩ ⟨by decide, by decide⟩ (fun c25 => ?_) (fun c25 => by exfalso; omega)
            refine lv_aload_n hx hb dX3_price_99 rfl (lv_at hl 1 rfl) ?_
            refine m_get C hB 8 (by decide) q1402 (v := .int (iI (I 8))) rfl rfl dX3_price_100 ?_
            refine m_put C hB 8 (by decide) rfl q1402 rfl rfl dX3_price_103 (fun H locs hB => ?_)
            refine lv_aload_n hx hb dX3_price_106 rfl (lv_at hl 1 rfl) ?_
            refine lv_iload_n hx hb dX3_price_107 rfl (lv_at hl 2 rfl) ?_
            refine lv_iconst (v := iI 2) hx hb dX3_price_108 rfl ?_
            refine x_icmp_ne (tgt := 116) hx hb dX3_price_109 (by decide) ⟨by decide, by decide⟩ ⟨by decide, by decide⟩ (fun c26 => by exfalso; omega) (fun c26 => ?_)
            refine lv_iload_n hx hb dX3_price_112 rfl (lv_at hl 3 rfl) ?_
            refine lv_goto (tgt := 120) hx hb dX3_price_113 (by decide) ?_
            refine m_put C hB 9 (by decide) rfl q1403 rfl rfl dX3_price_120 (fun H locs hB => ?_)
            refine lv_iload_n hx hb dX3_price_123 rfl (lv_at hl 0 rfl) ?_
            exact m_iret C hB hr hlocks rfl dX3_price_124 ⟨by omega, by omega⟩ ⟨by unfold rPrice; rw [if_neg (by omega), if_neg (by omega), if_neg (by split <;> omega)]; rfl, by unfold nPrice; rw [if_pos ⟨by omega, by omega, by omega, by split <;> omega⟩]; exact ⟨rfl, rfl, rfl, rfl, rfl, rfl, rfl, rfl, fun _ _ => ⟨rfl, rfl, rfl⟩, fun _ _ => ⟨rfl, rfl⟩, fun _ _ => ⟨rfl, rfl⟩, fun _ _ => ⟨rfl, rfl⟩, fun _ _ => rfl⟩⟩
        · refine x_if_ne (tgt := 45) hx hb dX3_price_39 (by decide) ⟨by decide, by decide⟩ (fun c27 => by exfalso; omega) (fun c27 => ?_)
          refine lv_bipush (v := iI (-2)) hx hb dX3_price_42 rfl ?_
          exact m_iret C hB hr hlocks rfl dX3_price_44 ⟨by decide, by decide⟩ ⟨by unfold rPrice; (repeat' split) <;> omega, by unfold nPrice; rw [if_neg (by intro q; obtain ⟨q1, q2, q3, q4⟩ := q; split at q4 <;> omega)]; exact mAg_rfl I F⟩
      · refine lv_bipush (v := iI 7) hx hb dX3_price_29 rfl ?_
        refine lv_goto (tgt := 36) hx hb dX3_price_31 (by decide) ?_
        obtain ⟨wq, hMq, hB⟩ := hB
        refine s_calli (n := 3) C hB (As := [.int (iI v), .int (iI 0), .int (iI 7)]) (kX3_within l E v 0 7 ⟨by omega, by omega⟩ ⟨by omega, by omega⟩ ⟨by omega, by omega⟩) (lw_S q1498 q1499 q77 q1500) (by decide +kernel) ⟨Nat.le_of_ble_eq_true rfl, Nat.le_of_ble_eq_true rfl⟩ rfl hl.1 rfl (Nat.le_of_ble_eq_true rfl) dX3_price_36 ⟨Nat.zero_le _, Nat.zero_le _⟩ (fun z28 H locs hz29 hp30 hB => ?_)
        replace hB : mB E _ s o Ad I F H locs := ⟨wq, hMq, hB⟩
        obtain ⟨hz29a, hz29b⟩ := hz29
        rcases hp30 with ⟨rfl, h31⟩ | ⟨rfl, h31⟩
        · refine x_if_ne (tgt := 45) hx hb dX3_price_39 (by decide) ⟨by decide, by decide⟩ (fun c32 => ?_) (fun c32 => by exfalso; omega)
          rcases (show wh = 0 ∨ wh = 1 ∨ wh = 2 by omega) with rfl | rfl | rfl
          · refine lv_iload_n hx hb dX3_price_45 rfl (lv_at hl 1 rfl) ?_
            refine x_if_ne (tgt := 56) hx hb dX3_price_46 (by decide) ⟨by decide, by decide⟩ (fun c33 => by exfalso; omega) (fun c33 => ?_)
            refine lv_aload_n hx hb dX3_price_49 rfl (lv_at hl 0 rfl) ?_
            refine m_get C hB 7 (by decide) q1401 (v := .int (iI (I 7))) rfl rfl dX3_price_50 ?_
            refine lv_goto (tgt := 72) hx hb dX3_price_53 (by decide) ?_
            refine lv_istore_n (lv' := [(3, .int (iI (I 7))), (0, .ref o), (1, .int (iI 0)), (2, .int (iI v))]) hx hb dX3_price_72 rfl hl (by decide) rfl (fun ls hl => ?_)
            refine lv_aload_n hx hb dX3_price_73 rfl (lv_at hl 1 rfl) ?_
            refine lv_iload_n hx hb dX3_price_74 rfl (lv_at hl 2 rfl) ?_
            refine x_if_ne (tgt := 82) hx hb dX3_price_75 (by decide) ⟨by decide, by decide⟩ (fun c34 => by exfalso; omega) (fun c34 => ?_)
            refine lv_iload_n hx hb dX3_price_78 rfl (lv_at hl 3 rfl) ?_
            refine lv_goto (tgt := 86) hx hb dX3_price_79 (by decide) ?_
            refine m_put C hB 7 (by decide) rfl q1401 rfl rfl dX3_price_86 (fun H locs hB => ?_)
            refine lv_aload_n hx hb dX3_price_89 rfl (lv_at hl 1 rfl) ?_
            refine lv_iload_n hx hb dX3_price_90 rfl (lv_at hl 2 rfl) ?_
            refine lv_iconst (v := iI 1) hx hb dX3_price_91 rfl ?_
            refine x_icmp_ne (tgt := 99) hx hb dX3_price_92 (by decide) ⟨by decide, by decide⟩ ⟨by decide, by decide⟩ (fun c35 => ?_) (fun c35 => by exfalso; omega)
            refine lv_aload_n hx hb dX3_price_99 rfl (lv_at hl 1 rfl) ?_
            refine m_get C hB 8 (by decide) q1402 (v := .int (iI (I 8))) rfl rfl dX3_price_100 ?_
            refine m_put C hB 8 (by decide) rfl q1402 rfl rfl dX3_price_103 (fun H locs hB => ?_)
            refine lv_aload_n hx hb dX3_price_106 rfl (lv_at hl 1 rfl) ?_
            refine lv_iload_n hx hb dX3_price_107 rfl (lv_at hl 2 rfl) ?_
            refine lv_iconst (v := iI 2) hx hb dX3_price_108 rfl ?_
            refine x_icmp_ne (tgt := 116) hx hb dX3_price_109 (by decide) ⟨by decide, by decide⟩ ⟨by decide, by decide⟩ (fun c36 => ?_) (fun c36 => by exfalso; omega)
            refine lv_aload_n hx hb dX3_price_116 rfl (lv_at hl 1 rfl) ?_
            refine m_get C hB 9 (by decide) q1403 (v := .int (iI (I 9))) rfl rfl dX3_price_117 ?_
            refine m_put C hB 9 (by decide) rfl q1403 rfl rfl dX3_price_120 (fun H locs hB => ?_)
            refine lv_iload_n hx hb dX3_price_123 rfl (lv_at hl 0 rfl) ?_
            exact m_iret C hB hr hlocks rfl dX3_price_124 ⟨by omega, by omega⟩ ⟨by unfold rPrice; rw [if_neg (by omega), if_neg (by omega), if_neg (by split <;> omega)]; rfl, by unfold nPrice; rw [if_pos ⟨by omega, by omega, by omega, by split <;> omega⟩]; exact ⟨rfl, rfl, rfl, rfl, rfl, rfl, rfl, rfl, fun _ _ => ⟨rfl, rfl, rfl⟩, fun _ _ => ⟨rfl, rfl⟩, fun _ _ => ⟨rfl, rfl⟩, fun _ _ => ⟨rfl, rfl⟩, fun _ _ => rfl⟩⟩
          · refine lv_iload_n hx hb dX3_price_45 rfl (lv_at hl 1 rfl) ?_
            refine x_if_ne (tgt := 56) hx hb dX3_price_46 (by decide) ⟨by decide, by decide⟩ (fun c37 => ?_) (fun c37 => by exfalso; omega)
            refine lv_iload_n hx hb dX3_price_56 rfl (lv_at hl 1 rfl) ?_
            refine lv_iconst (v := iI 1) hx hb dX3_price_57 rfl ?_
            refine x_icmp_ne (tgt := 68) hx hb dX3_price_58 (by decide) ⟨by decide, by decide⟩ ⟨by decide, by decide⟩ (fun c38 => by exfalso; omega) (fun c38 => ?_)
            refine lv_aload_n hx hb dX3_price_61 rfl (lv_at hl 0 rfl) ?_
            refine m_get C hB 8 (by decide) q1402 (v := .int (iI (I 8))) rfl rfl dX3_price_62 ?_
            refine lv_goto (tgt := 72) hx hb dX3_price_65 (by decide) ?_
            refine lv_istore_n (lv' := [(3, .int (iI (I 8))), (0, .ref o), (1, .int (iI 1)), (2, .int (iI v))]) hx hb dX3_price_72 rfl hl (by decide) rfl (fun ls hl => ?_)
            refine lv_aload_n hx hb dX3_price_73 rfl (lv_at hl 1 rfl) ?_
            refine lv_iload_n hx hb dX3_price_74 rfl (lv_at hl 2 rfl) ?_
            refine x_if_ne (tgt := 82) hx hb dX3_price_75 (by decide) ⟨by decide, by decide⟩ (fun c39 => ?_) (fun c39 => by exfalso; omega)
            refine lv_aload_n hx hb dX3_price_82 rfl (lv_at hl 1 rfl) ?_
            refine m_get C hB 7 (by decide) q1401 (v := .int (iI (I 7))) rfl rfl dX3_price_83 ?_
            refine m_put C hB 7 (by decide) rfl q1401 rfl rfl dX3_price_86 (fun H locs hB => ?_)
            refine lv_aload_n hx hb dX3_price_89 rfl (lv_at hl 1 rfl) ?_
            refine lv_iload_n hx hb dX3_price_90 rfl (lv_at hl 2 rfl) ?_
            refine lv_iconst (v := iI 1) hx hb dX3_price_91 rfl ?_
            refine x_icmp_ne (tgt := 99) hx hb dX3_price_92 (by decide) ⟨by decide, by decide⟩ ⟨by decide, by decide⟩ (fun c40 => by exfalso; omega) (fun c40 => ?_)
            refine lv_iload_n hx hb dX3_price_95 rfl (lv_at hl 3 rfl) ?_
            refine lv_goto (tgt := 103) hx hb dX3_price_96 (by decide) ?_
            refine m_put C hB 8 (by decide) rfl q1402 rfl rfl dX3_price_103 (fun H locs hB => ?_)
            refine lv_aload_n hx hb dX3_price_106 rfl (lv_at hl 1 rfl) ?_
            refine lv_iload_n hx hb dX3_price_107 rfl (lv_at hl 2 rfl) ?_
            refine lv_iconst (v := iI 2) hx hb dX3_price_108 rfl ?_
            refine x_icmp_ne (tgt := 116) hx hb dX3_price_109 (by decide) ⟨by decide, by decide⟩ ⟨by decide, by decide⟩ (fun c41 => ?_) (fun c41 => by exfalso; omega)
            refine lv_aload_n hx hb dX3_price_116 rfl (lv_at hl 1 rfl) ?_
            refine m_get C hB 9 (by decide) q1403 (v := .int (iI (I 9))) rfl rfl dX3_price_117 ?_
            refine m_put C hB 9 (by decide) rfl q1403 rfl rfl dX3_price_120 (fun H locs hB => ?_)
            refine lv_iload_n hx hb dX3_price_123 rfl (lv_at hl 0 rfl) ?_
            exact m_iret C hB hr hlocks rfl dX3_price_124 ⟨by omega, by omega⟩ ⟨by unfold rPrice; rw [if_neg (by omega), if_neg (by omega), if_neg (by split <;> omega)]; rfl, by unfold nPrice; rw [if_pos ⟨by omega, by omega, by omega, by split <;> omega⟩]; exact ⟨rfl, rfl, rfl, rfl, rfl, rfl, rfl, rfl, fun _ _ => ⟨rfl, rfl, rfl⟩, fun _ _ => ⟨rfl, rfl⟩, fun _ _ => ⟨rfl, rfl⟩, fun _ _ => ⟨rfl, rfl⟩, fun _ _ => rfl⟩⟩
          · refine lv_iload_n hx hb dX3_price_45 rfl (lv_at hl 1 rfl) ?_
            refine x_if_ne (tgt := 56) hx hb dX3_price_46 (by decide) ⟨by decide, by decide⟩ (fun c42 => ?_) (fun c42 => by exfalso; omega)
            refine lv_iload_n hx hb dX3_price_56 rfl (lv_at hl 1 rfl) ?_
            refine lv_iconst (v := iI 1) hx hb dX3_price_57 rfl ?_
            refine x_icmp_ne (tgt := 68) hx hb dX3_price_58 (by decide) ⟨by decide, by decide⟩ ⟨by decide, by decide⟩ (fun c43 => ?_) (fun c43 => by exfalso; omega)
            refine lv_aload_n hx hb dX3_price_68 rfl (lv_at hl 0 rfl) ?_
            refine m_get C hB 9 (by decide) q1403 (v := .int (iI (I 9))) rfl rfl dX3_price_69 ?_
            refine lv_istore_n (lv' := [(3, .int (iI (I 9))), (0, .ref o), (1, .int (iI 2)), (2, .int (iI v))]) hx hb dX3_price_72 rfl hl (by decide) rfl (fun ls hl => ?_)
            refine lv_aload_n hx hb dX3_price_73 rfl (lv_at hl 1 rfl) ?_
            refine lv_iload_n hx hb dX3_price_74 rfl (lv_at hl 2 rfl) ?_
            refine x_if_ne (tgt := 82) hx hb dX3_price_75 (by decide) ⟨by decide, by decide⟩ (fun c44 => ?_) (fun c44 => by exfalso; omega)
            refine lv_aload_n hx hb dX3_price_82 rfl (lv_at hl 1 rfl) ?_
            refine m_get C hB 7 (by decide) q1401 (v := .int (iI (I 7))) rfl rfl dX3_price_83 ?_
            refine m_put C hB 7 (by decide) rfl q1401 rfl rfl dX3_price_86 (fun H locs hB => ?_)
            refine lv_aload_n hx hb dX3_price_89 rfl (lv_at hl 1 rfl) ?_
            refine lv_iload_n hx hb dX3_price_90 rfl (lv_at hl 2 rfl) ?_
            refine lv_iconst (v := iI 1) hx hb dX3_price_91 rfl ?_
            refine x_icmp_ne (tgt := 99) hx hb dX3_price_92 (by decide) ⟨by decide, by decide⟩ ⟨by decide, by decide⟩ (fun c45 => ?_) (fun c45 => by exfalso; omega)
            refine lv_aload_n hx hb dX3_price_99 rfl (lv_at hl 1 rfl) ?_
            refine m_get C hB 8 (by decide) q1402 (v := .int (iI (I 8))) rfl rfl dX3_price_100 ?_
            refine m_put C hB 8 (by decide) rfl q1402 rfl rfl dX3_price_103 (fun H locs hB => ?_)
            refine lv_aload_n hx hb dX3_price_106 rfl (lv_at hl 1 rfl) ?_
            refine lv_iload_n hx hb dX3_price_107 rfl (lv_at hl 2 rfl) ?_
            refine lv_iconst (v := iI 2) hx hb dX3_price_108 rfl ?_
            refine x_icmp_ne (tgt := 116) hx hb dX3_price_109 (by decide) ⟨by decide, by decide⟩ ⟨by decide, by decide⟩ (fun c46 => by exfalso; omega) (fun c46 => ?_)
            refine lv_iload_n hx hb dX3_price_112 rfl (lv_at hl 3 rfl) ?_
            refine lv_goto (tgt := 120) hx hb dX3_price_113 (by decide) ?_
            refine m_put C hB 9 (by decide) rfl q1403 rfl rfl dX3_price_120 (fun H locs hB => ?_)
            refine lv_iload_n hx hb dX3_price_123 rfl (lv_at hl 0 rfl) ?_
            exact m_iret C hB hr hlocks rfl dX3_price_124 ⟨by omega, by omega⟩ ⟨by unfold rPrice; rw [if_neg (by omega), if_neg (by omega), if_neg (by split <;> omega)]; rfl, by unfold nPrice; rw [if_pos ⟨by omega, by omega, by omega, by split <;> omega⟩]; exact ⟨rfl, rfl, rfl, rfl, rfl, rfl, rfl, rfl, fun _ _ => ⟨rfl, rfl, rfl⟩, fun _ _ => ⟨rfl, rfl⟩, fun _ _ => ⟨rfl, rfl⟩, fun _ _ => ⟨rfl, rfl⟩, fun _ _ => rfl⟩⟩
        · refine x_if_ne (tgt := 45) hx hb dX3_price_39 (by decide) ⟨by decide, by decide⟩ (fun c47 => by exfalso; omega) (fun c47 => ?_)
          refine lv_bipush (v := iI (-2)) hx hb dX3_price_42 rfl ?_
          exact m_iret C hB hr hlocks rfl dX3_price_44 ⟨by decide, by decide⟩ ⟨by unfold rPrice; (repeat' split) <;> omega, by unfold nPrice; rw [if_neg (by intro q; obtain ⟨q1, q2, q3, q4⟩ := q; split at q4 <;> omega)]; exact mAg_rfl I F⟩
    · refine lv_bipush (v := iI (-3)) hx hb dX3_price_19 rfl ?_
      exact m_iret C hB hr hlocks rfl dX3_price_21 ⟨by decide, by decide⟩ ⟨by unfold rPrice; (repeat' split) <;> omega, by unfold nPrice; rw [if_neg (by intro q; obtain ⟨q1, q2, q3, q4⟩ := q; split at q4 <;> omega)]; exact mAg_rfl I F⟩
  · refine x_if_ne (tgt := 12) hx hb dX3_price_6 (by decide) ⟨by decide, by decide⟩ (fun c48 => by exfalso; omega) (fun c48 => ?_)
    refine lv_bipush (v := iI (-2)) hx hb dX3_price_9 rfl ?_
    exact m_iret C hB hr hlocks rfl dX3_price_11 ⟨by decide, by decide⟩ ⟨by unfold rPrice; (repeat' split) <;> omega, by unfold nPrice; rw [if_neg (by intro q; obtain ⟨q1, q2, q3, q4⟩ := q; split at q4 <;> omega)]; exact mAg_rfl I F⟩
set_option maxHeartbeats 400000 in
set_option maxRecDepth 100000 in
theorem kX3_by (l : Launch) (E : xE) (o : Nat) (Ad : Nat → Nat) (I : Nat → Int) (F : Nat → Nat → Int) (wd : Int) (hw : rg wd) (hOK : mOK I F) : mi_ l E yX3_by cX3_by 2 (some .int) 4 100 [.ref o, .int (iI wd)] o Ad I F (fun z I' F' => z = rByO I F wd ∧ mAg I F I' F') := by
  intro w sz hM
  refine x_body (by decide) (Nat.le_of_ble_eq_true rfl) ?_
  intro p e s m args below meth c ls hx hb C hr hlocks _ hsz hB hl
  have C : xC E p s m args c cX3_by 2 RX3 := C
  replace hB : mB E (xA w sz) s o Ad I F s.heap [] := ⟨w, hM, hB⟩
  have hl : lv_has ls 2 [(0, .ref o), (1, .int (iI wd))] := hl
  obtain ⟨hw1, hw2⟩ := hw
  have hOK0 := hOK
  obtain ⟨⟨hf1, hf2⟩, ⟨hl1, hl2⟩, ⟨hr1, hr2⟩, hlr, ⟨hs1, hs2⟩, ⟨hj1, hj2⟩, ⟨hb1, hb2⟩, ⟨hn1, hn2⟩, hL, hR, hN, hS, hC⟩ := hOK
  rw [← up3_id F] at hB
  refine lv_iload_n hx hb dX3_by_0 rfl (lv_at hl 1 rfl) ?_
  refine lv_iconst (v := iI 0) hx hb dX3_by_1 rfl ?_
  refine lv_bipush (v := iI 7) hx hb dX3_by_2 rfl ?_
  obtain ⟨wq, hMq, hB⟩ := hB
  refine s_calli (n := 3) C hB (As := [.int (iI wd), .int (iI 0), .int (iI 7)]) (kX3_within l E wd 0 7 ⟨by omega, by omega⟩ ⟨by omega, by omega⟩ ⟨by omega, by omega⟩) (lw_S q1498 q1499 q77 q1500) (by decide +kernel) ⟨Nat.le_of_ble_eq_true rfl, Nat.le_of_ble_eq_true rfl⟩ rfl hl.1 rfl (Nat.le_of_ble_eq_true rfl) dX3_by_4 ⟨Nat.zero_le _, Nat.zero_le _⟩ (fun z1 H locs hz2 hp3 hB => ?_)
  replace hB : mB E _ s o Ad I (up3 F (F 21) (F 22) (F 23)) H locs := ⟨wq, hMq, hB⟩
  obtain ⟨hz2a, hz2b⟩ := hz2
  rcases hp3 with ⟨rfl, h4⟩ | ⟨rfl, h4⟩
  · refine x_if_ne (tgt := 13) hx hb dX3_by_7 (by decide) ⟨by decide, by decide⟩ (fun c5 => ?_) (fun c5 => by exfalso; omega)
    refine lv_aload_n hx hb dX3_by_13 rfl (lv_at hl 0 rfl) ?_
    refine m_get C hB 5 (by decide) q1399 (v := .int (iI (I 5))) rfl rfl dX3_by_14 ?_
    refine x_if_ne (tgt := 25) hx hb dX3_by_17 (by decide) ⟨by omega, by omega⟩ (fun c6 => ?_) (fun c6 => ?_)
    · refine lv_aload_n hx hb dX3_by_25 rfl (lv_at hl 0 rfl) ?_
      refine lv_iload_n hx hb dX3_by_26 rfl (lv_at hl 1 rfl) ?_
      refine m_calli (n := 1) C hB (As := [.int (iI wd)]) (kX3_findAll l E o Ad I F (F 21) (F 22) (F 23) wd (by omega) hOK0) (lw_V q1544 q1546 qs49 q77 q1547) (by decide +kernel) ⟨Nat.le_of_ble_eq_true rfl, Nat.le_of_ble_eq_true rfl⟩ rfl hl.1 rfl (Nat.le_of_ble_eq_true rfl) dX3_by_27 ⟨Nat.zero_le _, Nat.zero_le _⟩ (fun z7 I8 F9 H locs hz10 hp11 hB => ?_)
      obtain ⟨hz10a, hz10b⟩ := hz10
      obtain ⟨rfl, g12, g13, g14, rfl, ht15, hv16⟩ := hp11
      have hrb : z7 = rBy I F wd := hv16
      exact m_iret C hB hr hlocks rfl dX3_by_30 ⟨by omega, by omega⟩ ⟨by unfold rByO; (repeat' split) <;> omega, mAg_up3 _ _ _ _ _⟩
    · refine lv_bipush (v := iI (-3)) hx hb dX3_by_20 rfl ?_
      refine lv_goto (tgt := 30) hx hb dX3_by_22 (by decide) ?_
      exact m_iret C hB hr hlocks rfl dX3_by_30 ⟨by decide, by decide⟩ ⟨by unfold rByO; (repeat' split) <;> omega, mAg_up3 _ _ _ _ _⟩
  · refine x_if_ne (tgt := 13) hx hb dX3_by_7 (by decide) ⟨by decide, by decide⟩ (fun c17 => by exfalso; omega) (fun c17 => ?_)
    refine lv_bipush (v := iI (-2)) hx hb dX3_by_10 rfl ?_
    exact m_iret C hB hr hlocks rfl dX3_by_12 ⟨by decide, by decide⟩ ⟨by unfold rByO; (repeat' split) <;> omega, mAg_up3 _ _ _ _ _⟩
set_option maxHeartbeats 400000 in
set_option maxRecDepth 100000 in
theorem kX3_enough (l : Launch) (E : xE) (o : Nat) (Ad : Nat → Nat) (I : Nat → Int) (F : Nat → Nat → Int) (hOK : mOK I F) : mi_ l E yX3_enough cX3_enough 3 (some .int) 4 100 [.ref o] o Ad I F (fun z I' F' => z = rEnough I F ∧ mAg I F I' F') := by
  intro w sz hM
  refine x_body (by decide) (Nat.le_of_ble_eq_true rfl) ?_
  intro p e s m args below meth c ls hx hb C hr hlocks _ hsz hB hl
  have C : xC E p s m args c cX3_enough 3 RX3 := C
  replace hB : mB E (xA w sz) s o Ad I F s.heap [] := ⟨w, hM, hB⟩
  have hl : lv_has ls 3 [(0, .ref o)] := hl
  have hOK0 := hOK
  obtain ⟨⟨hf1, hf2⟩, ⟨hl1, hl2⟩, ⟨hr1, hr2⟩, hlr, ⟨hs1, hs2⟩, ⟨hj1, hj2⟩, ⟨hb1, hb2⟩, ⟨hn1, hn2⟩, hL, hR, hN, hS, hC⟩ := hOK
  rw [← up3_id F] at hB
  refine lv_aload_n hx hb dX3_enough_0 rfl (lv_at hl 0 rfl) ?_
  refine m_get C hB 5 (by decide) q1399 (v := .int (iI (I 5))) rfl rfl dX3_enough_1 ?_
  refine x_if_ne (tgt := 10) hx hb dX3_enough_4 (by decide) ⟨by omega, by omega⟩ (fun c1 => ?_) (fun c1 => ?_)
  · refine lv_aload_n hx hb dX3_enough_10 rfl (lv_at hl 0 rfl) ?_
    refine lv_bipush (v := iI 7) hx hb dX3_enough_11 rfl ?_
    refine m_calli (n := 1) C hB (As := [.int (iI 7)]) (kX3_findAll l E o Ad I F (F 21) (F 22) (F 23) 7 (by omega) hOK0) (lw_V q1544 q1546 qs49 q77 q1547) (by decide +kernel) ⟨Nat.le_of_ble_eq_true rfl, Nat.le_of_ble_eq_true rfl⟩ rfl hl.1 rfl (Nat.le_of_ble_eq_true rfl) dX3_enough_13 ⟨Nat.zero_le _, Nat.zero_le _⟩ (fun z2 I3 F4 H locs hz5 hp6 hB => ?_)
    obtain ⟨hz5a, hz5b⟩ := hz5
    obtain ⟨rfl, g7, g8, g9, rfl, ht10, hv11⟩ := hp6
    have hrb : z2 = rBy I F 7 := hv11
    replace hrb : rBy I F 7 = z2 := hrb.symm
    refine lv_istore_n (lv' := [(1, .int (iI z2)), (0, .ref o)]) hx hb dX3_enough_16 rfl hl (by decide) rfl (fun ls hl => ?_)
    refine lv_iconst (v := iI 0) hx hb dX3_enough_17 rfl ?_
    refine lv_istore_n (lv' := [(2, .int (iI 0)), (1, .int (iI z2)), (0, .ref o)]) hx hb dX3_enough_18 rfl hl (by decide) rfl (fun ls hl => ?_)
    refine w_loop (fun n15 H locs ls => ∃ (w_ : Nat) (g1 : Nat → Int) (g2 : Nat → Int) (g3 : Nat → Int), n15 = 7 - w_ ∧ (w_ ≤ 7) ∧ (enF I F 7 0 = enF I F (7 - w_) w_) ∧ mB E (xA w sz) s o Ad I (up3 F g1 g2 g3) H locs ∧ lv_has ls 3 [(0, .ref o), (1, .int (iI z2)), (2, .int (iI ((w_ : Int))))]) _ ⟨0, _, _, _, rfl, by omega, rfl, hB, lv_sub hl [2, 1, 0] rfl⟩ ?_
    intro n15 H locs ls hI14 ih12
    obtain ⟨w_, g1, g2, g3, hn13, hw7, hen, hB, hl⟩ := hI14
    refine lv_aload_n hx hb dX3_enough_19 rfl (lv_at hl 0 rfl) ?_
    refine lv_iload_n hx hb dX3_enough_20 rfl (lv_at hl 2 rfl) ?_
    refine m_calli (n := 1) C hB (As := [.int (iI ((w_ : Int)))]) (kX3_findAll l E o Ad I F g1 g2 g3 ((w_ : Int)) (by omega) hOK0) (lw_V q1544 q1546 qs49 q77 q1547) (by decide +kernel) ⟨Nat.le_of_ble_eq_true rfl, Nat.le_of_ble_eq_true rfl⟩ rfl hl.1 rfl (Nat.le_of_ble_eq_true rfl) dX3_enough_21 ⟨Nat.zero_le _, Nat.zero_le _⟩ (fun z16 I17 F18 H locs hz19 hp20 hB => ?_)
    obtain ⟨hz19a, hz19b⟩ := hz19
    obtain ⟨rfl, g21, g22, g23, rfl, ht24, hv25⟩ := hp20
    have hrw : z16 = rBy I F (w_ : Int) := hv25
    have hw6 : rBy I F (w_ : Int) ≠ rBy I F 7 → w_ < 7 := by
      intro q
      by_cases e : w_ = 7
      · subst e; exact absurd rfl q
      · omega
    have hstep : rBy I F (w_ : Int) ≠ rBy I F 7 → enF I F (7 - w_) w_ = enF I F (7 - (w_ + 1)) (w_ + 1) := by
      intro q
      have := hw6 q
      rw [show 7 - w_ = (7 - (w_ + 1)) + 1 by omega, show enF I F (7 - (w_ + 1) + 1) w_ = if rBy I F (w_ : Int) = rBy I F 7 then w_ else enF I F (7 - (w_ + 1)) (w_ + 1) from rfl, if_neg q]
    have hstop : rBy I F (w_ : Int) = rBy I F 7 → enF I F (7 - w_) w_ = w_ := by
      intro q
      by_cases e : w_ = 7
      · subst e; rfl
      · rw [show 7 - w_ = (7 - (w_ + 1)) + 1 by omega, show enF I F (7 - (w_ + 1) + 1) w_ = if rBy I F (w_ : Int) = rBy I F 7 then w_ else enF I F (7 - (w_ + 1)) (w_ + 1) from rfl, if_pos q]
    refine lv_iload_n hx hb dX3_enough_24 rfl (lv_at hl 1 rfl) ?_
    refine x_icmp_eq (tgt := 34) hx hb dX3_enough_25 (by decide) ⟨by omega, by omega⟩ ⟨by omega, by omega⟩ (fun c26 => ?_) (fun c26 => ?_)
    · refine lv_iload_n hx hb dX3_enough_34 rfl (lv_at hl 2 rfl) ?_
      exact m_iret C hB hr hlocks rfl dX3_enough_35 ⟨by omega, by omega⟩ ⟨by unfold rEnough; rw [if_neg (by omega), hen, hstop (by omega)], mAg_up3 _ _ _ _ _⟩
    · refine lv_iinc (v := iI ((w_ : Int) + 1)) (lv' := [(2, .int (iI ((w_ : Int) + 1))), (0, .ref o), (1, .int (iI z2))]) hx hb dX3_enough_28 hl (k := 2) rfl (iI_add _ _) (by decide) rfl (fun ls hl => ?_)
      refine lv_goto (tgt := 19) hx hb dX3_enough_31 (by decide) ?_
      exact ih12 _ _ _ _ (by omega) ⟨w_ + 1, _, _, _, rfl, by omega, by rw [hen]; exact hstep (by omega), hB, lv_sub hl [1, 2, 0] rfl⟩
  · refine lv_bipush (v := iI (-3)) hx hb dX3_enough_7 rfl ?_
    exact m_iret C hB hr hlocks rfl dX3_enough_9 ⟨by decide, by decide⟩ ⟨by unfold rEnough; rw [if_pos (by omega)], mAg_up3 _ _ _ _ _⟩
set_option maxHeartbeats 400000 in
set_option maxRecDepth 100000 in
theorem kX3_reading (l : Launch) (E : xE) (o : Nat) (Ad : Nat → Nat) (I : Nat → Int) (F : Nat → Nat → Int) (wd : Int) (cv : Int) (hw : rg wd) (hcv : rg cv) (hOK : mOK I F) : mi_ l E yX3_reading cX3_reading 3 (some .int) 1 22 [.ref o, .int (iI wd), .int (iI cv)] o Ad I F (fun z I' F' => z = rRead I wd cv ∧ mAg (nReadI I wd cv) (nReadF I F wd cv) I' F') := by
  intro w sz hM
  refine x_body (by decide) (Nat.le_of_ble_eq_true rfl) ?_
  intro p e s m args below meth c ls hx hb C hr hlocks _ hsz hB hl
  have C : xC E p s m args c cX3_reading 3 RX3 := C
  replace hB : mB E (xA w sz) s o Ad I F s.heap [] := ⟨w, hM, hB⟩
  have hl : lv_has ls 3 [(0, .ref o), (1, .int (iI wd)), (2, .int (iI cv))] := hl
  obtain ⟨hw1, hw2⟩ := hw
  obtain ⟨hcv1, hcv2⟩ := hcv
  have hOK0 := hOK
  obtain ⟨⟨hf1, hf2⟩, ⟨hl1, hl2⟩, ⟨hr1, hr2⟩, hlr, ⟨hs1, hs2⟩, ⟨hj1, hj2⟩, ⟨hb1, hb2⟩, ⟨hn1, hn2⟩, hL, hR, hN, hS, hC⟩ := hOK
  refine lv_aload_n hx hb dX3_reading_0 rfl (lv_at hl 0 rfl) ?_
  refine m_get C hB 5 (by decide) q1399 (v := .int (iI (I 5))) rfl rfl dX3_reading_1 ?_
  refine x_if_ne (tgt := 10) hx hb dX3_reading_4 (by decide) ⟨by omega, by omega⟩ (fun c1 => ?_) (fun c1 => ?_)
  · refine lv_iload_n hx hb dX3_reading_10 rfl (lv_at hl 1 rfl) ?_
    refine lv_iconst (v := iI 0) hx hb dX3_reading_11 rfl ?_
    refine lv_bipush (v := iI 7) hx hb dX3_reading_12 rfl ?_
    obtain ⟨wq, hMq, hB⟩ := hB
    refine s_calli (n := 3) C hB (As := [.int (iI wd), .int (iI 0), .int (iI 7)]) (kX3_within l E wd 0 7 ⟨by omega, by omega⟩ ⟨by omega, by omega⟩ ⟨by omega, by omega⟩) (lw_S q1498 q1499 q77 q1500) (by decide +kernel) ⟨Nat.le_of_ble_eq_true rfl, Nat.le_of_ble_eq_true rfl⟩ rfl hl.1 rfl (Nat.le_of_ble_eq_true rfl) dX3_reading_14 ⟨Nat.zero_le _, Nat.zero_le _⟩ (fun z2 H locs hz3 hp4 hB => ?_)
    replace hB : mB E _ s o Ad I F H locs := ⟨wq, hMq, hB⟩
    obtain ⟨hz3a, hz3b⟩ := hz3
    rcases hp4 with ⟨rfl, h5⟩ | ⟨rfl, h5⟩
    · refine x_if_eq (tgt := 37) hx hb dX3_reading_17 (by decide) ⟨by decide, by decide⟩ (fun c6 => by exfalso; omega) (fun c6 => ?_)
      refine lv_iload_n hx hb dX3_reading_20 rfl (lv_at hl 2 rfl) ?_
      refine lv_bipush (v := iI (-9)) hx hb dX3_reading_21 rfl ?_
      refine x_icmp_eq (tgt := 40) hx hb dX3_reading_23 (by decide) ⟨by omega, by omega⟩ ⟨by decide, by decide⟩ (fun c7 => ?_) (fun c7 => ?_)
      · refine lv_aload_n hx hb dX3_reading_40 rfl (lv_at hl 0 rfl) ?_
        refine m_get C hB 29 (by decide) q1423 (v := .int (iI (I 29))) rfl rfl dX3_reading_41 ?_
        refine lv_bipush (v := iI 8) hx hb dX3_reading_44 rfl ?_
        refine x_icmp_ne (tgt := 52) hx hb dX3_reading_46 (by decide) ⟨by omega, by omega⟩ ⟨by decide, by decide⟩ (fun c8 => ?_) (fun c8 => ?_)
        · refine lv_aload_n hx hb dX3_reading_52 rfl (lv_at hl 0 rfl) ?_
          refine m_get C hB 30 (by decide) q1424 (v := .ref (Ad 30)) rfl rfl dX3_reading_53 ?_
          refine lv_aload_n hx hb dX3_reading_56 rfl (lv_at hl 0 rfl) ?_
          refine m_get C hB 29 (by decide) q1423 (v := .int (iI (I 29))) rfl rfl dX3_reading_57 ?_
          refine lv_iload_n hx hb dX3_reading_60 rfl (lv_at hl 1 rfl) ?_
          refine m_ast C hB 30 8 rfl (f := F 30) (I 29).toNat (by omega) (by omega) rfl dX3_reading_61 (fun H locs hB => ?_)
          refine lv_aload_n hx hb dX3_reading_62 rfl (lv_at hl 0 rfl) ?_
          refine m_get C hB 31 (by decide) q1425 (v := .ref (Ad 31)) rfl rfl dX3_reading_63 ?_
          refine lv_aload_n hx hb dX3_reading_66 rfl (lv_at hl 0 rfl) ?_
          refine m_get C hB 29 (by decide) q1423 (v := .int (iI (I 29))) rfl rfl dX3_reading_67 ?_
          refine lv_iload_n hx hb dX3_reading_70 rfl (lv_at hl 2 rfl) ?_
          refine m_ast C hB 31 8 rfl (f := F 31) (I 29).toNat (by omega) (by omega) rfl dX3_reading_71 (fun H locs hB => ?_)
          refine lv_aload_n hx hb dX3_reading_72 rfl (lv_at hl 0 rfl) ?_
          refine lv_dup hx hb dX3_reading_73 rfl ?_
          refine m_get C hB 29 (by decide) q1423 (v := .int (iI (I 29))) rfl rfl dX3_reading_74 ?_
          refine lv_iconst (v := iI 1) hx hb dX3_reading_77 rfl ?_
          refine x_iadd (z := I 29 + 1) hx hb dX3_reading_78 (by omega) ?_
          refine m_put C hB 29 (by decide) rfl q1423 rfl rfl dX3_reading_79 (fun H locs hB => ?_)
          refine lv_aload_n hx hb dX3_reading_82 rfl (lv_at hl 0 rfl) ?_
          refine m_get C hB 29 (by decide) q1423 (v := .int (iI (I 29 + 1))) rfl rfl dX3_reading_83 ?_
          refine lv_iconst (v := iI 1) hx hb dX3_reading_86 rfl ?_
          refine x_isub (z := I 29) hx hb dX3_reading_87 (by omega) ?_
          exact m_iret C hB hr hlocks rfl dX3_reading_88 ⟨by omega, by omega⟩ ⟨by unfold rRead; (repeat' split) <;> omega, by unfold nReadI nReadF; have : 0 ≤ rRead I wd cv := by { unfold rRead; (repeat' split) <;> omega }; rw [if_pos this, if_pos this]; exact ⟨rfl, rfl, rfl, rfl, rfl, rfl, rfl, rfl, fun _ _ => ⟨rfl, rfl, rfl⟩, fun _ _ => ⟨rfl, rfl⟩, fun _ _ => ⟨rfl, rfl⟩, fun _ _ => ⟨rfl, rfl⟩, fun _ _ => rfl⟩⟩
        · refine lv_bipush (v := iI (-4)) hx hb dX3_reading_49 rfl ?_
          exact m_iret C hB hr hlocks rfl dX3_reading_51 ⟨by decide, by decide⟩ ⟨by unfold rRead; (repeat' split) <;> omega, by unfold nReadI nReadF; have : ¬ 0 ≤ rRead I wd cv := by { unfold rRead; (repeat' split) <;> omega }; rw [if_neg this, if_neg this]; exact mAg_rfl I F⟩
      · refine lv_iload_n hx hb dX3_reading_26 rfl (lv_at hl 2 rfl) ?_
        refine lv_iconst (v := iI 0) hx hb dX3_reading_27 rfl ?_
        refine lv_sipush (v := iI 500) hx hb dX3_reading_28 rfl ?_
        obtain ⟨wq, hMq, hB⟩ := hB
        refine s_calli (n := 3) C hB (As := [.int (iI cv), .int (iI 0), .int (iI 500)]) (kX3_within l E cv 0 500 ⟨by omega, by omega⟩ ⟨by omega, by omega⟩ ⟨by omega, by omega⟩) (lw_S q1498 q1499 q77 q1500) (by decide +kernel) ⟨Nat.le_of_ble_eq_true rfl, Nat.le_of_ble_eq_true rfl⟩ rfl hl.1 rfl (Nat.le_of_ble_eq_true rfl) dX3_reading_31 ⟨Nat.zero_le _, Nat.zero_le _⟩ (fun z9 H locs hz10 hp11 hB => ?_)
        replace hB : mB E _ s o Ad I F H locs := ⟨wq, hMq, hB⟩
        obtain ⟨hz10a, hz10b⟩ := hz10
        rcases hp11 with ⟨rfl, h12⟩ | ⟨rfl, h12⟩
        · refine x_if_ne (tgt := 40) hx hb dX3_reading_34 (by decide) ⟨by decide, by decide⟩ (fun c13 => ?_) (fun c13 => by exfalso; omega)
          refine lv_aload_n hx hb dX3_reading_40 rfl (lv_at hl 0 rfl) ?_
          refine m_get C hB 29 (by decide) q1423 (v := .int (iI (I 29))) rfl rfl dX3_reading_41 ?_
          refine lv_bipush (v := iI 8) hx hb dX3_reading_44 rfl ?_
          refine x_icmp_ne (tgt := 52) hx hb dX3_reading_46 (by decide) ⟨by omega, by omega⟩ ⟨by decide, by decide⟩ (fun c14 => ?_) (fun c14 => ?_)
          · refine lv_aload_n hx hb dX3_reading_52 rfl (lv_at hl 0 rfl) ?_
            refine m_get C hB 30 (by decide) q1424 (v := .ref (Ad 30)) rfl rfl dX3_reading_53 ?_
            refine lv_aload_n hx hb dX3_reading_56 rfl (lv_at hl 0 rfl) ?_
            refine m_get C hB 29 (by decide) q1423 (v := .int (iI (I 29))) rfl rfl dX3_reading_57 ?_
            refine lv_iload_n hx hb dX3_reading_60 rfl (lv_at hl 1 rfl) ?_
            refine m_ast C hB 30 8 rfl (f := F 30) (I 29).toNat (by omega) (by omega) rfl dX3_reading_61 (fun H locs hB => ?_)
            refine lv_aload_n hx hb dX3_reading_62 rfl (lv_at hl 0 rfl) ?_
            refine m_get C hB 31 (by decide) q1425 (v := .ref (Ad 31)) rfl rfl dX3_reading_63 ?_
            refine lv_aload_n hx hb dX3_reading_66 rfl (lv_at hl 0 rfl) ?_
            refine m_get C hB 29 (by decide) q1423 (v := .int (iI (I 29))) rfl rfl dX3_reading_67 ?_
            refine lv_iload_n hx hb dX3_reading_70 rfl (lv_at hl 2 rfl) ?_
            refine m_ast C hB 31 8 rfl (f := F 31) (I 29).toNat (by omega) (by omega) rfl dX3_reading_71 (fun H locs hB => ?_)
            refine lv_aload_n hx hb dX3_reading_72 rfl (lv_at hl 0 rfl) ?_
            refine lv_dup hx hb dX3_reading_73 rfl ?_
            refine m_get C hB 29 (by decide) q1423 (v := .int (iI (I 29))) rfl rfl dX3_reading_74 ?_
            refine lv_iconst (v := iI 1) hx hb dX3_reading_77 rfl ?_
            refine x_iadd (z := I 29 + 1) hx hb dX3_reading_78 (by omega) ?_
            refine m_put C hB 29 (by decide) rfl q1423 rfl rfl dX3_reading_79 (fun H locs hB => ?_)
            refine lv_aload_n hx hb dX3_reading_82 rfl (lv_at hl 0 rfl) ?_
            refine m_get C hB 29 (by decide) q1423 (v := .int (iI (I 29 + 1))) rfl rfl dX3_reading_83 ?_
            refine lv_iconst (v := iI 1) hx hb dX3_reading_86 rfl ?_
            refine x_isub (z := I 29) hx hb dX3_reading_87 (by omega) ?_
            exact m_iret C hB hr hlocks rfl dX3_reading_88 ⟨by omega, by omega⟩ ⟨by unfold rRead; (repeat' split) <;> omega, by unfold nReadI nReadF; have : 0 ≤ rRead I wd cv := by { unfold rRead; (repeat' split) <;> omega }; rw [if_pos this, if_pos this]; exact ⟨rfl, rfl, rfl, rfl, rfl, rfl, rfl, rfl, fun _ _ => ⟨rfl, rfl, rfl⟩, fun _ _ => ⟨rfl, rfl⟩, fun _ _ => ⟨rfl, rfl⟩, fun _ _ => ⟨rfl, rfl⟩, fun _ _ => rfl⟩⟩
          · refine lv_bipush (v := iI (-4)) hx hb dX3_reading_49 rfl ?_
            exact m_iret C hB hr hlocks rfl dX3_reading_51 ⟨by decide, by decide⟩ ⟨by unfold rRead; (repeat' split) <;> omega, by unfold nReadI nReadF; have : ¬ 0 ≤ rRead I wd cv := by { unfold rRead; (repeat' split) <;> omega }; rw [if_neg this, if_neg this]; exact mAg_rfl I F⟩
        · refine x_if_ne (tgt := 40) hx hb dX3_reading_34 (by decide) ⟨by decide, by decide⟩ (fun c15 => by exfalso; omega) (fun c15 => ?_)
          refine lv_bipush (v := iI (-2)) hx hb dX3_reading_37 rfl ?_
          exact m_iret C hB hr hlocks rfl dX3_reading_39 ⟨by decide, by decide⟩ ⟨by unfold rRead; (repeat' split) <;> omega, by unfold nReadI nReadF; have : ¬ 0 ≤ rRead I wd cv := by { unfold rRead; (repeat' split) <;> omega }; rw [if_neg this, if_neg this]; exact mAg_rfl I F⟩
    · refine x_if_eq (tgt := 37) hx hb dX3_reading_17 (by decide) ⟨by decide, by decide⟩ (fun c16 => ?_) (fun c16 => by exfalso; omega)
      refine lv_bipush (v := iI (-2)) hx hb dX3_reading_37 rfl ?_
      exact m_iret C hB hr hlocks rfl dX3_reading_39 ⟨by decide, by decide⟩ ⟨by unfold rRead; (repeat' split) <;> omega, by unfold nReadI nReadF; have : ¬ 0 ≤ rRead I wd cv := by { unfold rRead; (repeat' split) <;> omega }; rw [if_neg this, if_neg this]; exact mAg_rfl I F⟩
  · refine lv_bipush (v := iI (-3)) hx hb dX3_reading_7 rfl ?_
    exact m_iret C hB hr hlocks rfl dX3_reading_9 ⟨by decide, by decide⟩ ⟨by unfold rRead; (repeat' split) <;> omega, by unfold nReadI nReadF; have : ¬ 0 ≤ rRead I wd cv := by { unfold rRead; (repeat' split) <;> omega }; rw [if_neg this, if_neg this]; exact mAg_rfl I F⟩
set_option maxHeartbeats 400000 in
set_option maxRecDepth 100000 in
theorem kX3_back (l : Launch) (E : xE) (o : Nat) (Ad : Nat → Nat) (I : Nat → Int) (F : Nat → Nat → Int) (n : Int) (hnr : rg n) (hOK : mOK I F) : mi_ l E yX3_back cX3_back 2 (some .int) 1 22 [.ref o, .int (iI n)] o Ad I F (fun z I' F' => z = rBack I n ∧ mAg (nBack I n) F I' F') := by
  intro w sz hM
  refine x_body (by decide) (Nat.le_of_ble_eq_true rfl) ?_
  intro p e s m args below meth c ls hx hb C hr hlocks _ hsz hB hl
  have C : xC E p s m args c cX3_back 2 RX3 := C
  replace hB : mB E (xA w sz) s o Ad I F s.heap [] := ⟨w, hM, hB⟩
  have hl : lv_has ls 2 [(0, .ref o), (1, .int (iI n))] := hl
  obtain ⟨hnr1, hnr2⟩ := hnr
  have hOK0 := hOK
  obtain ⟨⟨hf1, hf2⟩, ⟨hl1, hl2⟩, ⟨hr1, hr2⟩, hlr, ⟨hs1, hs2⟩, ⟨hj1, hj2⟩, ⟨hb1, hb2⟩, ⟨hn1, hn2⟩, hL, hR, hN, hS, hC⟩ := hOK
  refine lv_iload_n hx hb dX3_back_0 rfl (lv_at hl 1 rfl) ?_
  refine lv_iconst (v := iI 0) hx hb dX3_back_1 rfl ?_
  refine lv_aload_n hx hb dX3_back_2 rfl (lv_at hl 0 rfl) ?_
  refine m_get C hB 29 (by decide) q1423 (v := .int (iI (I 29))) rfl rfl dX3_back_3 ?_
  obtain ⟨wq, hMq, hB⟩ := hB
  refine s_calli (n := 3) C hB (As := [.int (iI n), .int (iI 0), .int (iI (I 29))]) (kX3_within l E n 0 (I 29) ⟨by omega, by omega⟩ ⟨by omega, by omega⟩ ⟨by omega, by omega⟩) (lw_S q1498 q1499 q77 q1500) (by decide +kernel) ⟨Nat.le_of_ble_eq_true rfl, Nat.le_of_ble_eq_true rfl⟩ rfl hl.1 rfl (Nat.le_of_ble_eq_true rfl) dX3_back_6 ⟨Nat.zero_le _, Nat.zero_le _⟩ (fun z1 H locs hz2 hp3 hB => ?_)
  replace hB : mB E _ s o Ad I F H locs := ⟨wq, hMq, hB⟩
  obtain ⟨hz2a, hz2b⟩ := hz2
  rcases hp3 with ⟨rfl, h4⟩ | ⟨rfl, h4⟩
  · refine x_if_ne (tgt := 15) hx hb dX3_back_9 (by decide) ⟨by decide, by decide⟩ (fun c5 => ?_) (fun c5 => by exfalso; omega)
    refine lv_aload_n hx hb dX3_back_15 rfl (lv_at hl 0 rfl) ?_
    refine lv_dup hx hb dX3_back_16 rfl ?_
    refine m_get C hB 29 (by decide) q1423 (v := .int (iI (I 29))) rfl rfl dX3_back_17 ?_
    refine lv_iload_n hx hb dX3_back_20 rfl (lv_at hl 1 rfl) ?_
    refine x_isub (z := I 29 - n) hx hb dX3_back_21 (by omega) ?_
    refine m_put C hB 29 (by decide) rfl q1423 rfl rfl dX3_back_22 (fun H locs hB => ?_)
    refine lv_aload_n hx hb dX3_back_25 rfl (lv_at hl 0 rfl) ?_
    refine m_get C hB 29 (by decide) q1423 (v := .int (iI (I 29 - n))) rfl rfl dX3_back_26 ?_
    exact m_iret C hB hr hlocks rfl dX3_back_29 ⟨by omega, by omega⟩ ⟨by unfold rBack; rw [if_neg (by omega)], by unfold nBack; rw [if_neg (by omega)]; exact mAg_rfl _ F⟩
  · refine x_if_ne (tgt := 15) hx hb dX3_back_9 (by decide) ⟨by decide, by decide⟩ (fun c6 => by exfalso; omega) (fun c6 => ?_)
    refine lv_bipush (v := iI (-2)) hx hb dX3_back_12 rfl ?_
    exact m_iret C hB hr hlocks rfl dX3_back_14 ⟨by decide, by decide⟩ ⟨by unfold rBack; rw [if_pos (by omega)], by unfold nBack; rw [if_pos (by omega)]; exact mAg_rfl I F⟩
set_option maxHeartbeats 400000 in
set_option maxRecDepth 100000 in
theorem kX3_areSo (l : Launch) (E : xE) (o : Nat) (Ad : Nat → Nat) (I : Nat → Int) (F : Nat → Nat → Int) (f1 f2 f3 : Nat → Int) (hOK : mOK I F) : mi_ l E yX3_areSo cX3_areSo 2 (some .boolean) 4 100 [.ref o] o Ad I (up3 F f1 f2 f3) (fun z I' F' => I = I' ∧ ∃ g1 g2 g3, up3 F g1 g2 g3 = F' ∧ ((z = 1 ∧ rSo I F = true) ∨ (z = 0 ∧ rSo I F = false))) := by
  intro w sz hM
  refine x_body (by decide) (Nat.le_of_ble_eq_true rfl) ?_
  intro p e s m args below meth c ls hx hb C hr hlocks _ hsz hB hl
  have C : xC E p s m args c cX3_areSo 2 RX3 := C
  replace hB : mB E (xA w sz) s o Ad I (up3 F f1 f2 f3) s.heap [] := ⟨w, hM, hB⟩
  have hl : lv_has ls 2 [(0, .ref o)] := hl
  have hOK0 := hOK
  obtain ⟨⟨hf1, hf2⟩, ⟨hl1, hl2⟩, ⟨hr1, hr2⟩, hlr, ⟨hs1, hs2⟩, ⟨hj1, hj2⟩, ⟨hb1, hb2⟩, ⟨hn1, hn2⟩, hL, hR, hN, hS, hC⟩ := hOK
  refine lv_iconst (v := iI 0) hx hb dX3_areSo_0 rfl ?_
  refine lv_istore_n (lv' := [(1, .int (iI 0)), (0, .ref o)]) hx hb dX3_areSo_1 rfl hl (by decide) rfl (fun ls hl => ?_)
  refine w_loop (fun n4 H locs ls => ∃ (q : Nat) (g1 : Nat → Int) (g2 : Nat → Int) (g3 : Nat → Int), n4 = (I 29 - q).toNat ∧ ((q : Int) ≤ I 29) ∧ (∀ t, t < q → rBy I F (F 30 t) = F 31 t) ∧ mB E (xA w sz) s o Ad I (up3 F g1 g2 g3) H locs ∧ lv_has ls 2 [(0, .ref o), (1, .int (iI ((q : Int))))]) _ ⟨0, _, _, _, rfl, by omega, fun t h => absurd h (Nat.not_lt_zero t), hB, lv_sub hl [1, 0] rfl⟩ ?_
  intro n4 H locs ls hI3 ih1
  obtain ⟨q, g1, g2, g3, hn2, hq, hall, hB, hl⟩ := hI3
  refine lv_iload_n hx hb dX3_areSo_2 rfl (lv_at hl 1 rfl) ?_
  refine lv_aload_n hx hb dX3_areSo_3 rfl (lv_at hl 0 rfl) ?_
  refine m_get C hB 29 (by decide) q1423 (v := .int (iI (I 29))) rfl rfl dX3_areSo_4 ?_
  refine x_icmp_ge (tgt := 37) hx hb dX3_areSo_7 (by decide) ⟨by omega, by omega⟩ ⟨by omega, by omega⟩ (fun c5 => ?_) (fun c5 => ?_)
  · refine lv_iconst (v := iI 1) hx hb dX3_areSo_37 rfl ?_
    exact m_iret C hB hr hlocks rfl dX3_areSo_38 ⟨by decide, by decide⟩ ⟨rfl, _, _, _, rfl, Or.inl ⟨rfl, decide_eq_true (fun t h => hall t (by omega))⟩⟩
  · refine lv_aload_n hx hb dX3_areSo_10 rfl (lv_at hl 0 rfl) ?_
    refine lv_aload_n hx hb dX3_areSo_11 rfl (lv_at hl 0 rfl) ?_
    refine m_get C hB 30 (by decide) q1424 (v := .ref (Ad 30)) rfl rfl dX3_areSo_12 ?_
    refine lv_iload_n hx hb dX3_areSo_15 rfl (lv_at hl 1 rfl) ?_
    refine m_ald C hB 30 8 rfl (v := F 30 q) q rfl (by omega) rfl dX3_areSo_16 ?_
    have := hN q (by omega)
    refine m_calli (n := 1) C hB (As := [.int (iI (F 30 q))]) (kX3_findAll l E o Ad I F g1 g2 g3 (F 30 q) (by omega) hOK0) (lw_V q1544 q1546 qs49 q77 q1547) (by decide +kernel) ⟨Nat.le_of_ble_eq_true rfl, Nat.le_of_ble_eq_true rfl⟩ rfl hl.1 rfl (Nat.le_of_ble_eq_true rfl) dX3_areSo_17 ⟨Nat.zero_le _, Nat.zero_le _⟩ (fun z6 I7 F8 H locs hz9 hp10 hB => ?_)
    obtain ⟨hz9a, hz9b⟩ := hz9
    obtain ⟨rfl, g11, g12, g13, rfl, ht14, hv15⟩ := hp10
    have hrb : z6 = rBy I F (F 30 q) := hv15
    refine lv_aload_n hx hb dX3_areSo_20 rfl (lv_at hl 0 rfl) ?_
    refine m_get C hB 31 (by decide) q1425 (v := .ref (Ad 31)) rfl rfl dX3_areSo_21 ?_
    refine lv_iload_n hx hb dX3_areSo_24 rfl (lv_at hl 1 rfl) ?_
    refine m_ald C hB 31 8 rfl (v := F 31 q) q rfl (by omega) rfl dX3_areSo_25 ?_
    have := hN q (by omega)
    refine x_icmp_eq (tgt := 31) hx hb dX3_areSo_26 (by decide) ⟨by omega, by omega⟩ ⟨by omega, by omega⟩ (fun c16 => ?_) (fun c16 => ?_)
    · refine lv_iinc (v := iI ((q : Int) + 1)) (lv' := [(1, .int (iI ((q : Int) + 1))), (0, .ref o)]) hx hb dX3_areSo_31 hl (k := 1) rfl (iI_add _ _) (by decide) rfl (fun ls hl => ?_)
      refine lv_goto (tgt := 2) hx hb dX3_areSo_34 (by decide) ?_
      exact ih1 _ _ _ _ (by omega) ⟨q + 1, _, _, _, rfl, by omega, fun t h => by by_cases e : t = q; (subst e; omega); exact hall t (by omega), hB, lv_sub hl [1, 0] rfl⟩
    · refine lv_iconst (v := iI 0) hx hb dX3_areSo_29 rfl ?_
      exact m_iret C hB hr hlocks rfl dX3_areSo_30 ⟨by decide, by decide⟩ ⟨rfl, _, _, _, rfl, Or.inr ⟨rfl, decide_eq_false (fun h => by have := h q (by omega); omega)⟩⟩
set_option maxHeartbeats 400000 in
set_option maxRecDepth 100000 in
theorem kX3_kinds (l : Launch) (E : xE) (o : Nat) (Ad : Nat → Nat) (I : Nat → Int) (F : Nat → Nat → Int) (a : Int) (ha : rg a) (hOK : mOK I F) : mi_ l E yX3_kinds cX3_kinds 5 (some .int) 5 121 [.ref o, .int (iI a)] o Ad I F (fun z I' F' => z = rKinds I F a ∧ mAg I F I' F') := by
  intro w sz hM
  refine x_body (by decide) (Nat.le_of_ble_eq_true rfl) ?_
  intro p e s m args below meth c ls hx hb C hr hlocks _ hsz hB hl
  have C : xC E p s m args c cX3_kinds 5 RX3 := C
  replace hB : mB E (xA w sz) s o Ad I F s.heap [] := ⟨w, hM, hB⟩
  have hl : lv_has ls 5 [(0, .ref o), (1, .int (iI a))] := hl
  obtain ⟨ha1, ha2⟩ := ha
  have hOK0 := hOK
  obtain ⟨⟨hf1, hf2⟩, ⟨hl1, hl2⟩, ⟨hr1, hr2⟩, hlr, ⟨hs1, hs2⟩, ⟨hj1, hj2⟩, ⟨hb1, hb2⟩, ⟨hn1, hn2⟩, hL, hR, hN, hS, hC⟩ := hOK
  rw [← up3_id F] at hB
  refine lv_aload_n hx hb dX3_kinds_0 rfl (lv_at hl 0 rfl) ?_
  refine lv_iload_n hx hb dX3_kinds_1 rfl (lv_at hl 1 rfl) ?_
  refine m_calli (n := 1) C hB (As := [.int (iI a)]) (kX3_isLeft l E o Ad I (up3 F (F 21) (F 22) (F 23)) a ⟨by omega, by omega⟩ ⟨by omega, by omega⟩) (lw_V q1532 q1534 qs46 q77 q1535) (by decide +kernel) ⟨Nat.le_of_ble_eq_true rfl, Nat.le_of_ble_eq_true rfl⟩ rfl hl.1 rfl (Nat.le_of_ble_eq_true rfl) dX3_kinds_2 ⟨Nat.zero_le _, Nat.zero_le _⟩ (fun z1 I2 F3 H locs hz4 hp5 hB => ?_)
  obtain ⟨hz4a, hz4b⟩ := hz4
  obtain ⟨rfl, rfl, ⟨rfl, h6⟩ | ⟨rfl, h6⟩⟩ := hp5
  · refine x_if_ne (tgt := 10) hx hb dX3_kinds_5 (by decide) ⟨by decide, by decide⟩ (fun c7 => ?_) (fun c7 => by exfalso; omega)
    obtain ⟨k, rfl⟩ : ∃ k : Nat, a = (k : Int) := ⟨a.toNat, by omega⟩
    refine lv_aload_n hx hb dX3_kinds_10 rfl (lv_at hl 0 rfl) ?_
    refine m_get C hB 10 (by decide) q1404 (v := .ref (Ad 10)) rfl rfl dX3_kinds_11 ?_
    refine lv_iload_n hx hb dX3_kinds_14 rfl (lv_at hl 1 rfl) ?_
    refine m_ald C hB 10 7 rfl (v := F 10 k) k rfl (by omega) rfl dX3_kinds_15 ?_
    have := hL k (by omega)
    refine lv_istore_n (lv' := [(2, .int (iI (F 10 k))), (0, .ref o), (1, .int (iI ((k : Int))))]) hx hb dX3_kinds_16 rfl hl (by decide) rfl (fun ls hl => ?_)
    refine lv_iconst (v := iI 0) hx hb dX3_kinds_17 rfl ?_
    refine lv_istore_n (lv' := [(3, .int (iI 0)), (2, .int (iI (F 10 k))), (0, .ref o), (1, .int (iI ((k : Int))))]) hx hb dX3_kinds_18 rfl hl (by decide) rfl (fun ls hl => ?_)
    refine lv_iconst (v := iI 0) hx hb dX3_kinds_19 rfl ?_
    refine lv_istore (lv' := [(4, .int (iI 0)), (3, .int (iI 0)), (2, .int (iI (F 10 k))), (0, .ref o), (1, .int (iI ((k : Int))))]) hx hb dX3_kinds_20 hl (by decide) rfl (fun ls hl => ?_)
    rw [show up3 F (F 21) (F 22) (F 23) = up3 (va_up F 10 (F 10)) (F 21) (F 22) (F 23) by rw [va_up_id]] at hB
    refine w_loop (fun n11 H locs ls => ∃ (v : Nat) (x : Int) (fk : Nat → Int) (g1 : Nat → Int) (g2 : Nat → Int) (g3 : Nat → Int), n11 = 3 - v ∧ (v ≤ 3) ∧ (x = kset I F k v) ∧ (∀ y, va_up fk k y = va_up (F 10) k y) ∧ mB E (xA w sz) s o Ad I (up3 (va_up F 10 fk) g1 g2 g3) H locs ∧ lv_has ls 5 [(0, .ref o), (1, .int (iI ((k : Int)))), (2, .int (iI (F 10 k))), (3, .int (iI x)), (4, .int (iI ((v : Int))))]) _ ⟨0, 0, _, _, _, _, rfl, by omega, rfl, fun y => rfl, hB, lv_sub hl [3, 4, 2, 1, 0] rfl⟩ ?_
    intro n11 H locs ls hI10 ih8
    obtain ⟨v, x, fk, g1, g2, g3, hn9, hv, hxx, hfk, hB, hl⟩ := hI10
    have hxr : rg x := hxx ▸ rg_kset I F k v
    obtain ⟨hxr1, hxr2⟩ := hxr
    have hkdOK := fun h => mOK_kd10 hOK0 (a := k) (v := (v : Int)) h
    refine lv_iload hx hb dX3_kinds_22 (lv_at hl 4 rfl) ?_
    refine lv_iconst (v := iI 3) hx hb dX3_kinds_24 rfl ?_
    refine x_icmp_ge (tgt := 60) hx hb dX3_kinds_25 (by decide) ⟨by omega, by omega⟩ ⟨by decide, by decide⟩ (fun c12 => ?_) (fun c12 => ?_)
    · refine lv_aload_n hx hb dX3_kinds_60 rfl (lv_at hl 0 rfl) ?_
      refine m_get C hB 10 (by decide) q1404 (v := .ref (Ad 10)) rfl rfl dX3_kinds_61 ?_
      refine lv_iload_n hx hb dX3_kinds_64 rfl (lv_at hl 1 rfl) ?_
      refine lv_iload_n hx hb dX3_kinds_65 rfl (lv_at hl 2 rfl) ?_
      refine m_ast C hB 10 7 rfl (f := fk) k rfl (by omega) rfl dX3_kinds_66 (fun H locs hB => ?_)
      rw [up3_c (by decide), hfk, va_up_id, va_up_id] at hB
      refine lv_iload_n hx hb dX3_kinds_67 rfl (lv_at hl 3 rfl) ?_
      exact m_iret C hB hr hlocks rfl dX3_kinds_68 ⟨by omega, by omega⟩ ⟨by unfold rKinds; rw [if_neg (by omega), hxx, show v = 3 by omega]; rfl, mAg_up3 _ _ _ _ _⟩
    · refine lv_aload_n hx hb dX3_kinds_28 rfl (lv_at hl 0 rfl) ?_
      refine m_get C hB 10 (by decide) q1404 (v := .ref (Ad 10)) rfl rfl dX3_kinds_29 ?_
      refine lv_iload_n hx hb dX3_kinds_32 rfl (lv_at hl 1 rfl) ?_
      refine lv_iload hx hb dX3_kinds_33 (lv_at hl 4 rfl) ?_
      refine m_ast C hB 10 7 rfl (f := fk) k rfl (by omega) rfl dX3_kinds_35 (fun H locs hB => ?_)
      rw [up3_c (by decide), hfk] at hB
      replace hB : mB E (xA w sz) s o Ad I (up3 (kd F 10 k ((v : Int))) g1 g2 g3) H locs := hB
      refine lv_iload_n hx hb dX3_kinds_36 rfl (lv_at hl 3 rfl) ?_
      refine lv_aload_n hx hb dX3_kinds_37 rfl (lv_at hl 0 rfl) ?_
      refine m_calli (n := 0) C hB (As := []) (kX3_areSo l E o Ad I (kd F 10 k ((v : Int))) g1 g2 g3 (hkdOK (by omega))) (lw_V q1669 q1671 qs64 q77 q1672) (by decide +kernel) ⟨Nat.le_of_ble_eq_true rfl, Nat.le_of_ble_eq_true rfl⟩ rfl hl.1 rfl (Nat.le_of_ble_eq_true rfl) dX3_kinds_38 ⟨Nat.zero_le _, Nat.zero_le _⟩ (fun z13 I14 F15 H locs hz16 hp17 hB => ?_)
      obtain ⟨hz16a, hz16b⟩ := hz16
      obtain ⟨rfl, g18, g19, g20, rfl, ⟨rfl, h21⟩ | ⟨rfl, h21⟩⟩ := hp17
      · replace hB : mB E (xA w sz) s o Ad I (up3 (va_up F 10 (va_up (F 10) k ((v : Int)))) g18 g19 g20) H locs := hB
        refine x_if_eq (tgt := 51) hx hb dX3_kinds_41 (by decide) ⟨by decide, by decide⟩ (fun c22 => by exfalso; omega) (fun c22 => ?_)
        refine lv_iconst (v := iI 1) hx hb dX3_kinds_44 rfl ?_
        refine lv_iload hx hb dX3_kinds_45 (lv_at hl 4 rfl) ?_
        refine x_ishl hx hb dX3_kinds_47 ?_
        refine lv_goto (tgt := 52) hx hb dX3_kinds_48 (by decide) ?_
        refine x_ior hx hb dX3_kinds_52 ?_
        refine lv_istore_n (lv' := [(3, .int (iI (bOr x (bShl 1 ((v : Int)))))), (0, .ref o), (1, .int (iI ((k : Int)))), (2, .int (iI (F 10 k))), (4, .int (iI ((v : Int))))]) hx hb dX3_kinds_53 rfl hl (by decide) rfl (fun ls hl => ?_)
        refine lv_iinc (v := iI ((v : Int) + 1)) (lv' := [(4, .int (iI ((v : Int) + 1))), (3, .int (iI (bOr x (bShl 1 ((v : Int)))))), (0, .ref o), (1, .int (iI ((k : Int)))), (2, .int (iI (F 10 k)))]) hx hb dX3_kinds_54 hl (k := 4) rfl (iI_add _ _) (by decide) rfl (fun ls hl => ?_)
        refine lv_goto (tgt := 22) hx hb dX3_kinds_57 (by decide) ?_
        exact ih8 _ _ _ _ (by omega) ⟨v + 1, _, _, _, _, _, rfl, by omega, by rw [show kset I F k (v + 1) = bOr (kset I F k v) (if rSo I (kd F 10 k ((v : Int))) = true then bShl 1 ((v : Int)) else 0) from rfl, if_pos h21, ← hxx], fun y => bx_uu _ _ _ _, hB, lv_sub hl [2, 3, 4, 1, 0] rfl⟩
      · replace hB : mB E (xA w sz) s o Ad I (up3 (va_up F 10 (va_up (F 10) k ((v : Int)))) g18 g19 g20) H locs := hB
        refine x_if_eq (tgt := 51) hx hb dX3_kinds_41 (by decide) ⟨by decide, by decide⟩ (fun c23 => ?_) (fun c23 => by exfalso; omega)
        refine lv_iconst (v := iI 0) hx hb dX3_kinds_51 rfl ?_
        refine x_ior hx hb dX3_kinds_52 ?_
        refine lv_istore_n (lv' := [(3, .int (iI (bOr x 0))), (0, .ref o), (1, .int (iI ((k : Int)))), (2, .int (iI (F 10 k))), (4, .int (iI ((v : Int))))]) hx hb dX3_kinds_53 rfl hl (by decide) rfl (fun ls hl => ?_)
        refine lv_iinc (v := iI ((v : Int) + 1)) (lv' := [(4, .int (iI ((v : Int) + 1))), (3, .int (iI (bOr x 0))), (0, .ref o), (1, .int (iI ((k : Int)))), (2, .int (iI (F 10 k)))]) hx hb dX3_kinds_54 hl (k := 4) rfl (iI_add _ _) (by decide) rfl (fun ls hl => ?_)
        refine lv_goto (tgt := 22) hx hb dX3_kinds_57 (by decide) ?_
        exact ih8 _ _ _ _ (by omega) ⟨v + 1, _, _, _, _, _, rfl, by omega, by rw [show kset I F k (v + 1) = bOr (kset I F k v) (if rSo I (kd F 10 k ((v : Int))) = true then bShl 1 ((v : Int)) else 0) from rfl, if_neg (by rw [h21]; decide), ← hxx], fun y => bx_uu _ _ _ _, hB, lv_sub hl [2, 3, 4, 1, 0] rfl⟩
  · refine x_if_ne (tgt := 10) hx hb dX3_kinds_5 (by decide) ⟨by decide, by decide⟩ (fun c24 => by exfalso; omega) (fun c24 => ?_)
    refine lv_iconst (v := iI (-1)) hx hb dX3_kinds_8 rfl ?_
    exact m_iret C hB hr hlocks rfl dX3_kinds_9 ⟨by decide, by decide⟩ ⟨by unfold rKinds; rw [if_pos (by omega)], mAg_up3 _ _ _ _ _⟩
set_option maxHeartbeats 400000 in
set_option maxRecDepth 100000 in
theorem kX3_letterings (l : Launch) (E : xE) (o : Nat) (Ad : Nat → Nat) (I : Nat → Int) (F : Nat → Nat → Int) (a : Int) (ha : rg a) (hOK : mOK I F) : mi_ l E yX3_letterings cX3_letterings 5 (some .int) 5 121 [.ref o, .int (iI a)] o Ad I F (fun z I' F' => z = rLetterings I F a ∧ mAg I F I' F') := by
  intro w sz hM
  refine x_body (by decide) (Nat.le_of_ble_eq_true rfl) ?_
  intro p e s m args below meth c ls hx hb C hr hlocks _ hsz hB hl
  have C : xC E p s m args c cX3_letterings 5 RX3 := C
  replace hB : mB E (xA w sz) s o Ad I F s.heap [] := ⟨w, hM, hB⟩
  have hl : lv_has ls 5 [(0, .ref o), (1, .int (iI a))] := hl
  obtain ⟨ha1, ha2⟩ := ha
  have hOK0 := hOK
  obtain ⟨⟨hf1, hf2⟩, ⟨hl1, hl2⟩, ⟨hr1, hr2⟩, hlr, ⟨hs1, hs2⟩, ⟨hj1, hj2⟩, ⟨hb1, hb2⟩, ⟨hn1, hn2⟩, hL, hR, hN, hS, hC⟩ := hOK
  rw [← up3_id F] at hB
  refine lv_aload_n hx hb dX3_letterings_0 rfl (lv_at hl 0 rfl) ?_
  refine lv_iload_n hx hb dX3_letterings_1 rfl (lv_at hl 1 rfl) ?_
  refine m_calli (n := 1) C hB (As := [.int (iI a)]) (kX3_isLeft l E o Ad I (up3 F (F 21) (F 22) (F 23)) a ⟨by omega, by omega⟩ ⟨by omega, by omega⟩) (lw_V q1532 q1534 qs46 q77 q1535) (by decide +kernel) ⟨Nat.le_of_ble_eq_true rfl, Nat.le_of_ble_eq_true rfl⟩ rfl hl.1 rfl (Nat.le_of_ble_eq_true rfl) dX3_letterings_2 ⟨Nat.zero_le _, Nat.zero_le _⟩ (fun z1 I2 F3 H locs hz4 hp5 hB => ?_)
  obtain ⟨hz4a, hz4b⟩ := hz4
  obtain ⟨rfl, rfl, ⟨rfl, h6⟩ | ⟨rfl, h6⟩⟩ := hp5
  · refine x_if_ne (tgt := 10) hx hb dX3_letterings_5 (by decide) ⟨by decide, by decide⟩ (fun c7 => ?_) (fun c7 => by exfalso; omega)
    obtain ⟨k, rfl⟩ : ∃ k : Nat, a = (k : Int) := ⟨a.toNat, by omega⟩
    refine lv_aload_n hx hb dX3_letterings_10 rfl (lv_at hl 0 rfl) ?_
    refine m_get C hB 11 (by decide) q1405 (v := .ref (Ad 11)) rfl rfl dX3_letterings_11 ?_
    refine lv_iload_n hx hb dX3_letterings_14 rfl (lv_at hl 1 rfl) ?_
    refine m_ald C hB 11 7 rfl (v := F 11 k) k rfl (by omega) rfl dX3_letterings_15 ?_
    have := hL k (by omega)
    refine lv_istore_n (lv' := [(2, .int (iI (F 11 k))), (0, .ref o), (1, .int (iI ((k : Int))))]) hx hb dX3_letterings_16 rfl hl (by decide) rfl (fun ls hl => ?_)
    refine lv_iconst (v := iI 0) hx hb dX3_letterings_17 rfl ?_
    refine lv_istore_n (lv' := [(3, .int (iI 0)), (2, .int (iI (F 11 k))), (0, .ref o), (1, .int (iI ((k : Int))))]) hx hb dX3_letterings_18 rfl hl (by decide) rfl (fun ls hl => ?_)
    refine lv_iconst (v := iI 1) hx hb dX3_letterings_19 rfl ?_
    refine lv_istore (lv' := [(4, .int (iI 1)), (3, .int (iI 0)), (2, .int (iI (F 11 k))), (0, .ref o), (1, .int (iI ((k : Int))))]) hx hb dX3_letterings_20 hl (by decide) rfl (fun ls hl => ?_)
    rw [show up3 F (F 21) (F 22) (F 23) = up3 (va_up F 11 (F 11)) (F 21) (F 22) (F 23) by rw [va_up_id]] at hB
    refine w_loop (fun n11 H locs ls => ∃ (v : Nat) (x : Int) (fk : Nat → Int) (g1 : Nat → Int) (g2 : Nat → Int) (g3 : Nat → Int), n11 = 9 - v ∧ (v ≤ 9) ∧ (x = lset I F k v) ∧ (∀ y, va_up fk k y = va_up (F 11) k y) ∧ mB E (xA w sz) s o Ad I (up3 (va_up F 11 fk) g1 g2 g3) H locs ∧ lv_has ls 5 [(0, .ref o), (1, .int (iI ((k : Int)))), (2, .int (iI (F 11 k))), (3, .int (iI x)), (4, .int (iI ((v : Int) + 1)))]) _ ⟨0, 0, _, _, _, _, rfl, by omega, rfl, fun y => rfl, hB, lv_sub hl [3, 4, 2, 1, 0] rfl⟩ ?_
    intro n11 H locs ls hI10 ih8
    obtain ⟨v, x, fk, g1, g2, g3, hn9, hv, hxx, hfk, hB, hl⟩ := hI10
    have hxr : rg x := hxx ▸ rg_lset I F k v
    obtain ⟨hxr1, hxr2⟩ := hxr
    have hkdOK := fun h => mOK_kd11 hOK0 (a := k) (v := (v : Int) + 1) h
    refine lv_iload hx hb dX3_letterings_22 (lv_at hl 4 rfl) ?_
    refine lv_bipush (v := iI 9) hx hb dX3_letterings_24 rfl ?_
    refine x_icmp_gt (tgt := 61) hx hb dX3_letterings_26 (by decide) ⟨by omega, by omega⟩ ⟨by decide, by decide⟩ (fun c12 => ?_) (fun c12 => ?_)
    · refine lv_aload_n hx hb dX3_letterings_61 rfl (lv_at hl 0 rfl) ?_
      refine m_get C hB 11 (by decide) q1405 (v := .ref (Ad 11)) rfl rfl dX3_letterings_62 ?_
      refine lv_iload_n hx hb dX3_letterings_65 rfl (lv_at hl 1 rfl) ?_
      refine lv_iload_n hx hb dX3_letterings_66 rfl (lv_at hl 2 rfl) ?_
      refine m_ast C hB 11 7 rfl (f := fk) k rfl (by omega) rfl dX3_letterings_67 (fun H locs hB => ?_)
      rw [up3_c (by decide), hfk, va_up_id, va_up_id] at hB
      refine lv_iload_n hx hb dX3_letterings_68 rfl (lv_at hl 3 rfl) ?_
      exact m_iret C hB hr hlocks rfl dX3_letterings_69 ⟨by omega, by omega⟩ ⟨by unfold rLetterings; rw [if_neg (by omega), hxx, show v = 9 by omega]; rfl, mAg_up3 _ _ _ _ _⟩
    · refine lv_aload_n hx hb dX3_letterings_29 rfl (lv_at hl 0 rfl) ?_
      refine m_get C hB 11 (by decide) q1405 (v := .ref (Ad 11)) rfl rfl dX3_letterings_30 ?_
      refine lv_iload_n hx hb dX3_letterings_33 rfl (lv_at hl 1 rfl) ?_
      refine lv_iload hx hb dX3_letterings_34 (lv_at hl 4 rfl) ?_
      refine m_ast C hB 11 7 rfl (f := fk) k rfl (by omega) rfl dX3_letterings_36 (fun H locs hB => ?_)
      rw [up3_c (by decide), hfk] at hB
      replace hB : mB E (xA w sz) s o Ad I (up3 (kd F 11 k ((v : Int) + 1)) g1 g2 g3) H locs := hB
      refine lv_iload_n hx hb dX3_letterings_37 rfl (lv_at hl 3 rfl) ?_
      refine lv_aload_n hx hb dX3_letterings_38 rfl (lv_at hl 0 rfl) ?_
      refine m_calli (n := 0) C hB (As := []) (kX3_areSo l E o Ad I (kd F 11 k ((v : Int) + 1)) g1 g2 g3 (hkdOK (by omega))) (lw_V q1669 q1671 qs64 q77 q1672) (by decide +kernel) ⟨Nat.le_of_ble_eq_true rfl, Nat.le_of_ble_eq_true rfl⟩ rfl hl.1 rfl (Nat.le_of_ble_eq_true rfl) dX3_letterings_39 ⟨Nat.zero_le _, Nat.zero_le _⟩ (fun z13 I14 F15 H locs hz16 hp17 hB => ?_)
      obtain ⟨hz16a, hz16b⟩ := hz16
      obtain ⟨rfl, g18, g19, g20, rfl, ⟨rfl, h21⟩ | ⟨rfl, h21⟩⟩ := hp17
      · replace hB : mB E (xA w sz) s o Ad I (up3 (va_up F 11 (va_up (F 11) k ((v : Int) + 1))) g18 g19 g20) H locs := hB
        refine x_if_eq (tgt := 52) hx hb dX3_letterings_42 (by decide) ⟨by decide, by decide⟩ (fun c22 => by exfalso; omega) (fun c22 => ?_)
        refine lv_iconst (v := iI 1) hx hb dX3_letterings_45 rfl ?_
        refine lv_iload hx hb dX3_letterings_46 (lv_at hl 4 rfl) ?_
        refine x_ishl hx hb dX3_letterings_48 ?_
        refine lv_goto (tgt := 53) hx hb dX3_letterings_49 (by decide) ?_
        refine x_ior hx hb dX3_letterings_53 ?_
        refine lv_istore_n (lv' := [(3, .int (iI (bOr x (bShl 1 ((v : Int) + 1))))), (0, .ref o), (1, .int (iI ((k : Int)))), (2, .int (iI (F 11 k))), (4, .int (iI ((v : Int) + 1)))]) hx hb dX3_letterings_54 rfl hl (by decide) rfl (fun ls hl => ?_)
        refine lv_iinc (v := iI ((v : Int) + 1 + 1)) (lv' := [(4, .int (iI ((v : Int) + 1 + 1))), (3, .int (iI (bOr x (bShl 1 ((v : Int) + 1))))), (0, .ref o), (1, .int (iI ((k : Int)))), (2, .int (iI (F 11 k)))]) hx hb dX3_letterings_55 hl (k := 4) rfl (iI_add _ _) (by decide) rfl (fun ls hl => ?_)
        rw [show ((v : Int) + 1 + 1 : Int) = (v : Int) + 2 by omega] at hl
        refine lv_goto (tgt := 22) hx hb dX3_letterings_58 (by decide) ?_
        exact ih8 _ _ _ _ (by omega) ⟨v + 1, _, _, _, _, _, rfl, by omega, by rw [show lset I F k (v + 1) = bOr (lset I F k v) (if rSo I (kd F 11 k ((v : Int) + 1)) = true then bShl 1 ((v : Int) + 1) else 0) from rfl, if_pos h21, ← hxx], fun y => bx_uu _ _ _ _, hB, lv_sub hl [2, 3, 4, 1, 0] rfl⟩
      · replace hB : mB E (xA w sz) s o Ad I (up3 (va_up F 11 (va_up (F 11) k ((v : Int) + 1))) g18 g19 g20) H locs := hB
        refine x_if_eq (tgt := 52) hx hb dX3_letterings_42 (by decide) ⟨by decide, by decide⟩ (fun c23 => ?_) (fun c23 => by exfalso; omega)
        refine lv_iconst (v := iI 0) hx hb dX3_letterings_52 rfl ?_
        refine x_ior hx hb dX3_letterings_53 ?_
        refine lv_istore_n (lv' := [(3, .int (iI (bOr x 0))), (0, .ref o), (1, .int (iI ((k : Int)))), (2, .int (iI (F 11 k))), (4, .int (iI ((v : Int) + 1)))]) hx hb dX3_letterings_54 rfl hl (by decide) rfl (fun ls hl => ?_)
        refine lv_iinc (v := iI ((v : Int) + 1 + 1)) (lv' := [(4, .int (iI ((v : Int) + 1 + 1))), (3, .int (iI (bOr x 0))), (0, .ref o), (1, .int (iI ((k : Int)))), (2, .int (iI (F 11 k)))]) hx hb dX3_letterings_55 hl (k := 4) rfl (iI_add _ _) (by decide) rfl (fun ls hl => ?_)
        rw [show ((v : Int) + 1 + 1 : Int) = (v : Int) + 2 by omega] at hl
        refine lv_goto (tgt := 22) hx hb dX3_letterings_58 (by decide) ?_
        exact ih8 _ _ _ _ (by omega) ⟨v + 1, _, _, _, _, _, rfl, by omega, by rw [show lset I F k (v + 1) = bOr (lset I F k v) (if rSo I (kd F 11 k ((v : Int) + 1)) = true then bShl 1 ((v : Int) + 1) else 0) from rfl, if_neg (by rw [h21]; decide), ← hxx], fun y => bx_uu _ _ _ _, hB, lv_sub hl [2, 3, 4, 1, 0] rfl⟩
  · refine x_if_ne (tgt := 10) hx hb dX3_letterings_5 (by decide) ⟨by decide, by decide⟩ (fun c24 => by exfalso; omega) (fun c24 => ?_)
    refine lv_iconst (v := iI (-1)) hx hb dX3_letterings_8 rfl ?_
    exact m_iret C hB hr hlocks rfl dX3_letterings_9 ⟨by decide, by decide⟩ ⟨by unfold rLetterings; rw [if_pos (by omega)], mAg_up3 _ _ _ _ _⟩
