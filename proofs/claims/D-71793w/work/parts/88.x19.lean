/-! THE COMPONENT: readings, back -/
set_option maxRecDepth 100000
theorem mAg_read0 {I : Nat → Int} (F : Nat → Nat → Int) {w c v : Int} (h : rRead I w c = v) (hv : v < 0) : mAg (nReadI I w c) (nReadF I F w c) I F := by
  unfold nReadI nReadF
  rw [h, if_neg (by omega), if_neg (by omega)]
  exact mAg_rfl I F
theorem mAg_read {I : Nat → Int} (F : Nat → Nat → Int) {w c x : Int} {n : Nat} (hn : I 29 = n) (h : 0 ≤ rRead I w c) : mAg (nReadI I w c) (nReadF I F w c) (rdI1 I x n) (rdF1 F n w c) := by
  unfold nReadI nReadF
  rw [if_pos h, if_pos h, show (I 29).toNat = n by omega]
  exact ⟨rfl, rfl, rfl, rfl, rfl, rfl, rfl, (show (n : Int) + 1 = I 29 + 1 by omega), fun _ _ => ⟨rfl, rfl, rfl⟩, fun _ _ => ⟨rfl, rfl⟩, fun _ _ => ⟨rfl, rfl⟩, fun _ _ => ⟨rfl, rfl⟩, fun _ _ => rfl⟩
theorem mAg_back {I I1 : Nat → Int} (F : Nat → Nat → Int) {n : Int} (h : 0 ≤ n ∧ n ≤ I 29) (h1 : I1 29 = I 29 - n) (ho : ∀ j, j ≠ 29 → j ≠ 42 → I1 j = I j) : mAg (nBack I n) F I1 F := by
  unfold nBack
  rw [if_neg (fun z => z h)]
  exact ⟨ho 0 (by decide) (by decide), ho 1 (by decide) (by decide), ho 5 (by decide) (by decide), ho 6 (by decide) (by decide), ho 7 (by decide) (by decide), ho 8 (by decide) (by decide), ho 9 (by decide) (by decide), h1, fun _ _ => ⟨rfl, rfl, rfl⟩, fun _ _ => ⟨rfl, rfl⟩, fun _ _ => ⟨rfl, rfl⟩, fun _ _ => ⟨rfl, rfl⟩, fun _ _ => rfl⟩
set_option maxHeartbeats 800000 in
set_option maxRecDepth 100000 in
theorem kX0_reading (l : Launch) (E : xE) (o : Nat) (Ad : Nat → Nat) (I : Nat → Int) (F : Nat → Nat → Int) (X : xw) (wx : Int) (cx : Int) (hwx : rg wx) (hcx : rg cx) (hOK : mOK I F) : ci_ l E yX0_reading cX0_reading 3 (some .int) 5 111 2 12 [.ref o, .int (iI wx), .int (iI cx)] o Ad I F X (fun z Ad' I' F' X' => mAg (nReadI I wx cx) (nReadF I F wx cx) I' F' ∧ z = rRead I wx cx) := by
  intro w hI hd sz
  refine x_bodyz (by decide) (Nat.le_of_ble_eq_true rfl) ?_
  intro p e s m args below meth c ls hx hb C hr hlocks hin hsz hZ hB hl
  have C : xC E p s m args c cX0_reading 3 RX0 := C
  replace hB : xBB E (xA (wU w X) sz) s o Ad I F X s.heap [] := ⟨w, hI, hd, hB⟩
  have hl : lv_has ls 3 [(0, .ref o), (1, .int (iI wx)), (2, .int (iI cx))] := hl
  have hOK0 := hOK
  obtain ⟨⟨hf1, hf2⟩, ⟨hl1, hl2⟩, ⟨hr1, hr2⟩, hlr, ⟨hs1, hs2⟩, ⟨hj1, hj2⟩, ⟨hb1, hb2⟩, ⟨hn1, hn2⟩, hL, hR, hN, hS, hC⟩ := hOK
  obtain ⟨hwx1, hwx2⟩ := hwx
  obtain ⟨hcx1, hcx2⟩ := hcx
  refine lv_aload_n hx hb dX0_reading_0 rfl (lv_at hl 0 rfl) ?_
  refine b_calli 0 0 (Nat.le_of_ble_eq_true rfl) (Nat.le_of_ble_eq_true rfl) hB (fun w hI hd hB => rV (As := []) (n := 0) C hZ hB (kX0_noBooks l E o Ad I F X hOK0 w hI hd _) (lw_V q275 q277 qs11 q68 q278) (by decide +kernel) ⟨Nat.le_of_ble_eq_true rfl, Nat.le_of_ble_eq_true rfl⟩ (wU_l hI.x) rfl rfl rfl hl.1 rfl (Nat.le_of_ble_eq_true rfl) dX0_reading_1 ⟨Nat.le_of_ble_eq_true rfl, Nat.le_of_ble_eq_true rfl⟩) (fun z1 Ad2 I3 F4 X5 H locs hz6 hp7 hB => ?_)
  obtain ⟨hz6a, hz6b⟩ := hz6
  obtain ⟨rfl, rfl, rfl, rfl, ⟨rfl, h8⟩ | ⟨rfl, h8⟩⟩ := hp7
  · refine x_if_eq (tgt := 10) hx hb dX0_reading_4 (by decide) ⟨by decide, by decide⟩ (fun c9 => by exfalso; omega) (fun c9 => ?_)
    refine lv_bipush (v := iI (-3)) hx hb dX0_reading_7 rfl ?_
    exact b_iret C hB hr hlocks rfl dX0_reading_9 (Nat.le_of_ble_eq_true rfl) (Nat.le_of_ble_eq_true rfl) ⟨by decide, by decide⟩ ⟨mAg_read0 F (show rRead I wx cx = -3 from by unfold rRead; (repeat' split) <;> omega) (by decide), by unfold rRead; (repeat' split) <;> omega⟩
  · refine x_if_eq (tgt := 10) hx hb dX0_reading_4 (by decide) ⟨by decide, by decide⟩ (fun c10 => ?_) (fun c10 => by exfalso; omega)
    refine lv_iload_n hx hb dX0_reading_10 rfl (lv_at hl 1 rfl) ?_
    refine x_i2l hx hb dX0_reading_11 ⟨by omega, by omega⟩ ?_
    refine lv_lconst (v := lI 0) hx hb dX0_reading_12 rfl ?_
    refine lv_ldc2 hx hb C.1.2.2.2.1 (C.1.2.2.2.2 _ q288) dX0_reading_13 ?_
    refine x_rwl (y := lI 7) (by decide) ?_
    refine bs_calli (n := 3) C hB (As := [.long (lI wx), .long (lI 0), .long (lI 7)]) (kX0_in l E wx 0 7 ⟨by omega, by omega⟩ ⟨by omega, by omega⟩ ⟨by omega, by omega⟩) (lw_S q234 q235 q68 q236) (by decide +kernel) ⟨Nat.le_of_ble_eq_true rfl, Nat.le_of_ble_eq_true rfl⟩ rfl hl.1 rfl (Nat.le_of_ble_eq_true rfl) dX0_reading_16 ⟨Nat.le_of_ble_eq_true rfl, Nat.le_of_ble_eq_true rfl⟩ (fun z11 H locs hz12 hp13 hB => ?_)
    obtain ⟨hz12a, hz12b⟩ := hz12
    rcases hp13 with ⟨rfl, h14⟩ | ⟨rfl, h14⟩
    · refine x_if_eq (tgt := 40) hx hb dX0_reading_19 (by decide) ⟨by decide, by decide⟩ (fun c15 => by exfalso; omega) (fun c15 => ?_)
      refine lv_iload_n hx hb dX0_reading_22 rfl (lv_at hl 2 rfl) ?_
      refine x_i2l hx hb dX0_reading_23 ⟨by omega, by omega⟩ ?_
      refine lv_lconst (v := lI 0) hx hb dX0_reading_24 rfl ?_
      refine lv_ldc2 hx hb C.1.2.2.2.1 (C.1.2.2.2.2 _ q656) dX0_reading_25 ?_
      refine x_rwl (y := lI 500) (by decide) ?_
      refine bs_calli (n := 3) C hB (As := [.long (lI cx), .long (lI 0), .long (lI 500)]) (kX0_in l E cx 0 500 ⟨by omega, by omega⟩ ⟨by omega, by omega⟩ ⟨by omega, by omega⟩) (lw_S q234 q235 q68 q236) (by decide +kernel) ⟨Nat.le_of_ble_eq_true rfl, Nat.le_of_ble_eq_true rfl⟩ rfl hl.1 rfl (Nat.le_of_ble_eq_true rfl) dX0_reading_28 ⟨Nat.le_of_ble_eq_true rfl, Nat.le_of_ble_eq_true rfl⟩ (fun z16 H locs hz17 hp18 hB => ?_)
      obtain ⟨hz17a, hz17b⟩ := hz17
      rcases hp18 with ⟨rfl, h19⟩ | ⟨rfl, h19⟩
      · refine x_if_ne (tgt := 43) hx hb dX0_reading_31 (by decide) ⟨by decide, by decide⟩ (fun c20 => ?_) (fun c20 => by exfalso; omega)
        refine lv_aload_n hx hb dX0_reading_43 rfl (lv_at hl 0 rfl) ?_
        refine b_get C hB 16 (by decide) q312 (v := .ref (Ad 17)) rfl rfl dX0_reading_44 ?_
        refine b_size C hZ hB (n := I 29) (ed := Ad 31) (fun w hI _ => wU_l (hI.at (r := 17) rfl)) (by omega) q242 ⟨Nat.le_of_ble_eq_true rfl, Nat.le_of_ble_eq_true rfl⟩ hl.1 (Nat.le_of_ble_eq_true rfl) dX0_reading_47 ⟨Nat.le_of_ble_eq_true rfl, Nat.le_of_ble_eq_true rfl⟩ (fun H locs hB => ?_)
        refine lv_bipush (v := iI 8) hx hb dX0_reading_52 rfl ?_
        refine x_icmp_ne (tgt := 60) hx hb dX0_reading_54 (by decide) ⟨by omega, by omega⟩ ⟨by decide, by decide⟩ (fun c21 => ?_) (fun c21 => ?_)
        · obtain ⟨n_, hn_⟩ : ∃ n_ : Nat, I 29 = (n_ : Int) := ⟨(I 29).toNat, by omega⟩
          refine lv_aload_n hx hb dX0_reading_60 rfl (lv_at hl 0 rfl) ?_
          refine b_get C hB 16 (by decide) q312 (v := .ref (Ad 17)) rfl rfl dX0_reading_61 ?_
          refine t_new C hB (ci := 14) (fs := [.int (iI 0), .int (iI 0)]) rfl in_X16 tyX16_ok q657 q658 q103 dvX16 (Nat.le_of_ble_eq_true rfl) (Nat.le_of_ble_eq_true rfl) dX0_reading_64 (fun q22 H hq23 hs24 hB => ?_)
          refine x_up (c2 := 1) (s2 := 2) (Nat.le_of_ble_eq_true rfl) (Nat.le_of_ble_eq_true rfl) ?_
          replace hB : xBB E (xA (wU w X) sz) s o Ad I F (va_up X q22 (some (xO 14 [.int (iI 0), .int (iI 0)]))) _ _ := hB
          refine lv_dup hx hb dX0_reading_67 rfl ?_
          refine lv_iload_n hx hb dX0_reading_68 rfl (lv_at hl 1 rfl) ?_
          refine lv_iload_n hx hb dX0_reading_69 rfl (lv_at hl 2 rfl) ?_
          obtain ⟨wq, hIq, hdq, hB⟩ := hB
          refine g_callv 1 2 (Nat.le_of_ble_eq_true rfl) (Nat.le_of_ble_eq_true rfl) hB (rI (As := [.int (iI wx), .int (iI cx)]) (n := 2) C hZ hB (kX16_init l E (wU wq (va_up X q22 (some (xO 14 [.int (iI 0), .int (iI 0)])))) q22 wx cx (wU_r hdq (va_up_s _ _ _)) _) (lw_meth q661) q103 q659 q660 rfl (by decide +kernel) ⟨Nat.le_of_ble_eq_true rfl, Nat.le_of_ble_eq_true rfl⟩ rfl hl.1 rfl (Nat.le_of_ble_eq_true rfl) dX0_reading_70 ⟨Nat.le_of_ble_eq_true rfl, Nat.le_of_ble_eq_true rfl⟩) (fun w26 H locs hp28 hB => ?_)
          subst hp28
          rw [(hdq.put_t (xO 14 [.int (iI wx), .int (iI cx)]) (va_up_s _ _ _)).2] at hB
          replace hB : xBB E (xA (wU w X) sz) s o Ad I F (va_up (va_up X q22 (some (xO 14 [.int (iI 0), .int (iI 0)]))) q22 (some (xO 14 [.int (iI wx), .int (iI cx)]))) _ _ := ⟨wq, hIq, (hdq.put_t _ (va_up_s _ _ _)).1, hB⟩
          rw [bx_uu] at hB
          replace hB : xBB E (xA (wU w X) sz) s o Ad I F (va_up X q22 (some (xO 14 [.int (iI wx), .int (iI cx)]))) _ _ := hB
          refine b_radd C hZ hB (n := n_) (va_up_s _ _ _) hn_ (by omega) (by omega) q673 ⟨Nat.le_of_ble_eq_true rfl, Nat.le_of_ble_eq_true rfl⟩ hl.1 (Nat.le_of_ble_eq_true rfl) dX0_reading_73 ⟨Nat.le_of_ble_eq_true rfl, Nat.le_of_ble_eq_true rfl⟩ (fun z29 H locs Ad30 x31 X32 hx33 hB => ?_)
          refine x_up (c2 := 2) (s2 := 12) (Nat.le_of_ble_eq_true rfl) (Nat.le_of_ble_eq_true rfl) ?_
          replace hB : xBB E (xA (wU w X) sz) s o Ad30 ((rdI1 I x31 n_)) ((rdF1 F n_ wx cx)) X32 _ _ := hB
          refine lv_pop hx hb dX0_reading_78 rfl ?_
          refine lv_aload_n hx hb dX0_reading_79 rfl (lv_at hl 0 rfl) ?_
          refine b_get C hB 16 (by decide) q312 (v := .ref (Ad30 17)) rfl rfl dX0_reading_80 ?_
          refine b_size C hZ hB (n := (n_ : Int) + 1) (ed := Ad30 31) (fun w hI _ => wU_l (hI.at (r := 17) rfl)) (by omega) q242 ⟨Nat.le_of_ble_eq_true rfl, Nat.le_of_ble_eq_true rfl⟩ hl.1 (Nat.le_of_ble_eq_true rfl) dX0_reading_83 ⟨Nat.le_of_ble_eq_true rfl, Nat.le_of_ble_eq_true rfl⟩ (fun H locs hB => ?_)
          refine lv_iconst (v := iI 1) hx hb dX0_reading_88 rfl ?_
          refine x_isub (z := (n_ : Int)) hx hb dX0_reading_89 (by omega) ?_
          exact b_iret C hB hr hlocks rfl dX0_reading_90 (Nat.le_of_ble_eq_true rfl) (Nat.le_of_ble_eq_true rfl) ⟨by omega, by omega⟩ ⟨mAg_read F hn_ (show 0 ≤ rRead I wx cx from by unfold rRead; (repeat' split) <;> omega), by unfold rRead; (repeat' split) <;> omega⟩
        · refine lv_bipush (v := iI (-4)) hx hb dX0_reading_57 rfl ?_
          exact b_iret C hB hr hlocks rfl dX0_reading_59 (Nat.le_of_ble_eq_true rfl) (Nat.le_of_ble_eq_true rfl) ⟨by decide, by decide⟩ ⟨mAg_read0 F (show rRead I wx cx = -4 from by unfold rRead; (repeat' split) <;> omega) (by decide), by unfold rRead; (repeat' split) <;> omega⟩
      · refine x_if_ne (tgt := 43) hx hb dX0_reading_31 (by decide) ⟨by decide, by decide⟩ (fun c34 => by exfalso; omega) (fun c34 => ?_)
        refine lv_iload_n hx hb dX0_reading_34 rfl (lv_at hl 2 rfl) ?_
        refine lv_bipush (v := iI (-9)) hx hb dX0_reading_35 rfl ?_
        refine x_icmp_eq (tgt := 43) hx hb dX0_reading_37 (by decide) ⟨by omega, by omega⟩ ⟨by decide, by decide⟩ (fun c35 => ?_) (fun c35 => ?_)
        · refine lv_aload_n hx hb dX0_reading_43 rfl (lv_at hl 0 rfl) ?_
          refine b_get C hB 16 (by decide) q312 (v := .ref (Ad 17)) rfl rfl dX0_reading_44 ?_
          refine b_size C hZ hB (n := I 29) (ed := Ad 31) (fun w hI _ => wU_l (hI.at (r := 17) rfl)) (by omega) q242 ⟨Nat.le_of_ble_eq_true rfl, Nat.le_of_ble_eq_true rfl⟩ hl.1 (Nat.le_of_ble_eq_true rfl) dX0_reading_47 ⟨Nat.le_of_ble_eq_true rfl, Nat.le_of_ble_eq_true rfl⟩ (fun H locs hB => ?_)
          refine lv_bipush (v := iI 8) hx hb dX0_reading_52 rfl ?_
          refine x_icmp_ne (tgt := 60) hx hb dX0_reading_54 (by decide) ⟨by omega, by omega⟩ ⟨by decide, by decide⟩ (fun c36 => ?_) (fun c36 => ?_)
          · obtain ⟨n_, hn_⟩ : ∃ n_ : Nat, I 29 = (n_ : Int) := ⟨(I 29).toNat, by omega⟩
            refine lv_aload_n hx hb dX0_reading_60 rfl (lv_at hl 0 rfl) ?_
            refine b_get C hB 16 (by decide) q312 (v := .ref (Ad 17)) rfl rfl dX0_reading_61 ?_
            refine t_new C hB (ci := 14) (fs := [.int (iI 0), .int (iI 0)]) rfl in_X16 tyX16_ok q657 q658 q103 dvX16 (Nat.le_of_ble_eq_true rfl) (Nat.le_of_ble_eq_true rfl) dX0_reading_64 (fun q37 H hq38 hs39 hB => ?_)
            refine x_up (c2 := 1) (s2 := 2) (Nat.le_of_ble_eq_true rfl) (Nat.le_of_ble_eq_true rfl) ?_
            replace hB : xBB E (xA (wU w X) sz) s o Ad I F (va_up X q37 (some (xO 14 [.int (iI 0), .int (iI 0)]))) _ _ := hB
            refine lv_dup hx hb dX0_reading_67 rfl ?_
            refine lv_iload_n hx hb dX0_reading_68 rfl (lv_at hl 1 rfl) ?_
            refine lv_iload_n hx hb dX0_reading_69 rfl (lv_at hl 2 rfl) ?_
            obtain ⟨wq, hIq, hdq, hB⟩ := hB
            refine g_callv 1 2 (Nat.le_of_ble_eq_true rfl) (Nat.le_of_ble_eq_true rfl) hB (rI (As := [.int (iI wx), .int (iI cx)]) (n := 2) C hZ hB (kX16_init l E (wU wq (va_up X q37 (some (xO 14 [.int (iI 0), .int (iI 0)])))) q37 wx cx (wU_r hdq (va_up_s _ _ _)) _) (lw_meth q661) q103 q659 q660 rfl (by decide +kernel) ⟨Nat.le_of_ble_eq_true rfl, Nat.le_of_ble_eq_true rfl⟩ rfl hl.1 rfl (Nat.le_of_ble_eq_true rfl) dX0_reading_70 ⟨Nat.le_of_ble_eq_true rfl, Nat.le_of_ble_eq_true rfl⟩) (fun w41 H locs hp43 hB => ?_)
            subst hp43
            rw [(hdq.put_t (xO 14 [.int (iI wx), .int (iI cx)]) (va_up_s _ _ _)).2] at hB
            replace hB : xBB E (xA (wU w X) sz) s o Ad I F (va_up (va_up X q37 (some (xO 14 [.int (iI 0), .int (iI 0)]))) q37 (some (xO 14 [.int (iI wx), .int (iI cx)]))) _ _ := ⟨wq, hIq, (hdq.put_t _ (va_up_s _ _ _)).1, hB⟩
            rw [bx_uu] at hB
            replace hB : xBB E (xA (wU w X) sz) s o Ad I F (va_up X q37 (some (xO 14 [.int (iI wx), .int (iI cx)]))) _ _ := hB
            refine b_radd C hZ hB (n := n_) (va_up_s _ _ _) hn_ (by omega) (by omega) q673 ⟨Nat.le_of_ble_eq_true rfl, Nat.le_of_ble_eq_true rfl⟩ hl.1 (Nat.le_of_ble_eq_true rfl) dX0_reading_73 ⟨Nat.le_of_ble_eq_true rfl, Nat.le_of_ble_eq_true rfl⟩ (fun z44 H locs Ad45 x46 X47 hx48 hB => ?_)
            refine x_up (c2 := 2) (s2 := 12) (Nat.le_of_ble_eq_true rfl) (Nat.le_of_ble_eq_true rfl) ?_
            replace hB : xBB E (xA (wU w X) sz) s o Ad45 ((rdI1 I x46 n_)) ((rdF1 F n_ wx cx)) X47 _ _ := hB
            refine lv_pop hx hb dX0_reading_78 rfl ?_
            refine lv_aload_n hx hb dX0_reading_79 rfl (lv_at hl 0 rfl) ?_
            refine b_get C hB 16 (by decide) q312 (v := .ref (Ad45 17)) rfl rfl dX0_reading_80 ?_
            refine b_size C hZ hB (n := (n_ : Int) + 1) (ed := Ad45 31) (fun w hI _ => wU_l (hI.at (r := 17) rfl)) (by omega) q242 ⟨Nat.le_of_ble_eq_true rfl, Nat.le_of_ble_eq_true rfl⟩ hl.1 (Nat.le_of_ble_eq_true rfl) dX0_reading_83 ⟨Nat.le_of_ble_eq_true rfl, Nat.le_of_ble_eq_true rfl⟩ (fun H locs hB => ?_)
            refine lv_iconst (v := iI 1) hx hb dX0_reading_88 rfl ?_
            refine x_isub (z := (n_ : Int)) hx hb dX0_reading_89 (by omega) ?_
            exact b_iret C hB hr hlocks rfl dX0_reading_90 (Nat.le_of_ble_eq_true rfl) (Nat.le_of_ble_eq_true rfl) ⟨by omega, by omega⟩ ⟨mAg_read F hn_ (show 0 ≤ rRead I wx cx from by unfold rRead; (repeat' split) <;> omega), by unfold rRead; (repeat' split) <;> omega⟩
          · refine lv_bipush (v := iI (-4)) hx hb dX0_reading_57 rfl ?_
            exact b_iret C hB hr hlocks rfl dX0_reading_59 (Nat.le_of_ble_eq_true rfl) (Nat.le_of_ble_eq_true rfl) ⟨by decide, by decide⟩ ⟨mAg_read0 F (show rRead I wx cx = -4 from by unfold rRead; (repeat' split) <;> omega) (by decide), by unfold rRead; (repeat' split) <;> omega⟩
        · refine lv_bipush (v := iI (-2)) hx hb dX0_reading_40 rfl ?_
          exact b_iret C hB hr hlocks rfl dX0_reading_42 (Nat.le_of_ble_eq_true rfl) (Nat.le_of_ble_eq_true rfl) ⟨by decide, by decide⟩ ⟨mAg_read0 F (show rRead I wx cx = -2 from by unfold rRead; (repeat' split) <;> omega) (by decide), by unfold rRead; (repeat' split) <;> omega⟩
    · refine x_if_eq (tgt := 40) hx hb dX0_reading_19 (by decide) ⟨by decide, by decide⟩ (fun c49 => ?_) (fun c49 => by exfalso; omega)
      refine lv_bipush (v := iI (-2)) hx hb dX0_reading_40 rfl ?_
      exact b_iret C hB hr hlocks rfl dX0_reading_42 (Nat.le_of_ble_eq_true rfl) (Nat.le_of_ble_eq_true rfl) ⟨by decide, by decide⟩ ⟨mAg_read0 F (show rRead I wx cx = -2 from by unfold rRead; (repeat' split) <;> omega) (by decide), by unfold rRead; (repeat' split) <;> omega⟩
set_option maxHeartbeats 800000 in
set_option maxRecDepth 100000 in
theorem kX0_back (l : Launch) (E : xE) (o : Nat) (Ad : Nat → Nat) (I : Nat → Int) (F : Nat → Nat → Int) (X : xw) (nb : Int) (hnb : rg nb) (hOK : mOK I F) : ci_ l E yX0_back cX0_back 3 (some .int) 3 66 0 0 [.ref o, .int (iI nb)] o Ad I F X (fun z Ad' I' F' X' => mAg (nBack I nb) F I' F' ∧ z = rBack I nb) := by
  intro w hI hd sz
  refine x_bodyz (by decide) (Nat.le_of_ble_eq_true rfl) ?_
  intro p e s m args below meth c ls hx hb C hr hlocks hin hsz hZ hB hl
  have C : xC E p s m args c cX0_back 3 RX0 := C
  replace hB : xBB E (xA (wU w X) sz) s o Ad I F X s.heap [] := ⟨w, hI, hd, hB⟩
  have hl : lv_has ls 3 [(0, .ref o), (1, .int (iI nb))] := hl
  have hOK0 := hOK
  obtain ⟨⟨hf1, hf2⟩, ⟨hl1, hl2⟩, ⟨hr1, hr2⟩, hlr, ⟨hs1, hs2⟩, ⟨hj1, hj2⟩, ⟨hb1, hb2⟩, ⟨hn1, hn2⟩, hL, hR, hN, hS, hC⟩ := hOK
  obtain ⟨hnb1, hnb2⟩ := hnb
  refine lv_iload_n hx hb dX0_back_0 rfl (lv_at hl 1 rfl) ?_
  refine x_i2l hx hb dX0_back_1 ⟨by omega, by omega⟩ ?_
  refine lv_lconst (v := lI 0) hx hb dX0_back_2 rfl ?_
  refine lv_aload_n hx hb dX0_back_3 rfl (lv_at hl 0 rfl) ?_
  refine b_get C hB 16 (by decide) q312 (v := .ref (Ad 17)) rfl rfl dX0_back_4 ?_
  refine b_size C hZ hB (n := I 29) (ed := Ad 31) (fun w hI _ => wU_l (hI.at (r := 17) rfl)) (by omega) q242 ⟨Nat.le_of_ble_eq_true rfl, Nat.le_of_ble_eq_true rfl⟩ hl.1 (Nat.le_of_ble_eq_true rfl) dX0_back_7 ⟨Nat.le_of_ble_eq_true rfl, Nat.le_of_ble_eq_true rfl⟩ (fun H locs hB => ?_)
  refine x_i2l hx hb dX0_back_12 ⟨by omega, by omega⟩ ?_
  refine bs_calli (n := 3) C hB (As := [.long (lI nb), .long (lI 0), .long (lI (I 29))]) (kX0_in l E nb 0 (I 29) ⟨by omega, by omega⟩ ⟨by omega, by omega⟩ ⟨by omega, by omega⟩) (lw_S q234 q235 q68 q236) (by decide +kernel) ⟨Nat.le_of_ble_eq_true rfl, Nat.le_of_ble_eq_true rfl⟩ rfl hl.1 rfl (Nat.le_of_ble_eq_true rfl) dX0_back_13 ⟨Nat.le_of_ble_eq_true rfl, Nat.le_of_ble_eq_true rfl⟩ (fun z1 H locs hz2 hp3 hB => ?_)
  obtain ⟨hz2a, hz2b⟩ := hz2
  rcases hp3 with ⟨rfl, h4⟩ | ⟨rfl, h4⟩
  · refine x_if_ne (tgt := 22) hx hb dX0_back_16 (by decide) ⟨by decide, by decide⟩ (fun c5 => ?_) (fun c5 => by exfalso; omega)
    refine lv_iconst (v := iI 0) hx hb dX0_back_22 rfl ?_
    refine lv_istore_n (lv' := [(2, .int (iI 0)), (0, .ref o), (1, .int (iI nb))]) hx hb dX0_back_23 rfl hl (by decide) rfl (fun ls hl => ?_)
    refine w_loop (fun n9 H locs ls => ∃ (i_ : Nat) (I1 : Nat → Int), n9 = (nb - i_).toNat ∧ ((i_ : Int) ≤ nb) ∧ (I1 29 = I 29 - i_) ∧ (∀ j, j ≠ 29 → j ≠ 42 → I1 j = I j) ∧ xBB E (xA (wU w X) sz) s o Ad I1 F X H locs ∧ lv_has ls 3 [(0, .ref o), (1, .int (iI nb)), (2, .int (iI ((i_ : Int))))]) _ ⟨0, _, rfl, by omega, by omega, fun j _ _ => rfl, hB, lv_sub hl [1, 2, 0] rfl⟩ ?_
    intro n9 H locs ls hI8 ih6
    obtain ⟨i_, I1, hn7, hib, hI1, hIo, hB, hl⟩ := hI8
    refine lv_iload_n hx hb dX0_back_24 rfl (lv_at hl 2 rfl) ?_
    refine lv_iload_n hx hb dX0_back_25 rfl (lv_at hl 1 rfl) ?_
    refine x_icmp_ge (tgt := 56) hx hb dX0_back_26 (by decide) ⟨by omega, by omega⟩ ⟨by omega, by omega⟩ (fun c10 => ?_) (fun c10 => ?_)
    · refine lv_aload_n hx hb dX0_back_56 rfl (lv_at hl 0 rfl) ?_
      refine b_get C hB 16 (by decide) q312 (v := .ref (Ad 17)) rfl rfl dX0_back_57 ?_
      refine b_size C hZ hB (n := I1 29) (ed := Ad 31) (fun w hI _ => wU_l (hI.at (r := 17) rfl)) (by omega) q242 ⟨Nat.le_of_ble_eq_true rfl, Nat.le_of_ble_eq_true rfl⟩ hl.1 (Nat.le_of_ble_eq_true rfl) dX0_back_60 ⟨Nat.le_of_ble_eq_true rfl, Nat.le_of_ble_eq_true rfl⟩ (fun H locs hB => ?_)
      exact b_iret C hB hr hlocks rfl dX0_back_65 (Nat.le_of_ble_eq_true rfl) (Nat.le_of_ble_eq_true rfl) ⟨by omega, by omega⟩ ⟨mAg_back F (by omega) (by omega) hIo, by unfold rBack; rw [if_neg (by omega)]; omega⟩
    · refine lv_aload_n hx hb dX0_back_29 rfl (lv_at hl 0 rfl) ?_
      refine b_get C hB 16 (by decide) q312 (v := .ref (Ad 17)) rfl rfl dX0_back_30 ?_
      refine lv_aload_n hx hb dX0_back_33 rfl (lv_at hl 0 rfl) ?_
      refine b_get C hB 16 (by decide) q312 (v := .ref (Ad 17)) rfl rfl dX0_back_34 ?_
      refine b_size C hZ hB (n := I1 29) (ed := Ad 31) (fun w hI _ => wU_l (hI.at (r := 17) rfl)) (by omega) q242 ⟨Nat.le_of_ble_eq_true rfl, Nat.le_of_ble_eq_true rfl⟩ hl.1 (Nat.le_of_ble_eq_true rfl) dX0_back_37 ⟨Nat.le_of_ble_eq_true rfl, Nat.le_of_ble_eq_true rfl⟩ (fun H locs hB => ?_)
      refine lv_iconst (v := iI 1) hx hb dX0_back_42 rfl ?_
      refine x_isub (z := I1 29 - 1) hx hb dX0_back_43 (by omega) ?_
      obtain ⟨m_, hm_⟩ : ∃ m_ : Nat, I1 29 = (m_ : Int) + 1 := ⟨(I1 29 - 1).toNat, by omega⟩
      refine b_rrem C hZ hB m_ (by omega) hm_ (by omega) q752 ⟨Nat.le_of_ble_eq_true rfl, Nat.le_of_ble_eq_true rfl⟩ hl.1 (Nat.le_of_ble_eq_true rfl) dX0_back_44 ⟨Nat.le_of_ble_eq_true rfl, Nat.le_of_ble_eq_true rfl⟩ (fun zr11 H locs x12 hB => ?_)
      replace hB : xBB E (xA (wU w X) sz) s o Ad ((rdI2 I1 x12 m_)) F X _ _ := hB
      refine lv_pop hx hb dX0_back_49 (by cases zr11 <;> rfl) ?_
      refine lv_iinc (v := iI ((i_ : Int) + 1)) (lv' := [(2, .int (iI ((i_ : Int) + 1))), (0, .ref o), (1, .int (iI nb))]) hx hb dX0_back_50 hl (k := 2) rfl (iI_add _ _) (by decide) rfl (fun ls hl => ?_)
      refine lv_goto (tgt := 24) hx hb dX0_back_53 (by decide) ?_
      exact ih6 _ _ _ _ (by omega) ⟨i_ + 1, _, rfl, by omega, (show (m_ : Int) = _ by omega), fun j h1 h2 => (va_up_n _ _ h1).trans ((va_up_n _ _ h2).trans (hIo j h1 h2)), hB, lv_sub hl [1, 2, 0] rfl⟩
  · refine x_if_ne (tgt := 22) hx hb dX0_back_16 (by decide) ⟨by decide, by decide⟩ (fun c13 => by exfalso; omega) (fun c13 => ?_)
    refine lv_bipush (v := iI (-2)) hx hb dX0_back_19 rfl ?_
    exact b_iret C hB hr hlocks rfl dX0_back_21 (Nat.le_of_ble_eq_true rfl) (Nat.le_of_ble_eq_true rfl) ⟨by decide, by decide⟩ ⟨by unfold nBack; rw [if_pos (by omega)]; exact mAg_rfl I F, by unfold rBack; rw [if_pos (by omega)]⟩
