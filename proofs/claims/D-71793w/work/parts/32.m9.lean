/-! THE MODEL, 9 -/
set_option maxHeartbeats 400000 in
set_option maxRecDepth 100000 in
theorem kX3_inLeastTerms (l : Launch) (E : xE) (u : Nat) (dd : Nat) (wh : Int) (hu : u ≤ 1000) (hd : dd ≤ 1000) (hd0 : 0 < dd) (hw : rg wh) : sl_ l E yX3_inLeastTerms cX3_inLeastTerms 11 (some .long) 0 0 [.long (lI ((u : Int))), .long (lI ((dd : Int))), .int (iI wh)] (fun z => z = if wh = 0 then ((u / Nat.gcd u dd : Nat) : Int) else ((dd / Nat.gcd u dd : Nat) : Int)) := by
  intro w sz
  refine x_body (by decide) (Nat.le_of_ble_eq_true rfl) ?_
  intro p e s m args below meth c ls hx hb C hr hlocks _ hsz hB hl
  have C : xC E p s m args c cX3_inLeastTerms 11 RX3 := C
  have hl : lv_has ls 11 [(0, .long (lI ((u : Int)))), (2, .long (lI ((dd : Int)))), (4, .int (iI wh))] := hl
  obtain ⟨hw1, hw2⟩ := hw
  refine lv_lload_n hx hb dX3_inLeastTerms_0 rfl (lv_at hl 0 rfl) ?_
  refine lv_lstore (lv' := [(5, .long (lI ((u : Int)))), (0, .long (lI ((u : Int)))), (2, .long (lI ((dd : Int)))), (4, .int (iI wh))]) hx hb dX3_inLeastTerms_1 hl (by decide) rfl (fun ls hl => ?_)
  refine lv_lload_n hx hb dX3_inLeastTerms_3 rfl (lv_at hl 2 rfl) ?_
  refine lv_lstore (lv' := [(7, .long (lI ((dd : Int)))), (5, .long (lI ((u : Int)))), (0, .long (lI ((u : Int)))), (2, .long (lI ((dd : Int)))), (4, .int (iI wh))]) hx hb dX3_inLeastTerms_4 hl (by decide) rfl (fun ls hl => ?_)
  refine w_loop (fun n4 H locs ls => ∃ (x : Nat) (y : Nat), n4 = y ∧ (Nat.gcd x y = Nat.gcd u dd) ∧ (x ≤ 1000) ∧ (y ≤ 1000) ∧ xB E (xA w sz) s w H locs ∧ lv_has ls 11 [(0, .long (lI ((u : Int)))), (2, .long (lI ((dd : Int)))), (4, .int (iI wh)), (5, .long (lI ((x : Int)))), (7, .long (lI ((y : Int))))]) _ ⟨u, dd, rfl, rfl, by omega, by omega, hB, lv_sub hl [2, 3, 4, 1, 0] rfl⟩ ?_
  intro n4 H locs ls hI3 ih1
  obtain ⟨x, y, hn2, hgc, hx1, hy1, hB, hl⟩ := hI3
  refine lv_lload hx hb dX3_inLeastTerms_6 (lv_at hl 4 rfl) ?_
  refine lv_lconst (v := lI 0) hx hb dX3_inLeastTerms_8 rfl ?_
  refine x_lcmp hx hb dX3_inLeastTerms_9 ⟨by omega, by omega⟩ ⟨by decide, by decide⟩ (fun z5 k6a k6b k6c => ?_)
  rcases (show ((y : Int) = 0 ∧ z5 = 0) ∨ (0 < (y : Int) ∧ z5 = 1) by omega) with ⟨k6, rfl⟩ | ⟨k6, rfl⟩
  · refine x_if_eq (tgt := 31) hx hb dX3_inLeastTerms_10 (by decide) ⟨by decide, by decide⟩ (fun c7 => ?_) (fun c7 => by exfalso; omega)
    have hy0 : y = 0 := by omega
    subst hy0
    rw [Nat.gcd_zero_right] at hgc
    have hgp : 0 < Nat.gcd u dd := Nat.gcd_pos_of_pos_right _ (by omega)
    have hm1 := Nat.div_le_self u x
    have hm2 := Nat.div_le_self dd x
    have hm3 : (0 : Int) ≤ ((u / x : Nat) : Int) := Int.natCast_nonneg _
    have hm4 : (0 : Int) ≤ ((dd / x : Nat) : Int) := Int.natCast_nonneg _
    refine lv_iload hx hb dX3_inLeastTerms_31 (lv_at hl 2 rfl) ?_
    refine x_if_ne (tgt := 43) hx hb dX3_inLeastTerms_33 (by decide) ⟨by omega, by omega⟩ (fun c8 => ?_) (fun c8 => ?_)
    · refine lv_lload_n hx hb dX3_inLeastTerms_43 rfl (lv_at hl 1 rfl) ?_
      refine lv_lload hx hb dX3_inLeastTerms_44 (lv_at hl 3 rfl) ?_
      refine x_ldiv (a := dd) (b := x) hx hb dX3_inLeastTerms_46 (by omega) (by omega) (by omega) ?_
      exact s_lret C hB hr hlocks dX3_inLeastTerms_47 ⟨by omega, by omega⟩ (by rw [← hgc, if_neg (by omega)])
    · refine lv_lload_n hx hb dX3_inLeastTerms_36 rfl (lv_at hl 0 rfl) ?_
      refine lv_lload hx hb dX3_inLeastTerms_37 (lv_at hl 3 rfl) ?_
      refine x_ldiv (a := u) (b := x) hx hb dX3_inLeastTerms_39 (by omega) (by omega) (by omega) ?_
      refine lv_goto (tgt := 47) hx hb dX3_inLeastTerms_40 (by decide) ?_
      exact s_lret C hB hr hlocks dX3_inLeastTerms_47 ⟨by omega, by omega⟩ (by rw [← hgc, if_pos (by omega)])
  · refine x_if_eq (tgt := 31) hx hb dX3_inLeastTerms_10 (by decide) ⟨by decide, by decide⟩ (fun c9 => by exfalso; omega) (fun c9 => ?_)
    refine lv_lload hx hb dX3_inLeastTerms_13 (lv_at hl 3 rfl) ?_
    refine lv_lload hx hb dX3_inLeastTerms_15 (lv_at hl 4 rfl) ?_
    refine x_lrem (a := x) (b := y) hx hb dX3_inLeastTerms_17 (by omega) (by omega) (by omega) ?_
    refine lv_lstore (lv' := [(9, .long (lI (((x % y : Nat) : Int)))), (0, .long (lI ((u : Int)))), (2, .long (lI ((dd : Int)))), (4, .int (iI wh)), (5, .long (lI ((x : Int)))), (7, .long (lI ((y : Int))))]) hx hb dX3_inLeastTerms_18 hl (by decide) rfl (fun ls hl => ?_)
    refine lv_lload hx hb dX3_inLeastTerms_20 (lv_at hl 5 rfl) ?_
    refine lv_lstore (lv' := [(5, .long (lI ((y : Int)))), (9, .long (lI (((x % y : Nat) : Int)))), (0, .long (lI ((u : Int)))), (2, .long (lI ((dd : Int)))), (4, .int (iI wh)), (7, .long (lI ((y : Int))))]) hx hb dX3_inLeastTerms_22 hl (by decide) rfl (fun ls hl => ?_)
    refine lv_lload hx hb dX3_inLeastTerms_24 (lv_at hl 1 rfl) ?_
    refine lv_lstore (lv' := [(7, .long (lI (((x % y : Nat) : Int)))), (5, .long (lI ((y : Int)))), (9, .long (lI (((x % y : Nat) : Int)))), (0, .long (lI ((u : Int)))), (2, .long (lI ((dd : Int)))), (4, .int (iI wh))]) hx hb dX3_inLeastTerms_26 hl (by decide) rfl (fun ls hl => ?_)
    have hmod := Nat.mod_lt x (show 0 < y by omega)
    refine lv_goto (tgt := 6) hx hb dX3_inLeastTerms_28 (by decide) ?_
    exact ih1 _ _ _ _ (by omega) ⟨y, x % y, rfl, by rw [← hgc, Nat.gcd_comm x y, Nat.gcd_rec y x, Nat.gcd_comm (x % y) y], hy1, Nat.le_of_lt (Nat.lt_of_lt_of_le (Nat.mod_lt x (by omega)) hy1), hB, lv_sub hl [3, 4, 5, 1, 0] rfl⟩
set_option maxHeartbeats 400000 in
set_option maxRecDepth 100000 in
theorem kX3_odds (l : Launch) (E : xE) (o : Nat) (Ad : Nat → Nat) (I : Nat → Int) (F : Nat → Nat → Int) (so : Int) (wh : Int) (hso : rg so) (hw : rg wh) (hOK : mOK I F) : ml_ l E yX3_odds cX3_odds 5 (some .long) 5 124 [.ref o, .int (iI so), .int (iI wh)] o Ad I F (fun z I' F' => z = rOdds I F so wh ∧ mAg I F I' F') := by
  intro w sz hM
  refine x_body (by decide) (Nat.le_of_ble_eq_true rfl) ?_
  intro p e s m args below meth c ls hx hb C hr hlocks _ hsz hB hl
  have C : xC E p s m args c cX3_odds 5 RX3 := C
  replace hB : mB E (xA w sz) s o Ad I F s.heap [] := ⟨w, hM, hB⟩
  have hl : lv_has ls 5 [(0, .ref o), (1, .int (iI so)), (2, .int (iI wh))] := hl
  obtain ⟨hso1, hso2⟩ := hso
  obtain ⟨hw1, hw2⟩ := hw
  have hOK0 := hOK
  obtain ⟨⟨hf1, hf2⟩, ⟨hl1, hl2⟩, ⟨hr1, hr2⟩, hlr, ⟨hs1, hs2⟩, ⟨hj1, hj2⟩, ⟨hb1, hb2⟩, ⟨hn1, hn2⟩, hL, hR, hN, hS, hC⟩ := hOK
  refine lv_iload_n hx hb dX3_odds_0 rfl (lv_at hl 1 rfl) ?_
  refine lv_iconst (v := iI 0) hx hb dX3_odds_1 rfl ?_
  refine lv_iconst (v := iI 4) hx hb dX3_odds_2 rfl ?_
  obtain ⟨wq, hMq, hB⟩ := hB
  refine s_calli (n := 3) C hB (As := [.int (iI so), .int (iI 0), .int (iI 4)]) (kX3_within l E so 0 4 ⟨by omega, by omega⟩ ⟨by omega, by omega⟩ ⟨by omega, by omega⟩) (lw_S q1498 q1499 q77 q1500) (by decide +kernel) ⟨Nat.le_of_ble_eq_true rfl, Nat.le_of_ble_eq_true rfl⟩ rfl hl.1 rfl (Nat.le_of_ble_eq_true rfl) dX3_odds_3 ⟨Nat.zero_le _, Nat.zero_le _⟩ (fun z1 H locs hz2 hp3 hB => ?_)
  replace hB : mB E _ s o Ad I F H locs := ⟨wq, hMq, hB⟩
  obtain ⟨hz2a, hz2b⟩ := hz2
  rcases hp3 with ⟨rfl, h4⟩ | ⟨rfl, h4⟩
  · refine x_if_eq (tgt := 34) hx hb dX3_odds_6 (by decide) ⟨by decide, by decide⟩ (fun c5 => by exfalso; omega) (fun c5 => ?_)
    refine lv_iload_n hx hb dX3_odds_9 rfl (lv_at hl 2 rfl) ?_
    refine lv_iconst (v := iI 0) hx hb dX3_odds_10 rfl ?_
    refine lv_iconst (v := iI 1) hx hb dX3_odds_11 rfl ?_
    obtain ⟨wq, hMq, hB⟩ := hB
    refine s_calli (n := 3) C hB (As := [.int (iI wh), .int (iI 0), .int (iI 1)]) (kX3_within l E wh 0 1 ⟨by omega, by omega⟩ ⟨by omega, by omega⟩ ⟨by omega, by omega⟩) (lw_S q1498 q1499 q77 q1500) (by decide +kernel) ⟨Nat.le_of_ble_eq_true rfl, Nat.le_of_ble_eq_true rfl⟩ rfl hl.1 rfl (Nat.le_of_ble_eq_true rfl) dX3_odds_12 ⟨Nat.zero_le _, Nat.zero_le _⟩ (fun z6 H locs hz7 hp8 hB => ?_)
    replace hB : mB E _ s o Ad I F H locs := ⟨wq, hMq, hB⟩
    obtain ⟨hz7a, hz7b⟩ := hz7
    rcases hp8 with ⟨rfl, h9⟩ | ⟨rfl, h9⟩
    · refine x_if_eq (tgt := 34) hx hb dX3_odds_15 (by decide) ⟨by decide, by decide⟩ (fun c10 => by exfalso; omega) (fun c10 => ?_)
      refine lv_aload_n hx hb dX3_odds_18 rfl (lv_at hl 0 rfl) ?_
      refine m_get C hB 5 (by decide) q1399 (v := .int (iI (I 5))) rfl rfl dX3_odds_19 ?_
      refine x_if_eq (tgt := 34) hx hb dX3_odds_22 (by decide) ⟨by omega, by omega⟩ (fun c11 => ?_) (fun c11 => ?_)
      · refine lv_ldc2 hx hb C.1.2.2.2.1 (C.1.2.2.2.2 _ q1681) dX3_odds_34 ?_
        refine x_rwl (y := lI (-9223372036854775808)) (by decide) ?_
        exact m_lret C hB hr hlocks dX3_odds_37 ⟨by decide, by decide⟩ ⟨by unfold rOdds; rw [if_pos (by omega)], mAg_rfl I F⟩
      · refine lv_aload_n hx hb dX3_odds_25 rfl (lv_at hl 0 rfl) ?_
        refine m_calli (n := 0) C hB (As := []) (kX3_findBest l E o Ad I F hOK0) (lw_V q1540 q1542 qs48 q77 q1543) (by decide +kernel) ⟨Nat.le_of_ble_eq_true rfl, Nat.le_of_ble_eq_true rfl⟩ rfl hl.1 rfl (Nat.le_of_ble_eq_true rfl) dX3_odds_26 ⟨Nat.zero_le _, Nat.zero_le _⟩ (fun z12 I13 F14 H locs hz15 hp16 hB => ?_)
        obtain ⟨hz15a, hz15b⟩ := hz15
        obtain ⟨g17, g18, g19, g20, g21, g22, rfl, rfl, ht23, hli24, hv25⟩ := hp16
        have hV0 : VB 840 (DT I F (I 9) 0 0) := VBD (by omega) (by omega) (csM60 hOK0) (by omega) (by omega)
        have hzv : (z12 = -9 ∧ (DT I F (I 9) 0 0).1 = 100000) ∨ (z12 ≠ -9 ∧ (DT I F (I 9) 0 0).1 ≠ 100000) := by
          rw [hv25]; unfold VB at hV0; split <;> omega
        have hbl := bpath_len I F (I 9)
        refine lv_bipush (v := iI (-9)) hx hb dX3_odds_29 rfl ?_
        refine x_icmp_ne (tgt := 38) hx hb dX3_odds_31 (by decide) ⟨by omega, by omega⟩ ⟨by decide, by decide⟩ (fun c26 => ?_) (fun c26 => ?_)
        · have hbp := bpath_pos (w := I 9) (F := F) (by omega) hl1 (by omega)
          have hcl := cntS_le so (bpath I F (I 9))
          refine lv_iconst (v := iI 0) hx hb dX3_odds_38 rfl ?_
          refine lv_istore_n (lv' := [(3, .int (iI 0)), (0, .ref o), (1, .int (iI so)), (2, .int (iI wh))]) hx hb dX3_odds_39 rfl hl (by decide) rfl (fun ls hl => ?_)
          refine lv_iconst (v := iI 0) hx hb dX3_odds_40 rfl ?_
          refine lv_istore (lv' := [(4, .int (iI 0)), (3, .int (iI 0)), (0, .ref o), (1, .int (iI so)), (2, .int (iI wh))]) hx hb dX3_odds_41 hl (by decide) rfl (fun ls hl => ?_)
          refine w_loop (fun n30 H locs ls => ∃ (x : Nat) (k : Nat), n30 = (bpath I F (I 9)).length - k ∧ (k ≤ (bpath I F (I 9)).length) ∧ (x ≤ k) ∧ (cntS so (bpath I F (I 9)) = x + cntS so ((bpath I F (I 9)).drop k)) ∧ mB E (xA w sz) s o Ad (va_up I 24 ((bpath I F (I 9)).length : Int)) (up3 (upp F g20 g21 g22) g17 g18 g19) H locs ∧ lv_has ls 5 [(0, .ref o), (1, .int (iI so)), (2, .int (iI wh)), (3, .int (iI ((x : Int)))), (4, .int (iI ((k : Int))))]) _ ⟨0, 0, rfl, Nat.zero_le _, Nat.le_refl _, (Nat.zero_add _).symm, hB, lv_sub hl [2, 3, 4, 1, 0] rfl⟩ ?_
          intro n30 H locs ls hI29 ih27
          obtain ⟨x, k, hn28, hk, hxk, hct, hB, hl⟩ := hI29
          refine lv_iload hx hb dX3_odds_43 (lv_at hl 4 rfl) ?_
          refine lv_aload_n hx hb dX3_odds_45 rfl (lv_at hl 0 rfl) ?_
          refine m_get C hB 24 (by decide) q1418 (v := .int (iI ((((bpath I F (I 9)).length : Nat) : Int)))) rfl rfl dX3_odds_46 ?_
          refine x_icmp_ge (tgt := 77) hx hb dX3_odds_49 (by decide) ⟨by omega, by omega⟩ ⟨by omega, by omega⟩ (fun c31 => ?_) (fun c31 => ?_)
          · have hke : k = (bpath I F (I 9)).length := by omega
            rw [hke, List.drop_length] at hct
            replace hct : cntS so (bpath I F (I 9)) = x := hct
            refine lv_iload_n hx hb dX3_odds_77 rfl (lv_at hl 3 rfl) ?_
            refine x_i2l hx hb dX3_odds_78 ⟨by omega, by omega⟩ ?_
            refine lv_aload_n hx hb dX3_odds_79 rfl (lv_at hl 0 rfl) ?_
            refine m_get C hB 24 (by decide) q1418 (v := .int (iI ((((bpath I F (I 9)).length : Nat) : Int)))) rfl rfl dX3_odds_80 ?_
            refine x_i2l hx hb dX3_odds_83 ⟨by omega, by omega⟩ ?_
            refine lv_iload_n hx hb dX3_odds_84 rfl (lv_at hl 2 rfl) ?_
            obtain ⟨wq, hMq, hB⟩ := hB
            refine s_calll (n := 3) C hB (As := [.long (lI ((x : Int))), .long (lI ((((bpath I F (I 9)).length : Nat) : Int))), .int (iI wh)]) (kX3_inLeastTerms l E x ((bpath I F (I 9)).length) wh (by omega) (by omega) (by omega) ⟨by omega, by omega⟩) (lw_S q1682 q1683 q77 q1684) (by decide +kernel) ⟨Nat.le_of_ble_eq_true rfl, Nat.le_of_ble_eq_true rfl⟩ rfl hl.1 rfl (Nat.le_of_ble_eq_true rfl) dX3_odds_85 ⟨Nat.zero_le _, Nat.zero_le _⟩ (fun z32 H locs hz33 hp34 hB => ?_)
            replace hB : mB E _ s o Ad (va_up I 24 ((bpath I F (I 9)).length : Int)) (up3 (upp F g20 g21 g22) g17 g18 g19) H locs := ⟨wq, hMq, hB⟩
            obtain ⟨hz33a, hz33b⟩ := hz33
            exact m_lret C hB hr hlocks dX3_odds_88 ⟨by omega, by omega⟩ ⟨by unfold rOdds; rw [if_neg (by omega), hct]; exact hp34, mAg_scr _ _ _ _ _ _ _ _ _⟩
          · have hkl : k < (bpath I F (I 9)).length := by omega
            obtain ⟨qs, qi, qj, hq⟩ : ∃ qs qi qj, (bpath I F (I 9))[k]? = some (qs, qi, qj) := ⟨_, _, _, List.getElem?_eq_getElem hkl⟩
            have hin := bpath_in hOK0 (List.mem_of_getElem? hq)
            dsimp only at hin
            have hqq := hli24 k _ hq
            dsimp only at hqq
            refine lv_iload_n hx hb dX3_odds_52 rfl (lv_at hl 3 rfl) ?_
            refine lv_aload_n hx hb dX3_odds_53 rfl (lv_at hl 0 rfl) ?_
            refine m_get C hB 25 (by decide) q1419 (v := .ref (Ad 25)) rfl rfl dX3_odds_54 ?_
            refine lv_iload hx hb dX3_odds_57 (lv_at hl 4 rfl) ?_
            refine m_ald C hB 25 14 rfl (v := (qs : Int)) k rfl (by omega) hqq.1 dX3_odds_59 ?_
            refine lv_iload_n hx hb dX3_odds_60 rfl (lv_at hl 1 rfl) ?_
            refine x_icmp_ne (tgt := 68) hx hb dX3_odds_61 (by decide) ⟨by omega, by omega⟩ ⟨by omega, by omega⟩ (fun c35 => ?_) (fun c35 => ?_)
            · refine lv_iconst (v := iI 0) hx hb dX3_odds_68 rfl ?_
              refine x_iadd (z := (x : Int)) hx hb dX3_odds_69 (by omega) ?_
              refine lv_istore_n (lv' := [(3, .int (iI ((x : Int)))), (0, .ref o), (1, .int (iI so)), (2, .int (iI wh)), (4, .int (iI ((k : Int))))]) hx hb dX3_odds_70 rfl hl (by decide) rfl (fun ls hl => ?_)
              refine lv_iinc (v := iI ((k : Int) + 1)) (lv' := [(4, .int (iI ((k : Int) + 1))), (3, .int (iI ((x : Int)))), (0, .ref o), (1, .int (iI so)), (2, .int (iI wh))]) hx hb dX3_odds_71 hl (k := 4) rfl (iI_add _ _) (by decide) rfl (fun ls hl => ?_)
              refine lv_goto (tgt := 43) hx hb dX3_odds_74 (by decide) ?_
              exact ih27 _ _ _ _ (by omega) ⟨x, k + 1, rfl, by omega, by omega, by rw [hct, drop_of hq, show cntS so ((qs, qi, qj) :: (bpath I F (I 9)).drop (k + 1)) = (if (qs : Int) = so then 1 else 0) + cntS so ((bpath I F (I 9)).drop (k + 1)) from rfl, if_neg (by omega)]; omega, hB, lv_sub hl [2, 3, 4, 1, 0] rfl⟩
            · refine lv_iconst (v := iI 1) hx hb dX3_odds_64 rfl ?_
              refine lv_goto (tgt := 69) hx hb dX3_odds_65 (by decide) ?_
              refine x_iadd (z := (x : Int) + 1) hx hb dX3_odds_69 (by omega) ?_
              refine lv_istore_n (lv' := [(3, .int (iI ((x : Int) + 1))), (0, .ref o), (1, .int (iI so)), (2, .int (iI wh)), (4, .int (iI ((k : Int))))]) hx hb dX3_odds_70 rfl hl (by decide) rfl (fun ls hl => ?_)
              refine lv_iinc (v := iI ((k : Int) + 1)) (lv' := [(4, .int (iI ((k : Int) + 1))), (3, .int (iI ((x : Int) + 1))), (0, .ref o), (1, .int (iI so)), (2, .int (iI wh))]) hx hb dX3_odds_71 hl (k := 4) rfl (iI_add _ _) (by decide) rfl (fun ls hl => ?_)
              refine lv_goto (tgt := 43) hx hb dX3_odds_74 (by decide) ?_
              exact ih27 _ _ _ _ (by omega) ⟨x + 1, k + 1, rfl, by omega, by omega, by rw [hct, drop_of hq, show cntS so ((qs, qi, qj) :: (bpath I F (I 9)).drop (k + 1)) = (if (qs : Int) = so then 1 else 0) + cntS so ((bpath I F (I 9)).drop (k + 1)) from rfl, if_pos (by omega)]; omega, hB, lv_sub hl [2, 3, 4, 1, 0] rfl⟩
        · refine lv_ldc2 hx hb C.1.2.2.2.1 (C.1.2.2.2.2 _ q1681) dX3_odds_34 ?_
          refine x_rwl (y := lI (-9223372036854775808)) (by decide) ?_
          exact m_lret C hB hr hlocks dX3_odds_37 ⟨by decide, by decide⟩ ⟨by unfold rOdds; rw [if_pos (by omega)], mAg_scr _ _ _ _ _ _ _ _ _⟩
    · refine x_if_eq (tgt := 34) hx hb dX3_odds_15 (by decide) ⟨by decide, by decide⟩ (fun c36 => ?_) (fun c36 => by exfalso; omega)
      refine lv_ldc2 hx hb C.1.2.2.2.1 (C.1.2.2.2.2 _ q1681) dX3_odds_34 ?_
      refine x_rwl (y := lI (-9223372036854775808)) (by decide) ?_
      exact m_lret C hB hr hlocks dX3_odds_37 ⟨by decide, by decide⟩ ⟨by unfold rOdds; rw [if_pos (by omega)], mAg_rfl I F⟩
  · refine x_if_eq (tgt := 34) hx hb dX3_odds_6 (by decide) ⟨by decide, by decide⟩ (fun c37 => ?_) (fun c37 => by exfalso; omega)
    refine lv_ldc2 hx hb C.1.2.2.2.1 (C.1.2.2.2.2 _ q1681) dX3_odds_34 ?_
    refine x_rwl (y := lI (-9223372036854775808)) (by decide) ?_
    exact m_lret C hB hr hlocks dX3_odds_37 ⟨by decide, by decide⟩ ⟨by unfold rOdds; rw [if_pos (by omega)], mAg_rfl I F⟩
set_option maxHeartbeats 400000 in
set_option maxRecDepth 100000 in
theorem kX3_trace (l : Launch) (E : xE) (o : Nat) (Ad : Nat → Nat) (I : Nat → Int) (F : Nat → Nat → Int) : mi_ l E yX3_trace cX3_trace 1 (some .int) 0 0 [.ref o] o Ad I F (fun z I' F' => z = (iI (I 1)).toInt ∧ mAg I F I' F') := by
  intro w sz hM
  refine x_body (by decide) (Nat.le_of_ble_eq_true rfl) ?_
  intro p e s m args below meth c ls hx hb C hr hlocks _ hsz hB hl
  have C : xC E p s m args c cX3_trace 1 RX3 := C
  replace hB : mB E (xA w sz) s o Ad I F s.heap [] := ⟨w, hM, hB⟩
  have hl : lv_has ls 1 [(0, .ref o)] := hl
  refine lv_aload_n hx hb dX3_trace_0 rfl (lv_at hl 0 rfl) ?_
  refine m_get C hB 1 (by decide) q1395 (v := .int (iI (I 1))) rfl rfl dX3_trace_1 ?_
  refine x_rw (iI_of _).symm ?_
  have := rg_of (iI (I 1))
  exact m_iret C hB hr hlocks rfl dX3_trace_4 ⟨by omega, by omega⟩ ⟨rfl, mAg_rfl I F⟩
set_option maxHeartbeats 400000 in
set_option maxRecDepth 100000 in
theorem kX3_fault (l : Launch) (E : xE) (o : Nat) (Ad : Nat → Nat) (I : Nat → Int) (F : Nat → Nat → Int) (hOK : mOK I F) : mi_ l E yX3_fault cX3_fault 1 (some .int) 0 0 [.ref o] o Ad I F (fun z I' F' => z = I 0 ∧ mAg I F I' F') := by
  intro w sz hM
  refine x_body (by decide) (Nat.le_of_ble_eq_true rfl) ?_
  intro p e s m args below meth c ls hx hb C hr hlocks _ hsz hB hl
  have C : xC E p s m args c cX3_fault 1 RX3 := C
  replace hB : mB E (xA w sz) s o Ad I F s.heap [] := ⟨w, hM, hB⟩
  have hl : lv_has ls 1 [(0, .ref o)] := hl
  have hOK0 := hOK
  obtain ⟨⟨hf1, hf2⟩, ⟨hl1, hl2⟩, ⟨hr1, hr2⟩, hlr, ⟨hs1, hs2⟩, ⟨hj1, hj2⟩, ⟨hb1, hb2⟩, ⟨hn1, hn2⟩, hL, hR, hN, hS, hC⟩ := hOK
  refine lv_aload_n hx hb dX3_fault_0 rfl (lv_at hl 0 rfl) ?_
  refine m_get C hB 0 (by decide) q1394 (v := .int (iI (I 0))) rfl rfl dX3_fault_1 ?_
  exact m_iret C hB hr hlocks rfl dX3_fault_4 ⟨by omega, by omega⟩ ⟨rfl, mAg_rfl I F⟩
set_option maxHeartbeats 400000 in
set_option maxRecDepth 100000 in
theorem kX3_many (l : Launch) (E : xE) (o : Nat) (Ad : Nat → Nat) (I : Nat → Int) (F : Nat → Nat → Int) (wh : Int) (hw : rg wh) (hOK : mOK I F) : mi_ l E yX3_many cX3_many 2 (some .int) 0 0 [.ref o, .int (iI wh)] o Ad I F (fun z I' F' => z = rMany I wh ∧ mAg I F I' F') := by
  intro w sz hM
  refine x_body (by decide) (Nat.le_of_ble_eq_true rfl) ?_
  intro p e s m args below meth c ls hx hb C hr hlocks _ hsz hB hl
  have C : xC E p s m args c cX3_many 2 RX3 := C
  replace hB : mB E (xA w sz) s o Ad I F s.heap [] := ⟨w, hM, hB⟩
  have hl : lv_has ls 2 [(0, .ref o), (1, .int (iI wh))] := hl
  obtain ⟨hw1, hw2⟩ := hw
  have hOK0 := hOK
  obtain ⟨⟨hf1, hf2⟩, ⟨hl1, hl2⟩, ⟨hr1, hr2⟩, hlr, ⟨hs1, hs2⟩, ⟨hj1, hj2⟩, ⟨hb1, hb2⟩, ⟨hn1, hn2⟩, hL, hR, hN, hS, hC⟩ := hOK
  refine lv_iload_n hx hb dX3_many_0 rfl (lv_at hl 1 rfl) ?_
  rcases (show wh = 0 ∨ wh = 1 ∨ wh = 2 ∨ wh = 3 ∨ wh = 4 ∨ wh = 5 ∨ (wh < 0 ∨ 5 < wh) by omega) with c1 | c1 | c1 | c1 | c1 | c1 | c1
  · refine x_tsIn (tgt := 40) hx hb 0 dX3_many_1 (by omega) ⟨by decide, by decide⟩ (by decide) (by decide) rfl (by decide) ?_
    refine lv_aload_n hx hb dX3_many_40 rfl (lv_at hl 0 rfl) ?_
    refine m_get C hB 5 (by decide) q1399 (v := .int (iI (I 5))) rfl rfl dX3_many_41 ?_
    exact m_iret C hB hr hlocks rfl dX3_many_44 ⟨by omega, by omega⟩ ⟨by unfold rMany; (repeat' split) <;> omega, mAg_rfl I F⟩
  · refine x_tsIn (tgt := 45) hx hb 1 dX3_many_1 (by omega) ⟨by decide, by decide⟩ (by decide) (by decide) rfl (by decide) ?_
    refine lv_aload_n hx hb dX3_many_45 rfl (lv_at hl 0 rfl) ?_
    refine m_get C hB 6 (by decide) q1400 (v := .int (iI (I 6))) rfl rfl dX3_many_46 ?_
    exact m_iret C hB hr hlocks rfl dX3_many_49 ⟨by omega, by omega⟩ ⟨by unfold rMany; (repeat' split) <;> omega, mAg_rfl I F⟩
  · refine x_tsIn (tgt := 50) hx hb 2 dX3_many_1 (by omega) ⟨by decide, by decide⟩ (by decide) (by decide) rfl (by decide) ?_
    refine lv_aload_n hx hb dX3_many_50 rfl (lv_at hl 0 rfl) ?_
    refine m_get C hB 7 (by decide) q1401 (v := .int (iI (I 7))) rfl rfl dX3_many_51 ?_
    exact m_iret C hB hr hlocks rfl dX3_many_54 ⟨by omega, by omega⟩ ⟨by unfold rMany; (repeat' split) <;> omega, mAg_rfl I F⟩
  · refine x_tsIn (tgt := 55) hx hb 3 dX3_many_1 (by omega) ⟨by decide, by decide⟩ (by decide) (by decide) rfl (by decide) ?_
    refine lv_aload_n hx hb dX3_many_55 rfl (lv_at hl 0 rfl) ?_
    refine m_get C hB 8 (by decide) q1402 (v := .int (iI (I 8))) rfl rfl dX3_many_56 ?_
    exact m_iret C hB hr hlocks rfl dX3_many_59 ⟨by omega, by omega⟩ ⟨by unfold rMany; (repeat' split) <;> omega, mAg_rfl I F⟩
  · refine x_tsIn (tgt := 60) hx hb 4 dX3_many_1 (by omega) ⟨by decide, by decide⟩ (by decide) (by decide) rfl (by decide) ?_
    refine lv_aload_n hx hb dX3_many_60 rfl (lv_at hl 0 rfl) ?_
    refine m_get C hB 9 (by decide) q1403 (v := .int (iI (I 9))) rfl rfl dX3_many_61 ?_
    exact m_iret C hB hr hlocks rfl dX3_many_64 ⟨by omega, by omega⟩ ⟨by unfold rMany; (repeat' split) <;> omega, mAg_rfl I F⟩
  · refine x_tsIn (tgt := 65) hx hb 5 dX3_many_1 (by omega) ⟨by decide, by decide⟩ (by decide) (by decide) rfl (by decide) ?_
    refine lv_aload_n hx hb dX3_many_65 rfl (lv_at hl 0 rfl) ?_
    refine m_get C hB 29 (by decide) q1423 (v := .int (iI (I 29))) rfl rfl dX3_many_66 ?_
    exact m_iret C hB hr hlocks rfl dX3_many_69 ⟨by omega, by omega⟩ ⟨by unfold rMany; (repeat' split) <;> omega, mAg_rfl I F⟩
  · refine x_tsOut (tgt := 70) hx hb dX3_many_1 ⟨by omega, by omega⟩ c1 (by decide) ?_
    refine lv_bipush (v := iI (-2)) hx hb dX3_many_70 rfl ?_
    exact m_iret C hB hr hlocks rfl dX3_many_72 ⟨by decide, by decide⟩ ⟨by unfold rMany; (repeat' split) <;> omega, mAg_rfl I F⟩
set_option maxHeartbeats 400000 in
set_option maxRecDepth 100000 in
theorem kX3_sheet (l : Launch) (E : xE) (o : Nat) (Ad : Nat → Nat) (I : Nat → Int) (F : Nat → Nat → Int) (k : Int) (so : Int) (n : Int) (hk : rg k) (hso : rg so) (hnr : rg n) (hOK : mOK I F) : mi_ l E yX3_sheet cX3_sheet 5 (some .int) 2 42 [.ref o, .int (iI k), .int (iI so), .int (iI n)] o Ad I F (fun z I' F' => z = rSheet k so n ∧ mAg (nSheetI I k so n) (nSheetF F k so n) I' F') := by
  intro w sz hM
  refine x_body (by decide) (Nat.le_of_ble_eq_true rfl) ?_
  intro p e s m args below meth c ls hx hb C hr hlocks _ hsz hB hl
  have C : xC E p s m args c cX3_sheet 5 RX3 := C
  replace hB : mB E (xA w sz) s o Ad I F s.heap [] := ⟨w, hM, hB⟩
  have hl : lv_has ls 5 [(0, .ref o), (1, .int (iI k)), (2, .int (iI so)), (3, .int (iI n))] := hl
  obtain ⟨hk1, hk2⟩ := hk
  obtain ⟨hso1, hso2⟩ := hso
  obtain ⟨hnr1, hnr2⟩ := hnr
  have hOK0 := hOK
  obtain ⟨⟨hf1, hf2⟩, ⟨hl1, hl2⟩, ⟨hr1, hr2⟩, hlr, ⟨hs1, hs2⟩, ⟨hj1, hj2⟩, ⟨hb1, hb2⟩, ⟨hn1, hn2⟩, hL, hR, hN, hS, hC⟩ := hOK
  refine lv_aload_n hx hb dX3_sheet_0 rfl (lv_at hl 0 rfl) ?_
  refine lv_iconst (v := iI 0) hx hb dX3_sheet_1 rfl ?_
  refine m_put C hB 0 (by decide) rfl q1394 rfl rfl dX3_sheet_2 (fun H locs hB => ?_)
  refine lv_iload_n hx hb dX3_sheet_5 rfl (lv_at hl 1 rfl) ?_
  obtain ⟨wq, hMq, hB⟩ := hB
  refine s_calli (n := 1) C hB (As := [.int (iI k)]) (kX3_isSheet l E k ⟨by omega, by omega⟩) (lw_S q1495 q1496 q77 q1497) (by decide +kernel) ⟨Nat.le_of_ble_eq_true rfl, Nat.le_of_ble_eq_true rfl⟩ rfl hl.1 rfl (Nat.le_of_ble_eq_true rfl) dX3_sheet_6 ⟨Nat.zero_le _, Nat.zero_le _⟩ (fun z1 H locs hz2 hp3 hB => ?_)
  replace hB : mB E _ s o Ad (va_up I 0 0) F H locs := ⟨wq, hMq, hB⟩
  obtain ⟨hz2a, hz2b⟩ := hz2
  rcases hp3 with ⟨rfl, h4⟩ | ⟨rfl, h4⟩
  · refine x_if_ne (tgt := 14) hx hb dX3_sheet_9 (by decide) ⟨by decide, by decide⟩ (fun c5 => ?_) (fun c5 => by exfalso; omega)
    refine lv_iload_n hx hb dX3_sheet_14 rfl (lv_at hl 2 rfl) ?_
    obtain ⟨wq, hMq, hB⟩ := hB
    refine s_calli (n := 1) C hB (As := [.int (iI so)]) (kX3_isSort l E so ⟨by omega, by omega⟩) (lw_S q1501 q1502 q77 q1503) (by decide +kernel) ⟨Nat.le_of_ble_eq_true rfl, Nat.le_of_ble_eq_true rfl⟩ rfl hl.1 rfl (Nat.le_of_ble_eq_true rfl) dX3_sheet_15 ⟨Nat.zero_le _, Nat.zero_le _⟩ (fun z6 H locs hz7 hp8 hB => ?_)
    replace hB : mB E _ s o Ad (va_up I 0 0) F H locs := ⟨wq, hMq, hB⟩
    obtain ⟨hz7a, hz7b⟩ := hz7
    rcases hp8 with ⟨rfl, h9⟩ | ⟨rfl, h9⟩
    · refine x_if_eq (tgt := 27) hx hb dX3_sheet_18 (by decide) ⟨by decide, by decide⟩ (fun c10 => by exfalso; omega) (fun c10 => ?_)
      refine lv_iload_n hx hb dX3_sheet_21 rfl (lv_at hl 3 rfl) ?_
      refine lv_bipush (v := iI 60) hx hb dX3_sheet_22 rfl ?_
      refine x_icmp_le (tgt := 30) hx hb dX3_sheet_24 (by decide) ⟨by omega, by omega⟩ ⟨by decide, by decide⟩ (fun c11 => ?_) (fun c11 => ?_)
      · refine lv_iload_n hx hb dX3_sheet_30 rfl (lv_at hl 3 rfl) ?_
        refine x_if_ge (tgt := 40) hx hb dX3_sheet_31 (by decide) ⟨by omega, by omega⟩ (fun c12 => ?_) (fun c12 => ?_)
        · obtain ⟨kk, rfl⟩ : ∃ kk : Nat, k = (kk : Int) := ⟨k.toNat, by omega⟩
          refine lv_aload_n hx hb dX3_sheet_40 rfl (lv_at hl 0 rfl) ?_
          refine m_get C hB 2 (by decide) q1396 (v := .ref (Ad 2)) rfl rfl dX3_sheet_41 ?_
          refine lv_iload_n hx hb dX3_sheet_44 rfl (lv_at hl 1 rfl) ?_
          refine lv_iload_n hx hb dX3_sheet_45 rfl (lv_at hl 2 rfl) ?_
          refine m_ast C hB 2 4 rfl (f := F 2) kk rfl (by omega) rfl dX3_sheet_46 (fun H locs hB => ?_)
          refine lv_aload_n hx hb dX3_sheet_47 rfl (lv_at hl 0 rfl) ?_
          refine m_get C hB 3 (by decide) q1397 (v := .ref (Ad 3)) rfl rfl dX3_sheet_48 ?_
          refine lv_iload_n hx hb dX3_sheet_51 rfl (lv_at hl 1 rfl) ?_
          refine lv_iload_n hx hb dX3_sheet_52 rfl (lv_at hl 3 rfl) ?_
          refine m_ast C hB 3 4 rfl (f := F 3) kk rfl (by omega) rfl dX3_sheet_53 (fun H locs hB => ?_)
          refine lv_iconst (v := iI 0) hx hb dX3_sheet_54 rfl ?_
          refine lv_istore (lv' := [(4, .int (iI 0)), (0, .ref o), (1, .int (iI ((kk : Int)))), (2, .int (iI so)), (3, .int (iI n))]) hx hb dX3_sheet_55 hl (by decide) rfl (fun ls hl => ?_)
          have hB : mB E (xA w sz) s o Ad (va_up I 0 0) (va_up (va_up (va_up F 2 (va_up (F 2) kk so)) 3 (va_up (F 3) kk n)) 4 (zer (F 4) (60 * kk) 0)) H locs := by rw [zer_0, show F 4 = (va_up (va_up F 2 (va_up (F 2) kk so)) 3 (va_up (F 3) kk n)) 4 from rfl, va_up_id]; exact hB
          refine w_loop (fun n16 H locs ls => ∃ (q : Nat), n16 = 60 - q ∧ (q ≤ 60) ∧ mB E (xA w sz) s o Ad (va_up I 0 0) (va_up (va_up (va_up F 2 (va_up (F 2) kk so)) 3 (va_up (F 3) kk n)) 4 (zer (F 4) (60 * kk) q)) H locs ∧ lv_has ls 5 [(0, .ref o), (1, .int (iI ((kk : Int)))), (2, .int (iI so)), (3, .int (iI n)), (4, .int (iI ((q : Int))))]) _ ⟨0, rfl, by omega, hB, lv_sub hl [1, 2, 3, 4, 0] rfl⟩ ?_
          intro n16 H locs ls hI15 ih13
          obtain ⟨q, hn14, hq, hB, hl⟩ := hI15
          refine lv_iload hx hb dX3_sheet_57 (lv_at hl 4 rfl) ?_
          refine lv_bipush (v := iI 60) hx hb dX3_sheet_59 rfl ?_
          refine x_icmp_ge (tgt := 83) hx hb dX3_sheet_61 (by decide) ⟨by omega, by omega⟩ ⟨by decide, by decide⟩ (fun c17 => ?_) (fun c17 => ?_)
          · refine lv_iconst (v := iI 1) hx hb dX3_sheet_83 rfl ?_
            exact m_iret C hB hr hlocks rfl dX3_sheet_84 ⟨by decide, by decide⟩ (by
                          have hr : rSheet (kk : Int) so n = 1 := by { unfold rSheet; (repeat' split) <;> omega }
                          exact ⟨hr.symm, by unfold nSheetI nSheetF; rw [hr, if_pos rfl, show q = 60 by omega]; exact ⟨by simp [fI, va_up], rfl, rfl, rfl, rfl, rfl, rfl, rfl, fun _ _ => ⟨rfl, rfl, rfl⟩, fun _ _ => ⟨rfl, rfl⟩, fun _ _ => ⟨rfl, rfl⟩, fun _ _ => ⟨rfl, rfl⟩, fun _ _ => rfl⟩⟩)
          · refine lv_aload_n hx hb dX3_sheet_64 rfl (lv_at hl 0 rfl) ?_
            refine m_get C hB 4 (by decide) q1398 (v := .ref (Ad 4)) rfl rfl dX3_sheet_65 ?_
            refine lv_bipush (v := iI 60) hx hb dX3_sheet_68 rfl ?_
            refine lv_iload_n hx hb dX3_sheet_70 rfl (lv_at hl 1 rfl) ?_
            refine x_imul (z := 60 * (kk : Int)) hx hb dX3_sheet_71 (by omega) ?_
            refine lv_iload hx hb dX3_sheet_72 (lv_at hl 4 rfl) ?_
            refine x_iadd (z := 60 * (kk : Int) + (q : Int)) hx hb dX3_sheet_74 (by omega) ?_
            refine lv_iconst (v := iI 0) hx hb dX3_sheet_75 rfl ?_
            refine m_ast C hB 4 240 rfl (f := (zer (F 4) (60 * kk) q)) (60 * kk + q) (by omega) (by omega) rfl dX3_sheet_76 (fun H locs hB => ?_)
            rw [bx_uu, zer_s] at hB
            refine lv_iinc (v := iI ((q : Int) + 1)) (lv' := [(4, .int (iI ((q : Int) + 1))), (0, .ref o), (1, .int (iI ((kk : Int)))), (2, .int (iI so)), (3, .int (iI n))]) hx hb dX3_sheet_77 hl (k := 4) rfl (iI_add _ _) (by decide) rfl (fun ls hl => ?_)
            refine lv_goto (tgt := 57) hx hb dX3_sheet_80 (by decide) ?_
            exact ih13 _ _ _ _ (by omega) ⟨q + 1, rfl, by omega, hB, lv_sub hl [1, 2, 3, 4, 0] rfl⟩
        · refine lv_aload_n hx hb dX3_sheet_34 rfl (lv_at hl 0 rfl) ?_
          refine lv_iconst (v := iI 4) hx hb dX3_sheet_35 rfl ?_
          refine m_calli (n := 1) C hB (As := [.int (iI 4)]) (kX3_fails l E o Ad (va_up I 0 0) F 4 (by omega)) (lw_V q1508 q1510 qs41 q77 q1511) (by decide +kernel) ⟨Nat.le_of_ble_eq_true rfl, Nat.le_of_ble_eq_true rfl⟩ rfl hl.1 rfl (Nat.le_of_ble_eq_true rfl) dX3_sheet_36 ⟨Nat.zero_le _, Nat.zero_le _⟩ (fun z18 I19 F20 H locs hz21 hp22 hB => ?_)
          obtain ⟨hz21a, hz21b⟩ := hz21
          obtain ⟨rfl, rfl, rfl⟩ := hp22
          exact m_iret C hB hr hlocks rfl dX3_sheet_39 ⟨by decide, by decide⟩ (by
                      have hr : rSheet k so n = -14 := by { unfold rSheet; (repeat' split) <;> omega }
                      exact ⟨hr.symm, by unfold nSheetI nSheetF; rw [hr, if_neg (show ¬ (-14 : Int) = 1 by decide)]; exact ⟨by simp [fI, va_up], rfl, rfl, rfl, rfl, rfl, rfl, rfl, fun _ _ => ⟨rfl, rfl, rfl⟩, fun _ _ => ⟨rfl, rfl⟩, fun _ _ => ⟨rfl, rfl⟩, fun _ _ => ⟨rfl, rfl⟩, fun _ _ => rfl⟩⟩)
      · refine lv_bipush (v := iI (-2)) hx hb dX3_sheet_27 rfl ?_
        exact m_iret C hB hr hlocks rfl dX3_sheet_29 ⟨by decide, by decide⟩ (by
                  have hr : rSheet k so n = -2 := by { unfold rSheet; (repeat' split) <;> omega }
                  exact ⟨hr.symm, by unfold nSheetI nSheetF; rw [hr, if_neg (show ¬ (-2 : Int) = 1 by decide)]; exact ⟨by simp [fI, va_up], rfl, rfl, rfl, rfl, rfl, rfl, rfl, fun _ _ => ⟨rfl, rfl, rfl⟩, fun _ _ => ⟨rfl, rfl⟩, fun _ _ => ⟨rfl, rfl⟩, fun _ _ => ⟨rfl, rfl⟩, fun _ _ => rfl⟩⟩)
    · refine x_if_eq (tgt := 27) hx hb dX3_sheet_18 (by decide) ⟨by decide, by decide⟩ (fun c23 => ?_) (fun c23 => by exfalso; omega)
      refine lv_bipush (v := iI (-2)) hx hb dX3_sheet_27 rfl ?_
      exact m_iret C hB hr hlocks rfl dX3_sheet_29 ⟨by decide, by decide⟩ (by
              have hr : rSheet k so n = -2 := by { unfold rSheet; (repeat' split) <;> omega }
              exact ⟨hr.symm, by unfold nSheetI nSheetF; rw [hr, if_neg (show ¬ (-2 : Int) = 1 by decide)]; exact ⟨by simp [fI, va_up], rfl, rfl, rfl, rfl, rfl, rfl, rfl, fun _ _ => ⟨rfl, rfl, rfl⟩, fun _ _ => ⟨rfl, rfl⟩, fun _ _ => ⟨rfl, rfl⟩, fun _ _ => ⟨rfl, rfl⟩, fun _ _ => rfl⟩⟩)
  · refine x_if_ne (tgt := 14) hx hb dX3_sheet_9 (by decide) ⟨by decide, by decide⟩ (fun c24 => by exfalso; omega) (fun c24 => ?_)
    refine lv_iconst (v := iI (-1)) hx hb dX3_sheet_12 rfl ?_
    exact m_iret C hB hr hlocks rfl dX3_sheet_13 ⟨by decide, by decide⟩ (by
          have hr : rSheet k so n = -1 := by { unfold rSheet; (repeat' split) <;> omega }
          exact ⟨hr.symm, by unfold nSheetI nSheetF; rw [hr, if_neg (show ¬ (-1 : Int) = 1 by decide)]; exact ⟨by simp [fI, va_up], rfl, rfl, rfl, rfl, rfl, rfl, rfl, fun _ _ => ⟨rfl, rfl, rfl⟩, fun _ _ => ⟨rfl, rfl⟩, fun _ _ => ⟨rfl, rfl⟩, fun _ _ => ⟨rfl, rfl⟩, fun _ _ => rfl⟩⟩)
