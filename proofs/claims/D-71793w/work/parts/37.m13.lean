/-! THE MODEL, 13: a day -/
set_option maxHeartbeats 400000 in
set_option maxRecDepth 100000 in
theorem kX3_day (l : Launch) (E : xE) (o : Nat) (Ad : Nat → Nat) (I : Nat → Int) (F : Nat → Nat → Int) (k : Int) (so : Int) (i : Int) (n : Int) (wh : Int) (hk : rg k) (hso : rg so) (hi : rg i) (hnr : rg n) (hw : rg wh) (hOK : mOK I F) : mi_ l E yX3_day cX3_day 10 (some .int) 7 167 [.ref o, .int (iI k), .int (iI so), .int (iI i), .int (iI n), .int (iI wh)] o Ad I F (fun z I' F' => z = rDayO I F k so i n wh ∧ mAg (nDayI I F k so i n wh) F I' F') := by
  intro w sz hM
  refine x_body (by decide) (Nat.le_of_ble_eq_true rfl) ?_
  intro p e s m args below meth c ls hx hb C hr hlocks _ hsz hB hl
  have C : xC E p s m args c cX3_day 10 RX3 := C
  replace hB : mB E (xA w sz) s o Ad I F s.heap [] := ⟨w, hM, hB⟩
  have hl : lv_has ls 10 [(0, .ref o), (1, .int (iI k)), (2, .int (iI so)), (3, .int (iI i)), (4, .int (iI n)), (5, .int (iI wh))] := hl
  obtain ⟨hk1, hk2⟩ := hk
  obtain ⟨hso1, hso2⟩ := hso
  obtain ⟨hi1, hi2⟩ := hi
  obtain ⟨hnr1, hnr2⟩ := hnr
  obtain ⟨hw1, hw2⟩ := hw
  have hOK0 := hOK
  obtain ⟨⟨hf1, hf2⟩, ⟨hl1, hl2⟩, ⟨hr1, hr2⟩, hlr, ⟨hs1, hs2⟩, ⟨hj1, hj2⟩, ⟨hb1, hb2⟩, ⟨hn1, hn2⟩, hL, hR, hN, hS, hC⟩ := hOK
  refine lv_aload_n hx hb dX3_day_0 rfl (lv_at hl 0 rfl) ?_
  refine lv_iconst (v := iI 0) hx hb dX3_day_1 rfl ?_
  refine m_put C hB 0 (by decide) rfl q1394 rfl rfl dX3_day_2 (fun H locs hB => ?_)
  refine lv_iload_n hx hb dX3_day_5 rfl (lv_at hl 1 rfl) ?_
  obtain ⟨wq, hMq, hB⟩ := hB
  refine s_calli (n := 1) C hB (As := [.int (iI k)]) (kX3_isSheet l E k ⟨by omega, by omega⟩) (lw_S q1495 q1496 q77 q1497) (by decide +kernel) ⟨Nat.le_of_ble_eq_true rfl, Nat.le_of_ble_eq_true rfl⟩ rfl hl.1 rfl (Nat.le_of_ble_eq_true rfl) dX3_day_6 ⟨Nat.zero_le _, Nat.zero_le _⟩ (fun z1 H locs hz2 hp3 hB => ?_)
  replace hB : mB E _ s o Ad (va_up I 0 0) F H locs := ⟨wq, hMq, hB⟩
  obtain ⟨hz2a, hz2b⟩ := hz2
  rcases hp3 with ⟨rfl, h4⟩ | ⟨rfl, h4⟩
  · refine x_if_ne (tgt := 14) hx hb dX3_day_9 (by decide) ⟨by decide, by decide⟩ (fun c5 => ?_) (fun c5 => by exfalso; omega)
    refine lv_iload_n hx hb dX3_day_14 rfl (lv_at hl 2 rfl) ?_
    obtain ⟨wq, hMq, hB⟩ := hB
    refine s_calli (n := 1) C hB (As := [.int (iI so)]) (kX3_isSort l E so ⟨by omega, by omega⟩) (lw_S q1501 q1502 q77 q1503) (by decide +kernel) ⟨Nat.le_of_ble_eq_true rfl, Nat.le_of_ble_eq_true rfl⟩ rfl hl.1 rfl (Nat.le_of_ble_eq_true rfl) dX3_day_15 ⟨Nat.zero_le _, Nat.zero_le _⟩ (fun z6 H locs hz7 hp8 hB => ?_)
    replace hB : mB E _ s o Ad (va_up I 0 0) F H locs := ⟨wq, hMq, hB⟩
    obtain ⟨hz7a, hz7b⟩ := hz7
    rcases hp8 with ⟨rfl, h9⟩ | ⟨rfl, h9⟩
    · refine x_if_eq (tgt := 54) hx hb dX3_day_18 (by decide) ⟨by decide, by decide⟩ (fun c10 => by exfalso; omega) (fun c10 => ?_)
      refine lv_iload hx hb dX3_day_21 (lv_at hl 4 rfl) ?_
      refine lv_iconst (v := iI 0) hx hb dX3_day_23 rfl ?_
      refine lv_bipush (v := iI 20) hx hb dX3_day_24 rfl ?_
      obtain ⟨wq, hMq, hB⟩ := hB
      refine s_calli (n := 3) C hB (As := [.int (iI n), .int (iI 0), .int (iI 20)]) (kX3_within l E n 0 20 ⟨by omega, by omega⟩ ⟨by omega, by omega⟩ ⟨by omega, by omega⟩) (lw_S q1498 q1499 q77 q1500) (by decide +kernel) ⟨Nat.le_of_ble_eq_true rfl, Nat.le_of_ble_eq_true rfl⟩ rfl hl.1 rfl (Nat.le_of_ble_eq_true rfl) dX3_day_26 ⟨Nat.zero_le _, Nat.zero_le _⟩ (fun z11 H locs hz12 hp13 hB => ?_)
      replace hB : mB E _ s o Ad (va_up I 0 0) F H locs := ⟨wq, hMq, hB⟩
      obtain ⟨hz12a, hz12b⟩ := hz12
      rcases hp13 with ⟨rfl, h14⟩ | ⟨rfl, h14⟩
      · refine x_if_eq (tgt := 54) hx hb dX3_day_29 (by decide) ⟨by decide, by decide⟩ (fun c15 => by exfalso; omega) (fun c15 => ?_)
        refine lv_iload hx hb dX3_day_32 (lv_at hl 5 rfl) ?_
        refine lv_iconst (v := iI 0) hx hb dX3_day_34 rfl ?_
        refine lv_iconst (v := iI 4) hx hb dX3_day_35 rfl ?_
        obtain ⟨wq, hMq, hB⟩ := hB
        refine s_calli (n := 3) C hB (As := [.int (iI wh), .int (iI 0), .int (iI 4)]) (kX3_within l E wh 0 4 ⟨by omega, by omega⟩ ⟨by omega, by omega⟩ ⟨by omega, by omega⟩) (lw_S q1498 q1499 q77 q1500) (by decide +kernel) ⟨Nat.le_of_ble_eq_true rfl, Nat.le_of_ble_eq_true rfl⟩ rfl hl.1 rfl (Nat.le_of_ble_eq_true rfl) dX3_day_36 ⟨Nat.zero_le _, Nat.zero_le _⟩ (fun z16 H locs hz17 hp18 hB => ?_)
        replace hB : mB E _ s o Ad (va_up I 0 0) F H locs := ⟨wq, hMq, hB⟩
        obtain ⟨hz17a, hz17b⟩ := hz17
        rcases hp18 with ⟨rfl, h19⟩ | ⟨rfl, h19⟩
        · refine x_if_ne (tgt := 57) hx hb dX3_day_39 (by decide) ⟨by decide, by decide⟩ (fun c20 => ?_) (fun c20 => by exfalso; omega)
          obtain ⟨kk, rfl⟩ : ∃ kk : Nat, k = (kk : Int) := ⟨k.toNat, by omega⟩
          have hOKz : mOK (va_up I 0 0) F := mOK_0 hOK0 (by decide)
          refine lv_aload_n hx hb dX3_day_57 rfl (lv_at hl 0 rfl) ?_
          refine lv_iload_n hx hb dX3_day_58 rfl (lv_at hl 1 rfl) ?_
          refine lv_iload_n hx hb dX3_day_59 rfl (lv_at hl 2 rfl) ?_
          refine lv_iload_n hx hb dX3_day_60 rfl (lv_at hl 3 rfl) ?_
          refine lv_iconst (v := iI 2) hx hb dX3_day_61 rfl ?_
          refine lv_iload hx hb dX3_day_62 (lv_at hl 4 rfl) ?_
          refine x_imul (z := 2 * n) hx hb dX3_day_64 (by omega) ?_
          refine m_calli (n := 4) C hB (As := [.int (iI ((kk : Int))), .int (iI so), .int (iI i), .int (iI (2 * n))]) (kX3_against l E o Ad (va_up I 0 0) F kk so i (2 * n) (by omega) ⟨by omega, by omega⟩ ⟨by omega, by omega⟩ ⟨by omega, by omega⟩ hOKz) (lw_V q1504 q1506 qs40 q77 q1507) (by decide +kernel) ⟨Nat.le_of_ble_eq_true rfl, Nat.le_of_ble_eq_true rfl⟩ rfl hl.1 rfl (Nat.le_of_ble_eq_true rfl) dX3_day_65 ⟨Nat.zero_le _, Nat.zero_le _⟩ (fun z21 I22 F23 H locs hz24 hp25 hB => ?_)
          obtain ⟨hz24a, hz24b⟩ := hz24
          obtain ⟨rfl, rfl, hag⟩ := hp25
          have hagb := agn_b F kk so i (2 * n)
          refine lv_istore (lv' := [(6, .int (iI z21)), (0, .ref o), (1, .int (iI ((kk : Int)))), (2, .int (iI so)), (3, .int (iI i)), (4, .int (iI n)), (5, .int (iI wh))]) hx hb dX3_day_68 hl (by decide) rfl (fun ls hl => ?_)
          refine lv_iload hx hb dX3_day_70 (lv_at hl 0 rfl) ?_
          refine x_if_eq (tgt := 82) hx hb dX3_day_72 (by decide) ⟨by omega, by omega⟩ (fun c26 => ?_) (fun c26 => ?_)
          · have hz0 : agn F kk so i (2 * n) = 0 := by omega
            obtain ⟨ha1, ha2, ha3, ha4, ha5, ha6⟩ := agn_z hz0
            have hS1 := hS kk (by omega)
            refine lv_aload_n hx hb dX3_day_82 rfl (lv_at hl 1 rfl) ?_
            refine m_get C hB 5 (by decide) q1399 (v := .int (iI (I 5))) rfl rfl dX3_day_83 ?_
            refine x_if_ne (tgt := 92) hx hb dX3_day_86 (by decide) ⟨by omega, by omega⟩ (fun c27 => ?_) (fun c27 => ?_)
            · obtain ⟨ki, rfl⟩ : ∃ ki : Nat, i = (ki : Int) := ⟨i.toNat, by omega⟩
              obtain ⟨kn, rfl⟩ : ∃ kn : Nat, n = (kn : Int) := ⟨n.toNat, by omega⟩
              refine lv_bipush (v := iI 60) hx hb dX3_day_92 rfl ?_
              refine lv_iload_n hx hb dX3_day_94 rfl (lv_at hl 2 rfl) ?_
              refine x_imul (z := 60 * (kk : Int)) hx hb dX3_day_95 (by omega) ?_
              refine lv_iload_n hx hb dX3_day_96 rfl (lv_at hl 4 rfl) ?_
              refine x_iadd (z := 60 * (kk : Int) + (ki : Int)) hx hb dX3_day_97 (by omega) ?_
              refine lv_istore (lv' := [(7, .int (iI (60 * (kk : Int) + (ki : Int)))), (6, .int (iI z21)), (0, .ref o), (1, .int (iI ((kk : Int)))), (2, .int (iI so)), (3, .int (iI ((ki : Int)))), (4, .int (iI ((kn : Int)))), (5, .int (iI wh))]) hx hb dX3_day_98 hl (by decide) rfl (fun ls hl => ?_)
              refine lv_iconst (v := iI 0) hx hb dX3_day_100 rfl ?_
              refine lv_istore (lv' := [(8, .int (iI 0)), (7, .int (iI (60 * (kk : Int) + (ki : Int)))), (6, .int (iI z21)), (0, .ref o), (1, .int (iI ((kk : Int)))), (2, .int (iI so)), (3, .int (iI ((ki : Int)))), (4, .int (iI ((kn : Int)))), (5, .int (iI wh))]) hx hb dX3_day_101 hl (by decide) rfl (fun ls hl => ?_)
              refine w_loop (fun n31 H locs ls => ∃ (q : Nat), n31 = kn - q ∧ (q ≤ kn) ∧ (∀ t, t < q → isPr (F 4 (60 * kk + ki + 2 * t)) (F 4 (60 * kk + ki + 2 * t + 1))) ∧ mB E (xA w sz) s o Ad (va_up I 0 0) F H locs ∧ lv_has ls 10 [(0, .ref o), (1, .int (iI ((kk : Int)))), (2, .int (iI so)), (3, .int (iI ((ki : Int)))), (4, .int (iI ((kn : Int)))), (5, .int (iI wh)), (7, .int (iI (60 * (kk : Int) + (ki : Int)))), (8, .int (iI ((q : Int))))]) _ ⟨0, rfl, by omega, fun t h => absurd h (Nat.not_lt_zero t), hB, lv_sub hl [3, 4, 5, 6, 7, 8, 1, 0] rfl⟩ ?_
              intro n31 H locs ls hI30 ih28
              obtain ⟨q, hn29, hq, hall, hB, hl⟩ := hI30
              refine lv_iload hx hb dX3_day_103 (lv_at hl 7 rfl) ?_
              refine lv_iload hx hb dX3_day_105 (lv_at hl 4 rfl) ?_
              refine x_icmp_ge (tgt := 151) hx hb dX3_day_107 (by decide) ⟨by omega, by omega⟩ ⟨by omega, by omega⟩ (fun c32 => ?_) (fun c32 => ?_)
              · have hqn : q = kn := by omega
                subst hqn
                have hfr : 60 * kk + ki + 2 * q ≤ 240 := by omega
                refine lv_aload_n hx hb dX3_day_151 rfl (lv_at hl 0 rfl) ?_
                refine m_callv (n := 0) C hB (As := []) (kX3_keep l E o Ad (va_up I 0 0) F ) (lw_V q1629 q1631 qs59 q77 q1632) (by decide +kernel) ⟨Nat.le_of_ble_eq_true rfl, Nat.le_of_ble_eq_true rfl⟩ rfl hl.1 rfl (Nat.le_of_ble_eq_true rfl) dX3_day_152 ⟨Nat.zero_le _, Nat.zero_le _⟩ (fun I34 F35 H locs hp37 hB => ?_)
                obtain ⟨rfl, f28, rfl, hf1, hf14, hf15, hf16⟩ := hp37
                refine lv_aload_n hx hb dX3_day_155 rfl (lv_at hl 0 rfl) ?_
                refine lv_iload hx hb dX3_day_156 (lv_at hl 6 rfl) ?_
                refine lv_iload hx hb dX3_day_158 (lv_at hl 4 rfl) ?_
                refine m_calli (n := 2) C hB (As := [.int (iI (60 * (kk : Int) + (ki : Int))), .int (iI ((q : Int)))]) (kX3_goDay l E o Ad (va_up I 0 0) (kpF F f28) (60 * kk + ki) q (by omega) (by omega) (fun t h => hall t h) hOKz) (lw_V q1633 q1635 qs60 q77 q1636) (by decide +kernel) ⟨Nat.le_of_ble_eq_true rfl, Nat.le_of_ble_eq_true rfl⟩ rfl hl.1 rfl (Nat.le_of_ble_eq_true rfl) dX3_day_160 ⟨Nat.zero_le _, Nat.zero_le _⟩ (fun z38 I39 F40 H locs hz41 hp42 hB => ?_)
                obtain ⟨hz41a, hz41b⟩ := hz41
                obtain ⟨hg1, hg2, hg3, hOK1⟩ := hp42
                have hg := gdy_0 (fun j => F 4 (60 * kk + ki + j)) 0 f28 q 0 I F
                obtain ⟨x7, x8, x9, f11, f13, hI1, hF1⟩ := gdy_form (fun j => F 4 (60 * kk + ki + j)) q 0 I F
                have hrg := gdy_rg (fun j => F 4 (60 * kk + ki + j)) q 0 I F
                replace hg1 : (gdy (fun j => F 4 (60 * kk + ki + j)) q 0 (va_up I 0 0) (kpF F f28)).1 = z38 := hg1
                replace hg2 : (gdy (fun j => F 4 (60 * kk + ki + j)) q 0 (va_up I 0 0) (kpF F f28)).2.1 = I39 := hg2
                replace hg3 : (gdy (fun j => F 4 (60 * kk + ki + j)) q 0 (va_up I 0 0) (kpF F f28)).2.2 = F40 := hg3
                rw [hg] at hg1 hg2 hg3
                dsimp only at hg1 hg2 hg3
                rw [hI1] at hg2
                rw [hF1] at hg3
                subst hg2 hg3
                refine lv_istore (lv' := [(8, .int (iI z38)), (0, .ref o), (1, .int (iI ((kk : Int)))), (2, .int (iI so)), (3, .int (iI ((ki : Int)))), (4, .int (iI ((q : Int)))), (5, .int (iI wh)), (7, .int (iI (60 * (kk : Int) + (ki : Int))))]) hx hb dX3_day_163 hl (by decide) rfl (fun ls hl => ?_)
                refine lv_aload_n hx hb dX3_day_165 rfl (lv_at hl 1 rfl) ?_
                refine lv_iload hx hb dX3_day_166 (lv_at hl 6 rfl) ?_
                refine m_calli (n := 1) C hB (As := [.int (iI wh)]) (kX3_tellDay l E o Ad ((va_up (bd3 I x7 x8 x9) 0 0)) ((kpF (dyF F f11 f13) f28)) wh (by omega) hOK1) (lw_V q1641 q1643 qs62 q77 q1644) (by decide +kernel) ⟨Nat.le_of_ble_eq_true rfl, Nat.le_of_ble_eq_true rfl⟩ rfl hl.1 rfl (Nat.le_of_ble_eq_true rfl) dX3_day_168 ⟨Nat.zero_le _, Nat.zero_le _⟩ (fun z43 I44 F45 H locs hz46 hp47 hB => ?_)
                obtain ⟨hz46a, hz46b⟩ := hz46
                obtain ⟨ht1, pp, g1, g2, g3, g4, g5, g6, rfl, rfl⟩ := hp47
                rw [rTellD_0, ← hI1, ← hF1] at ht1
                refine lv_istore (lv' := [(9, .int (iI z43)), (8, .int (iI z38)), (0, .ref o), (1, .int (iI ((kk : Int)))), (2, .int (iI so)), (3, .int (iI ((ki : Int)))), (4, .int (iI ((q : Int)))), (5, .int (iI wh)), (7, .int (iI (60 * (kk : Int) + (ki : Int))))]) hx hb dX3_day_171 hl (by decide) rfl (fun ls hl => ?_)
                refine lv_aload_n hx hb dX3_day_173 rfl (lv_at hl 2 rfl) ?_
                refine m_callv (n := 0) C hB (As := []) (kX3_putBack l E o Ad ((va_up (va_up (bd3 I x7 x8 x9) 0 0) 24 pp)) ((up3 (upp (kpF (dyF F f11 f13) f28) g4 g5 g6) g1 g2 g3)) ) (lw_V q1645 q1647 qs63 q77 q1648) (by decide +kernel) ⟨Nat.le_of_ble_eq_true rfl, Nat.le_of_ble_eq_true rfl⟩ rfl hl.1 rfl (Nat.le_of_ble_eq_true rfl) dX3_day_174 ⟨Nat.zero_le _, Nat.zero_le _⟩ (fun I49 F50 H locs hp52 hB => ?_)
                obtain ⟨fa, ga, rfl, rfl, hfg⟩ := hp52
                replace hB : mB E (xA w sz) s o Ad (bd3 (va_up (va_up (bd3 I x7 x8 x9) 0 0) 24 pp) (f28 14) (f28 15) (f28 16)) (dyF (up3 (upp (kpF (dyF F f11 f13) f28) g4 g5 g6) g1 g2 g3) fa ga) H locs := hB
                replace hfg : ∀ k, k < 7 → fa k = f28 k ∧ ga k = f28 (7 + k) := hfg
                refine lv_iload hx hb dX3_day_177 (lv_at hl 7 rfl) ?_
                refine lv_iconst (v := iI 1) hx hb dX3_day_179 rfl ?_
                refine x_icmp_ne (tgt := 188) hx hb dX3_day_180 (by decide) ⟨by omega, by omega⟩ ⟨by decide, by decide⟩ (fun c53 => ?_) (fun c53 => ?_)
                · refine lv_iload hx hb dX3_day_188 (lv_at hl 1 rfl) ?_
                  refine lv_bipush (v := iI (-9)) hx hb dX3_day_190 rfl ?_
                  refine x_icmp_ne (tgt := 200) hx hb dX3_day_192 (by decide) ⟨by omega, by omega⟩ ⟨by decide, by decide⟩ (fun c54 => ?_) (fun c54 => ?_)
                  · refine lv_bipush (v := iI (-100)) hx hb dX3_day_200 rfl ?_
                    refine lv_iload hx hb dX3_day_202 (lv_at hl 1 rfl) ?_
                    refine x_isub (z := -z38 - 100) hx hb dX3_day_204 (by omega) ?_
                    exact m_iret C hB hr hlocks rfl dX3_day_205 ⟨by omega, by omega⟩ ⟨by unfold rDayO; rw [if_neg (by omega), if_neg (by omega), Int.toNat_natCast, if_neg (by omega), if_neg (by omega)]; simp only [Int.toNat_natCast]; rw [if_pos (fun t h => hall t h)]; unfold rDay; rw [if_neg (by omega), if_neg (by omega)]; omega, by unfold nDayI; rw [if_neg (by omega), Int.toNat_natCast, hz0]; exact ⟨by simp [fI]; rfl, rfl, rfl, rfl, hf14, hf15, hf16, rfl, fun k hk => have hk2 : (k : Int) < I 5 := hk; ⟨rfl, (hfg k (by omega)).1.trans (hf1 k (by omega)).1, rfl⟩, fun k hk => have hk2 : (k : Int) < I 6 := hk; ⟨(hfg k (by omega)).2.trans (hf1 k (by omega)).2, rfl⟩, fun _ _ => ⟨rfl, rfl⟩, fun _ _ => ⟨rfl, rfl⟩, fun _ _ => rfl⟩⟩
                  · refine lv_iload hx hb dX3_day_195 (lv_at hl 0 rfl) ?_
                    refine lv_goto (tgt := 205) hx hb dX3_day_197 (by decide) ?_
                    exact m_iret C hB hr hlocks rfl dX3_day_205 ⟨by omega, by omega⟩ ⟨by unfold rDayO; rw [if_neg (by omega), if_neg (by omega), Int.toNat_natCast, if_neg (by omega), if_neg (by omega)]; simp only [Int.toNat_natCast]; rw [if_pos (fun t h => hall t h)]; unfold rDay; rw [if_neg (by omega), if_pos (by omega)]; exact ht1 (by omega), by unfold nDayI; rw [if_neg (by omega), Int.toNat_natCast, hz0]; exact ⟨by simp [fI]; rfl, rfl, rfl, rfl, hf14, hf15, hf16, rfl, fun k hk => have hk2 : (k : Int) < I 5 := hk; ⟨rfl, (hfg k (by omega)).1.trans (hf1 k (by omega)).1, rfl⟩, fun k hk => have hk2 : (k : Int) < I 6 := hk; ⟨(hfg k (by omega)).2.trans (hf1 k (by omega)).2, rfl⟩, fun _ _ => ⟨rfl, rfl⟩, fun _ _ => ⟨rfl, rfl⟩, fun _ _ => rfl⟩⟩
                · refine lv_iload hx hb dX3_day_183 (lv_at hl 1 rfl) ?_
                  refine lv_goto (tgt := 205) hx hb dX3_day_185 (by decide) ?_
                  exact m_iret C hB hr hlocks rfl dX3_day_205 ⟨by omega, by omega⟩ ⟨by unfold rDayO; rw [if_neg (by omega), if_neg (by omega), Int.toNat_natCast, if_neg (by omega), if_neg (by omega)]; simp only [Int.toNat_natCast]; rw [if_pos (fun t h => hall t h)]; unfold rDay; rw [if_pos (by omega)]; exact hg1.symm, by unfold nDayI; rw [if_neg (by omega), Int.toNat_natCast, hz0]; exact ⟨by simp [fI]; rfl, rfl, rfl, rfl, hf14, hf15, hf16, rfl, fun k hk => have hk2 : (k : Int) < I 5 := hk; ⟨rfl, (hfg k (by omega)).1.trans (hf1 k (by omega)).1, rfl⟩, fun k hk => have hk2 : (k : Int) < I 6 := hk; ⟨(hfg k (by omega)).2.trans (hf1 k (by omega)).2, rfl⟩, fun _ _ => ⟨rfl, rfl⟩, fun _ _ => ⟨rfl, rfl⟩, fun _ _ => rfl⟩⟩
              · refine lv_aload_n hx hb dX3_day_110 rfl (lv_at hl 0 rfl) ?_
                refine m_get C hB 4 (by decide) q1398 (v := .ref (Ad 4)) rfl rfl dX3_day_111 ?_
                refine lv_iload hx hb dX3_day_114 (lv_at hl 6 rfl) ?_
                refine lv_iconst (v := iI 2) hx hb dX3_day_116 rfl ?_
                refine lv_iload hx hb dX3_day_117 (lv_at hl 7 rfl) ?_
                refine x_imul (z := 2 * (q : Int)) hx hb dX3_day_119 (by omega) ?_
                refine x_iadd (z := 60 * (kk : Int) + (ki : Int) + 2 * (q : Int)) hx hb dX3_day_120 (by omega) ?_
                refine m_ald C hB 4 240 rfl (v := F 4 (60 * kk + ki + 2 * q)) (60 * kk + ki + 2 * q) (by omega) (by omega) rfl dX3_day_121 ?_
                have := hC (60 * kk + ki + 2 * q) (by omega)
                refine lv_aload_n hx hb dX3_day_122 rfl (lv_at hl 0 rfl) ?_
                refine m_get C hB 4 (by decide) q1398 (v := .ref (Ad 4)) rfl rfl dX3_day_123 ?_
                refine lv_iload hx hb dX3_day_126 (lv_at hl 6 rfl) ?_
                refine lv_iconst (v := iI 2) hx hb dX3_day_128 rfl ?_
                refine lv_iload hx hb dX3_day_129 (lv_at hl 7 rfl) ?_
                refine x_imul (z := 2 * (q : Int)) hx hb dX3_day_131 (by omega) ?_
                refine x_iadd (z := 60 * (kk : Int) + (ki : Int) + 2 * (q : Int)) hx hb dX3_day_132 (by omega) ?_
                refine lv_iconst (v := iI 1) hx hb dX3_day_133 rfl ?_
                refine x_iadd (z := 60 * (kk : Int) + (ki : Int) + 2 * (q : Int) + 1) hx hb dX3_day_134 (by omega) ?_
                refine m_ald C hB 4 240 rfl (v := F 4 (60 * kk + ki + 2 * q + 1)) (60 * kk + ki + 2 * q + 1) (by omega) (by omega) rfl dX3_day_135 ?_
                have := hC (60 * kk + ki + 2 * q + 1) (by omega)
                obtain ⟨wq, hMq, hB⟩ := hB
                refine s_calli (n := 2) C hB (As := [.int (iI (F 4 (60 * kk + ki + 2 * q))), .int (iI (F 4 (60 * kk + ki + 2 * q + 1)))]) (kX3_isPair l E (F 4 (60 * kk + ki + 2 * q)) (F 4 (60 * kk + ki + 2 * q + 1)) ⟨by omega, by omega⟩ ⟨by omega, by omega⟩) (lw_S q1626 q1627 q77 q1628) (by decide +kernel) ⟨Nat.le_of_ble_eq_true rfl, Nat.le_of_ble_eq_true rfl⟩ rfl hl.1 rfl (Nat.le_of_ble_eq_true rfl) dX3_day_136 ⟨Nat.zero_le _, Nat.zero_le _⟩ (fun z55 H locs hz56 hp57 hB => ?_)
                replace hB : mB E _ s o Ad (va_up I 0 0) F H locs := ⟨wq, hMq, hB⟩
                obtain ⟨hz56a, hz56b⟩ := hz56
                rcases hp57 with ⟨rfl, hpq⟩ | ⟨rfl, hpq⟩
                · refine x_if_ne (tgt := 145) hx hb dX3_day_139 (by decide) ⟨by decide, by decide⟩ (fun c58 => ?_) (fun c58 => by exfalso; omega)
                  refine lv_iinc (v := iI ((q : Int) + 1)) (lv' := [(8, .int (iI ((q : Int) + 1))), (0, .ref o), (1, .int (iI ((kk : Int)))), (2, .int (iI so)), (3, .int (iI ((ki : Int)))), (4, .int (iI ((kn : Int)))), (5, .int (iI wh)), (7, .int (iI (60 * (kk : Int) + (ki : Int))))]) hx hb dX3_day_145 hl (k := 7) rfl (iI_add _ _) (by decide) rfl (fun ls hl => ?_)
                  refine lv_goto (tgt := 103) hx hb dX3_day_148 (by decide) ?_
                  exact ih28 _ _ _ _ (by omega) ⟨q + 1, rfl, by omega, fun t h => by
                        by_cases e : t = q
                        · subst e; exact hpq
                        · exact hall t (by omega), hB, lv_sub hl [1, 2, 3, 4, 5, 6, 7, 0] rfl⟩
                · refine x_if_ne (tgt := 145) hx hb dX3_day_139 (by decide) ⟨by decide, by decide⟩ (fun c59 => by exfalso; omega) (fun c59 => ?_)
                  refine lv_bipush (v := iI (-2)) hx hb dX3_day_142 rfl ?_
                  exact m_iret C hB hr hlocks rfl dX3_day_144 ⟨by decide, by decide⟩ ⟨by unfold rDayO; rw [if_neg (by omega), if_neg (by omega), Int.toNat_natCast, if_neg (by omega), if_neg (by omega)]; simp only [Int.toNat_natCast]; rw [if_neg (fun h => hpq (h q (by omega)))], by unfold nDayI; rw [if_neg (by omega), Int.toNat_natCast, hz0]; exact ⟨by simp [fI, va_up], rfl, rfl, rfl, rfl, rfl, rfl, rfl, fun _ _ => ⟨rfl, rfl, rfl⟩, fun _ _ => ⟨rfl, rfl⟩, fun _ _ => ⟨rfl, rfl⟩, fun _ _ => ⟨rfl, rfl⟩, fun _ _ => rfl⟩⟩
            · refine lv_bipush (v := iI (-3)) hx hb dX3_day_89 rfl ?_
              exact m_iret C hB hr hlocks rfl dX3_day_91 ⟨by decide, by decide⟩ ⟨by unfold rDayO; rw [if_neg (by omega), if_neg (by omega), Int.toNat_natCast, if_neg (by omega), if_pos (by omega)], by unfold nDayI; rw [if_neg (by omega), Int.toNat_natCast, hz0]; exact ⟨by simp [fI, va_up], rfl, rfl, rfl, rfl, rfl, rfl, rfl, fun _ _ => ⟨rfl, rfl, rfl⟩, fun _ _ => ⟨rfl, rfl⟩, fun _ _ => ⟨rfl, rfl⟩, fun _ _ => ⟨rfl, rfl⟩, fun _ _ => rfl⟩⟩
          · refine lv_aload_n hx hb dX3_day_75 rfl (lv_at hl 1 rfl) ?_
            refine lv_iload hx hb dX3_day_76 (lv_at hl 0 rfl) ?_
            refine m_calli (n := 1) C hB (As := [.int (iI z21)]) (kX3_fails l E o Ad (va_up I 0 0) F z21 (by omega)) (lw_V q1508 q1510 qs41 q77 q1511) (by decide +kernel) ⟨Nat.le_of_ble_eq_true rfl, Nat.le_of_ble_eq_true rfl⟩ rfl hl.1 rfl (Nat.le_of_ble_eq_true rfl) dX3_day_78 ⟨Nat.zero_le _, Nat.zero_le _⟩ (fun z60 I61 F62 H locs hz63 hp64 hB => ?_)
            obtain ⟨hz63a, hz63b⟩ := hz63
            obtain ⟨rfl, rfl, rfl⟩ := hp64
            exact m_iret C hB hr hlocks rfl dX3_day_81 ⟨by omega, by omega⟩ ⟨by unfold rDayO; rw [if_neg (by omega), if_neg (by omega), Int.toNat_natCast, if_pos (by omega)]; omega, by unfold nDayI; rw [if_neg (by omega), Int.toNat_natCast, ← hag]; exact ⟨by simp [fI, va_up], rfl, rfl, rfl, rfl, rfl, rfl, rfl, fun _ _ => ⟨rfl, rfl, rfl⟩, fun _ _ => ⟨rfl, rfl⟩, fun _ _ => ⟨rfl, rfl⟩, fun _ _ => ⟨rfl, rfl⟩, fun _ _ => rfl⟩⟩
        · refine x_if_ne (tgt := 57) hx hb dX3_day_39 (by decide) ⟨by decide, by decide⟩ (fun c65 => by exfalso; omega) (fun c65 => ?_)
          refine lv_iload hx hb dX3_day_42 (lv_at hl 5 rfl) ?_
          refine lv_bipush (v := iI 10) hx hb dX3_day_44 rfl ?_
          refine lv_bipush (v := iI 16) hx hb dX3_day_46 rfl ?_
          obtain ⟨wq, hMq, hB⟩ := hB
          refine s_calli (n := 3) C hB (As := [.int (iI wh), .int (iI 10), .int (iI 16)]) (kX3_within l E wh 10 16 ⟨by omega, by omega⟩ ⟨by omega, by omega⟩ ⟨by omega, by omega⟩) (lw_S q1498 q1499 q77 q1500) (by decide +kernel) ⟨Nat.le_of_ble_eq_true rfl, Nat.le_of_ble_eq_true rfl⟩ rfl hl.1 rfl (Nat.le_of_ble_eq_true rfl) dX3_day_48 ⟨Nat.zero_le _, Nat.zero_le _⟩ (fun z66 H locs hz67 hp68 hB => ?_)
          replace hB : mB E _ s o Ad (va_up I 0 0) F H locs := ⟨wq, hMq, hB⟩
          obtain ⟨hz67a, hz67b⟩ := hz67
          rcases hp68 with ⟨rfl, h69⟩ | ⟨rfl, h69⟩
          · refine x_if_ne (tgt := 57) hx hb dX3_day_51 (by decide) ⟨by decide, by decide⟩ (fun c70 => ?_) (fun c70 => by exfalso; omega)
            obtain ⟨kk, rfl⟩ : ∃ kk : Nat, k = (kk : Int) := ⟨k.toNat, by omega⟩
            have hOKz : mOK (va_up I 0 0) F := mOK_0 hOK0 (by decide)
            refine lv_aload_n hx hb dX3_day_57 rfl (lv_at hl 0 rfl) ?_
            refine lv_iload_n hx hb dX3_day_58 rfl (lv_at hl 1 rfl) ?_
            refine lv_iload_n hx hb dX3_day_59 rfl (lv_at hl 2 rfl) ?_
            refine lv_iload_n hx hb dX3_day_60 rfl (lv_at hl 3 rfl) ?_
            refine lv_iconst (v := iI 2) hx hb dX3_day_61 rfl ?_
            refine lv_iload hx hb dX3_day_62 (lv_at hl 4 rfl) ?_
            refine x_imul (z := 2 * n) hx hb dX3_day_64 (by omega) ?_
            refine m_calli (n := 4) C hB (As := [.int (iI ((kk : Int))), .int (iI so), .int (iI i), .int (iI (2 * n))]) (kX3_against l E o Ad (va_up I 0 0) F kk so i (2 * n) (by omega) ⟨by omega, by omega⟩ ⟨by omega, by omega⟩ ⟨by omega, by omega⟩ hOKz) (lw_V q1504 q1506 qs40 q77 q1507) (by decide +kernel) ⟨Nat.le_of_ble_eq_true rfl, Nat.le_of_ble_eq_true rfl⟩ rfl hl.1 rfl (Nat.le_of_ble_eq_true rfl) dX3_day_65 ⟨Nat.zero_le _, Nat.zero_le _⟩ (fun z71 I72 F73 H locs hz74 hp75 hB => ?_)
            obtain ⟨hz74a, hz74b⟩ := hz74
            obtain ⟨rfl, rfl, hag⟩ := hp75
            have hagb := agn_b F kk so i (2 * n)
            refine lv_istore (lv' := [(6, .int (iI z71)), (0, .ref o), (1, .int (iI ((kk : Int)))), (2, .int (iI so)), (3, .int (iI i)), (4, .int (iI n)), (5, .int (iI wh))]) hx hb dX3_day_68 hl (by decide) rfl (fun ls hl => ?_)
            refine lv_iload hx hb dX3_day_70 (lv_at hl 0 rfl) ?_
            refine x_if_eq (tgt := 82) hx hb dX3_day_72 (by decide) ⟨by omega, by omega⟩ (fun c76 => ?_) (fun c76 => ?_)
            · have hz0 : agn F kk so i (2 * n) = 0 := by omega
              obtain ⟨ha1, ha2, ha3, ha4, ha5, ha6⟩ := agn_z hz0
              have hS1 := hS kk (by omega)
              refine lv_aload_n hx hb dX3_day_82 rfl (lv_at hl 1 rfl) ?_
              refine m_get C hB 5 (by decide) q1399 (v := .int (iI (I 5))) rfl rfl dX3_day_83 ?_
              refine x_if_ne (tgt := 92) hx hb dX3_day_86 (by decide) ⟨by omega, by omega⟩ (fun c77 => ?_) (fun c77 => ?_)
              · obtain ⟨ki, rfl⟩ : ∃ ki : Nat, i = (ki : Int) := ⟨i.toNat, by omega⟩
                obtain ⟨kn, rfl⟩ : ∃ kn : Nat, n = (kn : Int) := ⟨n.toNat, by omega⟩
                refine lv_bipush (v := iI 60) hx hb dX3_day_92 rfl ?_
                refine lv_iload_n hx hb dX3_day_94 rfl (lv_at hl 2 rfl) ?_
                refine x_imul (z := 60 * (kk : Int)) hx hb dX3_day_95 (by omega) ?_
                refine lv_iload_n hx hb dX3_day_96 rfl (lv_at hl 4 rfl) ?_
                refine x_iadd (z := 60 * (kk : Int) + (ki : Int)) hx hb dX3_day_97 (by omega) ?_
                refine lv_istore (lv' := [(7, .int (iI (60 * (kk : Int) + (ki : Int)))), (6, .int (iI z71)), (0, .ref o), (1, .int (iI ((kk : Int)))), (2, .int (iI so)), (3, .int (iI ((ki : Int)))), (4, .int (iI ((kn : Int)))), (5, .int (iI wh))]) hx hb dX3_day_98 hl (by decide) rfl (fun ls hl => ?_)
                refine lv_iconst (v := iI 0) hx hb dX3_day_100 rfl ?_
                refine lv_istore (lv' := [(8, .int (iI 0)), (7, .int (iI (60 * (kk : Int) + (ki : Int)))), (6, .int (iI z71)), (0, .ref o), (1, .int (iI ((kk : Int)))), (2, .int (iI so)), (3, .int (iI ((ki : Int)))), (4, .int (iI ((kn : Int)))), (5, .int (iI wh))]) hx hb dX3_day_101 hl (by decide) rfl (fun ls hl => ?_)
                refine w_loop (fun n81 H locs ls => ∃ (q : Nat), n81 = kn - q ∧ (q ≤ kn) ∧ (∀ t, t < q → isPr (F 4 (60 * kk + ki + 2 * t)) (F 4 (60 * kk + ki + 2 * t + 1))) ∧ mB E (xA w sz) s o Ad (va_up I 0 0) F H locs ∧ lv_has ls 10 [(0, .ref o), (1, .int (iI ((kk : Int)))), (2, .int (iI so)), (3, .int (iI ((ki : Int)))), (4, .int (iI ((kn : Int)))), (5, .int (iI wh)), (7, .int (iI (60 * (kk : Int) + (ki : Int)))), (8, .int (iI ((q : Int))))]) _ ⟨0, rfl, by omega, fun t h => absurd h (Nat.not_lt_zero t), hB, lv_sub hl [3, 4, 5, 6, 7, 8, 1, 0] rfl⟩ ?_
                intro n81 H locs ls hI80 ih78
                obtain ⟨q, hn79, hq, hall, hB, hl⟩ := hI80
                refine lv_iload hx hb dX3_day_103 (lv_at hl 7 rfl) ?_
                refine lv_iload hx hb dX3_day_105 (lv_at hl 4 rfl) ?_
                refine x_icmp_ge (tgt := 151) hx hb dX3_day_107 (by decide) ⟨by omega, by omega⟩ ⟨by omega, by omega⟩ (fun c82 => ?_) (fun c82 => ?_)
                · have hqn : q = kn := by omega
                  subst hqn
                  have hfr : 60 * kk + ki + 2 * q ≤ 240 := by omega
                  refine lv_aload_n hx hb dX3_day_151 rfl (lv_at hl 0 rfl) ?_
                  refine m_callv (n := 0) C hB (As := []) (kX3_keep l E o Ad (va_up I 0 0) F ) (lw_V q1629 q1631 qs59 q77 q1632) (by decide +kernel) ⟨Nat.le_of_ble_eq_true rfl, Nat.le_of_ble_eq_true rfl⟩ rfl hl.1 rfl (Nat.le_of_ble_eq_true rfl) dX3_day_152 ⟨Nat.zero_le _, Nat.zero_le _⟩ (fun I84 F85 H locs hp87 hB => ?_)
                  obtain ⟨rfl, f28, rfl, hf1, hf14, hf15, hf16⟩ := hp87
                  refine lv_aload_n hx hb dX3_day_155 rfl (lv_at hl 0 rfl) ?_
                  refine lv_iload hx hb dX3_day_156 (lv_at hl 6 rfl) ?_
                  refine lv_iload hx hb dX3_day_158 (lv_at hl 4 rfl) ?_
                  refine m_calli (n := 2) C hB (As := [.int (iI (60 * (kk : Int) + (ki : Int))), .int (iI ((q : Int)))]) (kX3_goDay l E o Ad (va_up I 0 0) (kpF F f28) (60 * kk + ki) q (by omega) (by omega) (fun t h => hall t h) hOKz) (lw_V q1633 q1635 qs60 q77 q1636) (by decide +kernel) ⟨Nat.le_of_ble_eq_true rfl, Nat.le_of_ble_eq_true rfl⟩ rfl hl.1 rfl (Nat.le_of_ble_eq_true rfl) dX3_day_160 ⟨Nat.zero_le _, Nat.zero_le _⟩ (fun z88 I89 F90 H locs hz91 hp92 hB => ?_)
                  obtain ⟨hz91a, hz91b⟩ := hz91
                  obtain ⟨hg1, hg2, hg3, hOK1⟩ := hp92
                  have hg := gdy_0 (fun j => F 4 (60 * kk + ki + j)) 0 f28 q 0 I F
                  obtain ⟨x7, x8, x9, f11, f13, hI1, hF1⟩ := gdy_form (fun j => F 4 (60 * kk + ki + j)) q 0 I F
                  have hrg := gdy_rg (fun j => F 4 (60 * kk + ki + j)) q 0 I F
                  replace hg1 : (gdy (fun j => F 4 (60 * kk + ki + j)) q 0 (va_up I 0 0) (kpF F f28)).1 = z88 := hg1
                  replace hg2 : (gdy (fun j => F 4 (60 * kk + ki + j)) q 0 (va_up I 0 0) (kpF F f28)).2.1 = I89 := hg2
                  replace hg3 : (gdy (fun j => F 4 (60 * kk + ki + j)) q 0 (va_up I 0 0) (kpF F f28)).2.2 = F90 := hg3
                  rw [hg] at hg1 hg2 hg3
                  dsimp only at hg1 hg2 hg3
                  rw [hI1] at hg2
                  rw [hF1] at hg3
                  subst hg2 hg3
                  refine lv_istore (lv' := [(8, .int (iI z88)), (0, .ref o), (1, .int (iI ((kk : Int)))), (2, .int (iI so)), (3, .int (iI ((ki : Int)))), (4, .int (iI ((q : Int)))), (5, .int (iI wh)), (7, .int (iI (60 * (kk : Int) + (ki : Int))))]) hx hb dX3_day_163 hl (by decide) rfl (fun ls hl => ?_)
                  refine lv_aload_n hx hb dX3_day_165 rfl (lv_at hl 1 rfl) ?_
                  refine lv_iload hx hb dX3_day_166 (lv_at hl 6 rfl) ?_
                  refine m_calli (n := 1) C hB (As := [.int (iI wh)]) (kX3_tellDay l E o Ad ((va_up (bd3 I x7 x8 x9) 0 0)) ((kpF (dyF F f11 f13) f28)) wh (by omega) hOK1) (lw_V q1641 q1643 qs62 q77 q1644) (by decide +kernel) ⟨Nat.le_of_ble_eq_true rfl, Nat.le_of_ble_eq_true rfl⟩ rfl hl.1 rfl (Nat.le_of_ble_eq_true rfl) dX3_day_168 ⟨Nat.zero_le _, Nat.zero_le _⟩ (fun z93 I94 F95 H locs hz96 hp97 hB => ?_)
                  obtain ⟨hz96a, hz96b⟩ := hz96
                  obtain ⟨ht1, pp, g1, g2, g3, g4, g5, g6, rfl, rfl⟩ := hp97
                  rw [rTellD_0, ← hI1, ← hF1] at ht1
                  refine lv_istore (lv' := [(9, .int (iI z93)), (8, .int (iI z88)), (0, .ref o), (1, .int (iI ((kk : Int)))), (2, .int (iI so)), (3, .int (iI ((ki : Int)))), (4, .int (iI ((q : Int)))), (5, .int (iI wh)), (7, .int (iI (60 * (kk : Int) + (ki : Int))))]) hx hb dX3_day_171 hl (by decide) rfl (fun ls hl => ?_)
                  refine lv_aload_n hx hb dX3_day_173 rfl (lv_at hl 2 rfl) ?_
                  refine m_callv (n := 0) C hB (As := []) (kX3_putBack l E o Ad ((va_up (va_up (bd3 I x7 x8 x9) 0 0) 24 pp)) ((up3 (upp (kpF (dyF F f11 f13) f28) g4 g5 g6) g1 g2 g3)) ) (lw_V q1645 q1647 qs63 q77 q1648) (by decide +kernel) ⟨Nat.le_of_ble_eq_true rfl, Nat.le_of_ble_eq_true rfl⟩ rfl hl.1 rfl (Nat.le_of_ble_eq_true rfl) dX3_day_174 ⟨Nat.zero_le _, Nat.zero_le _⟩ (fun I99 F100 H locs hp102 hB => ?_)
                  obtain ⟨fa, ga, rfl, rfl, hfg⟩ := hp102
                  replace hB : mB E (xA w sz) s o Ad (bd3 (va_up (va_up (bd3 I x7 x8 x9) 0 0) 24 pp) (f28 14) (f28 15) (f28 16)) (dyF (up3 (upp (kpF (dyF F f11 f13) f28) g4 g5 g6) g1 g2 g3) fa ga) H locs := hB
                  replace hfg : ∀ k, k < 7 → fa k = f28 k ∧ ga k = f28 (7 + k) := hfg
                  refine lv_iload hx hb dX3_day_177 (lv_at hl 7 rfl) ?_
                  refine lv_iconst (v := iI 1) hx hb dX3_day_179 rfl ?_
                  refine x_icmp_ne (tgt := 188) hx hb dX3_day_180 (by decide) ⟨by omega, by omega⟩ ⟨by decide, by decide⟩ (fun c103 => ?_) (fun c103 => ?_)
                  · refine lv_iload hx hb dX3_day_188 (lv_at hl 1 rfl) ?_
                    refine lv_bipush (v := iI (-9)) hx hb dX3_day_190 rfl ?_
                    refine x_icmp_ne (tgt := 200) hx hb dX3_day_192 (by decide) ⟨by omega, by omega⟩ ⟨by decide, by decide⟩ (fun c104 => ?_) (fun c104 => ?_)
                    · refine lv_bipush (v := iI (-100)) hx hb dX3_day_200 rfl ?_
                      refine lv_iload hx hb dX3_day_202 (lv_at hl 1 rfl) ?_
                      refine x_isub (z := -z88 - 100) hx hb dX3_day_204 (by omega) ?_
                      exact m_iret C hB hr hlocks rfl dX3_day_205 ⟨by omega, by omega⟩ ⟨by unfold rDayO; rw [if_neg (by omega), if_neg (by omega), Int.toNat_natCast, if_neg (by omega), if_neg (by omega)]; simp only [Int.toNat_natCast]; rw [if_pos (fun t h => hall t h)]; unfold rDay; rw [if_neg (by omega), if_neg (by omega)]; omega, by unfold nDayI; rw [if_neg (by omega), Int.toNat_natCast, hz0]; exact ⟨by simp [fI]; rfl, rfl, rfl, rfl, hf14, hf15, hf16, rfl, fun k hk => have hk2 : (k : Int) < I 5 := hk; ⟨rfl, (hfg k (by omega)).1.trans (hf1 k (by omega)).1, rfl⟩, fun k hk => have hk2 : (k : Int) < I 6 := hk; ⟨(hfg k (by omega)).2.trans (hf1 k (by omega)).2, rfl⟩, fun _ _ => ⟨rfl, rfl⟩, fun _ _ => ⟨rfl, rfl⟩, fun _ _ => rfl⟩⟩
                    · refine lv_iload hx hb dX3_day_195 (lv_at hl 0 rfl) ?_
                      refine lv_goto (tgt := 205) hx hb dX3_day_197 (by decide) ?_
                      exact m_iret C hB hr hlocks rfl dX3_day_205 ⟨by omega, by omega⟩ ⟨by unfold rDayO; rw [if_neg (by omega), if_neg (by omega), Int.toNat_natCast, if_neg (by omega), if_neg (by omega)]; simp only [Int.toNat_natCast]; rw [if_pos (fun t h => hall t h)]; unfold rDay; rw [if_neg (by omega), if_pos (by omega)]; exact ht1 (by omega), by unfold nDayI; rw [if_neg (by omega), Int.toNat_natCast, hz0]; exact ⟨by simp [fI]; rfl, rfl, rfl, rfl, hf14, hf15, hf16, rfl, fun k hk => have hk2 : (k : Int) < I 5 := hk; ⟨rfl, (hfg k (by omega)).1.trans (hf1 k (by omega)).1, rfl⟩, fun k hk => have hk2 : (k : Int) < I 6 := hk; ⟨(hfg k (by omega)).2.trans (hf1 k (by omega)).2, rfl⟩, fun _ _ => ⟨rfl, rfl⟩, fun _ _ => ⟨rfl, rfl⟩, fun _ _ => rfl⟩⟩
                  · refine lv_iload hx hb dX3_day_183 (lv_at hl 1 rfl) ?_
                    refine lv_goto (tgt := 205) hx hb dX3_day_185 (by decide) ?_
                    exact m_iret C hB hr hlocks rfl dX3_day_205 ⟨by omega, by omega⟩ ⟨by unfold rDayO; rw [if_neg (by omega), if_neg (by omega), Int.toNat_natCast, if_neg (by omega), if_neg (by omega)]; simp only [Int.toNat_natCast]; rw [if_pos (fun t h => hall t h)]; unfold rDay; rw [if_pos (by omega)]; exact hg1.symm, by unfold nDayI; rw [if_neg (by omega), Int.toNat_natCast, hz0]; exact ⟨by simp [fI]; rfl, rfl, rfl, rfl, hf14, hf15, hf16, rfl, fun k hk => have hk2 : (k : Int) < I 5 := hk; ⟨rfl, (hfg k (by omega)).1.trans (hf1 k (by omega)).1, rfl⟩, fun k hk => have hk2 : (k : Int) < I 6 := hk; ⟨(hfg k (by omega)).2.trans (hf1 k (by omega)).2, rfl⟩, fun _ _ => ⟨rfl, rfl⟩, fun _ _ => ⟨rfl, rfl⟩, fun _ _ => rfl⟩⟩
                · refine lv_aload_n hx hb dX3_day_110 rfl (lv_at hl 0 rfl) ?_
                  refine m_get C hB 4 (by decide) q1398 (v := .ref (Ad 4)) rfl rfl dX3_day_111 ?_
                  refine lv_iload hx hb dX3_day_114 (lv_at hl 6 rfl) ?_
                  refine lv_iconst (v := iI 2) hx hb dX3_day_116 rfl ?_
                  refine lv_iload hx hb dX3_day_117 (lv_at hl 7 rfl) ?_
                  refine x_imul (z := 2 * (q : Int)) hx hb dX3_day_119 (by omega) ?_
                  refine x_iadd (z := 60 * (kk : Int) + (ki : Int) + 2 * (q : Int)) hx hb dX3_day_120 (by omega) ?_
                  refine m_ald C hB 4 240 rfl (v := F 4 (60 * kk + ki + 2 * q)) (60 * kk + ki + 2 * q) (by omega) (by omega) rfl dX3_day_121 ?_
                  have := hC (60 * kk + ki + 2 * q) (by omega)
                  refine lv_aload_n hx hb dX3_day_122 rfl (lv_at hl 0 rfl) ?_
                  refine m_get C hB 4 (by decide) q1398 (v := .ref (Ad 4)) rfl rfl dX3_day_123 ?_
                  refine lv_iload hx hb dX3_day_126 (lv_at hl 6 rfl) ?_
                  refine lv_iconst (v := iI 2) hx hb dX3_day_128 rfl ?_
                  refine lv_iload hx hb dX3_day_129 (lv_at hl 7 rfl) ?_
                  refine x_imul (z := 2 * (q : Int)) hx hb dX3_day_131 (by omega) ?_
                  refine x_iadd (z := 60 * (kk : Int) + (ki : Int) + 2 * (q : Int)) hx hb dX3_day_132 (by omega) ?_
                  refine lv_iconst (v := iI 1) hx hb dX3_day_133 rfl ?_
                  refine x_iadd (z := 60 * (kk : Int) + (ki : Int) + 2 * (q : Int) + 1) hx hb dX3_day_134 (by omega) ?_
                  refine m_ald C hB 4 240 rfl (v := F 4 (60 * kk + ki + 2 * q + 1)) (60 * kk + ki + 2 * q + 1) (by omega) (by omega) rfl dX3_day_135 ?_
                  have := hC (60 * kk + ki + 2 * q + 1) (by omega)
                  obtain ⟨wq, hMq, hB⟩ := hB
                  refine s_calli (n := 2) C hB (As := [.int (iI (F 4 (60 * kk + ki + 2 * q))), .int (iI (F 4 (60 * kk + ki + 2 * q + 1)))]) (kX3_isPair l E (F 4 (60 * kk + ki + 2 * q)) (F 4 (60 * kk + ki + 2 * q + 1)) ⟨by omega, by omega⟩ ⟨by omega, by omega⟩) (lw_S q1626 q1627 q77 q1628) (by decide +kernel) ⟨Nat.le_of_ble_eq_true rfl, Nat.le_of_ble_eq_true rfl⟩ rfl hl.1 rfl (Nat.le_of_ble_eq_true rfl) dX3_day_136 ⟨Nat.zero_le _, Nat.zero_le _⟩ (fun z105 H locs hz106 hp107 hB => ?_)
                  replace hB : mB E _ s o Ad (va_up I 0 0) F H locs := ⟨wq, hMq, hB⟩
                  obtain ⟨hz106a, hz106b⟩ := hz106
                  rcases hp107 with ⟨rfl, hpq⟩ | ⟨rfl, hpq⟩
                  · refine x_if_ne (tgt := 145) hx hb dX3_day_139 (by decide) ⟨by decide, by decide⟩ (fun c108 => ?_) (fun c108 => by exfalso; omega)
                    refine lv_iinc (v := iI ((q : Int) + 1)) (lv' := [(8, .int (iI ((q : Int) + 1))), (0, .ref o), (1, .int (iI ((kk : Int)))), (2, .int (iI so)), (3, .int (iI ((ki : Int)))), (4, .int (iI ((kn : Int)))), (5, .int (iI wh)), (7, .int (iI (60 * (kk : Int) + (ki : Int))))]) hx hb dX3_day_145 hl (k := 7) rfl (iI_add _ _) (by decide) rfl (fun ls hl => ?_)
                    refine lv_goto (tgt := 103) hx hb dX3_day_148 (by decide) ?_
                    exact ih78 _ _ _ _ (by omega) ⟨q + 1, rfl, by omega, fun t h => by
                          by_cases e : t = q
                          · subst e; exact hpq
                          · exact hall t (by omega), hB, lv_sub hl [1, 2, 3, 4, 5, 6, 7, 0] rfl⟩
                  · refine x_if_ne (tgt := 145) hx hb dX3_day_139 (by decide) ⟨by decide, by decide⟩ (fun c109 => by exfalso; omega) (fun c109 => ?_)
                    refine lv_bipush (v := iI (-2)) hx hb dX3_day_142 rfl ?_
                    exact m_iret C hB hr hlocks rfl dX3_day_144 ⟨by decide, by decide⟩ ⟨by unfold rDayO; rw [if_neg (by omega), if_neg (by omega), Int.toNat_natCast, if_neg (by omega), if_neg (by omega)]; simp only [Int.toNat_natCast]; rw [if_neg (fun h => hpq (h q (by omega)))], by unfold nDayI; rw [if_neg (by omega), Int.toNat_natCast, hz0]; exact ⟨by simp [fI, va_up], rfl, rfl, rfl, rfl, rfl, rfl, rfl, fun _ _ => ⟨rfl, rfl, rfl⟩, fun _ _ => ⟨rfl, rfl⟩, fun _ _ => ⟨rfl, rfl⟩, fun _ _ => ⟨rfl, rfl⟩, fun _ _ => rfl⟩⟩
              · refine lv_bipush (v := iI (-3)) hx hb dX3_day_89 rfl ?_
                exact m_iret C hB hr hlocks rfl dX3_day_91 ⟨by decide, by decide⟩ ⟨by unfold rDayO; rw [if_neg (by omega), if_neg (by omega), Int.toNat_natCast, if_neg (by omega), if_pos (by omega)], by unfold nDayI; rw [if_neg (by omega), Int.toNat_natCast, hz0]; exact ⟨by simp [fI, va_up], rfl, rfl, rfl, rfl, rfl, rfl, rfl, fun _ _ => ⟨rfl, rfl, rfl⟩, fun _ _ => ⟨rfl, rfl⟩, fun _ _ => ⟨rfl, rfl⟩, fun _ _ => ⟨rfl, rfl⟩, fun _ _ => rfl⟩⟩
            · refine lv_aload_n hx hb dX3_day_75 rfl (lv_at hl 1 rfl) ?_
              refine lv_iload hx hb dX3_day_76 (lv_at hl 0 rfl) ?_
              refine m_calli (n := 1) C hB (As := [.int (iI z71)]) (kX3_fails l E o Ad (va_up I 0 0) F z71 (by omega)) (lw_V q1508 q1510 qs41 q77 q1511) (by decide +kernel) ⟨Nat.le_of_ble_eq_true rfl, Nat.le_of_ble_eq_true rfl⟩ rfl hl.1 rfl (Nat.le_of_ble_eq_true rfl) dX3_day_78 ⟨Nat.zero_le _, Nat.zero_le _⟩ (fun z110 I111 F112 H locs hz113 hp114 hB => ?_)
              obtain ⟨hz113a, hz113b⟩ := hz113
              obtain ⟨rfl, rfl, rfl⟩ := hp114
              exact m_iret C hB hr hlocks rfl dX3_day_81 ⟨by omega, by omega⟩ ⟨by unfold rDayO; rw [if_neg (by omega), if_neg (by omega), Int.toNat_natCast, if_pos (by omega)]; omega, by unfold nDayI; rw [if_neg (by omega), Int.toNat_natCast, ← hag]; exact ⟨by simp [fI, va_up], rfl, rfl, rfl, rfl, rfl, rfl, rfl, fun _ _ => ⟨rfl, rfl, rfl⟩, fun _ _ => ⟨rfl, rfl⟩, fun _ _ => ⟨rfl, rfl⟩, fun _ _ => ⟨rfl, rfl⟩, fun _ _ => rfl⟩⟩
          · refine x_if_ne (tgt := 57) hx hb dX3_day_51 (by decide) ⟨by decide, by decide⟩ (fun c115 => by exfalso; omega) (fun c115 => ?_)
            refine lv_bipush (v := iI (-2)) hx hb dX3_day_54 rfl ?_
            exact m_iret C hB hr hlocks rfl dX3_day_56 ⟨by decide, by decide⟩ ⟨by unfold rDayO; rw [if_neg (by omega), if_pos (by omega)], by unfold nDayI; rw [if_pos (by omega)]; exact ⟨by simp [fI, va_up], rfl, rfl, rfl, rfl, rfl, rfl, rfl, fun _ _ => ⟨rfl, rfl, rfl⟩, fun _ _ => ⟨rfl, rfl⟩, fun _ _ => ⟨rfl, rfl⟩, fun _ _ => ⟨rfl, rfl⟩, fun _ _ => rfl⟩⟩
      · refine x_if_eq (tgt := 54) hx hb dX3_day_29 (by decide) ⟨by decide, by decide⟩ (fun c116 => ?_) (fun c116 => by exfalso; omega)
        refine lv_bipush (v := iI (-2)) hx hb dX3_day_54 rfl ?_
        exact m_iret C hB hr hlocks rfl dX3_day_56 ⟨by decide, by decide⟩ ⟨by unfold rDayO; rw [if_neg (by omega), if_pos (by omega)], by unfold nDayI; rw [if_pos (by omega)]; exact ⟨by simp [fI, va_up], rfl, rfl, rfl, rfl, rfl, rfl, rfl, fun _ _ => ⟨rfl, rfl, rfl⟩, fun _ _ => ⟨rfl, rfl⟩, fun _ _ => ⟨rfl, rfl⟩, fun _ _ => ⟨rfl, rfl⟩, fun _ _ => rfl⟩⟩
    · refine x_if_eq (tgt := 54) hx hb dX3_day_18 (by decide) ⟨by decide, by decide⟩ (fun c117 => ?_) (fun c117 => by exfalso; omega)
      refine lv_bipush (v := iI (-2)) hx hb dX3_day_54 rfl ?_
      exact m_iret C hB hr hlocks rfl dX3_day_56 ⟨by decide, by decide⟩ ⟨by unfold rDayO; rw [if_neg (by omega), if_pos (by omega)], by unfold nDayI; rw [if_pos (by omega)]; exact ⟨by simp [fI, va_up], rfl, rfl, rfl, rfl, rfl, rfl, rfl, fun _ _ => ⟨rfl, rfl, rfl⟩, fun _ _ => ⟨rfl, rfl⟩, fun _ _ => ⟨rfl, rfl⟩, fun _ _ => ⟨rfl, rfl⟩, fun _ _ => rfl⟩⟩
  · refine x_if_ne (tgt := 14) hx hb dX3_day_9 (by decide) ⟨by decide, by decide⟩ (fun c118 => by exfalso; omega) (fun c118 => ?_)
    refine lv_iconst (v := iI (-1)) hx hb dX3_day_12 rfl ?_
    exact m_iret C hB hr hlocks rfl dX3_day_13 ⟨by decide, by decide⟩ ⟨by unfold rDayO; rw [if_pos (by omega)], by unfold nDayI; rw [if_pos (by omega)]; exact ⟨by simp [fI, va_up], rfl, rfl, rfl, rfl, rfl, rfl, rfl, fun _ _ => ⟨rfl, rfl, rfl⟩, fun _ _ => ⟨rfl, rfl⟩, fun _ _ => ⟨rfl, rfl⟩, fun _ _ => ⟨rfl, rfl⟩, fun _ _ => rfl⟩⟩
