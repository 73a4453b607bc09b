/-! THE COMPONENT: a day's acts -/
set_option maxRecDepth 100000
theorem i_div10 {j w : Nat} (hj : j ≤ 2) (hw : w ≤ 9) : iI ((10 * j + w : Nat) : Int) / iI 10 = iI (j : Int) := by
  have h : ∀ j : Nat, j < 3 → ∀ w : Nat, w < 10 → iI ((10 * j + w : Nat) : Int) / iI 10 = iI (j : Int) := by decide +kernel
  exact h j (by omega) w (by omega)
theorem i_rem10 {j w : Nat} (hj : j ≤ 2) (hw : w ≤ 9) : iI ((10 * j + w : Nat) : Int) - iI ((10 * j + w : Nat) : Int) / iI 10 * iI 10 = iI (w : Int) := by
  have h : ∀ j : Nat, j < 3 → ∀ w : Nat, w < 10 → iI ((10 * j + w : Nat) : Int) - iI ((10 * j + w : Nat) : Int) / iI 10 * iI 10 = iI (w : Int) := by decide +kernel
  exact h j (by omega) w (by omega)
theorem i_half {c : Nat} (hc : c ≤ 40) : iI (2 * (c : Int)) / iI 2 = iI (c : Int) := by
  have h : ∀ c : Nat, c < 41 → iI (2 * (c : Int)) / iI 2 = iI (c : Int) := by decide +kernel
  exact h c (by omega)
theorem isPr_act {v act : Int} (h : isPr v act) : ∃ j w : Nat, j ≤ 2 ∧ w ≤ 9 ∧ act = ((10 * j + w : Nat) : Int) := by
  unfold isPr at h
  have h2 : (0 ≤ act ∧ act ≤ 6) ∨ (10 ≤ act ∧ act ≤ 16) ∨ (20 ≤ act ∧ act ≤ 22) := by (repeat' split at h) <;> omega
  exact ⟨(act / 10).toNat, (act % 10).toNat, by omega, by omega, by omega⟩
set_option maxHeartbeats 800000 in
set_option maxRecDepth 100000 in
theorem kX0_dayOf (l : Launch) (E : xE) (o : Nat) (Ad : Nat → Nat) (I : Nat → Int) (F : Nat → Nat → Int) (X : xw) (q : Nat) (n : Nat) (f : Nat → Int) (wh : Int) (hq : X q = some (xI E (2 * n) f)) (hn : n ≤ 20) (hpr : ∀ k, k < n → isPr (f (2 * k)) (f (2 * k + 1))) (hwh : (0 ≤ wh ∧ wh ≤ 4) ∨ (10 ≤ wh ∧ wh ≤ 16)) (h5 : I 5 ≠ 0) (hOK : mOK I F) : ci_ l E yX0_dayOf cX0_dayOf 6 (some .int) 12 271 17 65 [.ref o, .ref q, .int (iI wh)] o Ad I F X (fun z Ad' I' F' X' => Ad = Ad' ∧ (gdy f n 0 I F).2.1 = I' ∧ (∃ g1 g2 g3, up3 (gdy f n 0 I F).2.2 g1 g2 g3 = F') ∧ xS X X' ∧ z = rDay I F f n wh) := by
  intro w hI hd sz
  refine x_bodyz (by decide) (Nat.le_of_ble_eq_true rfl) ?_
  intro p e s m args below meth c ls hx hb C hr hlocks hin hsz hZ hB hl
  have C : xC E p s m args c cX0_dayOf 6 RX0 := C
  replace hB : xBB E (xA (wU w X) sz) s o Ad I F X s.heap [] := ⟨w, hI, hd, hB⟩
  have hl : lv_has ls 6 [(0, .ref o), (1, .ref q), (2, .int (iI wh))] := hl
  have hOK0 := hOK
  obtain ⟨⟨hf1, hf2⟩, ⟨hl1, hl2⟩, ⟨hr1, hr2⟩, hlr, ⟨hs1, hs2⟩, ⟨hj1, hj2⟩, ⟨hb1, hb2⟩, ⟨hn1, hn2⟩, hL, hR, hN, hS, hC⟩ := hOK
  refine lv_bipush (v := iI (-9)) hx hb dX0_dayOf_0 rfl ?_
  refine lv_istore_n (lv' := [(3, .int (iI (-9))), (0, .ref o), (1, .ref q), (2, .int (iI wh))]) hx hb dX0_dayOf_2 rfl hl (by decide) rfl (fun ls hl => ?_)
  refine lv_iconst (v := iI 0) hx hb dX0_dayOf_3 rfl ?_
  refine lv_istore (lv' := [(4, .int (iI 0)), (3, .int (iI (-9))), (0, .ref o), (1, .ref q), (2, .int (iI wh))]) hx hb dX0_dayOf_4 hl (by decide) rfl (fun ls hl => ?_)
  refine w_loop (fun n4 H locs ls => ∃ (c_ : Nat) (wr : Int) (I1 : Nat → Int) (F1 : Nat → Nat → Int), n4 = n - c_ ∧ (c_ ≤ n) ∧ (mOK I1 F1) ∧ (I1 5 ≠ 0) ∧ ((wr = -9 ∧ gdy f n 0 I F = gdy f (n - c_) c_ I1 F1) ∨ (0 ≤ wr ∧ wr ≤ 40 ∧ gdy f n 0 I F = (wr, I1, F1))) ∧ xBB E (xA (wU w X) sz) s o Ad I1 F1 X H locs ∧ lv_has ls 6 [(0, .ref o), (1, .ref q), (2, .int (iI wh)), (3, .int (iI wr)), (4, .int (iI (2 * (c_ : Int))))]) _ ⟨0, -9, _, _, rfl, Nat.zero_le _, hOK0, h5, Or.inl ⟨rfl, rfl⟩, hB, lv_sub hl [2, 3, 4, 1, 0] rfl⟩ ?_
  intro n4 H locs ls hI3 ih1
  obtain ⟨c_, wr, I1, F1, hn2, hcn, hOK1, h51, hgd, hB, hl⟩ := hI3
  refine lv_iload hx hb dX0_dayOf_6 (lv_at hl 4 rfl) ?_
  refine lv_aload_n hx hb dX0_dayOf_8 rfl (lv_at hl 1 rfl) ?_
  refine t_len C hB 0 rfl hq dX0_dayOf_9 ?_
  refine x_nm (b := (((2 * n) : Nat) : Int)) rfl ?_
  refine x_icmp_ge (tgt := 71) hx hb dX0_dayOf_10 (by decide) ⟨by omega, by omega⟩ ⟨by omega, by omega⟩ (fun c5 => ?_) (fun c5 => ?_)
  · have hex : gdy f n 0 I F = (wr, I1, F1) := by
      rcases hgd with z | z
      · rw [z.2, z.1, show n - c_ = 0 by omega]; rfl
      · exact z.2.2
    have hwr : wr = -9 ∨ (0 ≤ wr ∧ wr ≤ 40) := by omega
    have hOKc := hOK1
    obtain ⟨⟨hf1, hf2⟩, ⟨hl1, hl2⟩, ⟨hr1, hr2⟩, hlr, ⟨hs1, hs2⟩, ⟨hj1, hj2⟩, ⟨hb1, hb2⟩, ⟨hn1, hn2⟩, hL, hR, hN, hS, hC⟩ := hOKc
    refine lv_iload_n hx hb dX0_dayOf_71 rfl (lv_at hl 2 rfl) ?_
    refine lv_iconst (v := iI 1) hx hb dX0_dayOf_72 rfl ?_
    refine x_icmp_ne (tgt := 78) hx hb dX0_dayOf_73 (by decide) ⟨by omega, by omega⟩ ⟨by decide, by decide⟩ (fun c6 => ?_) (fun c6 => ?_)
    · refine lv_iload_n hx hb dX0_dayOf_78 rfl (lv_at hl 3 rfl) ?_
      refine x_if_lt (tgt := 87) hx hb dX0_dayOf_79 (by decide) ⟨by omega, by omega⟩ (fun c7 => ?_) (fun c7 => ?_)
      · refine lv_iload_n hx hb dX0_dayOf_87 rfl (lv_at hl 2 rfl) ?_
        refine lv_bipush (v := iI 10) hx hb dX0_dayOf_88 rfl ?_
        refine x_icmp_lt (tgt := 118) hx hb dX0_dayOf_90 (by decide) ⟨by omega, by omega⟩ ⟨by decide, by decide⟩ (fun c8 => ?_) (fun c8 => ?_)
        · refine lv_aload_n hx hb dX0_dayOf_118 rfl (lv_at hl 0 rfl) ?_
          refine lv_iload_n hx hb dX0_dayOf_119 rfl (lv_at hl 2 rfl) ?_
          refine x_if_ne (tgt := 127) hx hb dX0_dayOf_120 (by decide) ⟨by omega, by omega⟩ (fun c9 => ?_) (fun c9 => ?_)
          · refine lv_iload_n hx hb dX0_dayOf_127 rfl (lv_at hl 2 rfl) ?_
            refine lv_iconst (v := iI 1) hx hb dX0_dayOf_128 rfl ?_
            refine x_isub (z := wh - 1) hx hb dX0_dayOf_129 (by omega) ?_
            refine b_calli 17 64 (Nat.le_of_ble_eq_true rfl) (Nat.le_of_ble_eq_true rfl) hB (fun w hI hd hB => rV (As := [.int (iI (wh - 1))]) (n := 1) C hZ hB (kX0_best l E o Ad I1 F1 X (wh - 1) ⟨by omega, by omega⟩ hOK1 w hI hd _) (lw_V q1238 q599 q600 q68 q601) (by decide +kernel) ⟨Nat.le_of_ble_eq_true rfl, Nat.le_of_ble_eq_true rfl⟩ (wU_l hI.x) rfl rfl rfl hl.1 rfl (Nat.le_of_ble_eq_true rfl) dX0_dayOf_130 ⟨Nat.le_of_ble_eq_true rfl, Nat.le_of_ble_eq_true rfl⟩) (fun z10 Ad11 I12 F13 X14 H locs hz15 hp16 hB => ?_)
            obtain ⟨hz15a, hz15b⟩ := hz15
            obtain ⟨rfl, rfl, ⟨g17, g18, g19, rfl⟩, hs20, rfl⟩ := hp16
            replace hB : xBB E (xA (wU w X) sz) s o Ad I1 (up3 F1 g17 g18 g19) X14 _ _ := hB
            exact b_iret C hB hr hlocks rfl dX0_dayOf_133 (Nat.le_of_ble_eq_true rfl) (Nat.le_of_ble_eq_true rfl) ⟨by omega, by omega⟩ ⟨rfl, by rw [hex], ⟨_, _, _, by rw [hex]⟩, fun a e h => (hs20 _ _ h), by unfold rDay; rw [hex, if_neg (by omega)]; dsimp only; rw [if_pos (by omega)]; unfold rTellD; rw [if_pos (by omega)]; rcases (show wh = 2 ∨ wh = 3 ∨ wh = 4 by omega) with rfl | rfl | rfl; exact rB1 h51; exact rB2 h51; exact rB3 h51⟩
          · refine lv_iconst (v := iI 0) hx hb dX0_dayOf_123 rfl ?_
            refine lv_goto (tgt := 130) hx hb dX0_dayOf_124 (by decide) ?_
            refine b_calli 17 64 (Nat.le_of_ble_eq_true rfl) (Nat.le_of_ble_eq_true rfl) hB (fun w hI hd hB => rV (As := [.int (iI 0)]) (n := 1) C hZ hB (kX0_best l E o Ad I1 F1 X 0 ⟨by omega, by omega⟩ hOK1 w hI hd _) (lw_V q1238 q599 q600 q68 q601) (by decide +kernel) ⟨Nat.le_of_ble_eq_true rfl, Nat.le_of_ble_eq_true rfl⟩ (wU_l hI.x) rfl rfl rfl hl.1 rfl (Nat.le_of_ble_eq_true rfl) dX0_dayOf_130 ⟨Nat.le_of_ble_eq_true rfl, Nat.le_of_ble_eq_true rfl⟩) (fun z21 Ad22 I23 F24 X25 H locs hz26 hp27 hB => ?_)
            obtain ⟨hz26a, hz26b⟩ := hz26
            obtain ⟨rfl, rfl, ⟨g28, g29, g30, rfl⟩, hs31, rfl⟩ := hp27
            replace hB : xBB E (xA (wU w X) sz) s o Ad I1 (up3 F1 g28 g29 g30) X25 _ _ := hB
            exact b_iret C hB hr hlocks rfl dX0_dayOf_133 (Nat.le_of_ble_eq_true rfl) (Nat.le_of_ble_eq_true rfl) ⟨by omega, by omega⟩ ⟨rfl, by rw [hex], ⟨_, _, _, by rw [hex]⟩, fun a e h => (hs31 _ _ h), by unfold rDay; rw [hex, if_neg (by omega)]; dsimp only; rw [if_pos (by omega)]; unfold rTellD; rw [if_pos (by omega)]; rw [show wh = 0 by omega]; exact rB0 h51⟩
        · refine lv_aload_n hx hb dX0_dayOf_93 rfl (lv_at hl 0 rfl) ?_
          refine lv_iload_n hx hb dX0_dayOf_94 rfl (lv_at hl 2 rfl) ?_
          refine lv_bipush (v := iI 10) hx hb dX0_dayOf_95 rfl ?_
          refine x_isub (z := wh - 10) hx hb dX0_dayOf_97 (by omega) ?_
          refine b_calli 0 0 (Nat.le_of_ble_eq_true rfl) (Nat.le_of_ble_eq_true rfl) hB (fun w hI hd hB => rV (As := [.int (iI (wh - 10))]) (n := 1) C hZ hB (kX0_noLeft l E o Ad I1 F1 X (wh - 10) ⟨by omega, by omega⟩ hOK1 w hI hd _) (lw_V q237 q239 qs7 q68 q240) (by decide +kernel) ⟨Nat.le_of_ble_eq_true rfl, Nat.le_of_ble_eq_true rfl⟩ (wU_l hI.x) rfl rfl rfl hl.1 rfl (Nat.le_of_ble_eq_true rfl) dX0_dayOf_98 ⟨Nat.le_of_ble_eq_true rfl, Nat.le_of_ble_eq_true rfl⟩) (fun z32 Ad33 I34 F35 X36 H locs hz37 hp38 hB => ?_)
          obtain ⟨hz37a, hz37b⟩ := hz37
          obtain ⟨rfl, rfl, rfl, rfl, ⟨rfl, h39⟩ | ⟨rfl, h39⟩⟩ := hp38
          · refine x_if_eq (tgt := 109) hx hb dX0_dayOf_101 (by decide) ⟨by decide, by decide⟩ (fun c40 => by exfalso; omega) (fun c40 => ?_)
            refine lv_bipush (v := iI (-9)) hx hb dX0_dayOf_104 rfl ?_
            refine lv_goto (tgt := 117) hx hb dX0_dayOf_106 (by decide) ?_
            exact b_iret C hB hr hlocks rfl dX0_dayOf_117 (Nat.le_of_ble_eq_true rfl) (Nat.le_of_ble_eq_true rfl) ⟨by decide, by decide⟩ ⟨rfl, by rw [hex], ⟨_, _, _, by rw [hex]; exact up3_id F1⟩, fun a e h => h, by unfold rDay; rw [hex, if_neg (by omega)]; dsimp only; rw [if_pos (by omega)]; unfold rTellD; rw [if_neg (by omega)]; rw [if_neg (by omega)]⟩
          · refine x_if_eq (tgt := 109) hx hb dX0_dayOf_101 (by decide) ⟨by decide, by decide⟩ (fun c41 => ?_) (fun c41 => by exfalso; omega)
            obtain ⟨kk, hkk⟩ : ∃ kk : Nat, wh - 10 = (kk : Int) := ⟨(wh - 10).toNat, by omega⟩
            refine lv_aload_n hx hb dX0_dayOf_109 rfl (lv_at hl 0 rfl) ?_
            refine lv_iload_n hx hb dX0_dayOf_110 rfl (lv_at hl 2 rfl) ?_
            refine lv_bipush (v := iI 10) hx hb dX0_dayOf_111 rfl ?_
            refine x_isub (z := wh - 10) hx hb dX0_dayOf_113 (by omega) ?_
            refine x_nm hkk ?_
            have hrp := rg_pwL kk (bpath I1 F1 (I1 9)) 0 rg_0
            refine b_calli 17 65 (Nat.le_of_ble_eq_true rfl) (Nat.le_of_ble_eq_true rfl) hB (fun w hI hd hB => rV (As := [.int (iI ((kk : Int)))]) (n := 1) C hZ hB (kX0_partnersOfLeft l E o Ad I1 F1 X kk (by omega) hOK1 w hI hd _) (lw_V q385 q387 qs12 q68 q388) (by decide +kernel) ⟨Nat.le_of_ble_eq_true rfl, Nat.le_of_ble_eq_true rfl⟩ (wU_l hI.x) rfl rfl rfl hl.1 rfl (Nat.le_of_ble_eq_true rfl) dX0_dayOf_114 ⟨Nat.le_of_ble_eq_true rfl, Nat.le_of_ble_eq_true rfl⟩) (fun z42 Ad43 I44 F45 X46 H locs hz47 hp48 hB => ?_)
            obtain ⟨hz47a, hz47b⟩ := hz47
            obtain ⟨rfl, rfl, ⟨g49, g50, g51, rfl⟩, hs52, rfl⟩ := hp48
            replace hB : xBB E (xA (wU w X) sz) s o Ad I1 (up3 F1 g49 g50 g51) X46 _ _ := hB
            exact b_iret C hB hr hlocks rfl dX0_dayOf_117 (Nat.le_of_ble_eq_true rfl) (Nat.le_of_ble_eq_true rfl) ⟨by omega, by omega⟩ ⟨rfl, by rw [hex], ⟨_, _, _, by rw [hex]⟩, fun a e h => (hs52 _ _ h), by unfold rDay; rw [hex, if_neg (by omega)]; dsimp only; rw [if_pos (by omega)]; unfold rTellD; rw [if_neg (by omega)]; rw [if_pos (by omega), hkk]; rfl⟩
      · refine lv_bipush (v := iI (-100)) hx hb dX0_dayOf_82 rfl ?_
        refine lv_iload_n hx hb dX0_dayOf_84 rfl (lv_at hl 3 rfl) ?_
        refine x_isub (z := -wr - 100) hx hb dX0_dayOf_85 (by omega) ?_
        exact b_iret C hB hr hlocks rfl dX0_dayOf_86 (Nat.le_of_ble_eq_true rfl) (Nat.le_of_ble_eq_true rfl) ⟨by omega, by omega⟩ ⟨rfl, by rw [hex], ⟨_, _, _, by rw [hex]; exact up3_id F1⟩, fun a e h => h, by unfold rDay; rw [hex, if_neg (by omega)]; dsimp only; rw [if_neg (by omega)]; omega⟩
    · refine lv_iload_n hx hb dX0_dayOf_76 rfl (lv_at hl 3 rfl) ?_
      exact b_iret C hB hr hlocks rfl dX0_dayOf_77 (Nat.le_of_ble_eq_true rfl) (Nat.le_of_ble_eq_true rfl) ⟨by omega, by omega⟩ ⟨rfl, by rw [hex], ⟨_, _, _, by rw [hex]; exact up3_id F1⟩, fun a e h => h, by unfold rDay; rw [hex, if_pos (by omega)]⟩
  · refine lv_iload_n hx hb dX0_dayOf_13 rfl (lv_at hl 3 rfl) ?_
    refine x_if_ge (tgt := 71) hx hb dX0_dayOf_14 (by decide) ⟨by omega, by omega⟩ (fun c53 => ?_) (fun c53 => ?_)
    · have hex : gdy f n 0 I F = (wr, I1, F1) := by
        rcases hgd with z | z
        · rw [z.2, z.1, show n - c_ = 0 by omega]; rfl
        · exact z.2.2
      have hwr : wr = -9 ∨ (0 ≤ wr ∧ wr ≤ 40) := by omega
      have hOKc := hOK1
      obtain ⟨⟨hf1, hf2⟩, ⟨hl1, hl2⟩, ⟨hr1, hr2⟩, hlr, ⟨hs1, hs2⟩, ⟨hj1, hj2⟩, ⟨hb1, hb2⟩, ⟨hn1, hn2⟩, hL, hR, hN, hS, hC⟩ := hOKc
      refine lv_iload_n hx hb dX0_dayOf_71 rfl (lv_at hl 2 rfl) ?_
      refine lv_iconst (v := iI 1) hx hb dX0_dayOf_72 rfl ?_
      refine x_icmp_ne (tgt := 78) hx hb dX0_dayOf_73 (by decide) ⟨by omega, by omega⟩ ⟨by decide, by decide⟩ (fun c54 => ?_) (fun c54 => ?_)
      · refine lv_iload_n hx hb dX0_dayOf_78 rfl (lv_at hl 3 rfl) ?_
        refine x_if_lt (tgt := 87) hx hb dX0_dayOf_79 (by decide) ⟨by omega, by omega⟩ (fun c55 => ?_) (fun c55 => ?_)
        · refine lv_iload_n hx hb dX0_dayOf_87 rfl (lv_at hl 2 rfl) ?_
          refine lv_bipush (v := iI 10) hx hb dX0_dayOf_88 rfl ?_
          refine x_icmp_lt (tgt := 118) hx hb dX0_dayOf_90 (by decide) ⟨by omega, by omega⟩ ⟨by decide, by decide⟩ (fun c56 => ?_) (fun c56 => ?_)
          · refine lv_aload_n hx hb dX0_dayOf_118 rfl (lv_at hl 0 rfl) ?_
            refine lv_iload_n hx hb dX0_dayOf_119 rfl (lv_at hl 2 rfl) ?_
            refine x_if_ne (tgt := 127) hx hb dX0_dayOf_120 (by decide) ⟨by omega, by omega⟩ (fun c57 => ?_) (fun c57 => ?_)
            · refine lv_iload_n hx hb dX0_dayOf_127 rfl (lv_at hl 2 rfl) ?_
              refine lv_iconst (v := iI 1) hx hb dX0_dayOf_128 rfl ?_
              refine x_isub (z := wh - 1) hx hb dX0_dayOf_129 (by omega) ?_
              refine b_calli 17 64 (Nat.le_of_ble_eq_true rfl) (Nat.le_of_ble_eq_true rfl) hB (fun w hI hd hB => rV (As := [.int (iI (wh - 1))]) (n := 1) C hZ hB (kX0_best l E o Ad I1 F1 X (wh - 1) ⟨by omega, by omega⟩ hOK1 w hI hd _) (lw_V q1238 q599 q600 q68 q601) (by decide +kernel) ⟨Nat.le_of_ble_eq_true rfl, Nat.le_of_ble_eq_true rfl⟩ (wU_l hI.x) rfl rfl rfl hl.1 rfl (Nat.le_of_ble_eq_true rfl) dX0_dayOf_130 ⟨Nat.le_of_ble_eq_true rfl, Nat.le_of_ble_eq_true rfl⟩) (fun z58 Ad59 I60 F61 X62 H locs hz63 hp64 hB => ?_)
              obtain ⟨hz63a, hz63b⟩ := hz63
              obtain ⟨rfl, rfl, ⟨g65, g66, g67, rfl⟩, hs68, rfl⟩ := hp64
              replace hB : xBB E (xA (wU w X) sz) s o Ad I1 (up3 F1 g65 g66 g67) X62 _ _ := hB
              exact b_iret C hB hr hlocks rfl dX0_dayOf_133 (Nat.le_of_ble_eq_true rfl) (Nat.le_of_ble_eq_true rfl) ⟨by omega, by omega⟩ ⟨rfl, by rw [hex], ⟨_, _, _, by rw [hex]⟩, fun a e h => (hs68 _ _ h), by unfold rDay; rw [hex, if_neg (by omega)]; dsimp only; rw [if_pos (by omega)]; unfold rTellD; rw [if_pos (by omega)]; rcases (show wh = 2 ∨ wh = 3 ∨ wh = 4 by omega) with rfl | rfl | rfl; exact rB1 h51; exact rB2 h51; exact rB3 h51⟩
            · refine lv_iconst (v := iI 0) hx hb dX0_dayOf_123 rfl ?_
              refine lv_goto (tgt := 130) hx hb dX0_dayOf_124 (by decide) ?_
              refine b_calli 17 64 (Nat.le_of_ble_eq_true rfl) (Nat.le_of_ble_eq_true rfl) hB (fun w hI hd hB => rV (As := [.int (iI 0)]) (n := 1) C hZ hB (kX0_best l E o Ad I1 F1 X 0 ⟨by omega, by omega⟩ hOK1 w hI hd _) (lw_V q1238 q599 q600 q68 q601) (by decide +kernel) ⟨Nat.le_of_ble_eq_true rfl, Nat.le_of_ble_eq_true rfl⟩ (wU_l hI.x) rfl rfl rfl hl.1 rfl (Nat.le_of_ble_eq_true rfl) dX0_dayOf_130 ⟨Nat.le_of_ble_eq_true rfl, Nat.le_of_ble_eq_true rfl⟩) (fun z69 Ad70 I71 F72 X73 H locs hz74 hp75 hB => ?_)
              obtain ⟨hz74a, hz74b⟩ := hz74
              obtain ⟨rfl, rfl, ⟨g76, g77, g78, rfl⟩, hs79, rfl⟩ := hp75
              replace hB : xBB E (xA (wU w X) sz) s o Ad I1 (up3 F1 g76 g77 g78) X73 _ _ := hB
              exact b_iret C hB hr hlocks rfl dX0_dayOf_133 (Nat.le_of_ble_eq_true rfl) (Nat.le_of_ble_eq_true rfl) ⟨by omega, by omega⟩ ⟨rfl, by rw [hex], ⟨_, _, _, by rw [hex]⟩, fun a e h => (hs79 _ _ h), by unfold rDay; rw [hex, if_neg (by omega)]; dsimp only; rw [if_pos (by omega)]; unfold rTellD; rw [if_pos (by omega)]; rw [show wh = 0 by omega]; exact rB0 h51⟩
          · refine lv_aload_n hx hb dX0_dayOf_93 rfl (lv_at hl 0 rfl) ?_
            refine lv_iload_n hx hb dX0_dayOf_94 rfl (lv_at hl 2 rfl) ?_
            refine lv_bipush (v := iI 10) hx hb dX0_dayOf_95 rfl ?_
            refine x_isub (z := wh - 10) hx hb dX0_dayOf_97 (by omega) ?_
            refine b_calli 0 0 (Nat.le_of_ble_eq_true rfl) (Nat.le_of_ble_eq_true rfl) hB (fun w hI hd hB => rV (As := [.int (iI (wh - 10))]) (n := 1) C hZ hB (kX0_noLeft l E o Ad I1 F1 X (wh - 10) ⟨by omega, by omega⟩ hOK1 w hI hd _) (lw_V q237 q239 qs7 q68 q240) (by decide +kernel) ⟨Nat.le_of_ble_eq_true rfl, Nat.le_of_ble_eq_true rfl⟩ (wU_l hI.x) rfl rfl rfl hl.1 rfl (Nat.le_of_ble_eq_true rfl) dX0_dayOf_98 ⟨Nat.le_of_ble_eq_true rfl, Nat.le_of_ble_eq_true rfl⟩) (fun z80 Ad81 I82 F83 X84 H locs hz85 hp86 hB => ?_)
            obtain ⟨hz85a, hz85b⟩ := hz85
            obtain ⟨rfl, rfl, rfl, rfl, ⟨rfl, h87⟩ | ⟨rfl, h87⟩⟩ := hp86
            · refine x_if_eq (tgt := 109) hx hb dX0_dayOf_101 (by decide) ⟨by decide, by decide⟩ (fun c88 => by exfalso; omega) (fun c88 => ?_)
              refine lv_bipush (v := iI (-9)) hx hb dX0_dayOf_104 rfl ?_
              refine lv_goto (tgt := 117) hx hb dX0_dayOf_106 (by decide) ?_
              exact b_iret C hB hr hlocks rfl dX0_dayOf_117 (Nat.le_of_ble_eq_true rfl) (Nat.le_of_ble_eq_true rfl) ⟨by decide, by decide⟩ ⟨rfl, by rw [hex], ⟨_, _, _, by rw [hex]; exact up3_id F1⟩, fun a e h => h, by unfold rDay; rw [hex, if_neg (by omega)]; dsimp only; rw [if_pos (by omega)]; unfold rTellD; rw [if_neg (by omega)]; rw [if_neg (by omega)]⟩
            · refine x_if_eq (tgt := 109) hx hb dX0_dayOf_101 (by decide) ⟨by decide, by decide⟩ (fun c89 => ?_) (fun c89 => by exfalso; omega)
              obtain ⟨kk, hkk⟩ : ∃ kk : Nat, wh - 10 = (kk : Int) := ⟨(wh - 10).toNat, by omega⟩
              refine lv_aload_n hx hb dX0_dayOf_109 rfl (lv_at hl 0 rfl) ?_
              refine lv_iload_n hx hb dX0_dayOf_110 rfl (lv_at hl 2 rfl) ?_
              refine lv_bipush (v := iI 10) hx hb dX0_dayOf_111 rfl ?_
              refine x_isub (z := wh - 10) hx hb dX0_dayOf_113 (by omega) ?_
              refine x_nm hkk ?_
              have hrp := rg_pwL kk (bpath I1 F1 (I1 9)) 0 rg_0
              refine b_calli 17 65 (Nat.le_of_ble_eq_true rfl) (Nat.le_of_ble_eq_true rfl) hB (fun w hI hd hB => rV (As := [.int (iI ((kk : Int)))]) (n := 1) C hZ hB (kX0_partnersOfLeft l E o Ad I1 F1 X kk (by omega) hOK1 w hI hd _) (lw_V q385 q387 qs12 q68 q388) (by decide +kernel) ⟨Nat.le_of_ble_eq_true rfl, Nat.le_of_ble_eq_true rfl⟩ (wU_l hI.x) rfl rfl rfl hl.1 rfl (Nat.le_of_ble_eq_true rfl) dX0_dayOf_114 ⟨Nat.le_of_ble_eq_true rfl, Nat.le_of_ble_eq_true rfl⟩) (fun z90 Ad91 I92 F93 X94 H locs hz95 hp96 hB => ?_)
              obtain ⟨hz95a, hz95b⟩ := hz95
              obtain ⟨rfl, rfl, ⟨g97, g98, g99, rfl⟩, hs100, rfl⟩ := hp96
              replace hB : xBB E (xA (wU w X) sz) s o Ad I1 (up3 F1 g97 g98 g99) X94 _ _ := hB
              exact b_iret C hB hr hlocks rfl dX0_dayOf_117 (Nat.le_of_ble_eq_true rfl) (Nat.le_of_ble_eq_true rfl) ⟨by omega, by omega⟩ ⟨rfl, by rw [hex], ⟨_, _, _, by rw [hex]⟩, fun a e h => (hs100 _ _ h), by unfold rDay; rw [hex, if_neg (by omega)]; dsimp only; rw [if_pos (by omega)]; unfold rTellD; rw [if_neg (by omega)]; rw [if_pos (by omega), hkk]; rfl⟩
        · refine lv_bipush (v := iI (-100)) hx hb dX0_dayOf_82 rfl ?_
          refine lv_iload_n hx hb dX0_dayOf_84 rfl (lv_at hl 3 rfl) ?_
          refine x_isub (z := -wr - 100) hx hb dX0_dayOf_85 (by omega) ?_
          exact b_iret C hB hr hlocks rfl dX0_dayOf_86 (Nat.le_of_ble_eq_true rfl) (Nat.le_of_ble_eq_true rfl) ⟨by omega, by omega⟩ ⟨rfl, by rw [hex], ⟨_, _, _, by rw [hex]; exact up3_id F1⟩, fun a e h => h, by unfold rDay; rw [hex, if_neg (by omega)]; dsimp only; rw [if_neg (by omega)]; omega⟩
      · refine lv_iload_n hx hb dX0_dayOf_76 rfl (lv_at hl 3 rfl) ?_
        exact b_iret C hB hr hlocks rfl dX0_dayOf_77 (Nat.le_of_ble_eq_true rfl) (Nat.le_of_ble_eq_true rfl) ⟨by omega, by omega⟩ ⟨rfl, by rw [hex], ⟨_, _, _, by rw [hex]; exact up3_id F1⟩, fun a e h => h, by unfold rDay; rw [hex, if_pos (by omega)]⟩
    · have hgd1 : gdy f n 0 I F = gdy f (n - c_) c_ I1 F1 := by rcases hgd with z | z; exact z.2; omega
      have hprc := hpr c_ (by omega)
      obtain ⟨j, w2, hj, hw2, hact⟩ := isPr_act hprc
      have hvb := isPr_b hprc
      rw [hact] at hprc
      have hgs := gdy_s f (n - (c_ + 1)) c_ I1 F1
      rw [show n - (c_ + 1) + 1 = n - c_ by omega, hact] at hgs
      refine lv_aload_n hx hb dX0_dayOf_17 rfl (lv_at hl 1 rfl) ?_
      refine lv_iload hx hb dX0_dayOf_18 (lv_at hl 4 rfl) ?_
      refine lv_iconst (v := iI 1) hx hb dX0_dayOf_20 rfl ?_
      refine x_iadd (z := 2 * (c_ : Int) + 1) hx hb dX0_dayOf_21 (by omega) ?_
      refine t_ald C hB hq (2 * c_ + 1) (by omega) (by omega) (by omega) dX0_dayOf_22 ?_
      refine x_nm hact ?_
      refine lv_istore (lv' := [(5, .int (iI (((10 * j + w2 : Nat) : Int)))), (0, .ref o), (1, .ref q), (2, .int (iI wh)), (3, .int (iI wr)), (4, .int (iI (2 * (c_ : Int))))]) hx hb dX0_dayOf_23 hl (by decide) rfl (fun ls hl => ?_)
      refine lv_aload_n hx hb dX0_dayOf_25 rfl (lv_at hl 1 rfl) ?_
      refine b_get C hB 1 (by decide) q292 (v := .ref (Ad 2)) rfl rfl dX0_dayOf_26 ?_
      refine lv_iload hx hb dX0_dayOf_29 (lv_at hl 0 rfl) ?_
      refine lv_bipush (v := iI 10) hx hb dX0_dayOf_31 rfl ?_
      refine lv_idiv hx hb dX0_dayOf_33 (by decide) ?_
      refine x_rw (y := iI ((j : Int))) (i_div10 hj hw2) ?_
      refine r_aald C hB 2 5 rfl rfl j rfl (by omega) (by omega) (v := some (Ad (60 + j))) (if_pos (by omega)) dX0_dayOf_34 ?_
      refine r_getN C hB (60 + j) (C0_do (by omega)) rfl in_X2 0 (by decide) q260 (fun x h => h) rfl dX0_dayOf_35 ?_
      refine lv_aload_n hx hb dX0_dayOf_38 rfl (lv_at hl 2 rfl) ?_
      refine lv_iload hx hb dX0_dayOf_39 (lv_at hl 5 rfl) ?_
      refine t_ald C hB hq (2 * c_) (by omega) (by omega) (by omega) dX0_dayOf_41 ?_
      refine lv_iload hx hb dX0_dayOf_42 (lv_at hl 0 rfl) ?_
      refine lv_bipush (v := iI 10) hx hb dX0_dayOf_44 rfl ?_
      refine lv_irem hx hb dX0_dayOf_46 (by decide) ?_
      refine x_rw (y := iI ((w2 : Int))) (i_rem10 hj hw2) ?_
      refine b_deed l C hZ hB j w2 (f (2 * c_)) (by omega) (by omega) hprc h51 hOK1 q1235 ⟨Nat.le_of_ble_eq_true rfl, Nat.le_of_ble_eq_true rfl⟩ hl.1 (Nat.le_of_ble_eq_true rfl) dX0_dayOf_47 ⟨Nat.le_of_ble_eq_true rfl, Nat.le_of_ble_eq_true rfl⟩ (fun H locs hok hB => ?_) (fun H locs hok hB => ?_)
      · refine x_if_eq (tgt := 60) hx hb dX0_dayOf_52 (by decide) ⟨by decide, by decide⟩ (fun c101 => by exfalso; omega) (fun c101 => ?_)
        refine lv_bipush (v := iI (-9)) hx hb dX0_dayOf_55 rfl ?_
        refine lv_goto (tgt := 64) hx hb dX0_dayOf_57 (by decide) ?_
        refine lv_istore_n (lv' := [(3, .int (iI (-9))), (5, .int (iI (((10 * j + w2 : Nat) : Int)))), (0, .ref o), (1, .ref q), (2, .int (iI wh)), (4, .int (iI (2 * (c_ : Int))))]) hx hb dX0_dayOf_64 rfl hl (by decide) rfl (fun ls hl => ?_)
        refine lv_iinc (v := iI (2 * (c_ : Int) + 2)) (lv' := [(4, .int (iI (2 * (c_ : Int) + 2))), (3, .int (iI (-9))), (5, .int (iI (((10 * j + w2 : Nat) : Int)))), (0, .ref o), (1, .ref q), (2, .int (iI wh))]) hx hb dX0_dayOf_65 hl (k := 5) rfl (iI_add _ _) (by decide) rfl (fun ls hl => ?_)
        refine lv_goto (tgt := 6) hx hb dX0_dayOf_68 (by decide) ?_
        exact ih1 _ _ _ _ (by omega) ⟨c_ + 1, _, _, _, rfl, by omega, dOK hOK1 (hact ▸ hpr c_ (by omega)), by rw [(dI_5 I1 _ _).1]; exact h51, Or.inl ⟨rfl, by rw [hgd1, hgs, if_pos hok]⟩, hB, lv_sub hl [3, 4, 5, 1, 0] rfl⟩
      · refine x_if_eq (tgt := 60) hx hb dX0_dayOf_52 (by decide) ⟨by decide, by decide⟩ (fun c102 => ?_) (fun c102 => by exfalso; omega)
        refine lv_iload hx hb dX0_dayOf_60 (lv_at hl 5 rfl) ?_
        refine lv_iconst (v := iI 2) hx hb dX0_dayOf_62 rfl ?_
        refine lv_idiv hx hb dX0_dayOf_63 (by decide) ?_
        refine x_rw (y := iI ((c_ : Int))) (i_half (by omega)) ?_
        refine lv_istore_n (lv' := [(3, .int (iI ((c_ : Int)))), (5, .int (iI (((10 * j + w2 : Nat) : Int)))), (0, .ref o), (1, .ref q), (2, .int (iI wh)), (4, .int (iI (2 * (c_ : Int))))]) hx hb dX0_dayOf_64 rfl hl (by decide) rfl (fun ls hl => ?_)
        refine lv_iinc (v := iI (2 * (c_ : Int) + 2)) (lv' := [(4, .int (iI (2 * (c_ : Int) + 2))), (3, .int (iI ((c_ : Int)))), (5, .int (iI (((10 * j + w2 : Nat) : Int)))), (0, .ref o), (1, .ref q), (2, .int (iI wh))]) hx hb dX0_dayOf_65 hl (k := 5) rfl (iI_add _ _) (by decide) rfl (fun ls hl => ?_)
        refine lv_goto (tgt := 6) hx hb dX0_dayOf_68 (by decide) ?_
        exact ih1 _ _ _ _ (by omega) ⟨c_ + 1, _, _, _, rfl, by omega, hOK1, h51, Or.inr ⟨by omega, by omega, by rw [hgd1, hgs, hok]; rfl⟩, hB, lv_sub hl [3, 4, 5, 1, 0] rfl⟩
