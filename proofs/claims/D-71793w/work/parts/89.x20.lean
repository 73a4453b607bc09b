/-! THE COMPONENT: the right book of a text -/
set_option maxRecDepth 100000
/-- the codes of a text, -9 behind its end -/
def xt (f : Nat → Int) (n : Nat) : Nat → Int := fun t => if t < n then f t else -9
theorem xt_rg {f : Nat → Int} (h : ∀ j, rg (f j)) (n t : Nat) : rg (xt f n t) := by
  unfold xt
  split
  · exact h t
  · exact ⟨by decide, by decide⟩
theorem lOf_c (x : Int) : lOf x = -9 ∨ (1 ≤ lOf x ∧ lOf x ≤ 9) := by unfold lOf; (repeat' split) <;> omega
theorem aOf_c (x : Int) : aOf x = -9 ∨ (0 ≤ aOf x ∧ aOf x ≤ 4) := by unfold aOf; (repeat' split) <;> omega
def rtF (F : Nat → Nat → Int) (r t : Nat → Int) : Nat → Nat → Int := va_up (va_up F 33 r) 34 t
theorem rtF_id (F : Nat → Nat → Int) : rtF F (F 33) (F 34) = F := by
  unfold rtF
  rw [va_up_id, va_up_id]
theorem rtF_33 (F : Nat → Nat → Int) (r t v : Nat → Int) : va_up (rtF F r t) 33 v = rtF F v t := by
  unfold rtF
  rw [va_up_comm _ _ _ (show 34 ≠ 33 by decide), bx_uu]
theorem rtF_34 (F : Nat → Nat → Int) (r t v : Nat → Int) : va_up (rtF F r t) 34 v = rtF F r v := bx_uu _ _ _ _
theorem rt_up {x r t : Nat → Int} {a k0 : Nat} (h : ∀ k, k < k0 → r k = lOf (x (a + 1 + 3 * k)) ∧ t k = aOf (x (a + 2 + 3 * k)) ∧ lOf (x (a + 1 + 3 * k)) ≠ -9 ∧ aOf (x (a + 2 + 3 * k)) ≠ -9) (h1 : lOf (x (a + 1 + 3 * k0)) ≠ -9) (h2 : aOf (x (a + 2 + 3 * k0)) ≠ -9) : ∀ k, k < k0 + 1 → va_up r k0 (lOf (x (a + 1 + 3 * k0))) k = lOf (x (a + 1 + 3 * k)) ∧ va_up t k0 (aOf (x (a + 2 + 3 * k0))) k = aOf (x (a + 2 + 3 * k)) ∧ lOf (x (a + 1 + 3 * k)) ≠ -9 ∧ aOf (x (a + 2 + 3 * k)) ≠ -9 := by
  intro k hk
  by_cases g : k = k0
  · subst g
    exact ⟨va_up_s _ _ _, va_up_s _ _ _, h1, h2⟩
  · rw [va_up_n _ _ g, va_up_n _ _ g]
    exact h k (by omega)
set_option maxHeartbeats 800000 in
set_option maxRecDepth 100000 in
theorem kX0_rightIn (l : Launch) (E : xE) (o : Nat) (Ad : Nat → Nat) (I : Nat → Int) (F : Nat → Nat → Int) (X : xw) (q : Nat) (n : Nat) (f : Nat → Int) (a_ : Nat) (hq : X q = some (xI E n f)) (hn : n ≤ 60) (hfr : ∀ j, rg (f j)) (ha60 : a_ ≤ 60) : ci_ l E yX0_rightIn cX0_rightIn 5 (some .int) 2 47 0 0 [.ref o, .ref q, .int (iI ((a_ : Int)))] o Ad I F X (fun z Ad' I' F' X' => Ad = Ad' ∧ I = I' ∧ X = X' ∧ (∃ r t, rtF F r t = F' ∧ (0 ≤ z → ∀ k : Nat, (k : Int) < z → r k = lOf (xt f n (a_ + 1 + 3 * k)) ∧ t k = aOf (xt f n (a_ + 2 + 3 * k)) ∧ lOf (xt f n (a_ + 1 + 3 * k)) ≠ -9 ∧ aOf (xt f n (a_ + 2 + 3 * k)) ≠ -9)) ∧ z = rtR (xt f n) n a_ 8 0) := by
  intro w hI hd sz
  refine x_bodyz (by decide) (Nat.le_of_ble_eq_true rfl) ?_
  intro p e s m args below meth c ls hx hb C hr hlocks hin hsz hZ hB hl
  have C : xC E p s m args c cX0_rightIn 5 RX0 := C
  replace hB : xBB E (xA (wU w X) sz) s o Ad I F X s.heap [] := ⟨w, hI, hd, hB⟩
  have hl : lv_has ls 5 [(0, .ref o), (1, .ref q), (2, .int (iI ((a_ : Int))))] := hl
  refine lv_iconst (v := iI 0) hx hb dX0_rightIn_0 rfl ?_
  refine lv_istore_n (lv' := [(3, .int (iI 0)), (0, .ref o), (1, .ref q), (2, .int (iI ((a_ : Int))))]) hx hb dX0_rightIn_1 rfl hl (by decide) rfl (fun ls hl => ?_)
  refine lv_iload_n hx hb dX0_rightIn_2 rfl (lv_at hl 3 rfl) ?_
  refine lv_istore (lv' := [(4, .int (iI ((a_ : Int)))), (3, .int (iI 0)), (0, .ref o), (1, .ref q), (2, .int (iI ((a_ : Int))))]) hx hb dX0_rightIn_3 hl (by decide) rfl (fun ls hl => ?_)
  rw [← rtF_id F] at hB
  replace hB : xBB E (xA (wU w X) sz) s o Ad I (rtF F (F 33) (F 34)) X _ _ := hB
  refine w_loop (fun n4 H locs ls => ∃ (k_ : Nat) (r_ : Nat → Int) (t_ : Nat → Int), n4 = 7 - k_ ∧ (k_ ≤ 7) ∧ (rtR (xt f n) n a_ 8 0 = rtR (xt f n) n a_ (8 - k_) k_) ∧ (∀ k, k < k_ → r_ k = lOf (xt f n (a_ + 1 + 3 * k)) ∧ t_ k = aOf (xt f n (a_ + 2 + 3 * k)) ∧ lOf (xt f n (a_ + 1 + 3 * k)) ≠ -9 ∧ aOf (xt f n (a_ + 2 + 3 * k)) ≠ -9) ∧ xBB E (xA (wU w X) sz) s o Ad I (rtF F r_ t_) X H locs ∧ lv_has ls 5 [(0, .ref o), (1, .ref q), (2, .int (iI ((a_ : Int)))), (3, .int (iI ((k_ : Int)))), (4, .int (iI ((a_ : Int) + 3 * (k_ : Int))))]) _ ⟨0, _, _, rfl, by omega, rfl, fun k h => absurd h (Nat.not_lt_zero k), hB, lv_sub hl [2, 3, 4, 1, 0] rfl⟩ ?_
  intro n4 H locs ls hI3 ih1
  obtain ⟨k_, r_, t_, hn2, hk7, hrt, hall, hB, hl⟩ := hI3
  have hrs := rtR_s (xt f n) n a_ (7 - k_) k_
  rw [show 7 - k_ + 1 = 8 - k_ by omega] at hrs
  refine lv_iload_n hx hb dX0_rightIn_5 rfl (lv_at hl 3 rfl) ?_
  refine x_if_eq (tgt := 16) hx hb dX0_rightIn_6 (by decide) ⟨by omega, by omega⟩ (fun c5 => ?_) (fun c5 => ?_)
  · refine lv_iload_n hx hb dX0_rightIn_16 rfl (lv_at hl 3 rfl) ?_
    refine lv_bipush (v := iI 7) hx hb dX0_rightIn_17 rfl ?_
    refine x_icmp_eq (tgt := 33) hx hb dX0_rightIn_19 (by decide) ⟨by omega, by omega⟩ ⟨by decide, by decide⟩ (fun c6 => ?_) (fun c6 => ?_)
    · refine lv_bipush (v := iI (-100)) hx hb dX0_rightIn_33 rfl ?_
      refine lv_iload hx hb dX0_rightIn_35 (lv_at hl 4 rfl) ?_
      refine x_isub (z := -(a_ : Int) - 3 * (k_ : Int) - 100) hx hb dX0_rightIn_37 (by omega) ?_
      exact b_iret C hB hr hlocks rfl dX0_rightIn_38 (Nat.le_of_ble_eq_true rfl) (Nat.le_of_ble_eq_true rfl) ⟨by omega, by omega⟩ ⟨rfl, rfl, rfl, ⟨_, _, rfl, fun h => absurd h (by omega)⟩, by rw [hrt, hrs, if_pos (by omega), if_pos (by omega)]; omega⟩
    · refine lv_aload_n hx hb dX0_rightIn_22 rfl (lv_at hl 1 rfl) ?_
      refine lv_iload hx hb dX0_rightIn_23 (lv_at hl 4 rfl) ?_
      obtain ⟨wq, hIq, hdq, hB⟩ := hB
      refine g_calli 0 0 (Nat.le_of_ble_eq_true rfl) (Nat.le_of_ble_eq_true rfl) hB (rS (As := [.ref q, .int (iI ((a_ : Int) + 3 * (k_ : Int)))]) (n := 2) C hZ hB (kX0_codeAt l E (wU wq X) q n f (a_ + 3 * k_) (wU_r hdq hq) hn hfr (by omega) _) (lw_S q1058 q1059 q68 q1060) (by decide +kernel) ⟨Nat.le_of_ble_eq_true rfl, Nat.le_of_ble_eq_true rfl⟩ rfl hl.1 rfl (Nat.le_of_ble_eq_true rfl) dX0_rightIn_25 ⟨Nat.le_of_ble_eq_true rfl, Nat.le_of_ble_eq_true rfl⟩) (fun z7 w8 H locs hz9 hp10 hB => ?_)
      obtain ⟨hz9a, hz9b⟩ := hz9
      obtain ⟨rfl, hp10⟩ := hp10
      replace hB : xBB E (xA (wU w X) sz) s o Ad I (rtF F r_ t_) X _ _ := ⟨wq, hIq, hdq, hB⟩
      subst hp10
      refine x_nm (b := xt f n (a_ + 3 * k_)) rfl ?_
      have hrx := xt_rg hfr n (a_ + 3 * k_)
      obtain ⟨hrx1, hrx2⟩ := hrx
      refine lv_bipush (v := iI 44) hx hb dX0_rightIn_28 rfl ?_
      refine x_icmp_eq (tgt := 39) hx hb dX0_rightIn_30 (by decide) ⟨by omega, by omega⟩ ⟨by decide, by decide⟩ (fun c11 => ?_) (fun c11 => ?_)
      · refine lv_aload_n hx hb dX0_rightIn_39 rfl (lv_at hl 0 rfl) ?_
        refine b_get C hB 10 (by decide) q305 (v := .ref (Ad 11)) rfl rfl dX0_rightIn_40 ?_
        refine lv_iload_n hx hb dX0_rightIn_43 rfl (lv_at hl 3 rfl) ?_
        refine lv_aload_n hx hb dX0_rightIn_44 rfl (lv_at hl 1 rfl) ?_
        refine lv_iload hx hb dX0_rightIn_45 (lv_at hl 4 rfl) ?_
        refine lv_iconst (v := iI 1) hx hb dX0_rightIn_47 rfl ?_
        refine x_iadd (z := (a_ : Int) + 3 * (k_ : Int) + 1) hx hb dX0_rightIn_48 (by omega) ?_
        obtain ⟨wq, hIq, hdq, hB⟩ := hB
        refine g_calli 0 0 (Nat.le_of_ble_eq_true rfl) (Nat.le_of_ble_eq_true rfl) hB (rS (As := [.ref q, .int (iI ((a_ : Int) + 3 * (k_ : Int) + 1))]) (n := 2) C hZ hB (kX0_lettersAt l E (wU wq X) q n f (a_ + 3 * k_ + 1) (wU_r hdq hq) hn hfr (by omega) _) (lw_S q1070 q1071 q68 q1072) (by decide +kernel) ⟨Nat.le_of_ble_eq_true rfl, Nat.le_of_ble_eq_true rfl⟩ rfl hl.1 rfl (Nat.le_of_ble_eq_true rfl) dX0_rightIn_49 ⟨Nat.le_of_ble_eq_true rfl, Nat.le_of_ble_eq_true rfl⟩) (fun z12 w13 H locs hz14 hp15 hB => ?_)
        obtain ⟨hz14a, hz14b⟩ := hz14
        obtain ⟨rfl, hp15⟩ := hp15
        replace hB : xBB E (xA (wU w X) sz) s o Ad I (rtF F r_ t_) X _ _ := ⟨wq, hIq, hdq, hB⟩
        subst hp15
        refine x_nm (b := lOf (xt f n (a_ + 3 * k_ + 1))) rfl ?_
        have hrx := lOf_c (xt f n (a_ + 3 * k_ + 1))
        refine x_nm (show lOf (xt f n (a_ + 3 * k_ + 1)) = lOf (xt f n (a_ + 1 + 3 * k_)) from congrArg (fun j => lOf (xt f n j)) (by omega)) ?_
        rw [show lOf (xt f n (a_ + 3 * k_ + 1)) = lOf (xt f n (a_ + 1 + 3 * k_)) from congrArg (fun j => lOf (xt f n j)) (by omega)] at hrx
        have hrxl := hrx
        refine b_ast C hB 11 33 7 rfl (f := r_) k_ rfl (by omega) (by omega) rfl dX0_rightIn_52 (fun H locs hB => ?_)
        rw [rtF_33] at hB
        replace hB : xBB E (xA (wU w X) sz) s o Ad I (rtF F ((va_up r_ k_ (lOf (xt f n (a_ + 1 + 3 * k_))))) t_) X _ _ := hB
        refine lv_aload_n hx hb dX0_rightIn_53 rfl (lv_at hl 0 rfl) ?_
        refine b_get C hB 10 (by decide) q305 (v := .ref (Ad 11)) rfl rfl dX0_rightIn_54 ?_
        refine lv_iload_n hx hb dX0_rightIn_57 rfl (lv_at hl 3 rfl) ?_
        refine b_ald C hB 11 33 7 rfl (v := lOf (xt f n (a_ + 1 + 3 * k_))) k_ rfl (by omega) (by omega) (va_up_s _ _ _) dX0_rightIn_58 ?_
        refine x_if_ge (tgt := 68) hx hb dX0_rightIn_59 (by decide) ⟨by omega, by omega⟩ (fun c16 => ?_) (fun c16 => ?_)
        · refine lv_aload_n hx hb dX0_rightIn_68 rfl (lv_at hl 0 rfl) ?_
          refine b_get C hB 11 (by decide) q306 (v := .ref (Ad 12)) rfl rfl dX0_rightIn_69 ?_
          refine lv_iload_n hx hb dX0_rightIn_72 rfl (lv_at hl 3 rfl) ?_
          refine lv_aload_n hx hb dX0_rightIn_73 rfl (lv_at hl 1 rfl) ?_
          refine lv_iload hx hb dX0_rightIn_74 (lv_at hl 4 rfl) ?_
          refine lv_iconst (v := iI 2) hx hb dX0_rightIn_76 rfl ?_
          refine x_iadd (z := (a_ : Int) + 3 * (k_ : Int) + 2) hx hb dX0_rightIn_77 (by omega) ?_
          obtain ⟨wq, hIq, hdq, hB⟩ := hB
          refine g_calli 0 0 (Nat.le_of_ble_eq_true rfl) (Nat.le_of_ble_eq_true rfl) hB (rS (As := [.ref q, .int (iI ((a_ : Int) + 3 * (k_ : Int) + 2))]) (n := 2) C hZ hB (kX0_anchorAt l E (wU wq X) q n f (a_ + 3 * k_ + 2) (wU_r hdq hq) hn hfr (by omega) _) (lw_S q1073 q1074 q68 q1075) (by decide +kernel) ⟨Nat.le_of_ble_eq_true rfl, Nat.le_of_ble_eq_true rfl⟩ rfl hl.1 rfl (Nat.le_of_ble_eq_true rfl) dX0_rightIn_78 ⟨Nat.le_of_ble_eq_true rfl, Nat.le_of_ble_eq_true rfl⟩) (fun z17 w18 H locs hz19 hp20 hB => ?_)
          obtain ⟨hz19a, hz19b⟩ := hz19
          obtain ⟨rfl, hp20⟩ := hp20
          replace hB : xBB E (xA (wU w X) sz) s o Ad I (rtF F ((va_up r_ k_ (lOf (xt f n (a_ + 1 + 3 * k_))))) t_) X _ _ := ⟨wq, hIq, hdq, hB⟩
          subst hp20
          refine x_nm (b := aOf (xt f n (a_ + 3 * k_ + 2))) rfl ?_
          have hrx := aOf_c (xt f n (a_ + 3 * k_ + 2))
          refine x_nm (show aOf (xt f n (a_ + 3 * k_ + 2)) = aOf (xt f n (a_ + 2 + 3 * k_)) from congrArg (fun j => aOf (xt f n j)) (by omega)) ?_
          rw [show aOf (xt f n (a_ + 3 * k_ + 2)) = aOf (xt f n (a_ + 2 + 3 * k_)) from congrArg (fun j => aOf (xt f n j)) (by omega)] at hrx
          refine b_ast C hB 12 34 7 rfl (f := t_) k_ rfl (by omega) (by omega) rfl dX0_rightIn_81 (fun H locs hB => ?_)
          rw [rtF_34] at hB
          replace hB : xBB E (xA (wU w X) sz) s o Ad I (rtF F ((va_up r_ k_ (lOf (xt f n (a_ + 1 + 3 * k_))))) ((va_up t_ k_ (aOf (xt f n (a_ + 2 + 3 * k_)))))) X _ _ := hB
          refine lv_aload_n hx hb dX0_rightIn_82 rfl (lv_at hl 0 rfl) ?_
          refine b_get C hB 11 (by decide) q306 (v := .ref (Ad 12)) rfl rfl dX0_rightIn_83 ?_
          refine lv_iload_n hx hb dX0_rightIn_86 rfl (lv_at hl 3 rfl) ?_
          refine b_ald C hB 12 34 7 rfl (v := aOf (xt f n (a_ + 2 + 3 * k_))) k_ rfl (by omega) (by omega) (va_up_s _ _ _) dX0_rightIn_87 ?_
          refine x_if_ge (tgt := 97) hx hb dX0_rightIn_88 (by decide) ⟨by omega, by omega⟩ (fun c21 => ?_) (fun c21 => ?_)
          · refine lv_iinc (v := iI ((k_ : Int) + 1)) (lv' := [(3, .int (iI ((k_ : Int) + 1))), (0, .ref o), (1, .ref q), (2, .int (iI ((a_ : Int)))), (4, .int (iI ((a_ : Int) + 3 * (k_ : Int))))]) hx hb dX0_rightIn_97 hl (k := 3) rfl (iI_add _ _) (by decide) rfl (fun ls hl => ?_)
            refine lv_iinc (v := iI ((a_ : Int) + 3 * (k_ : Int) + 3)) (lv' := [(4, .int (iI ((a_ : Int) + 3 * (k_ : Int) + 3))), (3, .int (iI ((k_ : Int) + 1))), (0, .ref o), (1, .ref q), (2, .int (iI ((a_ : Int))))]) hx hb dX0_rightIn_100 hl (k := 4) rfl (iI_add _ _) (by decide) rfl (fun ls hl => ?_)
            refine lv_goto (tgt := 5) hx hb dX0_rightIn_103 (by decide) ?_
            exact ih1 _ _ _ _ (by omega) ⟨k_ + 1, _, _, rfl, by omega, by rw [hrt, hrs, if_pos (by omega), if_neg (by omega), if_neg (by omega), if_neg (by omega), show 8 - (k_ + 1) = 7 - k_ by omega], rt_up hall (by omega) (by omega), hB, lv_sub hl [2, 3, 4, 1, 0] rfl⟩
          · refine lv_bipush (v := iI (-102)) hx hb dX0_rightIn_91 rfl ?_
            refine lv_iload hx hb dX0_rightIn_93 (lv_at hl 4 rfl) ?_
            refine x_isub (z := -(a_ : Int) - 3 * (k_ : Int) - 102) hx hb dX0_rightIn_95 (by omega) ?_
            exact b_iret C hB hr hlocks rfl dX0_rightIn_96 (Nat.le_of_ble_eq_true rfl) (Nat.le_of_ble_eq_true rfl) ⟨by omega, by omega⟩ ⟨rfl, rfl, rfl, ⟨_, _, rfl, fun h => absurd h (by omega)⟩, by rw [hrt, hrs, if_pos (by omega), if_neg (by omega), if_neg (by omega), if_pos (by omega)]; omega⟩
        · refine lv_bipush (v := iI (-101)) hx hb dX0_rightIn_62 rfl ?_
          refine lv_iload hx hb dX0_rightIn_64 (lv_at hl 4 rfl) ?_
          refine x_isub (z := -(a_ : Int) - 3 * (k_ : Int) - 101) hx hb dX0_rightIn_66 (by omega) ?_
          exact b_iret C hB hr hlocks rfl dX0_rightIn_67 (Nat.le_of_ble_eq_true rfl) (Nat.le_of_ble_eq_true rfl) ⟨by omega, by omega⟩ ⟨rfl, rfl, rfl, ⟨_, _, rfl, fun h => absurd h (by omega)⟩, by rw [hrt, hrs, if_pos (by omega), if_neg (by omega), if_pos (by omega)]; omega⟩
      · refine lv_bipush (v := iI (-100)) hx hb dX0_rightIn_33 rfl ?_
        refine lv_iload hx hb dX0_rightIn_35 (lv_at hl 4 rfl) ?_
        refine x_isub (z := -(a_ : Int) - 3 * (k_ : Int) - 100) hx hb dX0_rightIn_37 (by omega) ?_
        exact b_iret C hB hr hlocks rfl dX0_rightIn_38 (Nat.le_of_ble_eq_true rfl) (Nat.le_of_ble_eq_true rfl) ⟨by omega, by omega⟩ ⟨rfl, rfl, rfl, ⟨_, _, rfl, fun h => absurd h (by omega)⟩, by rw [hrt, hrs, if_pos (by omega), if_pos (by omega)]; omega⟩
  · refine lv_iload hx hb dX0_rightIn_9 (lv_at hl 4 rfl) ?_
    refine lv_aload_n hx hb dX0_rightIn_11 rfl (lv_at hl 1 rfl) ?_
    refine t_len C hB 0 rfl hq dX0_rightIn_12 ?_
    refine x_nm (b := (n : Int)) rfl ?_
    refine x_icmp_ge (tgt := 106) hx hb dX0_rightIn_13 (by decide) ⟨by omega, by omega⟩ ⟨by omega, by omega⟩ (fun c22 => ?_) (fun c22 => ?_)
    · refine lv_iload_n hx hb dX0_rightIn_106 rfl (lv_at hl 3 rfl) ?_
      exact b_iret C hB hr hlocks rfl dX0_rightIn_107 (Nat.le_of_ble_eq_true rfl) (Nat.le_of_ble_eq_true rfl) ⟨by omega, by omega⟩ ⟨rfl, rfl, rfl, ⟨_, _, rfl, fun h => fun k hk => hall k (by omega)⟩, by rw [hrt, hrs, if_neg (by omega)]⟩
    · refine lv_iload_n hx hb dX0_rightIn_16 rfl (lv_at hl 3 rfl) ?_
      refine lv_bipush (v := iI 7) hx hb dX0_rightIn_17 rfl ?_
      refine x_icmp_eq (tgt := 33) hx hb dX0_rightIn_19 (by decide) ⟨by omega, by omega⟩ ⟨by decide, by decide⟩ (fun c23 => ?_) (fun c23 => ?_)
      · refine lv_bipush (v := iI (-100)) hx hb dX0_rightIn_33 rfl ?_
        refine lv_iload hx hb dX0_rightIn_35 (lv_at hl 4 rfl) ?_
        refine x_isub (z := -(a_ : Int) - 3 * (k_ : Int) - 100) hx hb dX0_rightIn_37 (by omega) ?_
        exact b_iret C hB hr hlocks rfl dX0_rightIn_38 (Nat.le_of_ble_eq_true rfl) (Nat.le_of_ble_eq_true rfl) ⟨by omega, by omega⟩ ⟨rfl, rfl, rfl, ⟨_, _, rfl, fun h => absurd h (by omega)⟩, by rw [hrt, hrs, if_pos (by omega), if_pos (by omega)]; omega⟩
      · refine lv_aload_n hx hb dX0_rightIn_22 rfl (lv_at hl 1 rfl) ?_
        refine lv_iload hx hb dX0_rightIn_23 (lv_at hl 4 rfl) ?_
        obtain ⟨wq, hIq, hdq, hB⟩ := hB
        refine g_calli 0 0 (Nat.le_of_ble_eq_true rfl) (Nat.le_of_ble_eq_true rfl) hB (rS (As := [.ref q, .int (iI ((a_ : Int) + 3 * (k_ : Int)))]) (n := 2) C hZ hB (kX0_codeAt l E (wU wq X) q n f (a_ + 3 * k_) (wU_r hdq hq) hn hfr (by omega) _) (lw_S q1058 q1059 q68 q1060) (by decide +kernel) ⟨Nat.le_of_ble_eq_true rfl, Nat.le_of_ble_eq_true rfl⟩ rfl hl.1 rfl (Nat.le_of_ble_eq_true rfl) dX0_rightIn_25 ⟨Nat.le_of_ble_eq_true rfl, Nat.le_of_ble_eq_true rfl⟩) (fun z24 w25 H locs hz26 hp27 hB => ?_)
        obtain ⟨hz26a, hz26b⟩ := hz26
        obtain ⟨rfl, hp27⟩ := hp27
        replace hB : xBB E (xA (wU w X) sz) s o Ad I (rtF F r_ t_) X _ _ := ⟨wq, hIq, hdq, hB⟩
        subst hp27
        refine x_nm (b := xt f n (a_ + 3 * k_)) rfl ?_
        have hrx := xt_rg hfr n (a_ + 3 * k_)
        obtain ⟨hrx1, hrx2⟩ := hrx
        refine lv_bipush (v := iI 44) hx hb dX0_rightIn_28 rfl ?_
        refine x_icmp_eq (tgt := 39) hx hb dX0_rightIn_30 (by decide) ⟨by omega, by omega⟩ ⟨by decide, by decide⟩ (fun c28 => ?_) (fun c28 => ?_)
        · refine lv_aload_n hx hb dX0_rightIn_39 rfl (lv_at hl 0 rfl) ?_
          refine b_get C hB 10 (by decide) q305 (v := .ref (Ad 11)) rfl rfl dX0_rightIn_40 ?_
          refine lv_iload_n hx hb dX0_rightIn_43 rfl (lv_at hl 3 rfl) ?_
          refine lv_aload_n hx hb dX0_rightIn_44 rfl (lv_at hl 1 rfl) ?_
          refine lv_iload hx hb dX0_rightIn_45 (lv_at hl 4 rfl) ?_
          refine lv_iconst (v := iI 1) hx hb dX0_rightIn_47 rfl ?_
          refine x_iadd (z := (a_ : Int) + 3 * (k_ : Int) + 1) hx hb dX0_rightIn_48 (by omega) ?_
          obtain ⟨wq, hIq, hdq, hB⟩ := hB
          refine g_calli 0 0 (Nat.le_of_ble_eq_true rfl) (Nat.le_of_ble_eq_true rfl) hB (rS (As := [.ref q, .int (iI ((a_ : Int) + 3 * (k_ : Int) + 1))]) (n := 2) C hZ hB (kX0_lettersAt l E (wU wq X) q n f (a_ + 3 * k_ + 1) (wU_r hdq hq) hn hfr (by omega) _) (lw_S q1070 q1071 q68 q1072) (by decide +kernel) ⟨Nat.le_of_ble_eq_true rfl, Nat.le_of_ble_eq_true rfl⟩ rfl hl.1 rfl (Nat.le_of_ble_eq_true rfl) dX0_rightIn_49 ⟨Nat.le_of_ble_eq_true rfl, Nat.le_of_ble_eq_true rfl⟩) (fun z29 w30 H locs hz31 hp32 hB => ?_)
          obtain ⟨hz31a, hz31b⟩ := hz31
          obtain ⟨rfl, hp32⟩ := hp32
          replace hB : xBB E (xA (wU w X) sz) s o Ad I (rtF F r_ t_) X _ _ := ⟨wq, hIq, hdq, hB⟩
          subst hp32
          refine x_nm (b := lOf (xt f n (a_ + 3 * k_ + 1))) rfl ?_
          have hrx := lOf_c (xt f n (a_ + 3 * k_ + 1))
          refine x_nm (show lOf (xt f n (a_ + 3 * k_ + 1)) = lOf (xt f n (a_ + 1 + 3 * k_)) from congrArg (fun j => lOf (xt f n j)) (by omega)) ?_
          rw [show lOf (xt f n (a_ + 3 * k_ + 1)) = lOf (xt f n (a_ + 1 + 3 * k_)) from congrArg (fun j => lOf (xt f n j)) (by omega)] at hrx
          have hrxl := hrx
          refine b_ast C hB 11 33 7 rfl (f := r_) k_ rfl (by omega) (by omega) rfl dX0_rightIn_52 (fun H locs hB => ?_)
          rw [rtF_33] at hB
          replace hB : xBB E (xA (wU w X) sz) s o Ad I (rtF F ((va_up r_ k_ (lOf (xt f n (a_ + 1 + 3 * k_))))) t_) X _ _ := hB
          refine lv_aload_n hx hb dX0_rightIn_53 rfl (lv_at hl 0 rfl) ?_
          refine b_get C hB 10 (by decide) q305 (v := .ref (Ad 11)) rfl rfl dX0_rightIn_54 ?_
          refine lv_iload_n hx hb dX0_rightIn_57 rfl (lv_at hl 3 rfl) ?_
          refine b_ald C hB 11 33 7 rfl (v := lOf (xt f n (a_ + 1 + 3 * k_))) k_ rfl (by omega) (by omega) (va_up_s _ _ _) dX0_rightIn_58 ?_
          refine x_if_ge (tgt := 68) hx hb dX0_rightIn_59 (by decide) ⟨by omega, by omega⟩ (fun c33 => ?_) (fun c33 => ?_)
          · refine lv_aload_n hx hb dX0_rightIn_68 rfl (lv_at hl 0 rfl) ?_
            refine b_get C hB 11 (by decide) q306 (v := .ref (Ad 12)) rfl rfl dX0_rightIn_69 ?_
            refine lv_iload_n hx hb dX0_rightIn_72 rfl (lv_at hl 3 rfl) ?_
            refine lv_aload_n hx hb dX0_rightIn_73 rfl (lv_at hl 1 rfl) ?_
            refine lv_iload hx hb dX0_rightIn_74 (lv_at hl 4 rfl) ?_
            refine lv_iconst (v := iI 2) hx hb dX0_rightIn_76 rfl ?_
            refine x_iadd (z := (a_ : Int) + 3 * (k_ : Int) + 2) hx hb dX0_rightIn_77 (by omega) ?_
            obtain ⟨wq, hIq, hdq, hB⟩ := hB
            refine g_calli 0 0 (Nat.le_of_ble_eq_true rfl) (Nat.le_of_ble_eq_true rfl) hB (rS (As := [.ref q, .int (iI ((a_ : Int) + 3 * (k_ : Int) + 2))]) (n := 2) C hZ hB (kX0_anchorAt l E (wU wq X) q n f (a_ + 3 * k_ + 2) (wU_r hdq hq) hn hfr (by omega) _) (lw_S q1073 q1074 q68 q1075) (by decide +kernel) ⟨Nat.le_of_ble_eq_true rfl, Nat.le_of_ble_eq_true rfl⟩ rfl hl.1 rfl (Nat.le_of_ble_eq_true rfl) dX0_rightIn_78 ⟨Nat.le_of_ble_eq_true rfl, Nat.le_of_ble_eq_true rfl⟩) (fun z34 w35 H locs hz36 hp37 hB => ?_)
            obtain ⟨hz36a, hz36b⟩ := hz36
            obtain ⟨rfl, hp37⟩ := hp37
            replace hB : xBB E (xA (wU w X) sz) s o Ad I (rtF F ((va_up r_ k_ (lOf (xt f n (a_ + 1 + 3 * k_))))) t_) X _ _ := ⟨wq, hIq, hdq, hB⟩
            subst hp37
            refine x_nm (b := aOf (xt f n (a_ + 3 * k_ + 2))) rfl ?_
            have hrx := aOf_c (xt f n (a_ + 3 * k_ + 2))
            refine x_nm (show aOf (xt f n (a_ + 3 * k_ + 2)) = aOf (xt f n (a_ + 2 + 3 * k_)) from congrArg (fun j => aOf (xt f n j)) (by omega)) ?_
            rw [show aOf (xt f n (a_ + 3 * k_ + 2)) = aOf (xt f n (a_ + 2 + 3 * k_)) from congrArg (fun j => aOf (xt f n j)) (by omega)] at hrx
            refine b_ast C hB 12 34 7 rfl (f := t_) k_ rfl (by omega) (by omega) rfl dX0_rightIn_81 (fun H locs hB => ?_)
            rw [rtF_34] at hB
            replace hB : xBB E (xA (wU w X) sz) s o Ad I (rtF F ((va_up r_ k_ (lOf (xt f n (a_ + 1 + 3 * k_))))) ((va_up t_ k_ (aOf (xt f n (a_ + 2 + 3 * k_)))))) X _ _ := hB
            refine lv_aload_n hx hb dX0_rightIn_82 rfl (lv_at hl 0 rfl) ?_
            refine b_get C hB 11 (by decide) q306 (v := .ref (Ad 12)) rfl rfl dX0_rightIn_83 ?_
            refine lv_iload_n hx hb dX0_rightIn_86 rfl (lv_at hl 3 rfl) ?_
            refine b_ald C hB 12 34 7 rfl (v := aOf (xt f n (a_ + 2 + 3 * k_))) k_ rfl (by omega) (by omega) (va_up_s _ _ _) dX0_rightIn_87 ?_
            refine x_if_ge (tgt := 97) hx hb dX0_rightIn_88 (by decide) ⟨by omega, by omega⟩ (fun c38 => ?_) (fun c38 => ?_)
            · refine lv_iinc (v := iI ((k_ : Int) + 1)) (lv' := [(3, .int (iI ((k_ : Int) + 1))), (0, .ref o), (1, .ref q), (2, .int (iI ((a_ : Int)))), (4, .int (iI ((a_ : Int) + 3 * (k_ : Int))))]) hx hb dX0_rightIn_97 hl (k := 3) rfl (iI_add _ _) (by decide) rfl (fun ls hl => ?_)
              refine lv_iinc (v := iI ((a_ : Int) + 3 * (k_ : Int) + 3)) (lv' := [(4, .int (iI ((a_ : Int) + 3 * (k_ : Int) + 3))), (3, .int (iI ((k_ : Int) + 1))), (0, .ref o), (1, .ref q), (2, .int (iI ((a_ : Int))))]) hx hb dX0_rightIn_100 hl (k := 4) rfl (iI_add _ _) (by decide) rfl (fun ls hl => ?_)
              refine lv_goto (tgt := 5) hx hb dX0_rightIn_103 (by decide) ?_
              exact ih1 _ _ _ _ (by omega) ⟨k_ + 1, _, _, rfl, by omega, by rw [hrt, hrs, if_pos (by omega), if_neg (by omega), if_neg (by omega), if_neg (by omega), show 8 - (k_ + 1) = 7 - k_ by omega], rt_up hall (by omega) (by omega), hB, lv_sub hl [2, 3, 4, 1, 0] rfl⟩
            · refine lv_bipush (v := iI (-102)) hx hb dX0_rightIn_91 rfl ?_
              refine lv_iload hx hb dX0_rightIn_93 (lv_at hl 4 rfl) ?_
              refine x_isub (z := -(a_ : Int) - 3 * (k_ : Int) - 102) hx hb dX0_rightIn_95 (by omega) ?_
              exact b_iret C hB hr hlocks rfl dX0_rightIn_96 (Nat.le_of_ble_eq_true rfl) (Nat.le_of_ble_eq_true rfl) ⟨by omega, by omega⟩ ⟨rfl, rfl, rfl, ⟨_, _, rfl, fun h => absurd h (by omega)⟩, by rw [hrt, hrs, if_pos (by omega), if_neg (by omega), if_neg (by omega), if_pos (by omega)]; omega⟩
          · refine lv_bipush (v := iI (-101)) hx hb dX0_rightIn_62 rfl ?_
            refine lv_iload hx hb dX0_rightIn_64 (lv_at hl 4 rfl) ?_
            refine x_isub (z := -(a_ : Int) - 3 * (k_ : Int) - 101) hx hb dX0_rightIn_66 (by omega) ?_
            exact b_iret C hB hr hlocks rfl dX0_rightIn_67 (Nat.le_of_ble_eq_true rfl) (Nat.le_of_ble_eq_true rfl) ⟨by omega, by omega⟩ ⟨rfl, rfl, rfl, ⟨_, _, rfl, fun h => absurd h (by omega)⟩, by rw [hrt, hrs, if_pos (by omega), if_neg (by omega), if_pos (by omega)]; omega⟩
        · refine lv_bipush (v := iI (-100)) hx hb dX0_rightIn_33 rfl ?_
          refine lv_iload hx hb dX0_rightIn_35 (lv_at hl 4 rfl) ?_
          refine x_isub (z := -(a_ : Int) - 3 * (k_ : Int) - 100) hx hb dX0_rightIn_37 (by omega) ?_
          exact b_iret C hB hr hlocks rfl dX0_rightIn_38 (Nat.le_of_ble_eq_true rfl) (Nat.le_of_ble_eq_true rfl) ⟨by omega, by omega⟩ ⟨rfl, rfl, rfl, ⟨_, _, rfl, fun h => absurd h (by omega)⟩, by rw [hrt, hrs, if_pos (by omega), if_pos (by omega)]; omega⟩
