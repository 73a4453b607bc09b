/-! THE COMPONENT: new books by a text -/
set_option maxRecDepth 100000
def nbI (I : Nat → Int) (x : Nat → Int) (n : Nat) : Nat → Int := if 0 ≤ rText x n then bkI I ((lfR x 8 0 - 1) / 4) (rtR x n (lfR x 8 0).toNat 8 0) else I
def nbF (F : Nat → Nat → Int) (x : Nat → Int) (n : Nat) : Nat → Nat → Int := if 0 ≤ rText x n then bkF F x ((lfR x 8 0 - 1) / 4).toNat else F
theorem nb_neg (I : Nat → Int) (F : Nat → Nat → Int) {x : Nat → Int} {n : Nat} {v : Int} (h : rText x n = v) (hv : v < 0) : mAg (nbI I x n) (nbF F x n) I F := by
  unfold nbI nbF
  rw [h, if_neg (by omega), if_neg (by omega)]
  exact mAg_rfl I F
theorem nb_negr (I : Nat → Int) (F : Nat → Nat → Int) (r t : Nat → Int) {x : Nat → Int} {n : Nat} {v : Int} (h : rText x n = v) (hv : v < 0) : mAg (nbI I x n) (nbF F x n) I (rtF F r t) := by
  unfold nbI nbF
  rw [h, if_neg (by omega), if_neg (by omega)]
  exact ⟨rfl, rfl, rfl, rfl, rfl, rfl, rfl, rfl, fun _ _ => ⟨rfl, rfl, rfl⟩, fun _ _ => ⟨rfl, rfl⟩, fun _ _ => ⟨rfl, rfl⟩, fun _ _ => ⟨rfl, rfl⟩, fun _ _ => rfl⟩
theorem text_l {x : Nat → Int} {n : Nat} {z : Int} (h0 : x 0 = 98) (hz : z = lfR x 8 0) (hn : z < 0) : rText x n = z := by
  unfold rText
  rw [if_neg (by omega), ← hz, if_pos hn]
theorem text_r {x : Nat → Int} {n c : Nat} {z : Int} (h0 : x 0 = 98) (hz : 4 * (c : Int) + 1 = lfR x 8 0) (hz2 : z = rtR x n (4 * c + 1) 8 0) (hn : z < 0) : rText x n = z := by
  unfold rText
  rw [if_neg (by omega), ← hz, if_neg (by omega), show (4 * (c : Int) + 1).toNat = 4 * c + 1 by omega, ← hz2, if_pos hn]
theorem text_ok {x : Nat → Int} {n c k : Nat} (h0 : x 0 = 98) (hz : 4 * (c : Int) + 1 = lfR x 8 0) (hz2 : (k : Int) = rtR x n (4 * c + 1) 8 0) : rText x n = (c : Int) + k := by
  unfold rText
  rw [if_neg (by omega), ← hz, if_neg (by omega), show (4 * (c : Int) + 1).toNat = 4 * c + 1 by omega, ← hz2, if_neg (by omega)]
  omega
theorem rtR_7 {x : Nat → Int} {n a : Nat} {k : Int} (h : k = rtR x n a 8 0) (hk : 0 ≤ k) : k ≤ 7 := by
  rcases rtR_ok (x := x) (ln := n) (a := a) 8 0 rfl (by omega) with ⟨q, _⟩ | ⟨b, _, hb, _, hr, _⟩
  · omega
  · omega
theorem nb_mag {I : Nat → Int} {F : Nat → Nat → Int} {r t x : Nat → Int} {n c k : Nat} {x1 x2 x3 : Int} (h0 : x 0 = 98) (hz : 4 * (c : Int) + 1 = lfR x 8 0) (hz2 : (k : Int) = rtR x n (4 * c + 1) 8 0) (hr : ∀ j : Nat, (j : Int) < k → r j = lOf (x (4 * c + 1 + 1 + 3 * j)) ∧ t j = aOf (x (4 * c + 1 + 2 + 3 * j))) :
    mAg (nbI I x n) (nbF F x n) (rdI2 (va_up (va_up (va_up (va_up (lfI1 (lfI2 I x1) x2 c) 6 (k : Int)) 7 4) 8 1) 9 7) x3 0) (va_up (va_up (lfF1 (rtF F r t) (fun j => kOf (x (2 + 4 * j))) (fun j => lOf (x (3 + 4 * j))) (fun j => aOf (x (4 + 4 * j)))) 13 (va_cpy r (F 13) 0 0 k)) 14 (va_cpy t (F 14) 0 0 k)) := by
  unfold nbI nbF
  rw [text_ok h0 hz hz2, if_pos (by omega), if_pos (by omega), ← hz, show (4 * (c : Int) + 1).toNat = 4 * c + 1 by omega, ← hz2, show (4 * (c : Int) + 1 - 1) / 4 = (c : Int) by omega, Int.toNat_natCast]
  refine ⟨rfl, rfl, rfl, rfl, rfl, rfl, rfl, rfl, fun _ _ => ⟨rfl, rfl, rfl⟩, fun j hj => ?_, fun _ _ => ⟨rfl, rfl⟩, fun _ _ => ⟨rfl, rfl⟩, fun _ _ => rfl⟩
  have hj2 : (j : Int) < k := hj
  obtain ⟨q1, q2⟩ := hr j hj2
  have e : ∀ f g : Nat → Int, va_cpy f g 0 0 k j = f j := fun f g => by
    unfold va_cpy
    rw [if_pos ⟨Nat.zero_le _, by omega⟩]
    congr 1
    omega
  refine ⟨(e r _).trans (q1.trans ?_), (e t _).trans (q2.trans ?_)⟩
  · show _ = lOf (x (1 + 4 * c + 1 + 3 * j))
    rw [show 4 * c + 1 = 1 + 4 * c by omega]
  · show _ = aOf (x (1 + 4 * c + 2 + 3 * j))
    rw [show 4 * c + 1 = 1 + 4 * c by omega]
set_option maxHeartbeats 800000 in
set_option maxRecDepth 100000 in
theorem kX0_newBooks (l : Launch) (E : xE) (o : Nat) (Ad : Nat → Nat) (I : Nat → Int) (F : Nat → Nat → Int) (X : xw) (q : Nat) (n : Nat) (f : Nat → Int) (hq : X q = some (xI E n f)) (hn : n ≤ 60) (hfr : ∀ j, rg (f j)) (hOK : mOK I F) : ci_ l E yX0_newBooks cX0_newBooks 5 (some .int) 6 144 11 62 [.ref o, .ref q] o Ad I F X (fun z Ad' I' F' X' => mAg (nbI I (xt f n) n) (nbF F (xt f n) n) I' F' ∧ z = rText (xt f n) n) := by
  intro w hI hd sz
  refine x_bodyz (by decide) (Nat.le_of_ble_eq_true rfl) ?_
  intro p e s m args below meth c ls hx hb C hr hlocks hin hsz hZ hB hl
  have C : xC E p s m args c cX0_newBooks 5 RX0 := C
  replace hB : xBB E (xA (wU w X) sz) s o Ad I F X s.heap [] := ⟨w, hI, hd, hB⟩
  have hl : lv_has ls 5 [(0, .ref o), (1, .ref q)] := hl
  have hOK0 := hOK
  obtain ⟨⟨hf1, hf2⟩, ⟨hl1, hl2⟩, ⟨hr1, hr2⟩, hlr, ⟨hs1, hs2⟩, ⟨hj1, hj2⟩, ⟨hb1, hb2⟩, ⟨hn1, hn2⟩, hL, hR, hN, hS, hC⟩ := hOK
  refine lv_aload_n hx hb dX0_newBooks_0 rfl (lv_at hl 1 rfl) ?_
  refine lv_iconst (v := iI 0) hx hb dX0_newBooks_1 rfl ?_
  obtain ⟨wq, hIq, hdq, hB⟩ := hB
  refine g_calli 0 0 (Nat.le_of_ble_eq_true rfl) (Nat.le_of_ble_eq_true rfl) hB (rS (As := [.ref q, .int (iI 0)]) (n := 2) C hZ hB (kX0_codeAt l E (wU wq X) q n f 0 (wU_r hdq hq) hn hfr (by omega) _) (lw_S q1058 q1059 q68 q1060) (by decide +kernel) ⟨Nat.le_of_ble_eq_true rfl, Nat.le_of_ble_eq_true rfl⟩ rfl hl.1 rfl (Nat.le_of_ble_eq_true rfl) dX0_newBooks_2 ⟨Nat.le_of_ble_eq_true rfl, Nat.le_of_ble_eq_true rfl⟩) (fun z1 w2 H locs hz3 hp4 hB => ?_)
  obtain ⟨hz3a, hz3b⟩ := hz3
  obtain ⟨rfl, hp4⟩ := hp4
  replace hB : xBB E (xA (wU w X) sz) s o Ad I F X _ _ := ⟨wq, hIq, hdq, hB⟩
  subst hp4
  refine x_nm (b := xt f n 0) rfl ?_
  have hrx := xt_rg hfr n 0
  obtain ⟨hrx1, hrx2⟩ := hrx
  refine lv_bipush (v := iI 98) hx hb dX0_newBooks_5 rfl ?_
  refine x_icmp_eq (tgt := 13) hx hb dX0_newBooks_7 (by decide) ⟨by omega, by omega⟩ ⟨by decide, by decide⟩ (fun c5 => ?_) (fun c5 => ?_)
  · refine t_new C hB (ci := 18) (fs := [.int (iI 0), .null, .int (iI 0)]) rfl in_J2 tyJ2_ok q119 q120 q71 dvJ2 (Nat.le_of_ble_eq_true rfl) (Nat.le_of_ble_eq_true rfl) dX0_newBooks_13 (fun q6 H hq7 hs8 hB => ?_)
    have hne9 : q ≠ q6 := fun e => by cases (hq7.symm.trans ((congrArg _ e.symm).trans hq))
    refine x_up (c2 := 1) (s2 := 3) (Nat.le_of_ble_eq_true rfl) (Nat.le_of_ble_eq_true rfl) ?_
    replace hB : xBB E (xA (wU w X) sz) s o Ad I F (va_up X q6 (some (xO 18 [.int (iI 0), .null, .int (iI 0)]))) _ _ := hB
    refine lv_dup hx hb dX0_newBooks_16 rfl ?_
    refine lv_bipush (v := iI 7) hx hb dX0_newBooks_17 rfl ?_
    refine t_linit C hZ hB (va_up_s _ _ _) q1061 ⟨Nat.le_of_ble_eq_true rfl, Nat.le_of_ble_eq_true rfl⟩ hl.1 (Nat.le_of_ble_eq_true rfl) dX0_newBooks_19 ⟨Nat.le_of_ble_eq_true rfl, Nat.le_of_ble_eq_true rfl⟩ (fun te10 H locs hqe11 hB => ?_)
    have hne12 : q ≠ te10 := fun e => by cases (hqe11.symm.trans ((congrArg _ e.symm).trans ((va_up_n _ _ hne9).trans hq)))
    have hne13 : q6 ≠ te10 := fun e => by cases (hqe11.symm.trans ((congrArg _ e.symm).trans (va_up_s _ _ _)))
    refine x_up (c2 := 2) (s2 := 10) (Nat.le_of_ble_eq_true rfl) (Nat.le_of_ble_eq_true rfl) ?_
    rw [up_aba] at hB
    replace hB : xBB E (xA (wU w X) sz) s o Ad I F (va_up (va_up X te10 (some (xR E 3 7 ((fun _ => none))))) q6 (some (xO 18 [.int (iI 0), .ref te10, .int (iI 0)]))) _ _ := hB
    refine lv_astore_n (lv' := [(2, .ref q6), (0, .ref o), (1, .ref q)]) hx hb dX0_newBooks_22 rfl hl (by decide) rfl (fun ls hl => ?_)
    refine lv_aload_n hx hb dX0_newBooks_23 rfl (lv_at hl 1 rfl) ?_
    refine lv_aload_n hx hb dX0_newBooks_24 rfl (lv_at hl 2 rfl) ?_
    refine lv_iconst (v := iI 1) hx hb dX0_newBooks_25 rfl ?_
    refine lv_aload_n hx hb dX0_newBooks_26 rfl (lv_at hl 0 rfl) ?_
    refine b_calli 9 45 (Nat.le_of_ble_eq_true rfl) (Nat.le_of_ble_eq_true rfl) hB (fun w hI hd hB => rV (As := [.ref q, .int (iI 1), .ref q6]) (n := 3) C hZ hB (kX0_leftIn l E o Ad I F (va_up (va_up X te10 (some (xR E 3 7 ((fun _ => none))))) q6 (some (xO 18 [.int (iI 0), .ref te10, .int (iI 0)]))) q n f q6 te10 0 ((va_up_n _ _ hne9).trans ((va_up_n _ _ hne12).trans hq)) hn hfr (va_up_s _ _ _) ((va_up_n _ _ (Ne.symm hne13)).trans (va_up_s _ _ _)) hne13 hne9 hne12 w hI hd _) (lw_V q1066 q1068 qs34 q68 q1069) (by decide +kernel) ⟨Nat.le_of_ble_eq_true rfl, Nat.le_of_ble_eq_true rfl⟩ (wU_l hI.x) rfl rfl rfl hl.1 rfl (Nat.le_of_ble_eq_true rfl) dX0_newBooks_27 ⟨Nat.le_of_ble_eq_true rfl, Nat.le_of_ble_eq_true rfl⟩) (fun z14 Ad15 I16 F17 X18 H locs hz19 hp20 hB => ?_)
    obtain ⟨hz19a, hz19b⟩ := hz19
    obtain ⟨rfl, rfl, rfl, ⟨mm, c_, g_, hc7, hxt, hxe, hxp, hxi, hpos⟩, hxk, hzl⟩ := hp20
    replace hB : xBB E (xA (wU w X) sz) s o Ad I F X18 _ _ := hB
    refine lv_istore_n (lv' := [(3, .int (iI z14)), (2, .ref q6), (0, .ref o), (1, .ref q)]) hx hb dX0_newBooks_30 rfl hl (by decide) rfl (fun ls hl => ?_)
    refine lv_iload_n hx hb dX0_newBooks_31 rfl (lv_at hl 0 rfl) ?_
    refine x_if_ge (tgt := 37) hx hb dX0_newBooks_32 (by decide) ⟨by omega, by omega⟩ (fun c21 => ?_) (fun c21 => ?_)
    · obtain ⟨hz4, hc1, hcd⟩ := hpos (by omega)
      subst hz4
      refine lv_aload_n hx hb dX0_newBooks_37 rfl (lv_at hl 2 rfl) ?_
      refine lv_aload_n hx hb dX0_newBooks_38 rfl (lv_at hl 3 rfl) ?_
      refine lv_iload_n hx hb dX0_newBooks_39 rfl (lv_at hl 0 rfl) ?_
      refine b_calli 9 45 (Nat.le_of_ble_eq_true rfl) (Nat.le_of_ble_eq_true rfl) hB (fun w hI hd hB => rV (As := [.ref q, .int (iI (4 * (c_ : Int) + 1))]) (n := 2) C hZ hB (kX0_rightIn l E o Ad I F X18 q n f (4 * c_ + 1) (hxk _ _ hne9 hne12 ((va_up_n _ _ hne9).trans ((va_up_n _ _ hne12).trans hq))) hn hfr (by omega) w hI hd _) (lw_V q1076 q1078 qs35 q68 q1079) (by decide +kernel) ⟨Nat.le_of_ble_eq_true rfl, Nat.le_of_ble_eq_true rfl⟩ (wU_l hI.x) rfl rfl rfl hl.1 rfl (Nat.le_of_ble_eq_true rfl) dX0_newBooks_40 ⟨Nat.le_of_ble_eq_true rfl, Nat.le_of_ble_eq_true rfl⟩) (fun z22 Ad23 I24 F25 X26 H locs hz27 hp28 hB => ?_)
      obtain ⟨hz27a, hz27b⟩ := hz27
      obtain ⟨rfl, rfl, rfl, ⟨r_, t_, rfl, hall⟩, hzr⟩ := hp28
      replace hB : xBB E (xA (wU w X) sz) s o Ad I (rtF F r_ t_) X18 _ _ := hB
      refine lv_istore (lv' := [(4, .int (iI z22)), (3, .int (iI (4 * (c_ : Int) + 1))), (2, .ref q6), (0, .ref o), (1, .ref q)]) hx hb dX0_newBooks_43 hl (by decide) rfl (fun ls hl => ?_)
      refine lv_iload hx hb dX0_newBooks_45 (lv_at hl 0 rfl) ?_
      refine x_if_ge (tgt := 53) hx hb dX0_newBooks_47 (by decide) ⟨by omega, by omega⟩ (fun c29 => ?_) (fun c29 => ?_)
      · obtain ⟨kr, rfl⟩ : ∃ kr : Nat, z22 = (kr : Int) := ⟨z22.toNat, by omega⟩
        have hkr7 : (kr : Int) ≤ 7 := rtR_7 hzr (by omega)
        obtain ⟨n5, hn5⟩ : ∃ n5 : Nat, I 5 = (n5 : Int) := ⟨(I 5).toNat, by omega⟩
        obtain ⟨n29, hn29⟩ : ∃ n29 : Nat, I 29 = (n29 : Int) := ⟨(I 29).toNat, by omega⟩
        refine lv_aload_n hx hb dX0_newBooks_53 rfl (lv_at hl 3 rfl) ?_
        refine b_get C hB 3 (by decide) q296 (v := .ref (Ad 4)) rfl rfl dX0_newBooks_54 ?_
        refine b_lclear C hZ hB n5 hn5 (by omega) q1081 ⟨Nat.le_of_ble_eq_true rfl, Nat.le_of_ble_eq_true rfl⟩ hl.1 (Nat.le_of_ble_eq_true rfl) dX0_newBooks_57 ⟨Nat.le_of_ble_eq_true rfl, Nat.le_of_ble_eq_true rfl⟩ (fun H locs x30 hB => ?_)
        replace hB : xBB E (xA (wU w X) sz) s o Ad ((lfI2 I x30)) (rtF F r_ t_) X18 _ _ := hB
        refine lv_aload_n hx hb dX0_newBooks_62 rfl (lv_at hl 3 rfl) ?_
        refine b_get C hB 3 (by decide) q296 (v := .ref (Ad 4)) rfl rfl dX0_newBooks_63 ?_
        refine lv_aload_n hx hb dX0_newBooks_66 rfl (lv_at hl 2 rfl) ?_
        refine b_laddAll C hZ hB rfl hc7 hc1 hxt hxe hxp hxi q1090 ⟨Nat.le_of_ble_eq_true rfl, Nat.le_of_ble_eq_true rfl⟩ hl.1 (Nat.le_of_ble_eq_true rfl) dX0_newBooks_67 ⟨Nat.le_of_ble_eq_true rfl, Nat.le_of_ble_eq_true rfl⟩ (fun z31 H locs Ad32 x33 X34 hB => ?_)
        refine x_up (c2 := 11) (s2 := 62) (Nat.le_of_ble_eq_true rfl) (Nat.le_of_ble_eq_true rfl) ?_
        replace hB : xBB E (xA (wU w X) sz) s o Ad32 ((lfI1 (lfI2 I x30) x33 c_)) (lfF1 (rtF F r_ t_) (fun k => kOf (xt f n (2 + 4 * k))) (fun k => lOf (xt f n (3 + 4 * k))) (fun k => aOf (xt f n (4 + 4 * k)))) X34 _ _ := hB
        refine lv_pop hx hb dX0_newBooks_72 rfl ?_
        refine lv_aload_n hx hb dX0_newBooks_73 rfl (lv_at hl 3 rfl) ?_
        refine lv_iload hx hb dX0_newBooks_74 (lv_at hl 0 rfl) ?_
        refine b_put C hB 4 6 (by decide) rfl q298 rfl rfl rfl dX0_newBooks_76 (fun H locs hB => ?_)
        refine lv_aload_n hx hb dX0_newBooks_79 rfl (lv_at hl 3 rfl) ?_
        refine b_get C hB 10 (by decide) q305 (v := .ref (Ad32 11)) rfl rfl dX0_newBooks_80 ?_
        refine lv_iconst (v := iI 0) hx hb dX0_newBooks_83 rfl ?_
        refine lv_aload_n hx hb dX0_newBooks_84 rfl (lv_at hl 3 rfl) ?_
        refine b_get C hB 5 (by decide) q299 (v := .ref (Ad32 6)) rfl rfl dX0_newBooks_85 ?_
        refine lv_iconst (v := iI 0) hx hb dX0_newBooks_88 rfl ?_
        refine lv_iload hx hb dX0_newBooks_89 (lv_at hl 0 rfl) ?_
        refine b_cpyRR C hB q1108 q744 q743 q85 11 33 6 13 rfl rfl kr rfl (by omega) hl.1 (Nat.le_of_ble_eq_true rfl) (Nat.le_of_ble_eq_true rfl) dX0_newBooks_91 (fun H locs hB => ?_)
        replace hB : xBB E (xA (wU w X) sz) s o Ad32 (va_up ((lfI1 (lfI2 I x30) x33 c_)) 6 ((kr : Int))) (va_up (lfF1 (rtF F r_ t_) (fun k => kOf (xt f n (2 + 4 * k))) (fun k => lOf (xt f n (3 + 4 * k))) (fun k => aOf (xt f n (4 + 4 * k)))) 13 (va_cpy r_ (F 13) 0 0 kr)) X34 _ _ := hB
        refine lv_aload_n hx hb dX0_newBooks_94 rfl (lv_at hl 3 rfl) ?_
        refine b_get C hB 11 (by decide) q306 (v := .ref (Ad32 12)) rfl rfl dX0_newBooks_95 ?_
        refine lv_iconst (v := iI 0) hx hb dX0_newBooks_98 rfl ?_
        refine lv_aload_n hx hb dX0_newBooks_99 rfl (lv_at hl 3 rfl) ?_
        refine b_get C hB 6 (by decide) q300 (v := .ref (Ad32 7)) rfl rfl dX0_newBooks_100 ?_
        refine lv_iconst (v := iI 0) hx hb dX0_newBooks_103 rfl ?_
        refine lv_iload hx hb dX0_newBooks_104 (lv_at hl 0 rfl) ?_
        refine b_cpyRR C hB q1108 q744 q743 q85 12 34 7 14 rfl rfl kr rfl (by omega) hl.1 (Nat.le_of_ble_eq_true rfl) (Nat.le_of_ble_eq_true rfl) dX0_newBooks_106 (fun H locs hB => ?_)
        replace hB : xBB E (xA (wU w X) sz) s o Ad32 (va_up ((lfI1 (lfI2 I x30) x33 c_)) 6 ((kr : Int))) (va_up (va_up (lfF1 (rtF F r_ t_) (fun k => kOf (xt f n (2 + 4 * k))) (fun k => lOf (xt f n (3 + 4 * k))) (fun k => aOf (xt f n (4 + 4 * k)))) 13 (va_cpy r_ (F 13) 0 0 kr)) 14 (va_cpy t_ (F 14) 0 0 kr)) X34 _ _ := hB
        refine lv_aload_n hx hb dX0_newBooks_109 rfl (lv_at hl 3 rfl) ?_
        refine lv_iconst (v := iI 4) hx hb dX0_newBooks_110 rfl ?_
        refine b_put C hB 7 7 (by decide) rfl q301 rfl rfl rfl dX0_newBooks_111 (fun H locs hB => ?_)
        refine lv_aload_n hx hb dX0_newBooks_114 rfl (lv_at hl 3 rfl) ?_
        refine lv_iconst (v := iI 1) hx hb dX0_newBooks_115 rfl ?_
        refine b_put C hB 8 8 (by decide) rfl q302 rfl rfl rfl dX0_newBooks_116 (fun H locs hB => ?_)
        refine lv_aload_n hx hb dX0_newBooks_119 rfl (lv_at hl 3 rfl) ?_
        refine lv_bipush (v := iI 7) hx hb dX0_newBooks_120 rfl ?_
        refine b_put C hB 9 9 (by decide) rfl q304 rfl rfl rfl dX0_newBooks_122 (fun H locs hB => ?_)
        refine lv_aload_n hx hb dX0_newBooks_125 rfl (lv_at hl 3 rfl) ?_
        refine b_get C hB 16 (by decide) q312 (v := .ref (Ad32 17)) rfl rfl dX0_newBooks_126 ?_
        refine b_rclear C hZ hB n29 hn29 (by omega) q1081 ⟨Nat.le_of_ble_eq_true rfl, Nat.le_of_ble_eq_true rfl⟩ hl.1 (Nat.le_of_ble_eq_true rfl) dX0_newBooks_129 ⟨Nat.le_of_ble_eq_true rfl, Nat.le_of_ble_eq_true rfl⟩ (fun H locs x35 hB => ?_)
        replace hB : xBB E (xA (wU w X) sz) s o Ad32 ((rdI2 (va_up (va_up (va_up (va_up ((lfI1 (lfI2 I x30) x33 c_)) 6 ((kr : Int))) 7 4) 8 1) 9 7) x35 0)) (va_up (va_up (lfF1 (rtF F r_ t_) (fun k => kOf (xt f n (2 + 4 * k))) (fun k => lOf (xt f n (3 + 4 * k))) (fun k => aOf (xt f n (4 + 4 * k)))) 13 (va_cpy r_ (F 13) 0 0 kr)) 14 (va_cpy t_ (F 14) 0 0 kr)) X34 _ _ := hB
        refine lv_aload_n hx hb dX0_newBooks_134 rfl (lv_at hl 3 rfl) ?_
        refine b_get C hB 3 (by decide) q296 (v := .ref (Ad32 4)) rfl rfl dX0_newBooks_135 ?_
        refine b_size C hZ hB (n := (c_ : Int)) (ed := Ad32 30) (fun w hI _ => wU_l (hI.at (r := 4) rfl)) (by omega) q242 ⟨Nat.le_of_ble_eq_true rfl, Nat.le_of_ble_eq_true rfl⟩ hl.1 (Nat.le_of_ble_eq_true rfl) dX0_newBooks_138 ⟨Nat.le_of_ble_eq_true rfl, Nat.le_of_ble_eq_true rfl⟩ (fun H locs hB => ?_)
        refine lv_aload_n hx hb dX0_newBooks_143 rfl (lv_at hl 3 rfl) ?_
        refine b_get C hB 4 (by decide) q298 (v := .int (iI ((kr : Int)))) rfl rfl dX0_newBooks_144 ?_
        refine x_iadd (z := (c_ : Int) + (kr : Int)) hx hb dX0_newBooks_147 (by omega) ?_
        exact b_iret C hB hr hlocks rfl dX0_newBooks_148 (Nat.le_of_ble_eq_true rfl) (Nat.le_of_ble_eq_true rfl) ⟨by omega, by omega⟩ ⟨nb_mag (by omega) hzl hzr (fun j hj => ⟨(hall (by omega) j hj).1, (hall (by omega) j hj).2.1⟩), (by have := text_ok (n := n) (show xt f n 0 = 98 by omega) hzl hzr; omega)⟩
      · refine lv_iload hx hb dX0_newBooks_50 (lv_at hl 0 rfl) ?_
        exact b_iret C hB hr hlocks rfl dX0_newBooks_52 (Nat.le_of_ble_eq_true rfl) (Nat.le_of_ble_eq_true rfl) ⟨by omega, by omega⟩ ⟨nb_negr I F r_ t_ (text_r (by omega) hzl hzr (by omega)) (by omega), (text_r (by omega) hzl hzr (by omega)).symm⟩
    · refine lv_iload_n hx hb dX0_newBooks_35 rfl (lv_at hl 0 rfl) ?_
      exact b_iret C hB hr hlocks rfl dX0_newBooks_36 (Nat.le_of_ble_eq_true rfl) (Nat.le_of_ble_eq_true rfl) ⟨by omega, by omega⟩ ⟨nb_neg I F (text_l (by omega) hzl (by omega)) (by omega), (text_l (by omega) hzl (by omega)).symm⟩
  · refine lv_bipush (v := iI (-100)) hx hb dX0_newBooks_10 rfl ?_
    exact b_iret C hB hr hlocks rfl dX0_newBooks_12 (Nat.le_of_ble_eq_true rfl) (Nat.le_of_ble_eq_true rfl) ⟨by decide, by decide⟩ ⟨nb_neg I F (show rText (xt f n) n = -100 from if_pos (by omega)) (by decide), (if_pos (by omega)).symm⟩
