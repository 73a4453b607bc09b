/-! THE COMPONENT: ofPair, odds -/
set_option maxRecDepth 100000
theorem drop_get {α : Type} {P R : List α} {c : Nat} {q d : α} (h : P.drop c = q :: R) : P.getD c d = q ∧ c < P.length ∧ P.drop (c + 1) = R := by
  have hl : c < P.length := by
    rcases Nat.lt_or_ge c P.length with g | g
    · exact g
    · rw [List.drop_eq_nil_iff.mpr g] at h
      cases h
  rw [List.drop_eq_getElem_cons hl] at h
  injection h with h1 h2
  refine ⟨?_, hl, h2⟩
  rw [List.getD_eq_getElem?_getD, List.getElem?_eq_getElem hl]
  exact h1
theorem bpath_none {I : Nat → Int} {F : Nat → Nat → Int} {w : Int} (h : mOK I F) (h0 : I 5 = 0) : bpath I F w = [] := by
  obtain ⟨-, -, -, hlr, -⟩ := h
  unfold bpath
  split
  · rfl
  · show (if 0 = (I 5).toNat ∧ 0 = (I 6).toNat then [] else _) = _
    rw [if_pos (by omega)]
set_option maxHeartbeats 800000 in
set_option maxRecDepth 100000 in
theorem kX0_ofPair (l : Launch) (E : xE) (o : Nat) (Ad : Nat → Nat) (I : Nat → Int) (F : Nat → Nat → Int) (X : xw) (kx : Int) (wh : Int) (hkx : rg kx) (hwh : rg wh) (hOK : mOK I F) : ci_ l E yX0_ofPair cX0_ofPair 6 (some .int) 9 207 16 61 [.ref o, .int (iI kx), .int (iI wh)] o Ad I F X (fun z Ad' I' F' X' => Ad = Ad' ∧ I = I' ∧ (∃ g1 g2 g3, up3 F g1 g2 g3 = F') ∧ xS X X' ∧ z = rPair I F kx wh) := by
  intro w hI hd sz
  refine x_bodyz (by decide) (Nat.le_of_ble_eq_true rfl) ?_
  intro p e s m args below meth c ls hx hb C hr hlocks hin hsz hZ hB hl
  have C : xC E p s m args c cX0_ofPair 6 RX0 := C
  replace hB : xBB E (xA (wU w X) sz) s o Ad I F X s.heap [] := ⟨w, hI, hd, hB⟩
  have hl : lv_has ls 6 [(0, .ref o), (1, .int (iI kx)), (2, .int (iI wh))] := hl
  have hOK0 := hOK
  obtain ⟨⟨hf1, hf2⟩, ⟨hl1, hl2⟩, ⟨hr1, hr2⟩, hlr, ⟨hs1, hs2⟩, ⟨hj1, hj2⟩, ⟨hb1, hb2⟩, ⟨hn1, hn2⟩, hL, hR, hN, hS, hC⟩ := hOK
  obtain ⟨hkx1, hkx2⟩ := hkx
  obtain ⟨hwh1, hwh2⟩ := hwh
  refine lv_iload_n hx hb dX0_ofPair_0 rfl (lv_at hl 1 rfl) ?_
  refine x_if_lt (tgt := 11) hx hb dX0_ofPair_1 (by decide) ⟨by omega, by omega⟩ (fun c1 => ?_) (fun c1 => ?_)
  · refine lv_iconst (v := iI (-1)) hx hb dX0_ofPair_11 rfl ?_
    exact b_iret C hB hr hlocks rfl dX0_ofPair_12 (Nat.le_of_ble_eq_true rfl) (Nat.le_of_ble_eq_true rfl) ⟨by decide, by decide⟩ ⟨rfl, rfl, ⟨_, _, _, up3_id F⟩, fun a e h => h, by unfold rPair; rw [if_pos (by omega)]⟩
  · refine lv_aload_n hx hb dX0_ofPair_4 rfl (lv_at hl 0 rfl) ?_
    refine b_calli 0 0 (Nat.le_of_ble_eq_true rfl) (Nat.le_of_ble_eq_true rfl) hB (fun w hI hd hB => rV (As := []) (n := 0) C hZ hB (kX0_noBooks l E o Ad I F X hOK0 w hI hd _) (lw_V q275 q277 qs11 q68 q278) (by decide +kernel) ⟨Nat.le_of_ble_eq_true rfl, Nat.le_of_ble_eq_true rfl⟩ (wU_l hI.x) rfl rfl rfl hl.1 rfl (Nat.le_of_ble_eq_true rfl) dX0_ofPair_5 ⟨Nat.le_of_ble_eq_true rfl, Nat.le_of_ble_eq_true rfl⟩) (fun z2 Ad3 I4 F5 X6 H locs hz7 hp8 hB => ?_)
    obtain ⟨hz7a, hz7b⟩ := hz7
    obtain ⟨rfl, rfl, rfl, rfl, ⟨rfl, h9⟩ | ⟨rfl, h9⟩⟩ := hp8
    · refine x_if_eq (tgt := 13) hx hb dX0_ofPair_8 (by decide) ⟨by decide, by decide⟩ (fun c10 => by exfalso; omega) (fun c10 => ?_)
      refine lv_iconst (v := iI (-1)) hx hb dX0_ofPair_11 rfl ?_
      exact b_iret C hB hr hlocks rfl dX0_ofPair_12 (Nat.le_of_ble_eq_true rfl) (Nat.le_of_ble_eq_true rfl) ⟨by decide, by decide⟩ ⟨rfl, rfl, ⟨_, _, _, up3_id F⟩, fun a e h => h, by unfold rPair; rw [bpath_none hOK0 (by omega)]; rw [if_pos (by show _ ∨ (0 : Int) ≤ _; omega)]⟩
    · refine x_if_eq (tgt := 13) hx hb dX0_ofPair_8 (by decide) ⟨by decide, by decide⟩ (fun c11 => ?_) (fun c11 => by exfalso; omega)
      obtain ⟨kk, rfl⟩ : ∃ kk : Nat, kx = (kk : Int) := ⟨kx.toNat, by omega⟩
      refine lv_iconst (v := iI 0) hx hb dX0_ofPair_13 rfl ?_
      refine lv_istore_n (lv' := [(3, .int (iI 0)), (0, .ref o), (1, .int (iI ((kk : Int)))), (2, .int (iI wh))]) hx hb dX0_ofPair_14 rfl hl (by decide) rfl (fun ls hl => ?_)
      refine t_new C hB (ci := 9) (fs := [.int (iI 0), .null]) rfl in_X11 tyX11_ok q630 q425 q98 dvX11 (Nat.le_of_ble_eq_true rfl) (Nat.le_of_ble_eq_true rfl) dX0_ofPair_15 (fun q12 H hq13 hs14 hB => ?_)
      refine x_up (c2 := 1) (s2 := 2) (Nat.le_of_ble_eq_true rfl) (Nat.le_of_ble_eq_true rfl) ?_
      replace hB : xBB E (xA (wU w X) sz) s o Ad I F (va_up X q12 (some (xO 9 [.int (iI 0), .null]))) _ _ := hB
      refine lv_dup hx hb dX0_ofPair_18 rfl ?_
      refine lv_aload_n hx hb dX0_ofPair_19 rfl (lv_at hl 1 rfl) ?_
      refine b_callv 1 2 (Nat.le_of_ble_eq_true rfl) (Nat.le_of_ble_eq_true rfl) hB (fun w hI hd hB => rIN (As := [.ref o]) (n := 1) C hZ hB (kX11_init l E o Ad I F (va_up X q12 (some (xO 9 [.int (iI 0), .null]))) q12 (va_up_s _ _ _) hOK0 w hI hd _) q631 q427 q98 q428 rfl (by decide +kernel) ⟨Nat.le_of_ble_eq_true rfl, Nat.le_of_ble_eq_true rfl⟩ rfl hl.1 rfl (Nat.le_of_ble_eq_true rfl) dX0_ofPair_20 ⟨Nat.le_of_ble_eq_true rfl, Nat.le_of_ble_eq_true rfl⟩) (fun Ad16 I17 F18 X19 H locs hp21 hB => ?_)
      obtain ⟨rfl, rfl, g22, g23, g24, rfl, hall25, rfl⟩ := hp21
      rw [bx_uu] at hB
      replace hB : xBB E (xA (wU w X) sz) s o Ad I (up3 F g22 g23 g24) (va_up X q12 (some (xO 9 [.int (iI ((if (DT I F (I 9) 0 0).1 = 100000 then (0 : Int) else 1))), .ref o]))) _ _ := hB
      refine b_callq 2 5 (Nat.le_of_ble_eq_true rfl) (Nat.le_of_ble_eq_true rfl) hB (fun w hI hd hB => rV (As := []) (n := 0) C hZ hB (kX11_iterator l E o Ad I (up3 F g22 g23 g24) (va_up X q12 (some (xO 9 [.int (iI ((if (DT I F (I 9) 0 0).1 = 100000 then (0 : Int) else 1))), .ref o]))) q12 ((if (DT I F (I 9) 0 0).1 = 100000 then (0 : Int) else 1)) (va_up_s _ _ _) w hI hd _) (lw_V q632 q461 q462 q98 q463) (by decide +kernel) ⟨Nat.le_of_ble_eq_true rfl, Nat.le_of_ble_eq_true rfl⟩ (wU_r hd (va_up_s _ _ _)) rfl rfl rfl hl.1 rfl (Nat.le_of_ble_eq_true rfl) dX0_ofPair_23 ⟨Nat.le_of_ble_eq_true rfl, Nat.le_of_ble_eq_true rfl⟩) (fun z26 Ad27 I28 F29 X30 H locs hp32 hB => ?_)
      obtain ⟨rfl, rfl, rfl, q33, rfl, hq34, rfl⟩ := hp32
      have hne35 : q12 ≠ q33 := fun e => by cases (hq34.symm.trans ((congrArg _ e.symm).trans (va_up_s _ _ _)))
      replace hB : xBB E (xA (wU w X) sz) s o Ad I (up3 F g22 g23 g24) (va_up (va_up X q12 (some (xO 9 [.int (iI ((if (DT I F (I 9) 0 0).1 = 100000 then (0 : Int) else 1))), .ref o]))) q33 (some (xO 10 [.int (iI 0), .int (iI 0), .ref q12]))) _ _ := hB
      refine lv_astore (lv' := [(4, .ref q33), (3, .int (iI 0)), (0, .ref o), (1, .int (iI ((kk : Int)))), (2, .int (iI wh))]) hx hb dX0_ofPair_26 hl (by decide) rfl (fun ls hl => ?_)
      by_cases hD : (DT I F (I 9) 0 0).1 = 100000
      · rw [if_pos hD] at hB
        replace hB : xBB E (xA (wU w X) sz) s o Ad I (up3 F g22 g23 g24) (va_up (va_up X q12 (some (xO 9 [.int (iI 0), .ref o]))) q33 (some (xO 10 [.int (iI 0), .int (iI 0), .ref q12]))) _ _ := hB
        have hbp : bpath I F (I 9) = [] := if_pos hD
        refine lv_aload hx hb dX0_ofPair_28 (lv_at hl 0 rfl) ?_
        refine b_callFi 2 5 (Nat.le_of_ble_eq_true rfl) (Nat.le_of_ble_eq_true rfl) hB (fun w hI hd hB => rF (As := []) (n := 0) C hZ hB ⟨"java/util/Iterator", "hasNext", "()Z"⟩ (kX12_hasNext l E o Ad I (up3 F g22 g23 g24) (va_up (va_up X q12 (some (xO 9 [.int (iI 0), .ref o]))) q33 (some (xO 10 [.int (iI 0), .int (iI 0), .ref q12]))) q33 0 0 q12 0 (va_up_s _ _ _) ((va_up_n _ _ hne35).trans (va_up_s _ _ _)) (by omega) (by omega) hOK0 w hI hd _) (by decide) q634 q485 q487 q99 q489 (by decide +kernel) ⟨Nat.le_of_ble_eq_true rfl, Nat.le_of_ble_eq_true rfl⟩ (wU_r hd (va_up_s _ _ _)) rfl rfl rfl hl.1 rfl (Nat.le_of_ble_eq_true rfl) dX0_ofPair_30 ⟨Nat.le_of_ble_eq_true rfl, Nat.le_of_ble_eq_true rfl⟩) (fun z36 Ad37 I38 F39 X40 H locs hz41 hp42 hB => ?_)
        obtain ⟨hz41a, hz41b⟩ := hz41
        obtain ⟨rfl, rfl, rfl, rfl, ⟨rfl, h43⟩ | ⟨rfl, h43⟩⟩ := hp42
        · exact absurd h43.1 (by decide)
        · refine x_if_eq (tgt := 115) hx hb dX0_ofPair_35 (by decide) ⟨by decide, by decide⟩ (fun c44 => ?_) (fun c44 => by exfalso; omega)
          refine lv_iconst (v := iI (-1)) hx hb dX0_ofPair_115 rfl ?_
          exact b_iret C hB hr hlocks rfl dX0_ofPair_116 (Nat.le_of_ble_eq_true rfl) (Nat.le_of_ble_eq_true rfl) ⟨by decide, by decide⟩ ⟨rfl, rfl, ⟨_, _, _, rfl⟩, fun a e h => by have h2 := h; rw [va_up_n _ _ (fun z => by rw [z, (va_up_none hq34).1] at h2; cases h2), va_up_n _ _ (fun z => by rw [z, hq13] at h2; cases h2)]; exact h2, by unfold rPair; rw [hbp]; rw [if_pos (Or.inr (by show (0 : Int) ≤ _; omega))]⟩
      · rw [if_neg hD] at hB
        replace hB : xBB E (xA (wU w X) sz) s o Ad I (up3 F g22 g23 g24) (va_up (va_up X q12 (some (xO 9 [.int (iI 1), .ref o]))) q33 (some (xO 10 [.int (iI 0), .int (iI 0), .ref q12]))) _ _ := hB
        have hXw := (va_up_none hq34).1
        refine x_up (c2 := 16 - 1 * 14) (s2 := 61 - 4 * 14) (by omega) (by omega) ?_
        refine w_loopC 16 61 1 4 (fun n48 H locs ls => ∃ (n : Nat) (i : Nat) (j : Nat) (X1 : xw) (c_ : Nat), n48 = n ∧ (n ≤ 14) ∧ (i ≤ (I 5).toNat) ∧ (j ≤ (I 6).toNat) ∧ (((I 5).toNat - i) + ((I 6).toNat - j) ≤ n) ∧ ((DT I F (I 9) i j).1 ≠ 100000) ∧ (X1 q12 = some (xO 9 [.int (iI 1), .ref o])) ∧ (X1 q33 = some (xO 10 [.int (iI ((i : Int))), .int (iI ((j : Int))), .ref q12])) ∧ (∀ a e, X a = some e → X1 a = some e) ∧ (c_ ≤ kk) ∧ (pth I F (I 9) n i j = (bpath I F (I 9)).drop c_) ∧ xBB E (xA (wU w X) sz) s o Ad I (up3 F g22 g23 g24) X1 H locs ∧ lv_has ls 6 [(0, .ref o), (1, .int (iI ((kk : Int)))), (2, .int (iI wh)), (3, .int (iI ((c_ : Int)))), (4, .ref q33)]) 14 ⟨14, 0, 0, _, 0, rfl, by omega, by omega, by omega, by omega, hD, ((va_up_n _ _ hne35).trans (va_up_s _ _ _)), (va_up_s _ _ _), (fun a e  h2 => by rw [va_up_n _ _ (fun z => by rw [z, hXw] at h2; cases h2), va_up_n _ _ (fun z => by rw [z, hq13] at h2; cases h2)]; exact h2), by omega, by show pth I F (I 9) 14 0 0 = bpath I F (I 9); exact (if_neg hD).symm, hB, lv_sub hl [2, 3, 4, 1, 0] rfl⟩ ?_
        intro n48 H locs ls hI47 ih45
        obtain ⟨n, i, j, X1, c_, hn46, hn14, hiI, hjI, hfu, hnf, hx0, hx1, hxs, hck, hdr, hB, hl⟩ := hI47
        refine lv_aload hx hb dX0_ofPair_28 (lv_at hl 4 rfl) ?_
        refine b_callFi ((16 - 1 * n48)) ((61 - 4 * n48)) (by omega) (by omega) hB (fun w hI hd hB => rF (As := []) (n := 0) C hZ hB ⟨"java/util/Iterator", "hasNext", "()Z"⟩ (kX12_hasNext l E o Ad I (up3 F g22 g23 g24) X1 q33 i j q12 1 hx1 hx0 (by omega) (by omega) hOK0 w hI hd _) (by decide) q634 q485 q487 q99 q489 (by decide +kernel) ⟨Nat.le_of_ble_eq_true rfl, Nat.le_of_ble_eq_true rfl⟩ (wU_r hd hx1) rfl rfl rfl hl.1 rfl (Nat.le_of_ble_eq_true rfl) dX0_ofPair_30 ⟨(show (16 - 1 * n48) + 0 ≤ 16 by omega), (show (61 - 4 * n48) + 0 ≤ 61 by omega)⟩) (fun z49 Ad50 I51 F52 X53 H locs hz54 hp55 hB => ?_)
        obtain ⟨hz54a, hz54b⟩ := hz54
        obtain ⟨rfl, rfl, rfl, rfl, ⟨rfl, h56⟩ | ⟨rfl, h56⟩⟩ := hp55
        · refine x_if_eq (tgt := 115) hx hb dX0_ofPair_35 (by decide) ⟨by decide, by decide⟩ (fun c57 => by exfalso; omega) (fun c57 => ?_)
          refine lv_aload hx hb dX0_ofPair_38 (lv_at hl 4 rfl) ?_
          obtain ⟨n, rfl⟩ : ∃ m_, n = m_ + 1 := ⟨n - 1, by omega⟩
          have hnee : ¬ (i = (I 5).toNat ∧ j = (I 6).toNat) := by omega
          have hns := ns_spec (onB_ex hOK0 (by omega) (by omega) hnf hnee)
          have hns5 := hns.2.1
          obtain ⟨hob1, hob2, hob3⟩ := onB_iff.mp hns.1
          have hnf2 := onB_fin hOK0 (by omega) (by omega) hns5 hnf hns.1
          have hpt := pth_s (F := F) (w := I 9) (n := n) hnee
          have hlrn := lr_pos (ns I F (I 9) i j)
          refine b_callFq ((16 - 1 * n48) + 1) ((61 - 4 * n48) + 4) (by omega) (by omega) hB (fun w hI hd hB => rF (As := []) (n := 0) C hZ hB ⟨"java/util/Iterator", "next", "()Ljava/lang/Object;"⟩ (kX12_next l E o Ad I (up3 F g22 g23 g24) X1 q33 i j q12 1 (I 9) hx1 hx0 (by omega) (by omega) (by omega) (fun i j h1 h2 => congrArg Prod.fst (hall25 i j h1 h2)) hnf hnee hOK0 w hI hd _) (by decide) q636 q496 q498 q99 q500 (by decide +kernel) ⟨Nat.le_of_ble_eq_true rfl, Nat.le_of_ble_eq_true rfl⟩ (wU_r hd hx1) rfl rfl rfl hl.1 rfl (Nat.le_of_ble_eq_true rfl) dX0_ofPair_40 ⟨(show (16 - 1 * n48) + 1 ≤ 16 by omega), (show (61 - 4 * n48) + 4 ≤ 61 by omega)⟩) (fun z58 Ad59 I60 F61 X62 H locs hp64 hB => ?_)
          obtain ⟨rfl, rfl, rfl, q65, rfl, hq66, rfl⟩ := hp64
          rw [ns_up3] at hB
          have hne67 : q12 ≠ q65 := fun e => by cases (hq66.symm.trans ((congrArg _ e.symm).trans hx0))
          have hne68 : q33 ≠ q65 := fun e => by cases (hq66.symm.trans ((congrArg _ e.symm).trans hx1))
          replace hB : xBB E (xA (wU w X) sz) s o Ad I (up3 F g22 g23 g24) (va_up (va_up X1 q65 (some (xO 11 [.int (iI (((ns I F (I 9) i j : Nat) : Int))), .int (iI ((i : Int))), .int (iI ((j : Int))), .ref o]))) q33 (some (xO 10 [.int (iI ((i : Int) + (loN (ns I F (I 9) i j) : Int))), .int (iI ((j : Int) + (roN (ns I F (I 9) i j) : Int))), .ref q12]))) _ _ := hB
          refine t_castS C hB q637 ((va_up_n _ _ (Ne.symm hne68)).trans (va_up_s _ _ _)) rfl rfl dX0_ofPair_45 ?_
          have hdg := drop_get (d := ((0 : Nat), (0 : Nat), (0 : Nat))) (hdr.symm.trans hpt)
          refine lv_astore (lv' := [(5, .ref q65), (0, .ref o), (1, .int (iI ((kk : Int)))), (2, .int (iI wh)), (3, .int (iI ((c_ : Int)))), (4, .ref q33)]) hx hb dX0_ofPair_48 hl (by decide) rfl (fun ls hl => ?_)
          refine lv_iload_n hx hb dX0_ofPair_50 rfl (lv_at hl 4 rfl) ?_
          refine lv_iload_n hx hb dX0_ofPair_51 rfl (lv_at hl 2 rfl) ?_
          refine x_icmp_ne (tgt := 109) hx hb dX0_ofPair_52 (by decide) ⟨by omega, by omega⟩ ⟨by omega, by omega⟩ (fun c69 => ?_) (fun c69 => ?_)
          · refine lv_iinc (v := iI ((c_ : Int) + 1)) (lv' := [(3, .int (iI ((c_ : Int) + 1))), (5, .ref q65), (0, .ref o), (1, .int (iI ((kk : Int)))), (2, .int (iI wh)), (4, .ref q33)]) hx hb dX0_ofPair_109 hl (k := 4) rfl (iI_add _ _) (by decide) rfl (fun ls hl => ?_)
            refine lv_goto (tgt := 28) hx hb dX0_ofPair_112 (by decide) ?_
            refine x_up (c2 := 16 - 1 * (n)) (s2 := 61 - 4 * (n)) (by omega) (by omega) ?_
            exact ih45 _ _ _ _ (by omega) ⟨n, i + loN (ns I F (I 9) i j), j + roN (ns I F (I 9) i j), _, c_ + 1, rfl, by omega, by omega, by omega, by omega, hnf2, ((va_up_n _ _ hne35).trans ((va_up_n _ _ hne67).trans hx0)), (by simp only [Int.natCast_add]; exact (va_up_s _ _ _)), (fun a e  h2 => by have h3 := hxs a e  h2; rw [va_up_n _ _ (fun z => by rw [z, hXw] at h2; cases h2), va_up_n _ _ (fun z => by rw [z, hq66] at h3; cases h3)]; exact h3), by omega, hdg.2.2.symm, hB, lv_sub hl [2, 3, 4, 0, 5] rfl⟩
          · refine lv_iload_n hx hb dX0_ofPair_55 rfl (lv_at hl 3 rfl) ?_
            refine x_if_ne (tgt := 67) hx hb dX0_ofPair_56 (by decide) ⟨by omega, by omega⟩ (fun c70 => ?_) (fun c70 => ?_)
            · refine lv_iload_n hx hb dX0_ofPair_67 rfl (lv_at hl 3 rfl) ?_
              refine lv_iconst (v := iI 1) hx hb dX0_ofPair_68 rfl ?_
              refine x_icmp_ne (tgt := 80) hx hb dX0_ofPair_69 (by decide) ⟨by omega, by omega⟩ ⟨by decide, by decide⟩ (fun c71 => ?_) (fun c71 => ?_)
              · refine lv_iload_n hx hb dX0_ofPair_80 rfl (lv_at hl 3 rfl) ?_
                refine lv_iconst (v := iI 2) hx hb dX0_ofPair_81 rfl ?_
                refine x_icmp_ne (tgt := 93) hx hb dX0_ofPair_82 (by decide) ⟨by omega, by omega⟩ ⟨by decide, by decide⟩ (fun c72 => ?_) (fun c72 => ?_)
                · refine lv_iload_n hx hb dX0_ofPair_93 rfl (lv_at hl 3 rfl) ?_
                  refine lv_iconst (v := iI 3) hx hb dX0_ofPair_94 rfl ?_
                  refine x_icmp_ne (tgt := 106) hx hb dX0_ofPair_95 (by decide) ⟨by omega, by omega⟩ ⟨by decide, by decide⟩ (fun c73 => ?_) (fun c73 => ?_)
                  · refine lv_bipush (v := iI (-2)) hx hb dX0_ofPair_106 rfl ?_
                    exact b_iret C hB hr hlocks rfl dX0_ofPair_108 (by omega) (by omega) ⟨by decide, by decide⟩ ⟨rfl, rfl, ⟨_, _, _, rfl⟩, fun a e h => by have h2 := h; have h3 := hxs a e h2; rw [va_up_n _ _ (fun z => by rw [z, hXw] at h2; cases h2), va_up_n _ _ (fun z => by rw [z, hq66] at h3; cases h3)]; exact h3, by (have hkc : kk = c_ := by omega); subst hkc; unfold rPair; rw [if_neg (by have := hdg.2.1; omega), show (bpath I F (I 9)).getD (kk : Int).toNat (0, 0, 0) = (ns I F (I 9) i j, i, j) from hdg.1, if_neg (by omega), if_neg (by omega), if_neg (by omega), if_neg (by omega)]⟩
                  · refine lv_aload hx hb dX0_ofPair_98 (lv_at hl 0 rfl) ?_
                    refine b_calli ((16 - 1 * n48) + 1) ((61 - 4 * n48) + 4) (by omega) (by omega) hB (fun w hI hd hB => rV (As := []) (n := 0) C hZ hB (kX13_cost l E o Ad I (up3 F g22 g23 g24) (va_up (va_up X1 q65 (some (xO 11 [.int (iI (((ns I F (I 9) i j : Nat) : Int))), .int (iI ((i : Int))), .int (iI ((j : Int))), .ref o]))) q33 (some (xO 10 [.int (iI ((i : Int) + (loN (ns I F (I 9) i j) : Int))), .int (iI ((j : Int) + (roN (ns I F (I 9) i j) : Int))), .ref q12]))) q65 (ns I F (I 9) i j) i j ((va_up_n _ _ (Ne.symm hne68)).trans (va_up_s _ _ _)) (by omega) (by omega) (by omega) hOK0 w hI hd _) (lw_V q638 q639 q640 q100 q641) (by decide +kernel) ⟨Nat.le_of_ble_eq_true rfl, Nat.le_of_ble_eq_true rfl⟩ (wU_r hd ((va_up_n _ _ (Ne.symm hne68)).trans (va_up_s _ _ _))) rfl rfl rfl hl.1 rfl (Nat.le_of_ble_eq_true rfl) dX0_ofPair_100 ⟨(show (16 - 1 * n48) + 1 + 0 ≤ 16 by omega), (show (61 - 4 * n48) + 4 + 0 ≤ 61 by omega)⟩) (fun z74 Ad75 I76 F77 X78 H locs hz79 hp80 hB => ?_)
                    obtain ⟨hz79a, hz79b⟩ := hz79
                    obtain ⟨rfl, rfl, rfl, rfl, rfl⟩ := hp80
                    refine x_nm (b := cst I F (ns I F (I 9) i j : Int) i j) rfl ?_
                    have hcr := cst_rg hOK0 (so := (ns I F (I 9) i j : Int)) (a := i) (b := j) (by omega) (fun _ => by have : lo (ns I F (I 9) i j : Int) = loN (ns I F (I 9) i j) := by { unfold lo loN; (repeat' split) <;> omega }; omega) (fun _ => by have : ro (ns I F (I 9) i j : Int) = roN (ns I F (I 9) i j) := by { unfold ro roN; (repeat' split) <;> omega }; omega)
                    refine lv_goto (tgt := 108) hx hb dX0_ofPair_103 (by decide) ?_
                    exact b_iret C hB hr hlocks rfl dX0_ofPair_108 (by omega) (by omega) ⟨by omega, by omega⟩ ⟨rfl, rfl, ⟨_, _, _, rfl⟩, fun a e h => by have h2 := h; have h3 := hxs a e h2; rw [va_up_n _ _ (fun z => by rw [z, hXw] at h2; cases h2), va_up_n _ _ (fun z => by rw [z, hq66] at h3; cases h3)]; exact h3, by (have hkc : kk = c_ := by omega); subst hkc; unfold rPair; rw [if_neg (by have := hdg.2.1; omega), show (bpath I F (I 9)).getD (kk : Int).toNat (0, 0, 0) = (ns I F (I 9) i j, i, j) from hdg.1, if_neg (by omega), if_neg (by omega), if_neg (by omega), if_pos (by omega)]⟩
                · refine lv_aload hx hb dX0_ofPair_85 (lv_at hl 0 rfl) ?_
                  refine t_getN C hB ((va_up_n _ _ (Ne.symm hne68)).trans (va_up_s _ _ _)) rfl in_X13 2 (by decide) q525 (fun x h => h) (v := .int (iI ((j : Int)))) rfl dX0_ofPair_87 ?_
                  refine lv_goto (tgt := 108) hx hb dX0_ofPair_90 (by decide) ?_
                  exact b_iret C hB hr hlocks rfl dX0_ofPair_108 (by omega) (by omega) ⟨by omega, by omega⟩ ⟨rfl, rfl, ⟨_, _, _, rfl⟩, fun a e h => by have h2 := h; have h3 := hxs a e h2; rw [va_up_n _ _ (fun z => by rw [z, hXw] at h2; cases h2), va_up_n _ _ (fun z => by rw [z, hq66] at h3; cases h3)]; exact h3, by (have hkc : kk = c_ := by omega); subst hkc; unfold rPair; rw [if_neg (by have := hdg.2.1; omega), show (bpath I F (I 9)).getD (kk : Int).toNat (0, 0, 0) = (ns I F (I 9) i j, i, j) from hdg.1, if_neg (by omega), if_neg (by omega), if_pos (by omega)]⟩
              · refine lv_aload hx hb dX0_ofPair_72 (lv_at hl 0 rfl) ?_
                refine t_getN C hB ((va_up_n _ _ (Ne.symm hne68)).trans (va_up_s _ _ _)) rfl in_X13 1 (by decide) q523 (fun x h => h) (v := .int (iI ((i : Int)))) rfl dX0_ofPair_74 ?_
                refine lv_goto (tgt := 108) hx hb dX0_ofPair_77 (by decide) ?_
                exact b_iret C hB hr hlocks rfl dX0_ofPair_108 (by omega) (by omega) ⟨by omega, by omega⟩ ⟨rfl, rfl, ⟨_, _, _, rfl⟩, fun a e h => by have h2 := h; have h3 := hxs a e h2; rw [va_up_n _ _ (fun z => by rw [z, hXw] at h2; cases h2), va_up_n _ _ (fun z => by rw [z, hq66] at h3; cases h3)]; exact h3, by (have hkc : kk = c_ := by omega); subst hkc; unfold rPair; rw [if_neg (by have := hdg.2.1; omega), show (bpath I F (I 9)).getD (kk : Int).toNat (0, 0, 0) = (ns I F (I 9) i j, i, j) from hdg.1, if_neg (by omega), if_pos (by omega)]⟩
            · refine lv_aload hx hb dX0_ofPair_59 (lv_at hl 0 rfl) ?_
              refine t_getN C hB ((va_up_n _ _ (Ne.symm hne68)).trans (va_up_s _ _ _)) rfl in_X13 0 (by decide) q521 (fun x h => h) (v := .int (iI (((ns I F (I 9) i j : Nat) : Int)))) rfl dX0_ofPair_61 ?_
              refine lv_goto (tgt := 108) hx hb dX0_ofPair_64 (by decide) ?_
              exact b_iret C hB hr hlocks rfl dX0_ofPair_108 (by omega) (by omega) ⟨by omega, by omega⟩ ⟨rfl, rfl, ⟨_, _, _, rfl⟩, fun a e h => by have h2 := h; have h3 := hxs a e h2; rw [va_up_n _ _ (fun z => by rw [z, hXw] at h2; cases h2), va_up_n _ _ (fun z => by rw [z, hq66] at h3; cases h3)]; exact h3, by (have hkc : kk = c_ := by omega); subst hkc; unfold rPair; rw [if_neg (by have := hdg.2.1; omega), show (bpath I F (I 9)).getD (kk : Int).toNat (0, 0, 0) = (ns I F (I 9) i j, i, j) from hdg.1, if_pos (by omega)]⟩
        · refine x_if_eq (tgt := 115) hx hb dX0_ofPair_35 (by decide) ⟨by decide, by decide⟩ (fun c81 => ?_) (fun c81 => by exfalso; omega)
          refine lv_iconst (v := iI (-1)) hx hb dX0_ofPair_115 rfl ?_
          exact b_iret C hB hr hlocks rfl dX0_ofPair_116 (by omega) (by omega) ⟨by decide, by decide⟩ ⟨rfl, rfl, ⟨_, _, _, rfl⟩, fun a e h => hxs a e h, by have hz := hdr; rw [show i = (I 5).toNat by omega, show j = (I 6).toNat by omega, pth_e] at hz; have hz2 := List.drop_eq_nil_iff.mp hz.symm; unfold rPair; rw [if_pos (Or.inr (by omega))]⟩
set_option maxHeartbeats 800000 in
set_option maxRecDepth 100000 in
theorem kX0_odds (l : Launch) (E : xE) (o : Nat) (Ad : Nat → Nat) (I : Nat → Int) (F : Nat → Nat → Int) (X : xw) (so : Int) (wh : Int) (hso : rg so) (hwh : rg wh) (hOK : mOK I F) : cl_ l E yX0_odds cX0_odds 7 (some .long) 11 249 33 125 [.ref o, .int (iI so), .int (iI wh)] o Ad I F X (fun z Ad' I' F' X' => Ad = Ad' ∧ I = I' ∧ (∃ g1 g2 g3, up3 F g1 g2 g3 = F') ∧ xS X X' ∧ z = rOdds I F so wh) := by
  intro w hI hd sz
  refine x_bodyz (by decide) (Nat.le_of_ble_eq_true rfl) ?_
  intro p e s m args below meth c ls hx hb C hr hlocks hin hsz hZ hB hl
  have C : xC E p s m args c cX0_odds 7 RX0 := C
  replace hB : xBB E (xA (wU w X) sz) s o Ad I F X s.heap [] := ⟨w, hI, hd, hB⟩
  have hl : lv_has ls 7 [(0, .ref o), (1, .int (iI so)), (2, .int (iI wh))] := hl
  have hOK0 := hOK
  obtain ⟨⟨hf1, hf2⟩, ⟨hl1, hl2⟩, ⟨hr1, hr2⟩, hlr, ⟨hs1, hs2⟩, ⟨hj1, hj2⟩, ⟨hb1, hb2⟩, ⟨hn1, hn2⟩, hL, hR, hN, hS, hC⟩ := hOK
  obtain ⟨hso1, hso2⟩ := hso
  obtain ⟨hwh1, hwh2⟩ := hwh
  refine lv_iload_n hx hb dX0_odds_0 rfl (lv_at hl 1 rfl) ?_
  refine x_i2l hx hb dX0_odds_1 ⟨by omega, by omega⟩ ?_
  refine lv_lconst (v := lI 0) hx hb dX0_odds_2 rfl ?_
  refine lv_ldc2 hx hb C.1.2.2.2.1 (C.1.2.2.2.2 _ q359) dX0_odds_3 ?_
  refine x_rwl (y := lI 4) (by decide) ?_
  refine bs_calli (n := 3) C hB (As := [.long (lI so), .long (lI 0), .long (lI 4)]) (kX0_in l E so 0 4 ⟨by omega, by omega⟩ ⟨by omega, by omega⟩ ⟨by omega, by omega⟩) (lw_S q234 q235 q68 q236) (by decide +kernel) ⟨Nat.le_of_ble_eq_true rfl, Nat.le_of_ble_eq_true rfl⟩ rfl hl.1 rfl (Nat.le_of_ble_eq_true rfl) dX0_odds_6 ⟨Nat.le_of_ble_eq_true rfl, Nat.le_of_ble_eq_true rfl⟩ (fun z1 H locs hz2 hp3 hB => ?_)
  obtain ⟨hz2a, hz2b⟩ := hz2
  rcases hp3 with ⟨rfl, h4⟩ | ⟨rfl, h4⟩
  · refine x_if_eq (tgt := 42) hx hb dX0_odds_9 (by decide) ⟨by decide, by decide⟩ (fun c5 => by exfalso; omega) (fun c5 => ?_)
    refine lv_iload_n hx hb dX0_odds_12 rfl (lv_at hl 2 rfl) ?_
    refine x_i2l hx hb dX0_odds_13 ⟨by omega, by omega⟩ ?_
    refine lv_lconst (v := lI 0) hx hb dX0_odds_14 rfl ?_
    refine lv_lconst (v := lI 1) hx hb dX0_odds_15 rfl ?_
    refine bs_calli (n := 3) C hB (As := [.long (lI wh), .long (lI 0), .long (lI 1)]) (kX0_in l E wh 0 1 ⟨by omega, by omega⟩ ⟨by omega, by omega⟩ ⟨by omega, by omega⟩) (lw_S q234 q235 q68 q236) (by decide +kernel) ⟨Nat.le_of_ble_eq_true rfl, Nat.le_of_ble_eq_true rfl⟩ rfl hl.1 rfl (Nat.le_of_ble_eq_true rfl) dX0_odds_16 ⟨Nat.le_of_ble_eq_true rfl, Nat.le_of_ble_eq_true rfl⟩ (fun z6 H locs hz7 hp8 hB => ?_)
    obtain ⟨hz7a, hz7b⟩ := hz7
    rcases hp8 with ⟨rfl, h9⟩ | ⟨rfl, h9⟩
    · refine x_if_eq (tgt := 42) hx hb dX0_odds_19 (by decide) ⟨by decide, by decide⟩ (fun c10 => by exfalso; omega) (fun c10 => ?_)
      refine lv_aload_n hx hb dX0_odds_22 rfl (lv_at hl 0 rfl) ?_
      refine b_calli 0 0 (Nat.le_of_ble_eq_true rfl) (Nat.le_of_ble_eq_true rfl) hB (fun w hI hd hB => rV (As := []) (n := 0) C hZ hB (kX0_noBooks l E o Ad I F X hOK0 w hI hd _) (lw_V q275 q277 qs11 q68 q278) (by decide +kernel) ⟨Nat.le_of_ble_eq_true rfl, Nat.le_of_ble_eq_true rfl⟩ (wU_l hI.x) rfl rfl rfl hl.1 rfl (Nat.le_of_ble_eq_true rfl) dX0_odds_23 ⟨Nat.le_of_ble_eq_true rfl, Nat.le_of_ble_eq_true rfl⟩) (fun z11 Ad12 I13 F14 X15 H locs hz16 hp17 hB => ?_)
      obtain ⟨hz16a, hz16b⟩ := hz16
      obtain ⟨rfl, rfl, rfl, rfl, ⟨rfl, h18⟩ | ⟨rfl, h18⟩⟩ := hp17
      · refine x_if_ne (tgt := 42) hx hb dX0_odds_26 (by decide) ⟨by decide, by decide⟩ (fun c19 => ?_) (fun c19 => by exfalso; omega)
        refine lv_ldc2 hx hb C.1.2.2.2.1 (C.1.2.2.2.2 _ q842) dX0_odds_42 ?_
        refine x_rwl (y := lI (-9223372036854775808)) (by decide) ?_
        exact b_lret C hB hr hlocks dX0_odds_45 (Nat.le_of_ble_eq_true rfl) (Nat.le_of_ble_eq_true rfl) ⟨by decide, by decide⟩ ⟨rfl, rfl, ⟨_, _, _, up3_id F⟩, fun a e h => h, by unfold rOdds; rw [if_pos (by omega)]⟩
      · refine x_if_ne (tgt := 42) hx hb dX0_odds_26 (by decide) ⟨by decide, by decide⟩ (fun c20 => by exfalso; omega) (fun c20 => ?_)
        refine lv_aload_n hx hb dX0_odds_29 rfl (lv_at hl 0 rfl) ?_
        refine lv_aload_n hx hb dX0_odds_30 rfl (lv_at hl 0 rfl) ?_
        refine b_get C hB 9 (by decide) q304 (v := .int (iI (I 9))) rfl rfl dX0_odds_31 ?_
        rw [← up3_id F] at hB
        refine b_calli 0 0 (Nat.le_of_ble_eq_true rfl) (Nat.le_of_ble_eq_true rfl) hB (fun w hI hd hB => rV (As := [.int (iI (I 9))]) (n := 1) C hZ hB (kX0_aligns l E o Ad I F (F 21) (F 22) (F 23) X (I 9) (by omega) hOK0 w hI hd _) (lw_V q603 q432 qs13 q68 q433) (by decide +kernel) ⟨Nat.le_of_ble_eq_true rfl, Nat.le_of_ble_eq_true rfl⟩ (wU_l hI.x) rfl rfl rfl hl.1 rfl (Nat.le_of_ble_eq_true rfl) dX0_odds_34 ⟨Nat.le_of_ble_eq_true rfl, Nat.le_of_ble_eq_true rfl⟩) (fun z21 Ad22 I23 F24 X25 H locs hz26 hp27 hB => ?_)
        obtain ⟨hz26a, hz26b⟩ := hz26
        obtain ⟨rfl, rfl, rfl, g28, g29, g30, rfl, ht31, rfl⟩ := hp27
        have hVht31 : VB 840 (DT I F (I 9) 0 0) := VBD (by omega) (by omega) (csM60 hOK0) (by omega) (by omega)
        have hbht31 : 0 ≤ (DT I F (I 9) 0 0).1 ∧ (DT I F (I 9) 0 0).1 ≤ 100000 := by unfold VB at hVht31; omega
        refine lv_ldc hx hb C.1.2.2.2.1 (C.1.2.2.2.2 _ q438) dX0_odds_37 ?_
        refine x_rw (y := iI 100000) (by decide) ?_
        refine x_icmp_lt (tgt := 46) hx hb dX0_odds_39 (by decide) ⟨by omega, by omega⟩ ⟨by decide, by decide⟩ (fun c32 => ?_) (fun c32 => ?_)
        · refine lv_aload_n hx hb dX0_odds_46 rfl (lv_at hl 0 rfl) ?_
          refine b_calli 17 64 (Nat.le_of_ble_eq_true rfl) (Nat.le_of_ble_eq_true rfl) hB (fun w hI hd hB => rV (As := []) (n := 0) C hZ hB (kX0_pairs l E o Ad I (up3 F g28 g29 g30) X hOK0 w hI hd _) (lw_V q604 q606 qs20 q68 q607) (by decide +kernel) ⟨Nat.le_of_ble_eq_true rfl, Nat.le_of_ble_eq_true rfl⟩ (wU_l hI.x) rfl rfl rfl hl.1 rfl (Nat.le_of_ble_eq_true rfl) dX0_odds_47 ⟨Nat.le_of_ble_eq_true rfl, Nat.le_of_ble_eq_true rfl⟩) (fun z33 Ad34 I35 F36 X37 H locs hz38 hp39 hB => ?_)
          obtain ⟨hz38a, hz38b⟩ := hz38
          obtain ⟨rfl, rfl, ⟨g40, g41, g42, rfl⟩, hs43, rfl⟩ := hp39
          replace hB : xBB E (xA (wU w X) sz) s o Ad I (up3 F g40 g41 g42) X37 _ _ := hB
          rw [bpath_up3]
          have hbl := bpath_len I F (I 9)
          have hbp0 := bpath_pos (w := I 9) (F := F) (by omega) hl1 (by omega)
          have hcl := cntS_le so (bpath I F (I 9))
          refine lv_istore_n (lv' := [(3, .int (iI (((bpath I F (I 9)).length : Int)))), (0, .ref o), (1, .int (iI so)), (2, .int (iI wh))]) hx hb dX0_odds_50 rfl hl (by decide) rfl (fun ls hl => ?_)
          refine lv_iconst (v := iI 0) hx hb dX0_odds_51 rfl ?_
          refine lv_istore (lv' := [(4, .int (iI 0)), (3, .int (iI (((bpath I F (I 9)).length : Int)))), (0, .ref o), (1, .int (iI so)), (2, .int (iI wh))]) hx hb dX0_odds_52 hl (by decide) rfl (fun ls hl => ?_)
          refine t_new C hB (ci := 9) (fs := [.int (iI 0), .null]) rfl in_X11 tyX11_ok q630 q425 q98 dvX11 (Nat.le_of_ble_eq_true rfl) (Nat.le_of_ble_eq_true rfl) dX0_odds_54 (fun q44 H hq45 hs46 hB => ?_)
          refine x_up (c2 := 18) (s2 := 66) (Nat.le_of_ble_eq_true rfl) (Nat.le_of_ble_eq_true rfl) ?_
          replace hB : xBB E (xA (wU w X) sz) s o Ad I (up3 F g40 g41 g42) (va_up X37 q44 (some (xO 9 [.int (iI 0), .null]))) _ _ := hB
          refine lv_dup hx hb dX0_odds_57 rfl ?_
          refine lv_aload_n hx hb dX0_odds_58 rfl (lv_at hl 2 rfl) ?_
          refine b_callv 18 66 (Nat.le_of_ble_eq_true rfl) (Nat.le_of_ble_eq_true rfl) hB (fun w hI hd hB => rIN (As := [.ref o]) (n := 1) C hZ hB (kX11_init l E o Ad I (up3 F g40 g41 g42) (va_up X37 q44 (some (xO 9 [.int (iI 0), .null]))) q44 (va_up_s _ _ _) hOK0 w hI hd _) q631 q427 q98 q428 rfl (by decide +kernel) ⟨Nat.le_of_ble_eq_true rfl, Nat.le_of_ble_eq_true rfl⟩ rfl hl.1 rfl (Nat.le_of_ble_eq_true rfl) dX0_odds_59 ⟨Nat.le_of_ble_eq_true rfl, Nat.le_of_ble_eq_true rfl⟩) (fun Ad48 I49 F50 X51 H locs hp53 hB => ?_)
          obtain ⟨rfl, rfl, g54, g55, g56, rfl, hall57, rfl⟩ := hp53
          rw [bx_uu] at hB
          replace hB : xBB E (xA (wU w X) sz) s o Ad I (up3 F g54 g55 g56) (va_up X37 q44 (some (xO 9 [.int (iI ((if (DT I F (I 9) 0 0).1 = 100000 then (0 : Int) else 1))), .ref o]))) _ _ := hB
          refine b_callq 19 69 (Nat.le_of_ble_eq_true rfl) (Nat.le_of_ble_eq_true rfl) hB (fun w hI hd hB => rV (As := []) (n := 0) C hZ hB (kX11_iterator l E o Ad I (up3 F g54 g55 g56) (va_up X37 q44 (some (xO 9 [.int (iI ((if (DT I F (I 9) 0 0).1 = 100000 then (0 : Int) else 1))), .ref o]))) q44 ((if (DT I F (I 9) 0 0).1 = 100000 then (0 : Int) else 1)) (va_up_s _ _ _) w hI hd _) (lw_V q632 q461 q462 q98 q463) (by decide +kernel) ⟨Nat.le_of_ble_eq_true rfl, Nat.le_of_ble_eq_true rfl⟩ (wU_r hd (va_up_s _ _ _)) rfl rfl rfl hl.1 rfl (Nat.le_of_ble_eq_true rfl) dX0_odds_62 ⟨Nat.le_of_ble_eq_true rfl, Nat.le_of_ble_eq_true rfl⟩) (fun z58 Ad59 I60 F61 X62 H locs hp64 hB => ?_)
          obtain ⟨rfl, rfl, rfl, q65, rfl, hq66, rfl⟩ := hp64
          have hne67 : q44 ≠ q65 := fun e => by cases (hq66.symm.trans ((congrArg _ e.symm).trans (va_up_s _ _ _)))
          replace hB : xBB E (xA (wU w X) sz) s o Ad I (up3 F g54 g55 g56) (va_up (va_up X37 q44 (some (xO 9 [.int (iI ((if (DT I F (I 9) 0 0).1 = 100000 then (0 : Int) else 1))), .ref o]))) q65 (some (xO 10 [.int (iI 0), .int (iI 0), .ref q44]))) _ _ := hB
          refine lv_astore (lv' := [(5, .ref q65), (4, .int (iI 0)), (3, .int (iI (((bpath I F (I 9)).length : Int)))), (0, .ref o), (1, .int (iI so)), (2, .int (iI wh))]) hx hb dX0_odds_65 hl (by decide) rfl (fun ls hl => ?_)
          by_cases hD : (DT I F (I 9) 0 0).1 = 100000
          · rw [if_pos hD] at hB
            replace hB : xBB E (xA (wU w X) sz) s o Ad I (up3 F g54 g55 g56) (va_up (va_up X37 q44 (some (xO 9 [.int (iI 0), .ref o]))) q65 (some (xO 10 [.int (iI 0), .int (iI 0), .ref q44]))) _ _ := hB
            have hbp : bpath I F (I 9) = [] := if_pos hD
            refine lv_aload hx hb dX0_odds_67 (lv_at hl 0 rfl) ?_
            refine b_callFi 19 69 (Nat.le_of_ble_eq_true rfl) (Nat.le_of_ble_eq_true rfl) hB (fun w hI hd hB => rF (As := []) (n := 0) C hZ hB ⟨"java/util/Iterator", "hasNext", "()Z"⟩ (kX12_hasNext l E o Ad I (up3 F g54 g55 g56) (va_up (va_up X37 q44 (some (xO 9 [.int (iI 0), .ref o]))) q65 (some (xO 10 [.int (iI 0), .int (iI 0), .ref q44]))) q65 0 0 q44 0 (va_up_s _ _ _) ((va_up_n _ _ hne67).trans (va_up_s _ _ _)) (by omega) (by omega) hOK0 w hI hd _) (by decide) q634 q485 q487 q99 q489 (by decide +kernel) ⟨Nat.le_of_ble_eq_true rfl, Nat.le_of_ble_eq_true rfl⟩ (wU_r hd (va_up_s _ _ _)) rfl rfl rfl hl.1 rfl (Nat.le_of_ble_eq_true rfl) dX0_odds_69 ⟨Nat.le_of_ble_eq_true rfl, Nat.le_of_ble_eq_true rfl⟩) (fun z68 Ad69 I70 F71 X72 H locs hz73 hp74 hB => ?_)
            obtain ⟨hz73a, hz73b⟩ := hz73
            obtain ⟨rfl, rfl, rfl, rfl, ⟨rfl, h75⟩ | ⟨rfl, h75⟩⟩ := hp74
            · exact absurd h75.1 (by decide)
            · refine x_if_eq (tgt := 111) hx hb dX0_odds_74 (by decide) ⟨by decide, by decide⟩ (fun c76 => ?_) (fun c76 => by exfalso; omega)
              exfalso; omega
          · rw [if_neg hD] at hB
            replace hB : xBB E (xA (wU w X) sz) s o Ad I (up3 F g54 g55 g56) (va_up (va_up X37 q44 (some (xO 9 [.int (iI 1), .ref o]))) q65 (some (xO 10 [.int (iI 0), .int (iI 0), .ref q44]))) _ _ := hB
            have hXw := (va_up_none hq66).1
            refine x_up (c2 := 33 - 1 * 14) (s2 := 125 - 4 * 14) (by omega) (by omega) ?_
            refine w_loopC 33 125 1 4 (fun n80 H locs ls => ∃ (n : Nat) (i : Nat) (j : Nat) (X1 : xw) (x_ : Nat), n80 = n ∧ (n ≤ 14) ∧ (i ≤ (I 5).toNat) ∧ (j ≤ (I 6).toNat) ∧ (((I 5).toNat - i) + ((I 6).toNat - j) ≤ n) ∧ ((DT I F (I 9) i j).1 ≠ 100000) ∧ (X1 q44 = some (xO 9 [.int (iI 1), .ref o])) ∧ (X1 q65 = some (xO 10 [.int (iI ((i : Int))), .int (iI ((j : Int))), .ref q44])) ∧ (∀ a e, X37 a = some e → X1 a = some e) ∧ (x_ + cntS so (pth I F (I 9) n i j) = cntS so (bpath I F (I 9))) ∧ xBB E (xA (wU w X) sz) s o Ad I (up3 F g54 g55 g56) X1 H locs ∧ lv_has ls 7 [(0, .ref o), (1, .int (iI so)), (2, .int (iI wh)), (3, .int (iI (((bpath I F (I 9)).length : Int)))), (4, .int (iI ((x_ : Int)))), (5, .ref q65)]) 14 ⟨14, 0, 0, _, 0, rfl, by omega, by omega, by omega, by omega, hD, ((va_up_n _ _ hne67).trans (va_up_s _ _ _)), (va_up_s _ _ _), (fun a e  h2 => by rw [va_up_n _ _ (fun z => by rw [z, hXw] at h2; cases h2), va_up_n _ _ (fun z => by rw [z, hq45] at h2; cases h2)]; exact h2), by rw [show bpath I F (I 9) = pth I F (I 9) 14 0 0 from if_neg hD]; exact Nat.zero_add _, hB, lv_sub hl [3, 4, 5, 2, 1, 0] rfl⟩ ?_
            intro n80 H locs ls hI79 ih77
            obtain ⟨n, i, j, X1, x_, hn78, hn14, hiI, hjI, hfu, hnf, hx0, hx1, hxs, hct, hB, hl⟩ := hI79
            refine lv_aload hx hb dX0_odds_67 (lv_at hl 5 rfl) ?_
            refine b_callFi ((33 - 1 * n80)) ((125 - 4 * n80)) (by omega) (by omega) hB (fun w hI hd hB => rF (As := []) (n := 0) C hZ hB ⟨"java/util/Iterator", "hasNext", "()Z"⟩ (kX12_hasNext l E o Ad I (up3 F g54 g55 g56) X1 q65 i j q44 1 hx1 hx0 (by omega) (by omega) hOK0 w hI hd _) (by decide) q634 q485 q487 q99 q489 (by decide +kernel) ⟨Nat.le_of_ble_eq_true rfl, Nat.le_of_ble_eq_true rfl⟩ (wU_r hd hx1) rfl rfl rfl hl.1 rfl (Nat.le_of_ble_eq_true rfl) dX0_odds_69 ⟨(show (33 - 1 * n80) + 0 ≤ 33 by omega), (show (125 - 4 * n80) + 0 ≤ 125 by omega)⟩) (fun z81 Ad82 I83 F84 X85 H locs hz86 hp87 hB => ?_)
            obtain ⟨hz86a, hz86b⟩ := hz86
            obtain ⟨rfl, rfl, rfl, rfl, ⟨rfl, h88⟩ | ⟨rfl, h88⟩⟩ := hp87
            · refine x_if_eq (tgt := 111) hx hb dX0_odds_74 (by decide) ⟨by decide, by decide⟩ (fun c89 => by exfalso; omega) (fun c89 => ?_)
              refine lv_aload hx hb dX0_odds_77 (lv_at hl 5 rfl) ?_
              obtain ⟨n, rfl⟩ : ∃ m_, n = m_ + 1 := ⟨n - 1, by omega⟩
              have hnee : ¬ (i = (I 5).toNat ∧ j = (I 6).toNat) := by omega
              have hns := ns_spec (onB_ex hOK0 (by omega) (by omega) hnf hnee)
              have hns5 := hns.2.1
              obtain ⟨hob1, hob2, hob3⟩ := onB_iff.mp hns.1
              have hnf2 := onB_fin hOK0 (by omega) (by omega) hns5 hnf hns.1
              have hpt := pth_s (F := F) (w := I 9) (n := n) hnee
              have hlrn := lr_pos (ns I F (I 9) i j)
              refine b_callFq ((33 - 1 * n80) + 1) ((125 - 4 * n80) + 4) (by omega) (by omega) hB (fun w hI hd hB => rF (As := []) (n := 0) C hZ hB ⟨"java/util/Iterator", "next", "()Ljava/lang/Object;"⟩ (kX12_next l E o Ad I (up3 F g54 g55 g56) X1 q65 i j q44 1 (I 9) hx1 hx0 (by omega) (by omega) (by omega) (fun i j h1 h2 => congrArg Prod.fst (hall57 i j h1 h2)) hnf hnee hOK0 w hI hd _) (by decide) q636 q496 q498 q99 q500 (by decide +kernel) ⟨Nat.le_of_ble_eq_true rfl, Nat.le_of_ble_eq_true rfl⟩ (wU_r hd hx1) rfl rfl rfl hl.1 rfl (Nat.le_of_ble_eq_true rfl) dX0_odds_79 ⟨(show (33 - 1 * n80) + 1 ≤ 33 by omega), (show (125 - 4 * n80) + 4 ≤ 125 by omega)⟩) (fun z90 Ad91 I92 F93 X94 H locs hp96 hB => ?_)
              obtain ⟨rfl, rfl, rfl, q97, rfl, hq98, rfl⟩ := hp96
              rw [ns_up3] at hB
              have hne99 : q44 ≠ q97 := fun e => by cases (hq98.symm.trans ((congrArg _ e.symm).trans hx0))
              have hne100 : q65 ≠ q97 := fun e => by cases (hq98.symm.trans ((congrArg _ e.symm).trans hx1))
              replace hB : xBB E (xA (wU w X) sz) s o Ad I (up3 F g54 g55 g56) (va_up (va_up X1 q97 (some (xO 11 [.int (iI (((ns I F (I 9) i j : Nat) : Int))), .int (iI ((i : Int))), .int (iI ((j : Int))), .ref o]))) q65 (some (xO 10 [.int (iI ((i : Int) + (loN (ns I F (I 9) i j) : Int))), .int (iI ((j : Int) + (roN (ns I F (I 9) i j) : Int))), .ref q44]))) _ _ := hB
              refine t_castS C hB q637 ((va_up_n _ _ (Ne.symm hne100)).trans (va_up_s _ _ _)) rfl rfl dX0_odds_84 ?_
              refine lv_astore (lv' := [(6, .ref q97), (0, .ref o), (1, .int (iI so)), (2, .int (iI wh)), (3, .int (iI (((bpath I F (I 9)).length : Int)))), (4, .int (iI ((x_ : Int)))), (5, .ref q65)]) hx hb dX0_odds_87 hl (by decide) rfl (fun ls hl => ?_)
              refine lv_iload hx hb dX0_odds_89 (lv_at hl 5 rfl) ?_
              refine lv_aload hx hb dX0_odds_91 (lv_at hl 0 rfl) ?_
              refine t_getN C hB ((va_up_n _ _ (Ne.symm hne100)).trans (va_up_s _ _ _)) rfl in_X13 0 (by decide) q521 (fun x h => h) (v := .int (iI (((ns I F (I 9) i j : Nat) : Int)))) rfl dX0_odds_93 ?_
              refine lv_iload_n hx hb dX0_odds_96 rfl (lv_at hl 2 rfl) ?_
              refine x_icmp_ne (tgt := 104) hx hb dX0_odds_97 (by decide) ⟨by omega, by omega⟩ ⟨by omega, by omega⟩ (fun c101 => ?_) (fun c101 => ?_)
              · refine lv_iconst (v := iI 0) hx hb dX0_odds_104 rfl ?_
                refine x_iadd (z := (x_ : Int)) hx hb dX0_odds_105 (by omega) ?_
                refine lv_istore (lv' := [(4, .int (iI ((x_ : Int)))), (6, .ref q97), (0, .ref o), (1, .int (iI so)), (2, .int (iI wh)), (3, .int (iI (((bpath I F (I 9)).length : Int)))), (5, .ref q65)]) hx hb dX0_odds_106 hl (by decide) rfl (fun ls hl => ?_)
                refine lv_goto (tgt := 67) hx hb dX0_odds_108 (by decide) ?_
                refine x_up (c2 := 33 - 1 * (n)) (s2 := 125 - 4 * (n)) (by omega) (by omega) ?_
                exact ih77 _ _ _ _ (by omega) ⟨n, i + loN (ns I F (I 9) i j), j + roN (ns I F (I 9) i j), _, x_, rfl, by omega, by omega, by omega, by omega, hnf2, ((va_up_n _ _ hne67).trans ((va_up_n _ _ hne99).trans hx0)), (by simp only [Int.natCast_add]; exact (va_up_s _ _ _)), (fun a e  h2 => by have h3 := hxs a e  h2; rw [va_up_n _ _ (fun z => by rw [z, hXw] at h2; cases h2), va_up_n _ _ (fun z => by rw [z, hq98] at h3; cases h3)]; exact h3), by rw [← hct, hpt]; show _ = x_ + ((if (ns I F (I 9) i j : Int) = so then 1 else 0) + _); rw [if_neg (by omega)]; omega, hB, lv_sub hl [2, 3, 4, 5, 0, 6] rfl⟩
              · refine lv_iconst (v := iI 1) hx hb dX0_odds_100 rfl ?_
                refine lv_goto (tgt := 105) hx hb dX0_odds_101 (by decide) ?_
                refine x_iadd (z := (x_ : Int) + 1) hx hb dX0_odds_105 (by omega) ?_
                refine lv_istore (lv' := [(4, .int (iI ((x_ : Int) + 1))), (6, .ref q97), (0, .ref o), (1, .int (iI so)), (2, .int (iI wh)), (3, .int (iI (((bpath I F (I 9)).length : Int)))), (5, .ref q65)]) hx hb dX0_odds_106 hl (by decide) rfl (fun ls hl => ?_)
                refine lv_goto (tgt := 67) hx hb dX0_odds_108 (by decide) ?_
                refine x_up (c2 := 33 - 1 * (n)) (s2 := 125 - 4 * (n)) (by omega) (by omega) ?_
                exact ih77 _ _ _ _ (by omega) ⟨n, i + loN (ns I F (I 9) i j), j + roN (ns I F (I 9) i j), _, x_ + 1, rfl, by omega, by omega, by omega, by omega, hnf2, ((va_up_n _ _ hne67).trans ((va_up_n _ _ hne99).trans hx0)), (by simp only [Int.natCast_add]; exact (va_up_s _ _ _)), (fun a e  h2 => by have h3 := hxs a e  h2; rw [va_up_n _ _ (fun z => by rw [z, hXw] at h2; cases h2), va_up_n _ _ (fun z => by rw [z, hq98] at h3; cases h3)]; exact h3), by rw [← hct, hpt]; show _ = x_ + ((if (ns I F (I 9) i j : Int) = so then 1 else 0) + _); rw [if_pos (by omega)]; omega, hB, lv_sub hl [2, 3, 4, 5, 0, 6] rfl⟩
            · refine x_if_eq (tgt := 111) hx hb dX0_odds_74 (by decide) ⟨by decide, by decide⟩ (fun c102 => ?_) (fun c102 => by exfalso; omega)
              have hcz : x_ = cntS so (bpath I F (I 9)) := by rw [← hct, show i = (I 5).toNat by omega, show j = (I 6).toNat by omega, pth_e]; rfl
              have hgp := Nat.gcd_pos_of_pos_left x_ hbp0
              have hgl := Nat.gcd_le_left x_ hbp0
              refine lv_iload_n hx hb dX0_odds_111 rfl (lv_at hl 2 rfl) ?_
              refine x_if_ne (tgt := 120) hx hb dX0_odds_112 (by decide) ⟨by omega, by omega⟩ (fun c103 => ?_) (fun c103 => ?_)
              · refine lv_iload_n hx hb dX0_odds_120 rfl (lv_at hl 3 rfl) ?_
                refine x_i2l hx hb dX0_odds_121 ⟨by omega, by omega⟩ ?_
                refine lv_iload_n hx hb dX0_odds_122 rfl (lv_at hl 3 rfl) ?_
                refine x_i2l hx hb dX0_odds_123 ⟨by omega, by omega⟩ ?_
                refine lv_iload hx hb dX0_odds_124 (lv_at hl 4 rfl) ?_
                refine x_i2l hx hb dX0_odds_126 ⟨by omega, by omega⟩ ?_
                refine bs_calll (n := 2) C hB (As := [.long (lI (((bpath I F (I 9)).length : Int))), .long (lI ((x_ : Int)))]) (kX0_greatestOf l E ((bpath I F (I 9)).length) x_ (by omega) (by omega)) (lw_S q843 q844 q68 q845) (by decide +kernel) ⟨Nat.le_of_ble_eq_true rfl, Nat.le_of_ble_eq_true rfl⟩ rfl hl.1 rfl (Nat.le_of_ble_eq_true rfl) dX0_odds_127 ⟨(show (33 - 1 * n80) ≤ 33 by omega), (show (125 - 4 * n80) ≤ 125 by omega)⟩ (fun z104 H locs hz105 hp106 hB => ?_)
                obtain ⟨hz105a, hz105b⟩ := hz105
                subst hp106
                have hdl := Nat.div_le_self ((bpath I F (I 9)).length) (Nat.gcd (bpath I F (I 9)).length x_)
                have hdn : (0 : Int) ≤ ((((bpath I F (I 9)).length) / Nat.gcd (bpath I F (I 9)).length x_ : Nat) : Int) := Int.natCast_nonneg _
                refine x_ldiv (a := ((bpath I F (I 9)).length)) (b := (Nat.gcd ((bpath I F (I 9)).length) x_)) hx hb dX0_odds_130 (by omega) (by omega) (by omega) ?_
                exact b_lret C hB hr hlocks dX0_odds_131 (by omega) (by omega) ⟨by omega, by omega⟩ ⟨rfl, rfl, ⟨_, _, _, rfl⟩, fun a e h => hxs a e ((hs43 _ _ h)), by unfold rOdds; rw [if_neg (by omega), ← hcz, Nat.gcd_comm x_]; exact (if_neg (by omega)).symm⟩
              · refine lv_iload hx hb dX0_odds_115 (lv_at hl 4 rfl) ?_
                refine lv_goto (tgt := 121) hx hb dX0_odds_117 (by decide) ?_
                refine x_i2l hx hb dX0_odds_121 ⟨by omega, by omega⟩ ?_
                refine lv_iload_n hx hb dX0_odds_122 rfl (lv_at hl 3 rfl) ?_
                refine x_i2l hx hb dX0_odds_123 ⟨by omega, by omega⟩ ?_
                refine lv_iload hx hb dX0_odds_124 (lv_at hl 4 rfl) ?_
                refine x_i2l hx hb dX0_odds_126 ⟨by omega, by omega⟩ ?_
                refine bs_calll (n := 2) C hB (As := [.long (lI (((bpath I F (I 9)).length : Int))), .long (lI ((x_ : Int)))]) (kX0_greatestOf l E ((bpath I F (I 9)).length) x_ (by omega) (by omega)) (lw_S q843 q844 q68 q845) (by decide +kernel) ⟨Nat.le_of_ble_eq_true rfl, Nat.le_of_ble_eq_true rfl⟩ rfl hl.1 rfl (Nat.le_of_ble_eq_true rfl) dX0_odds_127 ⟨(show (33 - 1 * n80) ≤ 33 by omega), (show (125 - 4 * n80) ≤ 125 by omega)⟩ (fun z107 H locs hz108 hp109 hB => ?_)
                obtain ⟨hz108a, hz108b⟩ := hz108
                subst hp109
                have hdl := Nat.div_le_self x_ (Nat.gcd (bpath I F (I 9)).length x_)
                have hdn : (0 : Int) ≤ ((x_ / Nat.gcd (bpath I F (I 9)).length x_ : Nat) : Int) := Int.natCast_nonneg _
                refine x_ldiv (a := x_) (b := (Nat.gcd ((bpath I F (I 9)).length) x_)) hx hb dX0_odds_130 (by omega) (by omega) (by omega) ?_
                exact b_lret C hB hr hlocks dX0_odds_131 (by omega) (by omega) ⟨by omega, by omega⟩ ⟨rfl, rfl, ⟨_, _, _, rfl⟩, fun a e h => hxs a e ((hs43 _ _ h)), by unfold rOdds; rw [if_neg (by omega), ← hcz, Nat.gcd_comm x_]; exact (if_pos (by omega)).symm⟩
        · refine lv_ldc2 hx hb C.1.2.2.2.1 (C.1.2.2.2.2 _ q842) dX0_odds_42 ?_
          refine x_rwl (y := lI (-9223372036854775808)) (by decide) ?_
          exact b_lret C hB hr hlocks dX0_odds_45 (Nat.le_of_ble_eq_true rfl) (Nat.le_of_ble_eq_true rfl) ⟨by decide, by decide⟩ ⟨rfl, rfl, ⟨_, _, _, rfl⟩, fun a e h => h, by unfold rOdds; rw [if_pos (by omega)]⟩
    · refine x_if_eq (tgt := 42) hx hb dX0_odds_19 (by decide) ⟨by decide, by decide⟩ (fun c110 => ?_) (fun c110 => by exfalso; omega)
      refine lv_ldc2 hx hb C.1.2.2.2.1 (C.1.2.2.2.2 _ q842) dX0_odds_42 ?_
      refine x_rwl (y := lI (-9223372036854775808)) (by decide) ?_
      exact b_lret C hB hr hlocks dX0_odds_45 (Nat.le_of_ble_eq_true rfl) (Nat.le_of_ble_eq_true rfl) ⟨by decide, by decide⟩ ⟨rfl, rfl, ⟨_, _, _, up3_id F⟩, fun a e h => h, by unfold rOdds; rw [if_pos (by omega)]⟩
  · refine x_if_eq (tgt := 42) hx hb dX0_odds_9 (by decide) ⟨by decide, by decide⟩ (fun c111 => ?_) (fun c111 => by exfalso; omega)
    refine lv_ldc2 hx hb C.1.2.2.2.1 (C.1.2.2.2.2 _ q842) dX0_odds_42 ?_
    refine x_rwl (y := lI (-9223372036854775808)) (by decide) ?_
    exact b_lret C hB hr hlocks dX0_odds_45 (Nat.le_of_ble_eq_true rfl) (Nat.le_of_ble_eq_true rfl) ⟨by decide, by decide⟩ ⟨rfl, rfl, ⟨_, _, _, up3_id F⟩, fun a e h => h, by unfold rOdds; rw [if_pos (by omega)]⟩
