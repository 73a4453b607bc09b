/-! THE MODEL, 16: books -/
set_option maxHeartbeats 400000 in
set_option maxRecDepth 100000 in
theorem kX3_books (l : Launch) (E : xE) (o : Nat) (Ad : Nat → Nat) (I : Nat → Int) (F : Nat → Nat → Int) (k : Int) (so : Int) (i : Int) (n : Int) (hk : rg k) (hso : rg so) (hi : rg i) (hnr : rg n) (hOK : mOK I F) : mi_ l E yX3_books cX3_books 8 (some .int) 3 65 [.ref o, .int (iI k), .int (iI so), .int (iI i), .int (iI n)] o Ad I F (fun z I' F' => z = rBooks F k so i n ∧ mAg (nBooksI I F k so i n) (nBooksF F k so i n) I' F') := by
  intro w sz hM
  refine x_body (by decide) (Nat.le_of_ble_eq_true rfl) ?_
  intro p e s m args below meth c ls hx hb C hr hlocks _ hsz hB hl
  have C : xC E p s m args c cX3_books 8 RX3 := C
  replace hB : mB E (xA w sz) s o Ad I F s.heap [] := ⟨w, hM, hB⟩
  have hl : lv_has ls 8 [(0, .ref o), (1, .int (iI k)), (2, .int (iI so)), (3, .int (iI i)), (4, .int (iI n))] := hl
  obtain ⟨hk1, hk2⟩ := hk
  obtain ⟨hso1, hso2⟩ := hso
  obtain ⟨hi1, hi2⟩ := hi
  obtain ⟨hnr1, hnr2⟩ := hnr
  have hOK0 := hOK
  obtain ⟨⟨hf1, hf2⟩, ⟨hl1, hl2⟩, ⟨hr1, hr2⟩, hlr, ⟨hs1, hs2⟩, ⟨hj1, hj2⟩, ⟨hb1, hb2⟩, ⟨hn1, hn2⟩, hL, hR, hN, hS, hC⟩ := hOK
  refine lv_aload_n hx hb dX3_books_0 rfl (lv_at hl 0 rfl) ?_
  refine lv_iconst (v := iI 0) hx hb dX3_books_1 rfl ?_
  refine m_put C hB 0 (by decide) rfl q1394 rfl rfl dX3_books_2 (fun H locs hB => ?_)
  refine lv_iload_n hx hb dX3_books_5 rfl (lv_at hl 1 rfl) ?_
  obtain ⟨wq, hMq, hB⟩ := hB
  refine s_calli (n := 1) C hB (As := [.int (iI k)]) (kX3_isSheet l E k ⟨by omega, by omega⟩) (lw_S q1495 q1496 q77 q1497) (by decide +kernel) ⟨Nat.le_of_ble_eq_true rfl, Nat.le_of_ble_eq_true rfl⟩ rfl hl.1 rfl (Nat.le_of_ble_eq_true rfl) dX3_books_6 ⟨Nat.zero_le _, Nat.zero_le _⟩ (fun z1 H locs hz2 hp3 hB => ?_)
  replace hB : mB E _ s o Ad (va_up I 0 0) F H locs := ⟨wq, hMq, hB⟩
  obtain ⟨hz2a, hz2b⟩ := hz2
  rcases hp3 with ⟨rfl, h4⟩ | ⟨rfl, h4⟩
  · refine x_if_ne (tgt := 14) hx hb dX3_books_9 (by decide) ⟨by decide, by decide⟩ (fun c5 => ?_) (fun c5 => by exfalso; omega)
    refine lv_iload_n hx hb dX3_books_14 rfl (lv_at hl 2 rfl) ?_
    obtain ⟨wq, hMq, hB⟩ := hB
    refine s_calli (n := 1) C hB (As := [.int (iI so)]) (kX3_isSort l E so ⟨by omega, by omega⟩) (lw_S q1501 q1502 q77 q1503) (by decide +kernel) ⟨Nat.le_of_ble_eq_true rfl, Nat.le_of_ble_eq_true rfl⟩ rfl hl.1 rfl (Nat.le_of_ble_eq_true rfl) dX3_books_15 ⟨Nat.zero_le _, Nat.zero_le _⟩ (fun z6 H locs hz7 hp8 hB => ?_)
    replace hB : mB E _ s o Ad (va_up I 0 0) F H locs := ⟨wq, hMq, hB⟩
    obtain ⟨hz7a, hz7b⟩ := hz7
    rcases hp8 with ⟨rfl, h9⟩ | ⟨rfl, h9⟩
    · refine x_if_ne (tgt := 24) hx hb dX3_books_18 (by decide) ⟨by decide, by decide⟩ (fun c10 => ?_) (fun c10 => by exfalso; omega)
      obtain ⟨kk, rfl⟩ : ∃ kk : Nat, k = (kk : Int) := ⟨k.toNat, by omega⟩
      have hOKz : mOK (va_up I 0 0) F := mOK_0 hOK0 (by decide)
      refine lv_aload_n hx hb dX3_books_24 rfl (lv_at hl 0 rfl) ?_
      refine lv_iload_n hx hb dX3_books_25 rfl (lv_at hl 1 rfl) ?_
      refine lv_iload_n hx hb dX3_books_26 rfl (lv_at hl 2 rfl) ?_
      refine lv_iload_n hx hb dX3_books_27 rfl (lv_at hl 3 rfl) ?_
      refine lv_iload hx hb dX3_books_28 (lv_at hl 4 rfl) ?_
      refine m_calli (n := 4) C hB (As := [.int (iI ((kk : Int))), .int (iI so), .int (iI i), .int (iI n)]) (kX3_against l E o Ad (va_up I 0 0) F kk so i n (by omega) ⟨by omega, by omega⟩ ⟨by omega, by omega⟩ ⟨by omega, by omega⟩ hOKz) (lw_V q1504 q1506 qs40 q77 q1507) (by decide +kernel) ⟨Nat.le_of_ble_eq_true rfl, Nat.le_of_ble_eq_true rfl⟩ rfl hl.1 rfl (Nat.le_of_ble_eq_true rfl) dX3_books_30 ⟨Nat.zero_le _, Nat.zero_le _⟩ (fun z11 I12 F13 H locs hz14 hp15 hB => ?_)
      obtain ⟨hz14a, hz14b⟩ := hz14
      obtain ⟨rfl, rfl, hag⟩ := hp15
      have hagb := agn_b F kk so i n
      refine lv_istore (lv' := [(5, .int (iI z11)), (0, .ref o), (1, .int (iI ((kk : Int)))), (2, .int (iI so)), (3, .int (iI i)), (4, .int (iI n))]) hx hb dX3_books_33 hl (by decide) rfl (fun ls hl => ?_)
      refine lv_iload hx hb dX3_books_35 (lv_at hl 0 rfl) ?_
      refine x_if_eq (tgt := 47) hx hb dX3_books_37 (by decide) ⟨by omega, by omega⟩ (fun c16 => ?_) (fun c16 => ?_)
      · have hz0 : agn F kk so i n = 0 := by omega
        obtain ⟨ha1, ha2, ha3, ha4, ha5, ha6⟩ := agn_z hz0
        have hS1 := hS kk (by omega)
        obtain ⟨ki, rfl⟩ : ∃ ki : Nat, i = (ki : Int) := ⟨i.toNat, by omega⟩
        obtain ⟨kn, rfl⟩ : ∃ kn : Nat, n = (kn : Int) := ⟨n.toNat, by omega⟩
        refine lv_bipush (v := iI 60) hx hb dX3_books_47 rfl ?_
        refine lv_iload_n hx hb dX3_books_49 rfl (lv_at hl 2 rfl) ?_
        refine x_imul (z := 60 * (kk : Int)) hx hb dX3_books_50 (by omega) ?_
        refine lv_iload_n hx hb dX3_books_51 rfl (lv_at hl 4 rfl) ?_
        refine x_iadd (z := 60 * (kk : Int) + (ki : Int)) hx hb dX3_books_52 (by omega) ?_
        refine lv_istore (lv' := [(6, .int (iI (60 * (kk : Int) + (ki : Int)))), (5, .int (iI z11)), (0, .ref o), (1, .int (iI ((kk : Int)))), (2, .int (iI so)), (3, .int (iI ((ki : Int)))), (4, .int (iI ((kn : Int))))]) hx hb dX3_books_53 hl (by decide) rfl (fun ls hl => ?_)
        refine lv_aload_n hx hb dX3_books_55 rfl (lv_at hl 2 rfl) ?_
        refine lv_iload hx hb dX3_books_56 (lv_at hl 0 rfl) ?_
        refine m_put C hB 15 (by decide) rfl q1409 rfl rfl dX3_books_58 (fun H locs hB => ?_)
        refine lv_aload_n hx hb dX3_books_61 rfl (lv_at hl 2 rfl) ?_
        refine lv_iload hx hb dX3_books_62 (lv_at hl 0 rfl) ?_
        refine lv_iload hx hb dX3_books_64 (lv_at hl 6 rfl) ?_
        refine x_iadd (z := 60 * (kk : Int) + (ki : Int) + (kn : Int)) hx hb dX3_books_66 (by omega) ?_
        refine m_calli (n := 1) C hB (As := [.int (iI (60 * (kk : Int) + (ki : Int) + (kn : Int)))]) (kX3_readAll l E o Ad (va_up (va_up I 0 0) 15 (60 * (kk : Int) + (ki : Int))) F (60 * kk + ki) kn (by omega) (show ((60 * (kk : Int) + (ki : Int) : Int)) = ((60 * kk + ki : Nat) : Int) by omega) hOKz) (lw_V q1512 q1514 qs42 q77 q1515) (by decide +kernel) ⟨Nat.le_of_ble_eq_true rfl, Nat.le_of_ble_eq_true rfl⟩ rfl hl.1 rfl (Nat.le_of_ble_eq_true rfl) dX3_books_67 ⟨Nat.zero_le _, Nat.zero_le _⟩ (fun z17 I18 F19 H locs hz20 hp21 hB => ?_)
        obtain ⟨hz20a, hz20b⟩ := hz20
        rcases hp21 with ⟨rfl, ra, rb, rc, rf, rgg, rh, rfl, rfl, hx98, hlf, hrt, hb17, hc17, hLf, hRg⟩ | ⟨rfl, ra, rb, rc, rf, rgg, rh, rfl, rfl, hT, hTa, hTb⟩
        · refine x_if_ne (tgt := 84) hx hb dX3_books_70 (by decide) ⟨by decide, by decide⟩ (fun c22 => ?_) (fun c22 => by exfalso; omega)
          refine lv_aload_n hx hb dX3_books_84 rfl (lv_at hl 2 rfl) ?_
          refine lv_aload_n hx hb dX3_books_85 rfl (lv_at hl 2 rfl) ?_
          refine m_get C hB 16 (by decide) q1410 (v := .int (iI ((rb : Int)))) rfl rfl dX3_books_86 ?_
          refine m_put C hB 5 (by decide) rfl q1399 rfl rfl dX3_books_89 (fun H locs hB => ?_)
          refine lv_aload_n hx hb dX3_books_92 rfl (lv_at hl 2 rfl) ?_
          refine lv_aload_n hx hb dX3_books_93 rfl (lv_at hl 2 rfl) ?_
          refine m_get C hB 17 (by decide) q1411 (v := .int (iI ((rc : Int)))) rfl rfl dX3_books_94 ?_
          refine m_put C hB 6 (by decide) rfl q1400 rfl rfl dX3_books_97 (fun H locs hB => ?_)
          refine lv_iconst (v := iI 0) hx hb dX3_books_100 rfl ?_
          refine lv_istore (lv' := [(7, .int (iI 0)), (6, .int (iI (60 * (kk : Int) + (ki : Int)))), (5, .int (iI z11)), (0, .ref o), (1, .int (iI ((kk : Int)))), (2, .int (iI so)), (3, .int (iI ((ki : Int)))), (4, .int (iI ((kn : Int))))]) hx hb dX3_books_101 hl (by decide) rfl (fun ls hl => ?_)
          replace hB : mB E (xA w sz) s o Ad (va_up (va_up (rdI (va_up (va_up I 0 0) 15 (60 * (kk : Int) + (ki : Int))) ra rb rc) 5 ((rb : Int))) 6 ((rc : Int))) (va_up (va_up (va_up (va_up (va_up (rdF F rf rgg rh) 10 (F 10)) 11 (F 11)) 12 (F 12)) 13 (F 13)) 14 (F 14)) H locs := by rw [show F 10 = (rdF F rf rgg rh) 10 from rfl, va_up_id, show F 11 = (rdF F rf rgg rh) 11 from rfl, va_up_id, show F 12 = (rdF F rf rgg rh) 12 from rfl, va_up_id, show F 13 = (rdF F rf rgg rh) 13 from rfl, va_up_id, show F 14 = (rdF F rf rgg rh) 14 from rfl, va_up_id]; exact hB
          refine w_loop (fun n26 H locs ls => ∃ (k : Nat) (x10 : Nat → Int) (x11 : Nat → Int) (x12 : Nat → Int) (x13 : Nat → Int) (x14 : Nat → Int), n26 = 7 - k ∧ (k ≤ 7) ∧ (∀ j, j < k → x10 j = rf j ∧ x11 j = rgg j ∧ x12 j = rh j ∧ x13 j = rgg (j + 7) ∧ x14 j = rh (j + 7)) ∧ mB E (xA w sz) s o Ad (va_up (va_up (rdI (va_up (va_up I 0 0) 15 (60 * (kk : Int) + (ki : Int))) ra rb rc) 5 ((rb : Int))) 6 ((rc : Int))) (va_up (va_up (va_up (va_up (va_up (rdF F rf rgg rh) 10 x10) 11 x11) 12 x12) 13 x13) 14 x14) H locs ∧ lv_has ls 8 [(0, .ref o), (1, .int (iI ((kk : Int)))), (2, .int (iI so)), (3, .int (iI ((ki : Int)))), (4, .int (iI ((kn : Int)))), (6, .int (iI (60 * (kk : Int) + (ki : Int)))), (7, .int (iI ((k : Int))))]) _ ⟨0, _, _, _, _, _, rfl, by omega, fun j h => absurd h (Nat.not_lt_zero j), hB, lv_sub hl [3, 4, 5, 6, 7, 1, 0] rfl⟩ ?_
          intro n26 H locs ls hI25 ih23
          obtain ⟨k, x10, x11, x12, x13, x14, hn24, hk, hcp, hB, hl⟩ := hI25
          refine lv_iload hx hb dX3_books_103 (lv_at hl 6 rfl) ?_
          refine lv_bipush (v := iI 7) hx hb dX3_books_105 rfl ?_
          refine x_icmp_ge (tgt := 192) hx hb dX3_books_107 (by decide) ⟨by omega, by omega⟩ ⟨by decide, by decide⟩ (fun c27 => ?_) (fun c27 => ?_)
          · refine lv_aload_n hx hb dX3_books_192 rfl (lv_at hl 0 rfl) ?_
            refine lv_iconst (v := iI 4) hx hb dX3_books_193 rfl ?_
            refine m_put C hB 7 (by decide) rfl q1401 rfl rfl dX3_books_194 (fun H locs hB => ?_)
            refine lv_aload_n hx hb dX3_books_197 rfl (lv_at hl 0 rfl) ?_
            refine lv_iconst (v := iI 1) hx hb dX3_books_198 rfl ?_
            refine m_put C hB 8 (by decide) rfl q1402 rfl rfl dX3_books_199 (fun H locs hB => ?_)
            refine lv_aload_n hx hb dX3_books_202 rfl (lv_at hl 0 rfl) ?_
            refine lv_bipush (v := iI 7) hx hb dX3_books_203 rfl ?_
            refine m_put C hB 9 (by decide) rfl q1403 rfl rfl dX3_books_205 (fun H locs hB => ?_)
            refine lv_aload_n hx hb dX3_books_208 rfl (lv_at hl 0 rfl) ?_
            refine lv_iconst (v := iI 0) hx hb dX3_books_209 rfl ?_
            refine m_put C hB 29 (by decide) rfl q1423 rfl rfl dX3_books_210 (fun H locs hB => ?_)
            refine lv_aload_n hx hb dX3_books_213 rfl (lv_at hl 0 rfl) ?_
            refine m_get C hB 5 (by decide) q1399 (v := .int (iI ((rb : Int)))) rfl rfl dX3_books_214 ?_
            refine lv_aload_n hx hb dX3_books_217 rfl (lv_at hl 0 rfl) ?_
            refine m_get C hB 6 (by decide) q1400 (v := .int (iI ((rc : Int)))) rfl rfl dX3_books_218 ?_
            refine x_iadd (z := (rb : Int) + (rc : Int)) hx hb dX3_books_221 (by omega) ?_
            exact m_iret C hB hr hlocks rfl dX3_books_222 ⟨by omega, by omega⟩ (by
                          have hr : rBooks F (kk : Int) so (ki : Int) (kn : Int) = rText (fun p => ce F (60 * kk + ki + kn) (60 * kk + ki + p)) kn := by unfold rBooks; simp only [Int.toNat_natCast]; rw [if_neg (by omega), if_neg (by omega), if_neg (by omega)]
                          replace hlf : lfR (fun p => ce F (60 * kk + ki + kn) (60 * kk + ki + p)) 8 0 = ((1 + 4 * rb : Nat) : Int) := hlf
                          replace hrt : rtR (fun p => ce F (60 * kk + ki + kn) (60 * kk + ki + p)) kn (1 + 4 * rb) 8 0 = (rc : Int) := hrt
                          have hT : rText (fun p => ce F (60 * kk + ki + kn) (60 * kk + ki + p)) kn = (rb : Int) + (rc : Int) := by unfold rText; rw [if_neg (fun q => q hx98), hlf, if_neg (by omega), Int.toNat_natCast, hrt, if_neg (by omega)]; omega
                          have htx : txt F (kk : Int) (ki : Int) (kn : Int) = (fun p => ce F (60 * kk + ki + kn) (60 * kk + ki + p)) := by unfold txt; simp only [Int.toNat_natCast]
                          have hq4 : (((1 + 4 * rb : Nat) : Int) - 1) / 4 = (rb : Int) := by omega
                          refine ⟨by rw [hr, hT], ?_⟩
                          unfold nBooksI nBooksF
                          rw [if_pos (by omega), if_pos (by omega), htx, hlf, hq4, Int.toNat_natCast, Int.toNat_natCast, Int.toNat_natCast, hrt]
                          exact ⟨rfl, rfl, rfl, rfl, rfl, rfl, rfl, rfl, fun k hk => have hk2 : (k : Int) < (rb : Int) := hk; ⟨(hcp k (by omega)).1.trans (hLf k (by omega)).1, (hcp k (by omega)).2.1.trans (hLf k (by omega)).2.1, (hcp k (by omega)).2.2.1.trans (hLf k (by omega)).2.2.1⟩, fun k hk => have hk2 : (k : Int) < (rc : Int) := hk; ⟨(hcp k (by omega)).2.2.2.1.trans (hRg k (by omega)).1, (hcp k (by omega)).2.2.2.2.trans (hRg k (by omega)).2.1⟩, fun k hk => absurd hk (by show ¬ (k : Int) < 0; omega), fun _ _ => ⟨rfl, rfl⟩, fun _ _ => rfl⟩)
          · refine lv_aload_n hx hb dX3_books_110 rfl (lv_at hl 0 rfl) ?_
            refine m_get C hB 10 (by decide) q1404 (v := .ref (Ad 10)) rfl rfl dX3_books_111 ?_
            refine lv_iload hx hb dX3_books_114 (lv_at hl 6 rfl) ?_
            refine lv_aload_n hx hb dX3_books_116 rfl (lv_at hl 0 rfl) ?_
            refine m_get C hB 18 (by decide) q1412 (v := .ref (Ad 18)) rfl rfl dX3_books_117 ?_
            refine lv_iload hx hb dX3_books_120 (lv_at hl 6 rfl) ?_
            refine m_ald C hB 18 7 rfl (v := rf k) k rfl (by omega) rfl dX3_books_122 ?_
            refine m_ast C hB 10 7 rfl (f := x10) k rfl (by omega) rfl dX3_books_123 (fun H locs hB => ?_)
            refine lv_aload_n hx hb dX3_books_124 rfl (lv_at hl 0 rfl) ?_
            refine m_get C hB 11 (by decide) q1405 (v := .ref (Ad 11)) rfl rfl dX3_books_125 ?_
            refine lv_iload hx hb dX3_books_128 (lv_at hl 6 rfl) ?_
            refine lv_aload_n hx hb dX3_books_130 rfl (lv_at hl 0 rfl) ?_
            refine m_get C hB 19 (by decide) q1413 (v := .ref (Ad 19)) rfl rfl dX3_books_131 ?_
            refine lv_iload hx hb dX3_books_134 (lv_at hl 6 rfl) ?_
            refine m_ald C hB 19 14 rfl (v := rgg k) k rfl (by omega) rfl dX3_books_136 ?_
            refine m_ast C hB 11 7 rfl (f := x11) k rfl (by omega) rfl dX3_books_137 (fun H locs hB => ?_)
            refine lv_aload_n hx hb dX3_books_138 rfl (lv_at hl 0 rfl) ?_
            refine m_get C hB 12 (by decide) q1406 (v := .ref (Ad 12)) rfl rfl dX3_books_139 ?_
            refine lv_iload hx hb dX3_books_142 (lv_at hl 6 rfl) ?_
            refine lv_aload_n hx hb dX3_books_144 rfl (lv_at hl 0 rfl) ?_
            refine m_get C hB 20 (by decide) q1414 (v := .ref (Ad 20)) rfl rfl dX3_books_145 ?_
            refine lv_iload hx hb dX3_books_148 (lv_at hl 6 rfl) ?_
            refine m_ald C hB 20 14 rfl (v := rh k) k rfl (by omega) rfl dX3_books_150 ?_
            refine m_ast C hB 12 7 rfl (f := x12) k rfl (by omega) rfl dX3_books_151 (fun H locs hB => ?_)
            refine lv_aload_n hx hb dX3_books_152 rfl (lv_at hl 0 rfl) ?_
            refine m_get C hB 13 (by decide) q1407 (v := .ref (Ad 13)) rfl rfl dX3_books_153 ?_
            refine lv_iload hx hb dX3_books_156 (lv_at hl 6 rfl) ?_
            refine lv_aload_n hx hb dX3_books_158 rfl (lv_at hl 0 rfl) ?_
            refine m_get C hB 19 (by decide) q1413 (v := .ref (Ad 19)) rfl rfl dX3_books_159 ?_
            refine lv_bipush (v := iI 7) hx hb dX3_books_162 rfl ?_
            refine lv_iload hx hb dX3_books_164 (lv_at hl 6 rfl) ?_
            refine x_iadd (z := (k : Int) + 7) hx hb dX3_books_166 (by omega) ?_
            refine m_ald C hB 19 14 rfl (v := rgg (k + 7)) (k + 7) (by omega) (by omega) rfl dX3_books_167 ?_
            refine m_ast C hB 13 7 rfl (f := x13) k rfl (by omega) rfl dX3_books_168 (fun H locs hB => ?_)
            refine lv_aload_n hx hb dX3_books_169 rfl (lv_at hl 0 rfl) ?_
            refine m_get C hB 14 (by decide) q1408 (v := .ref (Ad 14)) rfl rfl dX3_books_170 ?_
            refine lv_iload hx hb dX3_books_173 (lv_at hl 6 rfl) ?_
            refine lv_aload_n hx hb dX3_books_175 rfl (lv_at hl 0 rfl) ?_
            refine m_get C hB 20 (by decide) q1414 (v := .ref (Ad 20)) rfl rfl dX3_books_176 ?_
            refine lv_bipush (v := iI 7) hx hb dX3_books_179 rfl ?_
            refine lv_iload hx hb dX3_books_181 (lv_at hl 6 rfl) ?_
            refine x_iadd (z := (k : Int) + 7) hx hb dX3_books_183 (by omega) ?_
            refine m_ald C hB 20 14 rfl (v := rh (k + 7)) (k + 7) (by omega) (by omega) rfl dX3_books_184 ?_
            refine m_ast C hB 14 7 rfl (f := x14) k rfl (by omega) rfl dX3_books_185 (fun H locs hB => ?_)
            replace hB : mB E (xA w sz) s o Ad (va_up (va_up (rdI (va_up (va_up I 0 0) 15 (60 * (kk : Int) + (ki : Int))) ra rb rc) 5 ((rb : Int))) 6 ((rc : Int))) (va_up (va_up (va_up (va_up (va_up (rdF F rf rgg rh) 10 (va_up x10 k (rf k))) 11 (va_up x11 k (rgg k))) 12 (va_up x12 k (rh k))) 13 (va_up x13 k (rgg (k + 7)))) 14 (va_up x14 k (rh (k + 7)))) H locs := by
              refine Eq.mp (congrArg (fun G => mB E (xA w sz) s o Ad _ G H locs) ?_) hB
              rw [va_up_comm _ _ _ (show 14 ≠ 10 by decide), va_up_comm _ _ _ (show 13 ≠ 10 by decide), va_up_comm _ _ _ (show 12 ≠ 10 by decide), va_up_comm _ _ _ (show 11 ≠ 10 by decide), bx_uu, va_up_comm _ _ _ (show 14 ≠ 11 by decide), va_up_comm _ _ _ (show 13 ≠ 11 by decide), va_up_comm _ _ _ (show 12 ≠ 11 by decide), bx_uu, va_up_comm _ _ _ (show 14 ≠ 12 by decide), va_up_comm _ _ _ (show 13 ≠ 12 by decide), bx_uu, va_up_comm _ _ _ (show 14 ≠ 13 by decide), bx_uu, bx_uu]
            refine lv_iinc (v := iI ((k : Int) + 1)) (lv' := [(7, .int (iI ((k : Int) + 1))), (0, .ref o), (1, .int (iI ((kk : Int)))), (2, .int (iI so)), (3, .int (iI ((ki : Int)))), (4, .int (iI ((kn : Int)))), (6, .int (iI (60 * (kk : Int) + (ki : Int))))]) hx hb dX3_books_186 hl (k := 6) rfl (iI_add _ _) (by decide) rfl (fun ls hl => ?_)
            refine lv_goto (tgt := 103) hx hb dX3_books_189 (by decide) ?_
            exact ih23 _ _ _ _ (by omega) ⟨k + 1, _, _, _, _, _, rfl, by omega, fun j h => by
                  by_cases e : j = k
                  · subst e
                    exact ⟨va_up_s _ _ _, va_up_s _ _ _, va_up_s _ _ _, va_up_s _ _ _, va_up_s _ _ _⟩
                  · rw [va_up_n _ _ e, va_up_n _ _ e, va_up_n _ _ e, va_up_n _ _ e, va_up_n _ _ e]
                    exact hcp j (by omega), hB, lv_sub hl [1, 2, 3, 4, 5, 6, 0] rfl⟩
        · refine x_if_ne (tgt := 84) hx hb dX3_books_70 (by decide) ⟨by decide, by decide⟩ (fun c28 => by exfalso; omega) (fun c28 => ?_)
          refine lv_bipush (v := iI (-100)) hx hb dX3_books_73 rfl ?_
          refine lv_aload_n hx hb dX3_books_75 rfl (lv_at hl 2 rfl) ?_
          refine m_get C hB 15 (by decide) q1409 (v := .int (iI ((ra : Int)))) rfl rfl dX3_books_76 ?_
          refine lv_iload hx hb dX3_books_79 (lv_at hl 0 rfl) ?_
          refine x_isub (z := (ra : Int) - 60 * (kk : Int) - (ki : Int)) hx hb dX3_books_81 (by omega) ?_
          refine x_isub (z := -(ra : Int) + 60 * (kk : Int) + (ki : Int) - 100) hx hb dX3_books_82 (by omega) ?_
          exact m_iret C hB hr hlocks rfl dX3_books_83 ⟨by omega, by omega⟩ (by
                      have hr : rBooks F (kk : Int) so (ki : Int) (kn : Int) = rText (fun p => ce F (60 * kk + ki + kn) (60 * kk + ki + p)) kn := by unfold rBooks; simp only [Int.toNat_natCast]; rw [if_neg (by omega), if_neg (by omega), if_neg (by omega)]
                      replace hT : rText (fun p => ce F (60 * kk + ki + kn) (60 * kk + ki + p)) kn = -100 - ((ra : Int) - ((60 * kk + ki : Nat) : Int)) := hT
                      have hng : ¬ 0 ≤ rBooks F (kk : Int) so (ki : Int) (kn : Int) := by rw [hr, hT]; omega
                      exact ⟨by rw [hr, hT]; omega, by unfold nBooksI nBooksF; rw [if_neg hng, if_neg hng, if_neg (by omega), Int.toNat_natCast, hz0]; exact ⟨rfl, rfl, rfl, rfl, rfl, rfl, rfl, rfl, fun _ _ => ⟨rfl, rfl, rfl⟩, fun _ _ => ⟨rfl, rfl⟩, fun _ _ => ⟨rfl, rfl⟩, fun _ _ => ⟨rfl, rfl⟩, fun _ _ => rfl⟩⟩)
      · refine lv_aload_n hx hb dX3_books_40 rfl (lv_at hl 1 rfl) ?_
        refine lv_iload hx hb dX3_books_41 (lv_at hl 0 rfl) ?_
        refine m_calli (n := 1) C hB (As := [.int (iI z11)]) (kX3_fails l E o Ad (va_up I 0 0) F z11 (by omega)) (lw_V q1508 q1510 qs41 q77 q1511) (by decide +kernel) ⟨Nat.le_of_ble_eq_true rfl, Nat.le_of_ble_eq_true rfl⟩ rfl hl.1 rfl (Nat.le_of_ble_eq_true rfl) dX3_books_43 ⟨Nat.zero_le _, Nat.zero_le _⟩ (fun z29 I30 F31 H locs hz32 hp33 hB => ?_)
        obtain ⟨hz32a, hz32b⟩ := hz32
        obtain ⟨rfl, rfl, rfl⟩ := hp33
        exact m_iret C hB hr hlocks rfl dX3_books_46 ⟨by omega, by omega⟩ (by
                  have hr : rBooks F (kk : Int) so i n = -z11 - 10 := by unfold rBooks; rw [if_neg (by omega), if_neg (by omega), Int.toNat_natCast, if_pos (by omega)]; omega
                  have hng : ¬ 0 ≤ rBooks F (kk : Int) so i n := by omega
                  exact ⟨by omega, by unfold nBooksI nBooksF; rw [if_neg hng, if_neg hng, if_neg (by omega), Int.toNat_natCast, ← hag]; exact ⟨by simp [fI, va_up], rfl, rfl, rfl, rfl, rfl, rfl, rfl, fun _ _ => ⟨rfl, rfl, rfl⟩, fun _ _ => ⟨rfl, rfl⟩, fun _ _ => ⟨rfl, rfl⟩, fun _ _ => ⟨rfl, rfl⟩, fun _ _ => rfl⟩⟩)
    · refine x_if_ne (tgt := 24) hx hb dX3_books_18 (by decide) ⟨by decide, by decide⟩ (fun c34 => by exfalso; omega) (fun c34 => ?_)
      refine lv_bipush (v := iI (-2)) hx hb dX3_books_21 rfl ?_
      exact m_iret C hB hr hlocks rfl dX3_books_23 ⟨by decide, by decide⟩ (by
              have hr : rBooks F k so i n = -2 := by unfold rBooks; rw [if_neg (by omega), if_pos (by omega)]
              have hng : ¬ 0 ≤ rBooks F k so i n := by omega
              exact ⟨by omega, by unfold nBooksI nBooksF; rw [if_neg hng, if_neg hng, if_pos (by omega)]; exact ⟨by simp [fI, va_up], rfl, rfl, rfl, rfl, rfl, rfl, rfl, fun _ _ => ⟨rfl, rfl, rfl⟩, fun _ _ => ⟨rfl, rfl⟩, fun _ _ => ⟨rfl, rfl⟩, fun _ _ => ⟨rfl, rfl⟩, fun _ _ => rfl⟩⟩)
  · refine x_if_ne (tgt := 14) hx hb dX3_books_9 (by decide) ⟨by decide, by decide⟩ (fun c35 => by exfalso; omega) (fun c35 => ?_)
    refine lv_iconst (v := iI (-1)) hx hb dX3_books_12 rfl ?_
    exact m_iret C hB hr hlocks rfl dX3_books_13 ⟨by decide, by decide⟩ (by
          have hr : rBooks F k so i n = -1 := by unfold rBooks; rw [if_pos (by omega)]
          have hng : ¬ 0 ≤ rBooks F k so i n := by omega
          exact ⟨by omega, by unfold nBooksI nBooksF; rw [if_neg hng, if_neg hng, if_pos (by omega)]; exact ⟨by simp [fI, va_up], rfl, rfl, rfl, rfl, rfl, rfl, rfl, fun _ _ => ⟨rfl, rfl, rfl⟩, fun _ _ => ⟨rfl, rfl⟩, fun _ _ => ⟨rfl, rfl⟩, fun _ _ => ⟨rfl, rfl⟩, fun _ _ => rfl⟩⟩)
