/-! THE MODEL, 11: move -/
set_option maxHeartbeats 400000 in
set_option maxRecDepth 100000 in
theorem kX3_goesUp (l : Launch) (E : xE) (o : Nat) (Ad : Nat → Nat) (I : Nat → Int) (F : Nat → Nat → Int) (k : Nat) (hk : 1 ≤ k ∧ k < 7) : mv_ l E yX3_goesUp cX3_goesUp 4 none 0 0 [.ref o, .int (iI ((k : Int)))] o Ad I F (fun I' F' => I = I' ∧ mvF F (swp (F 13) k) (swp (F 14) k) = F') := by
  intro w sz hM
  refine x_body (by decide) (Nat.le_of_ble_eq_true rfl) ?_
  intro p e s m args below meth c ls hx hb C hr hlocks _ hsz hB hl
  have C : xC E p s m args c cX3_goesUp 4 RX3 := C
  replace hB : mB E (xA w sz) s o Ad I F s.heap [] := ⟨w, hM, hB⟩
  have hl : lv_has ls 4 [(0, .ref o), (1, .int (iI ((k : Int))))] := hl
  rw [← mvF_id F] at hB
  refine lv_aload_n hx hb dX3_goesUp_0 rfl (lv_at hl 0 rfl) ?_
  refine m_get C hB 13 (by decide) q1407 (v := .ref (Ad 13)) rfl rfl dX3_goesUp_1 ?_
  refine lv_iload_n hx hb dX3_goesUp_4 rfl (lv_at hl 1 rfl) ?_
  refine m_ald C hB 13 7 rfl (v := (F 13) k) k rfl (by omega) rfl dX3_goesUp_5 ?_
  refine lv_istore_n (lv' := [(2, .int (iI ((F 13) k))), (0, .ref o), (1, .int (iI ((k : Int))))]) hx hb dX3_goesUp_6 rfl hl (by decide) rfl (fun ls hl => ?_)
  refine lv_aload_n hx hb dX3_goesUp_7 rfl (lv_at hl 1 rfl) ?_
  refine m_get C hB 14 (by decide) q1408 (v := .ref (Ad 14)) rfl rfl dX3_goesUp_8 ?_
  refine lv_iload_n hx hb dX3_goesUp_11 rfl (lv_at hl 2 rfl) ?_
  refine m_ald C hB 14 7 rfl (v := (F 14) k) k rfl (by omega) rfl dX3_goesUp_12 ?_
  refine lv_istore_n (lv' := [(3, .int (iI ((F 14) k))), (2, .int (iI ((F 13) k))), (0, .ref o), (1, .int (iI ((k : Int))))]) hx hb dX3_goesUp_13 rfl hl (by decide) rfl (fun ls hl => ?_)
  refine lv_aload_n hx hb dX3_goesUp_14 rfl (lv_at hl 2 rfl) ?_
  refine m_get C hB 13 (by decide) q1407 (v := .ref (Ad 13)) rfl rfl dX3_goesUp_15 ?_
  refine lv_iload_n hx hb dX3_goesUp_18 rfl (lv_at hl 3 rfl) ?_
  refine lv_aload_n hx hb dX3_goesUp_19 rfl (lv_at hl 2 rfl) ?_
  refine m_get C hB 13 (by decide) q1407 (v := .ref (Ad 13)) rfl rfl dX3_goesUp_20 ?_
  refine lv_iload_n hx hb dX3_goesUp_23 rfl (lv_at hl 3 rfl) ?_
  refine lv_iconst (v := iI 1) hx hb dX3_goesUp_24 rfl ?_
  refine x_isub (z := (k : Int) - 1) hx hb dX3_goesUp_25 (by omega) ?_
  refine m_ald C hB 13 7 rfl (v := (F 13) (k - 1)) (k - 1) (by omega) (by omega) rfl dX3_goesUp_26 ?_
  refine m_ast C hB 13 7 rfl (f := (F 13)) k rfl (by omega) rfl dX3_goesUp_27 (fun H locs hB => ?_)
  rw [mvF_13] at hB
  refine lv_aload_n hx hb dX3_goesUp_28 rfl (lv_at hl 2 rfl) ?_
  refine m_get C hB 14 (by decide) q1408 (v := .ref (Ad 14)) rfl rfl dX3_goesUp_29 ?_
  refine lv_iload_n hx hb dX3_goesUp_32 rfl (lv_at hl 3 rfl) ?_
  refine lv_aload_n hx hb dX3_goesUp_33 rfl (lv_at hl 2 rfl) ?_
  refine m_get C hB 14 (by decide) q1408 (v := .ref (Ad 14)) rfl rfl dX3_goesUp_34 ?_
  refine lv_iload_n hx hb dX3_goesUp_37 rfl (lv_at hl 3 rfl) ?_
  refine lv_iconst (v := iI 1) hx hb dX3_goesUp_38 rfl ?_
  refine x_isub (z := (k : Int) - 1) hx hb dX3_goesUp_39 (by omega) ?_
  refine m_ald C hB 14 7 rfl (v := (F 14) (k - 1)) (k - 1) (by omega) (by omega) rfl dX3_goesUp_40 ?_
  refine m_ast C hB 14 7 rfl (f := (F 14)) k rfl (by omega) rfl dX3_goesUp_41 (fun H locs hB => ?_)
  rw [mvF_14] at hB
  refine lv_aload_n hx hb dX3_goesUp_42 rfl (lv_at hl 2 rfl) ?_
  refine m_get C hB 13 (by decide) q1407 (v := .ref (Ad 13)) rfl rfl dX3_goesUp_43 ?_
  refine lv_iload_n hx hb dX3_goesUp_46 rfl (lv_at hl 3 rfl) ?_
  refine lv_iconst (v := iI 1) hx hb dX3_goesUp_47 rfl ?_
  refine x_isub (z := (k : Int) - 1) hx hb dX3_goesUp_48 (by omega) ?_
  refine lv_iload_n hx hb dX3_goesUp_49 rfl (lv_at hl 1 rfl) ?_
  refine m_ast C hB 13 7 rfl (f := ((va_up ((F 13)) k ((F 13) (k - 1))))) (k - 1) (by omega) (by omega) rfl dX3_goesUp_50 (fun H locs hB => ?_)
  rw [mvF_13] at hB
  refine lv_aload_n hx hb dX3_goesUp_51 rfl (lv_at hl 2 rfl) ?_
  refine m_get C hB 14 (by decide) q1408 (v := .ref (Ad 14)) rfl rfl dX3_goesUp_52 ?_
  refine lv_iload_n hx hb dX3_goesUp_55 rfl (lv_at hl 3 rfl) ?_
  refine lv_iconst (v := iI 1) hx hb dX3_goesUp_56 rfl ?_
  refine x_isub (z := (k : Int) - 1) hx hb dX3_goesUp_57 (by omega) ?_
  refine lv_iload_n hx hb dX3_goesUp_58 rfl (lv_at hl 0 rfl) ?_
  refine m_ast C hB 14 7 rfl (f := ((va_up ((F 14)) k ((F 14) (k - 1))))) (k - 1) (by omega) (by omega) rfl dX3_goesUp_59 (fun H locs hB => ?_)
  rw [mvF_14] at hB
  exact m_vret C hB hr hlocks dX3_goesUp_60 ⟨rfl, by rw [← swp_up (F 13) (by omega), ← swp_up (F 14) (by omega)]⟩
set_option maxHeartbeats 400000 in
set_option maxRecDepth 100000 in
theorem kX3_move (l : Launch) (E : xE) (o : Nat) (Ad : Nat → Nat) (I : Nat → Int) (F : Nat → Nat → Int) (b : Int) (n : Int) (t : Int) (hbb : rg b) (hnr : rg n) (ht : rg t) (hOK : mOK I F) : mi_ l E yX3_move cX3_move 6 (some .int) 1 23 [.ref o, .int (iI b), .int (iI n), .int (iI t)] o Ad I F (fun z I' F' => z = rMove I b n t ∧ mAg I (nMove I F b n t) I' F') := by
  intro w sz hM
  refine x_body (by decide) (Nat.le_of_ble_eq_true rfl) ?_
  intro p e s m args below meth c ls hx hb C hr hlocks _ hsz hB hl
  have C : xC E p s m args c cX3_move 6 RX3 := C
  replace hB : mB E (xA w sz) s o Ad I F s.heap [] := ⟨w, hM, hB⟩
  have hl : lv_has ls 6 [(0, .ref o), (1, .int (iI b)), (2, .int (iI n)), (3, .int (iI t))] := hl
  obtain ⟨hbb1, hbb2⟩ := hbb
  obtain ⟨hnr1, hnr2⟩ := hnr
  obtain ⟨ht1, ht2⟩ := ht
  have hOK0 := hOK
  obtain ⟨⟨hf1, hf2⟩, ⟨hl1, hl2⟩, ⟨hr1, hr2⟩, hlr, ⟨hs1, hs2⟩, ⟨hj1, hj2⟩, ⟨hb1, hb2⟩, ⟨hn1, hn2⟩, hL, hR, hN, hS, hC⟩ := hOK
  refine lv_iload_n hx hb dX3_move_0 rfl (lv_at hl 2 rfl) ?_
  refine lv_iconst (v := iI 1) hx hb dX3_move_1 rfl ?_
  refine x_icmp_ge (tgt := 8) hx hb dX3_move_2 (by decide) ⟨by omega, by omega⟩ ⟨by decide, by decide⟩ (fun c1 => ?_) (fun c1 => ?_)
  · refine lv_iload_n hx hb dX3_move_8 rfl (lv_at hl 1 rfl) ?_
    refine x_if_lt (tgt := 30) hx hb dX3_move_9 (by decide) ⟨by omega, by omega⟩ (fun c2 => ?_) (fun c2 => ?_)
    · refine lv_iconst (v := iI (-1)) hx hb dX3_move_30 rfl ?_
      exact m_iret C hB hr hlocks rfl dX3_move_31 ⟨by decide, by decide⟩ (by
              have hr : rMove I b n t = -1 := by { unfold rMove; (repeat' split) <;> omega }
              exact ⟨hr.symm, by unfold nMove; rw [hr, if_neg (show ¬ (0 : Int) ≤ -1 by decide)]; exact mAg_rfl I F⟩)
    · refine lv_iload_n hx hb dX3_move_12 rfl (lv_at hl 1 rfl) ?_
      refine lv_aload_n hx hb dX3_move_13 rfl (lv_at hl 0 rfl) ?_
      refine m_get C hB 6 (by decide) q1400 (v := .int (iI (I 6))) rfl rfl dX3_move_14 ?_
      refine x_icmp_ge (tgt := 30) hx hb dX3_move_17 (by decide) ⟨by omega, by omega⟩ ⟨by omega, by omega⟩ (fun c3 => ?_) (fun c3 => ?_)
      · refine lv_iconst (v := iI (-1)) hx hb dX3_move_30 rfl ?_
        exact m_iret C hB hr hlocks rfl dX3_move_31 ⟨by decide, by decide⟩ (by
                  have hr : rMove I b n t = -1 := by { unfold rMove; (repeat' split) <;> omega }
                  exact ⟨hr.symm, by unfold nMove; rw [hr, if_neg (show ¬ (0 : Int) ≤ -1 by decide)]; exact mAg_rfl I F⟩)
      · refine lv_iload_n hx hb dX3_move_20 rfl (lv_at hl 2 rfl) ?_
        refine lv_aload_n hx hb dX3_move_21 rfl (lv_at hl 0 rfl) ?_
        refine m_get C hB 6 (by decide) q1400 (v := .int (iI (I 6))) rfl rfl dX3_move_22 ?_
        refine lv_iload_n hx hb dX3_move_25 rfl (lv_at hl 1 rfl) ?_
        refine x_isub (z := I 6 - b) hx hb dX3_move_26 (by omega) ?_
        refine x_icmp_le (tgt := 32) hx hb dX3_move_27 (by decide) ⟨by omega, by omega⟩ ⟨by omega, by omega⟩ (fun c4 => ?_) (fun c4 => ?_)
        · refine lv_iload_n hx hb dX3_move_32 rfl (lv_at hl 3 rfl) ?_
          refine lv_iconst (v := iI 0) hx hb dX3_move_33 rfl ?_
          refine lv_aload_n hx hb dX3_move_34 rfl (lv_at hl 0 rfl) ?_
          refine m_get C hB 6 (by decide) q1400 (v := .int (iI (I 6))) rfl rfl dX3_move_35 ?_
          refine lv_iload_n hx hb dX3_move_38 rfl (lv_at hl 2 rfl) ?_
          refine x_isub (z := I 6 - n) hx hb dX3_move_39 (by omega) ?_
          obtain ⟨wq, hMq, hB⟩ := hB
          refine s_calli (n := 3) C hB (As := [.int (iI t), .int (iI 0), .int (iI (I 6 - n))]) (kX3_within l E t 0 (I 6 - n) ⟨by omega, by omega⟩ ⟨by omega, by omega⟩ ⟨by omega, by omega⟩) (lw_S q1498 q1499 q77 q1500) (by decide +kernel) ⟨Nat.le_of_ble_eq_true rfl, Nat.le_of_ble_eq_true rfl⟩ rfl hl.1 rfl (Nat.le_of_ble_eq_true rfl) dX3_move_40 ⟨Nat.zero_le _, Nat.zero_le _⟩ (fun z5 H locs hz6 hp7 hB => ?_)
          replace hB : mB E _ s o Ad I F H locs := ⟨wq, hMq, hB⟩
          obtain ⟨hz6a, hz6b⟩ := hz6
          rcases hp7 with ⟨rfl, h8⟩ | ⟨rfl, h8⟩
          · refine x_if_ne (tgt := 49) hx hb dX3_move_43 (by decide) ⟨by decide, by decide⟩ (fun c9 => ?_) (fun c9 => by exfalso; omega)
            obtain ⟨kb, rfl⟩ : ∃ kb : Nat, b = (kb : Int) := ⟨b.toNat, by omega⟩
            obtain ⟨kn, rfl⟩ : ∃ kn : Nat, n = (kn : Int) := ⟨n.toNat, by omega⟩
            obtain ⟨kt, rfl⟩ : ∃ kt : Nat, t = (kt : Int) := ⟨t.toNat, by omega⟩
            rw [← mvF_id F] at hB
            have hB : mB E (xA w sz) s o Ad I (mvF F (mov (F 13) kb kn kb) (mov (F 14) kb kn kb)) H locs := by rw [mov_id, mov_id]; exact hB
            refine lv_iload_n hx hb dX3_move_49 rfl (lv_at hl 1 rfl) ?_
            refine lv_istore (lv' := [(4, .int (iI ((kb : Int)))), (0, .ref o), (1, .int (iI ((kb : Int)))), (2, .int (iI ((kn : Int)))), (3, .int (iI ((kt : Int))))]) hx hb dX3_move_50 hl (by decide) rfl (fun ls hl => ?_)
            refine w_loop (fun n13 H locs ls => ∃ (y : Nat), n13 = y ∧ (y ≤ kb ∧ (kt ≤ y ∨ y = kb)) ∧ mB E (xA w sz) s o Ad I (mvF F (mov (F 13) kb kn y) (mov (F 14) kb kn y)) H locs ∧ lv_has ls 6 [(0, .ref o), (1, .int (iI ((kb : Int)))), (2, .int (iI ((kn : Int)))), (3, .int (iI ((kt : Int)))), (4, .int (iI ((y : Int))))]) _ ⟨kb, rfl, by omega, hB, lv_sub hl [1, 2, 3, 4, 0] rfl⟩ ?_
            intro n13 H locs ls hI12 ih10
            obtain ⟨y, hn11, hy, hB, hl⟩ := hI12
            refine lv_iload hx hb dX3_move_52 (lv_at hl 4 rfl) ?_
            refine lv_iload_n hx hb dX3_move_54 rfl (lv_at hl 3 rfl) ?_
            refine x_icmp_le (tgt := 88) hx hb dX3_move_55 (by decide) ⟨by omega, by omega⟩ ⟨by omega, by omega⟩ (fun c14 => ?_) (fun c14 => ?_)
            · rcases Nat.lt_or_ge kb kt with hlt | hle
              · have hyk : y = kb := by omega
                rw [hyk] at hB
                refine lv_iload_n hx hb dX3_move_88 rfl (lv_at hl 1 rfl) ?_
                refine lv_istore (lv' := [(4, .int (iI ((kb : Int)))), (0, .ref o), (1, .int (iI ((kb : Int)))), (2, .int (iI ((kn : Int)))), (3, .int (iI ((kt : Int))))]) hx hb dX3_move_89 hl (by decide) rfl (fun ls hl => ?_)
                refine w_loop (fun n18 H locs ls => ∃ (y2 : Nat), n18 = kt - y2 ∧ (kb ≤ y2 ∧ y2 ≤ kt) ∧ mB E (xA w sz) s o Ad I (mvF F (mov (F 13) kb kn y2) (mov (F 14) kb kn y2)) H locs ∧ lv_has ls 6 [(0, .ref o), (1, .int (iI ((kb : Int)))), (2, .int (iI ((kn : Int)))), (3, .int (iI ((kt : Int)))), (4, .int (iI ((y2 : Int))))]) _ ⟨kb, rfl, by omega, hB, lv_sub hl [1, 2, 3, 4, 0] rfl⟩ ?_
                intro n18 H locs ls hI17 ih15
                obtain ⟨y2, hn16, hy2, hB, hl⟩ := hI17
                refine lv_iload hx hb dX3_move_91 (lv_at hl 4 rfl) ?_
                refine lv_iload_n hx hb dX3_move_93 rfl (lv_at hl 3 rfl) ?_
                refine x_icmp_ge (tgt := 126) hx hb dX3_move_94 (by decide) ⟨by omega, by omega⟩ ⟨by omega, by omega⟩ (fun c19 => ?_) (fun c19 => ?_)
                · refine lv_iload_n hx hb dX3_move_126 rfl (lv_at hl 2 rfl) ?_
                  exact m_iret C hB hr hlocks rfl dX3_move_127 ⟨by omega, by omega⟩ (by
                                      have hr : rMove I kb kn kt = (kn : Int) := by { unfold rMove; (repeat' split) <;> omega }
                                      rw [show y2 = kt by omega]
                                      exact ⟨hr.symm, by unfold nMove; rw [hr, if_pos (show (0 : Int) ≤ (kn : Int) by omega)]; simp only [Int.toNat_natCast]; exact mAg_rfl I _⟩)
                · refine lv_iload_n hx hb dX3_move_97 rfl (lv_at hl 2 rfl) ?_
                  refine lv_istore (lv' := [(5, .int (iI ((kn : Int)))), (0, .ref o), (1, .int (iI ((kb : Int)))), (2, .int (iI ((kn : Int)))), (3, .int (iI ((kt : Int)))), (4, .int (iI ((y2 : Int))))]) hx hb dX3_move_98 hl (by decide) rfl (fun ls hl => ?_)
                  have hB : mB E (xA w sz) s o Ad I (mvF F (dnk (mov (F 13) kb kn y2) y2 kn (kn - kn)) (dnk (mov (F 14) kb kn y2) y2 kn (kn - kn))) H locs := by rw [Nat.sub_self, dnk_0, dnk_0]; exact hB
                  refine w_loop (fun n23 H locs ls => ∃ (k2 : Nat), n23 = k2 ∧ (k2 ≤ kn) ∧ mB E (xA w sz) s o Ad I (mvF F (dnk (mov (F 13) kb kn y2) y2 kn (kn - k2)) (dnk (mov (F 14) kb kn y2) y2 kn (kn - k2))) H locs ∧ lv_has ls 6 [(0, .ref o), (1, .int (iI ((kb : Int)))), (2, .int (iI ((kn : Int)))), (3, .int (iI ((kt : Int)))), (4, .int (iI ((y2 : Int)))), (5, .int (iI ((k2 : Int))))]) _ ⟨kn, rfl, by omega, hB, lv_sub hl [1, 2, 3, 4, 5, 0] rfl⟩ ?_
                  intro n23 H locs ls hI22 ih20
                  obtain ⟨k2, hn21, hk2, hB, hl⟩ := hI22
                  refine lv_iload hx hb dX3_move_100 (lv_at hl 5 rfl) ?_
                  refine x_if_le (tgt := 120) hx hb dX3_move_102 (by decide) ⟨by omega, by omega⟩ (fun c24 => ?_) (fun c24 => ?_)
                  · rw [show kn - k2 = kn by omega, dnk_n _ (by omega) (by omega), dnk_n _ (by omega) (by omega)] at hB
                    refine lv_iinc (v := iI ((y2 : Int) + 1)) (lv' := [(4, .int (iI ((y2 : Int) + 1))), (0, .ref o), (1, .int (iI ((kb : Int)))), (2, .int (iI ((kn : Int)))), (3, .int (iI ((kt : Int)))), (5, .int (iI ((k2 : Int))))]) hx hb dX3_move_120 hl (k := 4) rfl (iI_add _ _) (by decide) rfl (fun ls hl => ?_)
                    refine lv_goto (tgt := 91) hx hb dX3_move_123 (by decide) ?_
                    exact ih15 _ _ _ _ (by omega) ⟨y2 + 1, rfl, by omega, hB, lv_sub hl [1, 2, 3, 4, 0] rfl⟩
                  · refine lv_aload_n hx hb dX3_move_105 rfl (lv_at hl 0 rfl) ?_
                    refine lv_iload hx hb dX3_move_106 (lv_at hl 4 rfl) ?_
                    refine lv_iload hx hb dX3_move_108 (lv_at hl 5 rfl) ?_
                    refine x_iadd (z := (y2 : Int) + (k2 : Int)) hx hb dX3_move_110 (by omega) ?_
                    refine m_callv (n := 1) C hB (As := [.int (iI ((y2 : Int) + (k2 : Int)))]) (kX3_goesUp l E o Ad I (mvF F (dnk (mov (F 13) kb kn y2) y2 kn (kn - k2)) (dnk (mov (F 14) kb kn y2) y2 kn (kn - k2))) (y2 + k2) (by omega)) (lw_V q1602 q1604 qs57 q77 q1605) (by decide +kernel) ⟨Nat.le_of_ble_eq_true rfl, Nat.le_of_ble_eq_true rfl⟩ rfl hl.1 rfl (Nat.le_of_ble_eq_true rfl) dX3_move_111 ⟨Nat.zero_le _, Nat.zero_le _⟩ (fun I26 F27 H locs hp29 hB => ?_)
                    obtain ⟨rfl, rfl⟩ := hp29
                    replace hB : mB E (xA w sz) s o Ad I (mvF F (swp (dnk (mov (F 13) kb kn y2) y2 kn (kn - k2)) ((y2 + k2))) (swp (dnk (mov (F 14) kb kn y2) y2 kn (kn - k2)) ((y2 + k2)))) H locs := by rw [← mvF_mvF F (dnk (mov (F 13) kb kn y2) y2 kn (kn - k2)) (dnk (mov (F 14) kb kn y2) y2 kn (kn - k2))]; exact hB
                    rw [show y2 + k2 = y2 + kn - (kn - k2) by omega, dnk_s _ (by omega), dnk_s _ (by omega), show kn - k2 + 1 = kn - (k2 - 1) by omega] at hB
                    refine lv_iinc (v := iI ((k2 : Int) + (-1))) (lv' := [(5, .int (iI ((k2 : Int) + (-1)))), (0, .ref o), (1, .int (iI ((kb : Int)))), (2, .int (iI ((kn : Int)))), (3, .int (iI ((kt : Int)))), (4, .int (iI ((y2 : Int))))]) hx hb dX3_move_114 hl (k := 5) rfl (iI_add _ _) (by decide) rfl (fun ls hl => ?_)
                    rw [show ((k2 : Int) + (-1) : Int) = (k2 : Int) - 1 by omega] at hl
                    rw [show (k2 : Int) - 1 = ((k2 - 1 : Nat) : Int) by omega] at hl
                    refine lv_goto (tgt := 100) hx hb dX3_move_117 (by decide) ?_
                    exact ih20 _ _ _ _ (by omega) ⟨k2 - 1, rfl, by omega, hB, lv_sub hl [1, 2, 3, 4, 5, 0] rfl⟩
              · have hyk : y = kt := by omega
                rw [hyk] at hB
                refine lv_iload_n hx hb dX3_move_88 rfl (lv_at hl 1 rfl) ?_
                refine lv_istore (lv' := [(4, .int (iI ((kb : Int)))), (0, .ref o), (1, .int (iI ((kb : Int)))), (2, .int (iI ((kn : Int)))), (3, .int (iI ((kt : Int))))]) hx hb dX3_move_89 hl (by decide) rfl (fun ls hl => ?_)
                refine lv_iload hx hb dX3_move_91 (lv_at hl 0 rfl) ?_
                refine lv_iload_n hx hb dX3_move_93 rfl (lv_at hl 4 rfl) ?_
                refine x_icmp_ge (tgt := 126) hx hb dX3_move_94 (by decide) ⟨by omega, by omega⟩ ⟨by omega, by omega⟩ (fun c30 => ?_) (fun c30 => by exfalso; omega)
                refine lv_iload_n hx hb dX3_move_126 rfl (lv_at hl 3 rfl) ?_
                exact m_iret C hB hr hlocks rfl dX3_move_127 ⟨by omega, by omega⟩ (by
                                  have hr : rMove I kb kn kt = (kn : Int) := by { unfold rMove; (repeat' split) <;> omega }
                                  exact ⟨hr.symm, by unfold nMove; rw [hr, if_pos (show (0 : Int) ≤ (kn : Int) by omega)]; simp only [Int.toNat_natCast]; exact mAg_rfl I _⟩)
            · refine lv_iconst (v := iI 0) hx hb dX3_move_58 rfl ?_
              refine lv_istore (lv' := [(5, .int (iI 0)), (0, .ref o), (1, .int (iI ((kb : Int)))), (2, .int (iI ((kn : Int)))), (3, .int (iI ((kt : Int)))), (4, .int (iI ((y : Int))))]) hx hb dX3_move_59 hl (by decide) rfl (fun ls hl => ?_)
              have hB : mB E (xA w sz) s o Ad I (mvF F (upk (mov (F 13) kb kn y) y 0) (upk (mov (F 14) kb kn y) y 0)) H locs := by rw [upk_0, upk_0]; exact hB
              refine w_loop (fun n34 H locs ls => ∃ (k : Nat), n34 = kn - k ∧ (k ≤ kn) ∧ mB E (xA w sz) s o Ad I (mvF F (upk (mov (F 13) kb kn y) y k) (upk (mov (F 14) kb kn y) y k)) H locs ∧ lv_has ls 6 [(0, .ref o), (1, .int (iI ((kb : Int)))), (2, .int (iI ((kn : Int)))), (3, .int (iI ((kt : Int)))), (4, .int (iI ((y : Int)))), (5, .int (iI ((k : Int))))]) _ ⟨0, rfl, by omega, hB, lv_sub hl [1, 2, 3, 4, 5, 0] rfl⟩ ?_
              intro n34 H locs ls hI33 ih31
              obtain ⟨k, hn32, hk, hB, hl⟩ := hI33
              refine lv_iload hx hb dX3_move_61 (lv_at hl 5 rfl) ?_
              refine lv_iload_n hx hb dX3_move_63 rfl (lv_at hl 2 rfl) ?_
              refine x_icmp_ge (tgt := 82) hx hb dX3_move_64 (by decide) ⟨by omega, by omega⟩ ⟨by omega, by omega⟩ (fun c35 => ?_) (fun c35 => ?_)
              · have hkn : k = kn := by omega
                rw [hkn, upk_n _ (by omega) (by omega) (by omega), upk_n _ (by omega) (by omega) (by omega)] at hB
                refine lv_iinc (v := iI ((y : Int) + (-1))) (lv' := [(4, .int (iI ((y : Int) + (-1)))), (0, .ref o), (1, .int (iI ((kb : Int)))), (2, .int (iI ((kn : Int)))), (3, .int (iI ((kt : Int)))), (5, .int (iI ((k : Int))))]) hx hb dX3_move_82 hl (k := 4) rfl (iI_add _ _) (by decide) rfl (fun ls hl => ?_)
                rw [show ((y : Int) + (-1) : Int) = (y : Int) - 1 by omega] at hl
                rw [show (y : Int) - 1 = ((y - 1 : Nat) : Int) by omega] at hl
                refine lv_goto (tgt := 52) hx hb dX3_move_85 (by decide) ?_
                exact ih10 _ _ _ _ (by omega) ⟨y - 1, rfl, by omega, hB, lv_sub hl [1, 2, 3, 4, 0] rfl⟩
              · refine lv_aload_n hx hb dX3_move_67 rfl (lv_at hl 0 rfl) ?_
                refine lv_iload hx hb dX3_move_68 (lv_at hl 4 rfl) ?_
                refine lv_iload hx hb dX3_move_70 (lv_at hl 5 rfl) ?_
                refine x_iadd (z := (y : Int) + (k : Int)) hx hb dX3_move_72 (by omega) ?_
                refine m_callv (n := 1) C hB (As := [.int (iI ((y : Int) + (k : Int)))]) (kX3_goesUp l E o Ad I (mvF F (upk (mov (F 13) kb kn y) y k) (upk (mov (F 14) kb kn y) y k)) (y + k) (by omega)) (lw_V q1602 q1604 qs57 q77 q1605) (by decide +kernel) ⟨Nat.le_of_ble_eq_true rfl, Nat.le_of_ble_eq_true rfl⟩ rfl hl.1 rfl (Nat.le_of_ble_eq_true rfl) dX3_move_73 ⟨Nat.zero_le _, Nat.zero_le _⟩ (fun I37 F38 H locs hp40 hB => ?_)
                obtain ⟨rfl, rfl⟩ := hp40
                replace hB : mB E (xA w sz) s o Ad I (mvF F (swp (upk (mov (F 13) kb kn y) y k) ((y + k))) (swp (upk (mov (F 14) kb kn y) y k) ((y + k)))) H locs := by rw [← mvF_mvF F (upk (mov (F 13) kb kn y) y k) (upk (mov (F 14) kb kn y) y k)]; exact hB
                rw [upk_s _ (by omega), upk_s _ (by omega)] at hB
                refine lv_iinc (v := iI ((k : Int) + 1)) (lv' := [(5, .int (iI ((k : Int) + 1))), (0, .ref o), (1, .int (iI ((kb : Int)))), (2, .int (iI ((kn : Int)))), (3, .int (iI ((kt : Int)))), (4, .int (iI ((y : Int))))]) hx hb dX3_move_76 hl (k := 5) rfl (iI_add _ _) (by decide) rfl (fun ls hl => ?_)
                refine lv_goto (tgt := 61) hx hb dX3_move_79 (by decide) ?_
                exact ih31 _ _ _ _ (by omega) ⟨k + 1, rfl, by omega, hB, lv_sub hl [1, 2, 3, 4, 5, 0] rfl⟩
          · refine x_if_ne (tgt := 49) hx hb dX3_move_43 (by decide) ⟨by decide, by decide⟩ (fun c41 => by exfalso; omega) (fun c41 => ?_)
            refine lv_bipush (v := iI (-2)) hx hb dX3_move_46 rfl ?_
            exact m_iret C hB hr hlocks rfl dX3_move_48 ⟨by decide, by decide⟩ (by
                          have hr : rMove I b n t = -2 := by { unfold rMove; (repeat' split) <;> omega }
                          exact ⟨hr.symm, by unfold nMove; rw [hr, if_neg (show ¬ (0 : Int) ≤ -2 by decide)]; exact mAg_rfl I F⟩)
        · refine lv_iconst (v := iI (-1)) hx hb dX3_move_30 rfl ?_
          exact m_iret C hB hr hlocks rfl dX3_move_31 ⟨by decide, by decide⟩ (by
                      have hr : rMove I b n t = -1 := by { unfold rMove; (repeat' split) <;> omega }
                      exact ⟨hr.symm, by unfold nMove; rw [hr, if_neg (show ¬ (0 : Int) ≤ -1 by decide)]; exact mAg_rfl I F⟩)
  · refine lv_bipush (v := iI (-2)) hx hb dX3_move_5 rfl ?_
    exact m_iret C hB hr hlocks rfl dX3_move_7 ⟨by decide, by decide⟩ (by
          have hr : rMove I b n t = -2 := by { unfold rMove; (repeat' split) <;> omega }
          exact ⟨hr.symm, by unfold nMove; rw [hr, if_neg (show ¬ (0 : Int) ≤ -2 by decide)]; exact mAg_rfl I F⟩)
