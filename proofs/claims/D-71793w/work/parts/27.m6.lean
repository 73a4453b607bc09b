/-! THE MODEL, 6 -/
set_option maxHeartbeats 400000 in
set_option maxRecDepth 100000 in
theorem kX3_pairedWith0 (l : Launch) (E : xE) (o : Nat) (Ad : Nat → Nat) (I : Nat → Int) (F : Nat → Nat → Int) (kk : Nat) (P : List (Nat × Nat × Nat)) (hkk : kk < 7) (hP : I 24 = (P.length : Int)) (hPl : P.length ≤ 14) (hli : plis P (F 25) (F 26) (F 27)) (hPin : ∀ q ∈ P, q.1 ≤ 4 ∧ q.2.1 ≤ 7 ∧ q.2.2 ≤ 7) : mi_ l E yX3_pairedWith cX3_pairedWith 9 (some .int) 1 20 [.ref o, .int (iI 0), .int (iI ((kk : Int)))] o Ad I F (fun z I' F' => I = I' ∧ F = F' ∧ z = pwL kk P 0) := by
  intro w sz hM
  refine x_body (by decide) (Nat.le_of_ble_eq_true rfl) ?_
  intro p e s m args below meth c ls hx hb C hr hlocks _ hsz hB hl
  have C : xC E p s m args c cX3_pairedWith 9 RX3 := C
  replace hB : mB E (xA w sz) s o Ad I F s.heap [] := ⟨w, hM, hB⟩
  have hl : lv_has ls 9 [(0, .ref o), (1, .int (iI 0)), (2, .int (iI ((kk : Int))))] := hl
  refine lv_iconst (v := iI 0) hx hb dX3_pairedWith_0 rfl ?_
  refine lv_istore_n (lv' := [(3, .int (iI 0)), (0, .ref o), (1, .int (iI 0)), (2, .int (iI ((kk : Int))))]) hx hb dX3_pairedWith_1 rfl hl (by decide) rfl (fun ls hl => ?_)
  refine lv_iconst (v := iI 0) hx hb dX3_pairedWith_2 rfl ?_
  refine lv_istore (lv' := [(4, .int (iI 0)), (3, .int (iI 0)), (0, .ref o), (1, .int (iI 0)), (2, .int (iI ((kk : Int))))]) hx hb dX3_pairedWith_3 hl (by decide) rfl (fun ls hl => ?_)
  refine w_loop (fun n4 H locs ls => ∃ (k : Nat) (v : Int), n4 = P.length - k ∧ (k ≤ P.length) ∧ (-2147483648 ≤ v) ∧ (v ≤ 2147483647) ∧ (pwL kk P 0 = pwL kk (P.drop k) v) ∧ mB E (xA w sz) s o Ad I F H locs ∧ lv_has ls 9 [(0, .ref o), (1, .int (iI 0)), (2, .int (iI ((kk : Int)))), (3, .int (iI v)), (4, .int (iI ((k : Int))))]) _ ⟨0, 0, rfl, Nat.zero_le _, by omega, by omega, rfl, hB, lv_sub hl [2, 3, 4, 1, 0] rfl⟩ ?_
  intro n4 H locs ls hI3 ih1
  obtain ⟨k, v, hn2, hk, hv1, hv2, hvv, hB, hl⟩ := hI3
  refine lv_iload hx hb dX3_pairedWith_5 (lv_at hl 4 rfl) ?_
  refine lv_aload_n hx hb dX3_pairedWith_7 rfl (lv_at hl 0 rfl) ?_
  refine m_get C hB 24 (by decide) q1418 (v := .int (iI (I 24))) rfl rfl dX3_pairedWith_8 ?_
  refine x_icmp_ge (tgt := 155) hx hb dX3_pairedWith_11 (by decide) ⟨by omega, by omega⟩ ⟨by omega, by omega⟩ (fun c5 => ?_) (fun c5 => ?_)
  · refine lv_iload_n hx hb dX3_pairedWith_155 rfl (lv_at hl 3 rfl) ?_
    exact m_iret C hB hr hlocks rfl dX3_pairedWith_156 ⟨by omega, by omega⟩ ⟨rfl, rfl, by rw [hvv, show P.drop k = [] from List.drop_eq_nil_of_le (by omega)]; rfl⟩
  · have hkl : k < P.length := by omega
    obtain ⟨qs, qi, qj, hq⟩ : ∃ qs qi qj, P[k]? = some (qs, qi, qj) := ⟨_, _, _, List.getElem?_eq_getElem hkl⟩
    have hd := drop_of hq
    have hin := hPin _ (List.mem_of_getElem? hq)
    dsimp only at hin
    have hlr := lr_pos qs
    have hqq := hli k _ hq
    dsimp only at hqq
    refine lv_iload_n hx hb dX3_pairedWith_14 rfl (lv_at hl 1 rfl) ?_
    refine x_if_ne (tgt := 28) hx hb dX3_pairedWith_15 (by decide) ⟨by decide, by decide⟩ (fun c6 => by exfalso; omega) (fun c6 => ?_)
    refine lv_aload_n hx hb dX3_pairedWith_18 rfl (lv_at hl 0 rfl) ?_
    refine m_get C hB 26 (by decide) q1420 (v := .ref (Ad 26)) rfl rfl dX3_pairedWith_19 ?_
    refine lv_iload hx hb dX3_pairedWith_22 (lv_at hl 4 rfl) ?_
    refine m_ald C hB 26 14 rfl (v := (qi : Int)) k rfl (by omega) hqq.2.1 dX3_pairedWith_24 ?_
    refine lv_goto (tgt := 35) hx hb dX3_pairedWith_25 (by decide) ?_
    refine lv_istore (lv' := [(5, .int (iI ((qi : Int)))), (0, .ref o), (1, .int (iI 0)), (2, .int (iI ((kk : Int)))), (3, .int (iI v)), (4, .int (iI ((k : Int))))]) hx hb dX3_pairedWith_35 hl (by decide) rfl (fun ls hl => ?_)
    refine lv_iload_n hx hb dX3_pairedWith_37 rfl (lv_at hl 2 rfl) ?_
    refine x_if_ne (tgt := 54) hx hb dX3_pairedWith_38 (by decide) ⟨by decide, by decide⟩ (fun c7 => by exfalso; omega) (fun c7 => ?_)
    refine lv_aload_n hx hb dX3_pairedWith_41 rfl (lv_at hl 1 rfl) ?_
    refine m_get C hB 25 (by decide) q1419 (v := .ref (Ad 25)) rfl rfl dX3_pairedWith_42 ?_
    refine lv_iload hx hb dX3_pairedWith_45 (lv_at hl 5 rfl) ?_
    refine m_ald C hB 25 14 rfl (v := (qs : Int)) k rfl (by omega) hqq.1 dX3_pairedWith_47 ?_
    obtain ⟨wq, hMq, hB⟩ := hB
    refine s_calli (n := 1) C hB (As := [.int (iI ((qs : Int)))]) (kX3_leftsOf l E ((qs : Int)) ⟨by omega, by omega⟩) (lw_S q1557 q1558 q77 q1559) (by decide +kernel) ⟨Nat.le_of_ble_eq_true rfl, Nat.le_of_ble_eq_true rfl⟩ rfl hl.1 rfl (Nat.le_of_ble_eq_true rfl) dX3_pairedWith_48 ⟨Nat.zero_le _, Nat.zero_le _⟩ (fun z8 H locs hz9 hp10 hB => ?_)
    replace hB : mB E _ s o Ad I F H locs := ⟨wq, hMq, hB⟩
    obtain ⟨hz9a, hz9b⟩ := hz9
    have h11 : z8 = (loN qs : Int) := by unfold loN; (repeat' split) <;> omega
    subst h11
    refine lv_goto (tgt := 64) hx hb dX3_pairedWith_51 (by decide) ?_
    refine lv_istore (lv' := [(6, .int (iI ((loN qs : Int)))), (5, .int (iI ((qi : Int)))), (0, .ref o), (1, .int (iI 0)), (2, .int (iI ((kk : Int)))), (3, .int (iI v)), (4, .int (iI ((k : Int))))]) hx hb dX3_pairedWith_64 hl (by decide) rfl (fun ls hl => ?_)
    refine lv_iload_n hx hb dX3_pairedWith_66 rfl (lv_at hl 3 rfl) ?_
    refine x_if_ne (tgt := 80) hx hb dX3_pairedWith_67 (by decide) ⟨by decide, by decide⟩ (fun c12 => by exfalso; omega) (fun c12 => ?_)
    refine lv_aload_n hx hb dX3_pairedWith_70 rfl (lv_at hl 2 rfl) ?_
    refine m_get C hB 27 (by decide) q1421 (v := .ref (Ad 27)) rfl rfl dX3_pairedWith_71 ?_
    refine lv_iload hx hb dX3_pairedWith_74 (lv_at hl 6 rfl) ?_
    refine m_ald C hB 27 14 rfl (v := (qj : Int)) k rfl (by omega) hqq.2.2 dX3_pairedWith_76 ?_
    refine lv_goto (tgt := 87) hx hb dX3_pairedWith_77 (by decide) ?_
    refine lv_istore (lv' := [(7, .int (iI ((qj : Int)))), (6, .int (iI ((loN qs : Int)))), (5, .int (iI ((qi : Int)))), (0, .ref o), (1, .int (iI 0)), (2, .int (iI ((kk : Int)))), (3, .int (iI v)), (4, .int (iI ((k : Int))))]) hx hb dX3_pairedWith_87 hl (by decide) rfl (fun ls hl => ?_)
    refine lv_iload_n hx hb dX3_pairedWith_89 rfl (lv_at hl 4 rfl) ?_
    refine x_if_ne (tgt := 106) hx hb dX3_pairedWith_90 (by decide) ⟨by decide, by decide⟩ (fun c13 => by exfalso; omega) (fun c13 => ?_)
    refine lv_aload_n hx hb dX3_pairedWith_93 rfl (lv_at hl 3 rfl) ?_
    refine m_get C hB 25 (by decide) q1419 (v := .ref (Ad 25)) rfl rfl dX3_pairedWith_94 ?_
    refine lv_iload hx hb dX3_pairedWith_97 (lv_at hl 7 rfl) ?_
    refine m_ald C hB 25 14 rfl (v := (qs : Int)) k rfl (by omega) hqq.1 dX3_pairedWith_99 ?_
    obtain ⟨wq, hMq, hB⟩ := hB
    refine s_calli (n := 1) C hB (As := [.int (iI ((qs : Int)))]) (kX3_rightsOf l E ((qs : Int)) ⟨by omega, by omega⟩) (lw_S q1560 q1561 q77 q1562) (by decide +kernel) ⟨Nat.le_of_ble_eq_true rfl, Nat.le_of_ble_eq_true rfl⟩ rfl hl.1 rfl (Nat.le_of_ble_eq_true rfl) dX3_pairedWith_100 ⟨Nat.zero_le _, Nat.zero_le _⟩ (fun z14 H locs hz15 hp16 hB => ?_)
    replace hB : mB E _ s o Ad I F H locs := ⟨wq, hMq, hB⟩
    obtain ⟨hz15a, hz15b⟩ := hz15
    have h17 : z14 = (roN qs : Int) := by unfold roN; (repeat' split) <;> omega
    subst h17
    refine lv_goto (tgt := 116) hx hb dX3_pairedWith_103 (by decide) ?_
    refine lv_istore (lv' := [(8, .int (iI ((roN qs : Int)))), (7, .int (iI ((qj : Int)))), (6, .int (iI ((loN qs : Int)))), (5, .int (iI ((qi : Int)))), (0, .ref o), (1, .int (iI 0)), (2, .int (iI ((kk : Int)))), (3, .int (iI v)), (4, .int (iI ((k : Int))))]) hx hb dX3_pairedWith_116 hl (by decide) rfl (fun ls hl => ?_)
    refine lv_iload_n hx hb dX3_pairedWith_118 rfl (lv_at hl 7 rfl) ?_
    refine lv_iload_n hx hb dX3_pairedWith_119 rfl (lv_at hl 6 rfl) ?_
    refine lv_iload hx hb dX3_pairedWith_120 (lv_at hl 3 rfl) ?_
    refine x_icmp_lt (tgt := 146) hx hb dX3_pairedWith_122 (by decide) ⟨by omega, by omega⟩ ⟨by omega, by omega⟩ (fun c18 => ?_) (fun c18 => ?_)
    · refine lv_iconst (v := iI 0) hx hb dX3_pairedWith_146 rfl ?_
      refine x_ior hx hb dX3_pairedWith_147 ?_
      refine lv_istore_n (lv' := [(3, .int (iI (bOr v 0))), (8, .int (iI ((roN qs : Int)))), (7, .int (iI ((qj : Int)))), (6, .int (iI ((loN qs : Int)))), (5, .int (iI ((qi : Int)))), (0, .ref o), (1, .int (iI 0)), (2, .int (iI ((kk : Int)))), (4, .int (iI ((k : Int))))]) hx hb dX3_pairedWith_148 rfl hl (by decide) rfl (fun ls hl => ?_)
      refine lv_iinc (v := iI ((k : Int) + 1)) (lv' := [(4, .int (iI ((k : Int) + 1))), (3, .int (iI (bOr v 0))), (8, .int (iI ((roN qs : Int)))), (7, .int (iI ((qj : Int)))), (6, .int (iI ((loN qs : Int)))), (5, .int (iI ((qi : Int)))), (0, .ref o), (1, .int (iI 0)), (2, .int (iI ((kk : Int))))]) hx hb dX3_pairedWith_149 hl (k := 8) rfl (iI_add _ _) (by decide) rfl (fun ls hl => ?_)
      refine lv_goto (tgt := 5) hx hb dX3_pairedWith_152 (by decide) ?_
      exact ih1 _ _ _ _ (by omega) ⟨k + 1, _, rfl, by omega, (rg_or _ _).1, (rg_or _ _).2, by rw [hvv, hd]; show pwL kk (P.drop (k + 1)) (bOr v (if (qi ≤ kk ∧ kk < qi + loN qs) then bShl (bShl 1 (roN qs) - 1) qj else 0)) = _; rw [if_neg (by omega)], hB, lv_sub hl [6, 7, 8, 1, 0] rfl⟩
    · refine lv_iload_n hx hb dX3_pairedWith_125 rfl (lv_at hl 6 rfl) ?_
      refine lv_iload hx hb dX3_pairedWith_126 (lv_at hl 3 rfl) ?_
      refine lv_iload hx hb dX3_pairedWith_128 (lv_at hl 2 rfl) ?_
      refine x_iadd (z := (qi : Int) + (loN qs : Int)) hx hb dX3_pairedWith_130 (by omega) ?_
      refine x_icmp_ge (tgt := 146) hx hb dX3_pairedWith_131 (by decide) ⟨by omega, by omega⟩ ⟨by omega, by omega⟩ (fun c19 => ?_) (fun c19 => ?_)
      · refine lv_iconst (v := iI 0) hx hb dX3_pairedWith_146 rfl ?_
        refine x_ior hx hb dX3_pairedWith_147 ?_
        refine lv_istore_n (lv' := [(3, .int (iI (bOr v 0))), (8, .int (iI ((roN qs : Int)))), (7, .int (iI ((qj : Int)))), (6, .int (iI ((loN qs : Int)))), (5, .int (iI ((qi : Int)))), (0, .ref o), (1, .int (iI 0)), (2, .int (iI ((kk : Int)))), (4, .int (iI ((k : Int))))]) hx hb dX3_pairedWith_148 rfl hl (by decide) rfl (fun ls hl => ?_)
        refine lv_iinc (v := iI ((k : Int) + 1)) (lv' := [(4, .int (iI ((k : Int) + 1))), (3, .int (iI (bOr v 0))), (8, .int (iI ((roN qs : Int)))), (7, .int (iI ((qj : Int)))), (6, .int (iI ((loN qs : Int)))), (5, .int (iI ((qi : Int)))), (0, .ref o), (1, .int (iI 0)), (2, .int (iI ((kk : Int))))]) hx hb dX3_pairedWith_149 hl (k := 8) rfl (iI_add _ _) (by decide) rfl (fun ls hl => ?_)
        refine lv_goto (tgt := 5) hx hb dX3_pairedWith_152 (by decide) ?_
        exact ih1 _ _ _ _ (by omega) ⟨k + 1, _, rfl, by omega, (rg_or _ _).1, (rg_or _ _).2, by rw [hvv, hd]; show pwL kk (P.drop (k + 1)) (bOr v (if (qi ≤ kk ∧ kk < qi + loN qs) then bShl (bShl 1 (roN qs) - 1) qj else 0)) = _; rw [if_neg (by omega)], hB, lv_sub hl [6, 7, 8, 1, 0] rfl⟩
      · refine lv_iconst (v := iI 1) hx hb dX3_pairedWith_134 rfl ?_
        refine lv_iload hx hb dX3_pairedWith_135 (lv_at hl 0 rfl) ?_
        refine x_ishl hx hb dX3_pairedWith_137 ?_
        refine lv_iconst (v := iI 1) hx hb dX3_pairedWith_138 rfl ?_
        refine x_isub (z := bShl 1 ((roN qs : Int)) - 1) hx hb dX3_pairedWith_139 (by omega) ?_
        refine lv_iload hx hb dX3_pairedWith_140 (lv_at hl 1 rfl) ?_
        refine x_ishl hx hb dX3_pairedWith_142 ?_
        refine lv_goto (tgt := 147) hx hb dX3_pairedWith_143 (by decide) ?_
        refine x_ior hx hb dX3_pairedWith_147 ?_
        refine lv_istore_n (lv' := [(3, .int (iI (bOr v (bShl (bShl 1 ((roN qs : Int)) - 1) ((qj : Int)))))), (8, .int (iI ((roN qs : Int)))), (7, .int (iI ((qj : Int)))), (6, .int (iI ((loN qs : Int)))), (5, .int (iI ((qi : Int)))), (0, .ref o), (1, .int (iI 0)), (2, .int (iI ((kk : Int)))), (4, .int (iI ((k : Int))))]) hx hb dX3_pairedWith_148 rfl hl (by decide) rfl (fun ls hl => ?_)
        refine lv_iinc (v := iI ((k : Int) + 1)) (lv' := [(4, .int (iI ((k : Int) + 1))), (3, .int (iI (bOr v (bShl (bShl 1 ((roN qs : Int)) - 1) ((qj : Int)))))), (8, .int (iI ((roN qs : Int)))), (7, .int (iI ((qj : Int)))), (6, .int (iI ((loN qs : Int)))), (5, .int (iI ((qi : Int)))), (0, .ref o), (1, .int (iI 0)), (2, .int (iI ((kk : Int))))]) hx hb dX3_pairedWith_149 hl (k := 8) rfl (iI_add _ _) (by decide) rfl (fun ls hl => ?_)
        refine lv_goto (tgt := 5) hx hb dX3_pairedWith_152 (by decide) ?_
        exact ih1 _ _ _ _ (by omega) ⟨k + 1, _, rfl, by omega, (rg_or _ _).1, (rg_or _ _).2, by rw [hvv, hd]; show pwL kk (P.drop (k + 1)) (bOr v (if (qi ≤ kk ∧ kk < qi + loN qs) then bShl (bShl 1 (roN qs) - 1) qj else 0)) = _; rw [if_pos (by omega)], hB, lv_sub hl [6, 7, 8, 1, 0] rfl⟩
set_option maxHeartbeats 400000 in
set_option maxRecDepth 100000 in
theorem kX3_pairedWith1 (l : Launch) (E : xE) (o : Nat) (Ad : Nat → Nat) (I : Nat → Int) (F : Nat → Nat → Int) (kk : Nat) (P : List (Nat × Nat × Nat)) (hkk : kk < 7) (hP : I 24 = (P.length : Int)) (hPl : P.length ≤ 14) (hli : plis P (F 25) (F 26) (F 27)) (hPin : ∀ q ∈ P, q.1 ≤ 4 ∧ q.2.1 ≤ 7 ∧ q.2.2 ≤ 7) : mi_ l E yX3_pairedWith cX3_pairedWith 9 (some .int) 1 20 [.ref o, .int (iI 1), .int (iI ((kk : Int)))] o Ad I F (fun z I' F' => I = I' ∧ F = F' ∧ z = pwR kk P 0) := by
  intro w sz hM
  refine x_body (by decide) (Nat.le_of_ble_eq_true rfl) ?_
  intro p e s m args below meth c ls hx hb C hr hlocks _ hsz hB hl
  have C : xC E p s m args c cX3_pairedWith 9 RX3 := C
  replace hB : mB E (xA w sz) s o Ad I F s.heap [] := ⟨w, hM, hB⟩
  have hl : lv_has ls 9 [(0, .ref o), (1, .int (iI 1)), (2, .int (iI ((kk : Int))))] := hl
  refine lv_iconst (v := iI 0) hx hb dX3_pairedWith_0 rfl ?_
  refine lv_istore_n (lv' := [(3, .int (iI 0)), (0, .ref o), (1, .int (iI 1)), (2, .int (iI ((kk : Int))))]) hx hb dX3_pairedWith_1 rfl hl (by decide) rfl (fun ls hl => ?_)
  refine lv_iconst (v := iI 0) hx hb dX3_pairedWith_2 rfl ?_
  refine lv_istore (lv' := [(4, .int (iI 0)), (3, .int (iI 0)), (0, .ref o), (1, .int (iI 1)), (2, .int (iI ((kk : Int))))]) hx hb dX3_pairedWith_3 hl (by decide) rfl (fun ls hl => ?_)
  refine w_loop (fun n4 H locs ls => ∃ (k : Nat) (v : Int), n4 = P.length - k ∧ (k ≤ P.length) ∧ (-2147483648 ≤ v) ∧ (v ≤ 2147483647) ∧ (pwR kk P 0 = pwR kk (P.drop k) v) ∧ mB E (xA w sz) s o Ad I F H locs ∧ lv_has ls 9 [(0, .ref o), (1, .int (iI 1)), (2, .int (iI ((kk : Int)))), (3, .int (iI v)), (4, .int (iI ((k : Int))))]) _ ⟨0, 0, rfl, Nat.zero_le _, by omega, by omega, rfl, hB, lv_sub hl [2, 3, 4, 1, 0] rfl⟩ ?_
  intro n4 H locs ls hI3 ih1
  obtain ⟨k, v, hn2, hk, hv1, hv2, hvv, hB, hl⟩ := hI3
  refine lv_iload hx hb dX3_pairedWith_5 (lv_at hl 4 rfl) ?_
  refine lv_aload_n hx hb dX3_pairedWith_7 rfl (lv_at hl 0 rfl) ?_
  refine m_get C hB 24 (by decide) q1418 (v := .int (iI (I 24))) rfl rfl dX3_pairedWith_8 ?_
  refine x_icmp_ge (tgt := 155) hx hb dX3_pairedWith_11 (by decide) ⟨by omega, by omega⟩ ⟨by omega, by omega⟩ (fun c5 => ?_) (fun c5 => ?_)
  · refine lv_iload_n hx hb dX3_pairedWith_155 rfl (lv_at hl 3 rfl) ?_
    exact m_iret C hB hr hlocks rfl dX3_pairedWith_156 ⟨by omega, by omega⟩ ⟨rfl, rfl, by rw [hvv, show P.drop k = [] from List.drop_eq_nil_of_le (by omega)]; rfl⟩
  · have hkl : k < P.length := by omega
    obtain ⟨qs, qi, qj, hq⟩ : ∃ qs qi qj, P[k]? = some (qs, qi, qj) := ⟨_, _, _, List.getElem?_eq_getElem hkl⟩
    have hd := drop_of hq
    have hin := hPin _ (List.mem_of_getElem? hq)
    dsimp only at hin
    have hlr := lr_pos qs
    have hqq := hli k _ hq
    dsimp only at hqq
    refine lv_iload_n hx hb dX3_pairedWith_14 rfl (lv_at hl 1 rfl) ?_
    refine x_if_ne (tgt := 28) hx hb dX3_pairedWith_15 (by decide) ⟨by decide, by decide⟩ (fun c6 => ?_) (fun c6 => by exfalso; omega)
    refine lv_aload_n hx hb dX3_pairedWith_28 rfl (lv_at hl 0 rfl) ?_
    refine m_get C hB 27 (by decide) q1421 (v := .ref (Ad 27)) rfl rfl dX3_pairedWith_29 ?_
    refine lv_iload hx hb dX3_pairedWith_32 (lv_at hl 4 rfl) ?_
    refine m_ald C hB 27 14 rfl (v := (qj : Int)) k rfl (by omega) hqq.2.2 dX3_pairedWith_34 ?_
    refine lv_istore (lv' := [(5, .int (iI ((qj : Int)))), (0, .ref o), (1, .int (iI 1)), (2, .int (iI ((kk : Int)))), (3, .int (iI v)), (4, .int (iI ((k : Int))))]) hx hb dX3_pairedWith_35 hl (by decide) rfl (fun ls hl => ?_)
    refine lv_iload_n hx hb dX3_pairedWith_37 rfl (lv_at hl 2 rfl) ?_
    refine x_if_ne (tgt := 54) hx hb dX3_pairedWith_38 (by decide) ⟨by decide, by decide⟩ (fun c7 => ?_) (fun c7 => by exfalso; omega)
    refine lv_aload_n hx hb dX3_pairedWith_54 rfl (lv_at hl 1 rfl) ?_
    refine m_get C hB 25 (by decide) q1419 (v := .ref (Ad 25)) rfl rfl dX3_pairedWith_55 ?_
    refine lv_iload hx hb dX3_pairedWith_58 (lv_at hl 5 rfl) ?_
    refine m_ald C hB 25 14 rfl (v := (qs : Int)) k rfl (by omega) hqq.1 dX3_pairedWith_60 ?_
    obtain ⟨wq, hMq, hB⟩ := hB
    refine s_calli (n := 1) C hB (As := [.int (iI ((qs : Int)))]) (kX3_rightsOf l E ((qs : Int)) ⟨by omega, by omega⟩) (lw_S q1560 q1561 q77 q1562) (by decide +kernel) ⟨Nat.le_of_ble_eq_true rfl, Nat.le_of_ble_eq_true rfl⟩ rfl hl.1 rfl (Nat.le_of_ble_eq_true rfl) dX3_pairedWith_61 ⟨Nat.zero_le _, Nat.zero_le _⟩ (fun z8 H locs hz9 hp10 hB => ?_)
    replace hB : mB E _ s o Ad I F H locs := ⟨wq, hMq, hB⟩
    obtain ⟨hz9a, hz9b⟩ := hz9
    have h11 : z8 = (roN qs : Int) := by unfold roN; (repeat' split) <;> omega
    subst h11
    refine lv_istore (lv' := [(6, .int (iI ((roN qs : Int)))), (5, .int (iI ((qj : Int)))), (0, .ref o), (1, .int (iI 1)), (2, .int (iI ((kk : Int)))), (3, .int (iI v)), (4, .int (iI ((k : Int))))]) hx hb dX3_pairedWith_64 hl (by decide) rfl (fun ls hl => ?_)
    refine lv_iload_n hx hb dX3_pairedWith_66 rfl (lv_at hl 3 rfl) ?_
    refine x_if_ne (tgt := 80) hx hb dX3_pairedWith_67 (by decide) ⟨by decide, by decide⟩ (fun c12 => ?_) (fun c12 => by exfalso; omega)
    refine lv_aload_n hx hb dX3_pairedWith_80 rfl (lv_at hl 2 rfl) ?_
    refine m_get C hB 26 (by decide) q1420 (v := .ref (Ad 26)) rfl rfl dX3_pairedWith_81 ?_
    refine lv_iload hx hb dX3_pairedWith_84 (lv_at hl 6 rfl) ?_
    refine m_ald C hB 26 14 rfl (v := (qi : Int)) k rfl (by omega) hqq.2.1 dX3_pairedWith_86 ?_
    refine lv_istore (lv' := [(7, .int (iI ((qi : Int)))), (6, .int (iI ((roN qs : Int)))), (5, .int (iI ((qj : Int)))), (0, .ref o), (1, .int (iI 1)), (2, .int (iI ((kk : Int)))), (3, .int (iI v)), (4, .int (iI ((k : Int))))]) hx hb dX3_pairedWith_87 hl (by decide) rfl (fun ls hl => ?_)
    refine lv_iload_n hx hb dX3_pairedWith_89 rfl (lv_at hl 4 rfl) ?_
    refine x_if_ne (tgt := 106) hx hb dX3_pairedWith_90 (by decide) ⟨by decide, by decide⟩ (fun c13 => ?_) (fun c13 => by exfalso; omega)
    refine lv_aload_n hx hb dX3_pairedWith_106 rfl (lv_at hl 3 rfl) ?_
    refine m_get C hB 25 (by decide) q1419 (v := .ref (Ad 25)) rfl rfl dX3_pairedWith_107 ?_
    refine lv_iload hx hb dX3_pairedWith_110 (lv_at hl 7 rfl) ?_
    refine m_ald C hB 25 14 rfl (v := (qs : Int)) k rfl (by omega) hqq.1 dX3_pairedWith_112 ?_
    obtain ⟨wq, hMq, hB⟩ := hB
    refine s_calli (n := 1) C hB (As := [.int (iI ((qs : Int)))]) (kX3_leftsOf l E ((qs : Int)) ⟨by omega, by omega⟩) (lw_S q1557 q1558 q77 q1559) (by decide +kernel) ⟨Nat.le_of_ble_eq_true rfl, Nat.le_of_ble_eq_true rfl⟩ rfl hl.1 rfl (Nat.le_of_ble_eq_true rfl) dX3_pairedWith_113 ⟨Nat.zero_le _, Nat.zero_le _⟩ (fun z14 H locs hz15 hp16 hB => ?_)
    replace hB : mB E _ s o Ad I F H locs := ⟨wq, hMq, hB⟩
    obtain ⟨hz15a, hz15b⟩ := hz15
    have h17 : z14 = (loN qs : Int) := by unfold loN; (repeat' split) <;> omega
    subst h17
    refine lv_istore (lv' := [(8, .int (iI ((loN qs : Int)))), (7, .int (iI ((qi : Int)))), (6, .int (iI ((roN qs : Int)))), (5, .int (iI ((qj : Int)))), (0, .ref o), (1, .int (iI 1)), (2, .int (iI ((kk : Int)))), (3, .int (iI v)), (4, .int (iI ((k : Int))))]) hx hb dX3_pairedWith_116 hl (by decide) rfl (fun ls hl => ?_)
    refine lv_iload_n hx hb dX3_pairedWith_118 rfl (lv_at hl 7 rfl) ?_
    refine lv_iload_n hx hb dX3_pairedWith_119 rfl (lv_at hl 6 rfl) ?_
    refine lv_iload hx hb dX3_pairedWith_120 (lv_at hl 3 rfl) ?_
    refine x_icmp_lt (tgt := 146) hx hb dX3_pairedWith_122 (by decide) ⟨by omega, by omega⟩ ⟨by omega, by omega⟩ (fun c18 => ?_) (fun c18 => ?_)
    · refine lv_iconst (v := iI 0) hx hb dX3_pairedWith_146 rfl ?_
      refine x_ior hx hb dX3_pairedWith_147 ?_
      refine lv_istore_n (lv' := [(3, .int (iI (bOr v 0))), (8, .int (iI ((loN qs : Int)))), (7, .int (iI ((qi : Int)))), (6, .int (iI ((roN qs : Int)))), (5, .int (iI ((qj : Int)))), (0, .ref o), (1, .int (iI 1)), (2, .int (iI ((kk : Int)))), (4, .int (iI ((k : Int))))]) hx hb dX3_pairedWith_148 rfl hl (by decide) rfl (fun ls hl => ?_)
      refine lv_iinc (v := iI ((k : Int) + 1)) (lv' := [(4, .int (iI ((k : Int) + 1))), (3, .int (iI (bOr v 0))), (8, .int (iI ((loN qs : Int)))), (7, .int (iI ((qi : Int)))), (6, .int (iI ((roN qs : Int)))), (5, .int (iI ((qj : Int)))), (0, .ref o), (1, .int (iI 1)), (2, .int (iI ((kk : Int))))]) hx hb dX3_pairedWith_149 hl (k := 8) rfl (iI_add _ _) (by decide) rfl (fun ls hl => ?_)
      refine lv_goto (tgt := 5) hx hb dX3_pairedWith_152 (by decide) ?_
      exact ih1 _ _ _ _ (by omega) ⟨k + 1, _, rfl, by omega, (rg_or _ _).1, (rg_or _ _).2, by rw [hvv, hd]; show pwR kk (P.drop (k + 1)) (bOr v (if (qj ≤ kk ∧ kk < qj + roN qs) then bShl (bShl 1 (loN qs) - 1) qi else 0)) = _; rw [if_neg (by omega)], hB, lv_sub hl [6, 7, 8, 1, 0] rfl⟩
    · refine lv_iload_n hx hb dX3_pairedWith_125 rfl (lv_at hl 6 rfl) ?_
      refine lv_iload hx hb dX3_pairedWith_126 (lv_at hl 3 rfl) ?_
      refine lv_iload hx hb dX3_pairedWith_128 (lv_at hl 2 rfl) ?_
      refine x_iadd (z := (qj : Int) + (roN qs : Int)) hx hb dX3_pairedWith_130 (by omega) ?_
      refine x_icmp_ge (tgt := 146) hx hb dX3_pairedWith_131 (by decide) ⟨by omega, by omega⟩ ⟨by omega, by omega⟩ (fun c19 => ?_) (fun c19 => ?_)
      · refine lv_iconst (v := iI 0) hx hb dX3_pairedWith_146 rfl ?_
        refine x_ior hx hb dX3_pairedWith_147 ?_
        refine lv_istore_n (lv' := [(3, .int (iI (bOr v 0))), (8, .int (iI ((loN qs : Int)))), (7, .int (iI ((qi : Int)))), (6, .int (iI ((roN qs : Int)))), (5, .int (iI ((qj : Int)))), (0, .ref o), (1, .int (iI 1)), (2, .int (iI ((kk : Int)))), (4, .int (iI ((k : Int))))]) hx hb dX3_pairedWith_148 rfl hl (by decide) rfl (fun ls hl => ?_)
        refine lv_iinc (v := iI ((k : Int) + 1)) (lv' := [(4, .int (iI ((k : Int) + 1))), (3, .int (iI (bOr v 0))), (8, .int (iI ((loN qs : Int)))), (7, .int (iI ((qi : Int)))), (6, .int (iI ((roN qs : Int)))), (5, .int (iI ((qj : Int)))), (0, .ref o), (1, .int (iI 1)), (2, .int (iI ((kk : Int))))]) hx hb dX3_pairedWith_149 hl (k := 8) rfl (iI_add _ _) (by decide) rfl (fun ls hl => ?_)
        refine lv_goto (tgt := 5) hx hb dX3_pairedWith_152 (by decide) ?_
        exact ih1 _ _ _ _ (by omega) ⟨k + 1, _, rfl, by omega, (rg_or _ _).1, (rg_or _ _).2, by rw [hvv, hd]; show pwR kk (P.drop (k + 1)) (bOr v (if (qj ≤ kk ∧ kk < qj + roN qs) then bShl (bShl 1 (loN qs) - 1) qi else 0)) = _; rw [if_neg (by omega)], hB, lv_sub hl [6, 7, 8, 1, 0] rfl⟩
      · refine lv_iconst (v := iI 1) hx hb dX3_pairedWith_134 rfl ?_
        refine lv_iload hx hb dX3_pairedWith_135 (lv_at hl 0 rfl) ?_
        refine x_ishl hx hb dX3_pairedWith_137 ?_
        refine lv_iconst (v := iI 1) hx hb dX3_pairedWith_138 rfl ?_
        refine x_isub (z := bShl 1 ((loN qs : Int)) - 1) hx hb dX3_pairedWith_139 (by omega) ?_
        refine lv_iload hx hb dX3_pairedWith_140 (lv_at hl 1 rfl) ?_
        refine x_ishl hx hb dX3_pairedWith_142 ?_
        refine lv_goto (tgt := 147) hx hb dX3_pairedWith_143 (by decide) ?_
        refine x_ior hx hb dX3_pairedWith_147 ?_
        refine lv_istore_n (lv' := [(3, .int (iI (bOr v (bShl (bShl 1 ((loN qs : Int)) - 1) ((qi : Int)))))), (8, .int (iI ((loN qs : Int)))), (7, .int (iI ((qi : Int)))), (6, .int (iI ((roN qs : Int)))), (5, .int (iI ((qj : Int)))), (0, .ref o), (1, .int (iI 1)), (2, .int (iI ((kk : Int)))), (4, .int (iI ((k : Int))))]) hx hb dX3_pairedWith_148 rfl hl (by decide) rfl (fun ls hl => ?_)
        refine lv_iinc (v := iI ((k : Int) + 1)) (lv' := [(4, .int (iI ((k : Int) + 1))), (3, .int (iI (bOr v (bShl (bShl 1 ((loN qs : Int)) - 1) ((qi : Int)))))), (8, .int (iI ((loN qs : Int)))), (7, .int (iI ((qi : Int)))), (6, .int (iI ((roN qs : Int)))), (5, .int (iI ((qj : Int)))), (0, .ref o), (1, .int (iI 1)), (2, .int (iI ((kk : Int))))]) hx hb dX3_pairedWith_149 hl (k := 8) rfl (iI_add _ _) (by decide) rfl (fun ls hl => ?_)
        refine lv_goto (tgt := 5) hx hb dX3_pairedWith_152 (by decide) ?_
        exact ih1 _ _ _ _ (by omega) ⟨k + 1, _, rfl, by omega, (rg_or _ _).1, (rg_or _ _).2, by rw [hvv, hd]; show pwR kk (P.drop (k + 1)) (bOr v (if (qj ≤ kk ∧ kk < qj + roN qs) then bShl (bShl 1 (loN qs) - 1) qi else 0)) = _; rw [if_pos (by omega)], hB, lv_sub hl [6, 7, 8, 1, 0] rfl⟩
set_option maxHeartbeats 400000 in
set_option maxRecDepth 100000 in
theorem kX3_ofLeft (l : Launch) (E : xE) (o : Nat) (Ad : Nat → Nat) (I : Nat → Int) (F : Nat → Nat → Int) (a : Int) (wh : Int) (ha : rg a) (hw : rg wh) (hOK : mOK I F) : mi_ l E yX3_ofLeft cX3_ofLeft 3 (some .int) 5 124 [.ref o, .int (iI a), .int (iI wh)] o Ad I F (fun z I' F' => z = rLeft I F a wh ∧ mAg I F I' F') := by
  intro w sz hM
  refine x_body (by decide) (Nat.le_of_ble_eq_true rfl) ?_
  intro p e s m args below meth c ls hx hb C hr hlocks _ hsz hB hl
  have C : xC E p s m args c cX3_ofLeft 3 RX3 := C
  replace hB : mB E (xA w sz) s o Ad I F s.heap [] := ⟨w, hM, hB⟩
  have hl : lv_has ls 3 [(0, .ref o), (1, .int (iI a)), (2, .int (iI wh))] := hl
  obtain ⟨ha1, ha2⟩ := ha
  obtain ⟨hw1, hw2⟩ := hw
  have hOK0 := hOK
  obtain ⟨⟨hf1, hf2⟩, ⟨hl1, hl2⟩, ⟨hr1, hr2⟩, hlr, ⟨hs1, hs2⟩, ⟨hj1, hj2⟩, ⟨hb1, hb2⟩, ⟨hn1, hn2⟩, hL, hR, hN, hS, hC⟩ := hOK
  refine lv_aload_n hx hb dX3_ofLeft_0 rfl (lv_at hl 0 rfl) ?_
  refine lv_iload_n hx hb dX3_ofLeft_1 rfl (lv_at hl 1 rfl) ?_
  refine m_calli (n := 1) C hB (As := [.int (iI a)]) (kX3_isLeft l E o Ad I F a ⟨by omega, by omega⟩ ⟨by omega, by omega⟩) (lw_V q1532 q1534 qs46 q77 q1535) (by decide +kernel) ⟨Nat.le_of_ble_eq_true rfl, Nat.le_of_ble_eq_true rfl⟩ rfl hl.1 rfl (Nat.le_of_ble_eq_true rfl) dX3_ofLeft_2 ⟨Nat.zero_le _, Nat.zero_le _⟩ (fun z1 I2 F3 H locs hz4 hp5 hB => ?_)
  obtain ⟨hz4a, hz4b⟩ := hz4
  obtain ⟨rfl, rfl, ⟨rfl, h6⟩ | ⟨rfl, h6⟩⟩ := hp5
  · refine x_if_ne (tgt := 10) hx hb dX3_ofLeft_5 (by decide) ⟨by decide, by decide⟩ (fun c7 => ?_) (fun c7 => by exfalso; omega)
    obtain ⟨k, rfl⟩ : ∃ k : Nat, a = (k : Int) := ⟨a.toNat, by omega⟩
    refine lv_iload_n hx hb dX3_ofLeft_10 rfl (lv_at hl 2 rfl) ?_
    rcases (show wh = 0 ∨ wh = 1 ∨ wh = 2 ∨ wh = 3 ∨ wh = 4 ∨ (wh < 0 ∨ 4 < wh) by omega) with c8 | c8 | c8 | c8 | c8 | c8
    · refine x_tsIn (tgt := 44) hx hb 0 dX3_ofLeft_11 (by omega) ⟨by decide, by decide⟩ (by decide) (by decide) rfl (by decide) ?_
      refine lv_aload_n hx hb dX3_ofLeft_44 rfl (lv_at hl 0 rfl) ?_
      refine m_get C hB 10 (by decide) q1404 (v := .ref (Ad 10)) rfl rfl dX3_ofLeft_45 ?_
      refine lv_iload_n hx hb dX3_ofLeft_48 rfl (lv_at hl 1 rfl) ?_
      refine m_ald C hB 10 7 rfl (v := F 10 k) k rfl (by omega) rfl dX3_ofLeft_49 ?_
      have := hL k (by omega)
      exact m_iret C hB hr hlocks rfl dX3_ofLeft_50 ⟨by omega, by omega⟩ ⟨by unfold rLeft; rw [if_neg (by omega), if_pos (by omega)]; rfl, mAg_rfl I F⟩
    · refine x_tsIn (tgt := 51) hx hb 1 dX3_ofLeft_11 (by omega) ⟨by decide, by decide⟩ (by decide) (by decide) rfl (by decide) ?_
      refine lv_aload_n hx hb dX3_ofLeft_51 rfl (lv_at hl 0 rfl) ?_
      refine m_get C hB 11 (by decide) q1405 (v := .ref (Ad 11)) rfl rfl dX3_ofLeft_52 ?_
      refine lv_iload_n hx hb dX3_ofLeft_55 rfl (lv_at hl 1 rfl) ?_
      refine m_ald C hB 11 7 rfl (v := F 11 k) k rfl (by omega) rfl dX3_ofLeft_56 ?_
      have := hL k (by omega)
      exact m_iret C hB hr hlocks rfl dX3_ofLeft_57 ⟨by omega, by omega⟩ ⟨by unfold rLeft; rw [if_neg (by omega), if_neg (by omega), if_pos (by omega)]; rfl, mAg_rfl I F⟩
    · refine x_tsIn (tgt := 58) hx hb 2 dX3_ofLeft_11 (by omega) ⟨by decide, by decide⟩ (by decide) (by decide) rfl (by decide) ?_
      refine lv_aload_n hx hb dX3_ofLeft_58 rfl (lv_at hl 0 rfl) ?_
      refine lv_iload_n hx hb dX3_ofLeft_59 rfl (lv_at hl 1 rfl) ?_
      refine m_calli (n := 1) C hB (As := [.int (iI ((k : Int)))]) (kX3_lengthOf l E o Ad I F k (by omega) hOK0) (lw_V q1536 q1538 qs47 q77 q1539) (by decide +kernel) ⟨Nat.le_of_ble_eq_true rfl, Nat.le_of_ble_eq_true rfl⟩ rfl hl.1 rfl (Nat.le_of_ble_eq_true rfl) dX3_ofLeft_60 ⟨Nat.zero_le _, Nat.zero_le _⟩ (fun z9 I10 F11 H locs hz12 hp13 hB => ?_)
      obtain ⟨hz12a, hz12b⟩ := hz12
      obtain ⟨rfl, rfl, rfl, h14, h15⟩ := hp13
      exact m_iret C hB hr hlocks rfl dX3_ofLeft_63 ⟨by omega, by omega⟩ ⟨by unfold rLeft; rw [if_neg (by omega), if_neg (by omega), if_neg (by omega), if_pos (by omega)]; rfl, mAg_rfl I F⟩
    · refine x_tsIn (tgt := 64) hx hb 3 dX3_ofLeft_11 (by omega) ⟨by decide, by decide⟩ (by decide) (by decide) rfl (by decide) ?_
      refine lv_aload_n hx hb dX3_ofLeft_64 rfl (lv_at hl 0 rfl) ?_
      refine m_get C hB 12 (by decide) q1406 (v := .ref (Ad 12)) rfl rfl dX3_ofLeft_65 ?_
      refine lv_iload_n hx hb dX3_ofLeft_68 rfl (lv_at hl 1 rfl) ?_
      refine m_ald C hB 12 7 rfl (v := F 12 k) k rfl (by omega) rfl dX3_ofLeft_69 ?_
      have := hL k (by omega)
      exact m_iret C hB hr hlocks rfl dX3_ofLeft_70 ⟨by omega, by omega⟩ ⟨by unfold rLeft; rw [if_neg (by omega), if_neg (by omega), if_neg (by omega), if_neg (by omega), if_pos (by omega)]; rfl, mAg_rfl I F⟩
    · refine x_tsIn (tgt := 71) hx hb 4 dX3_ofLeft_11 (by omega) ⟨by decide, by decide⟩ (by decide) (by decide) rfl (by decide) ?_
      refine lv_aload_n hx hb dX3_ofLeft_71 rfl (lv_at hl 0 rfl) ?_
      refine m_calli (n := 0) C hB (As := []) (kX3_findBest l E o Ad I F hOK0) (lw_V q1540 q1542 qs48 q77 q1543) (by decide +kernel) ⟨Nat.le_of_ble_eq_true rfl, Nat.le_of_ble_eq_true rfl⟩ rfl hl.1 rfl (Nat.le_of_ble_eq_true rfl) dX3_ofLeft_72 ⟨Nat.zero_le _, Nat.zero_le _⟩ (fun z16 I17 F18 H locs hz19 hp20 hB => ?_)
      obtain ⟨hz19a, hz19b⟩ := hz19
      obtain ⟨g21, g22, g23, g24, g25, g26, rfl, rfl, ht27, hli28, hv29⟩ := hp20
      refine lv_pop hx hb dX3_ofLeft_75 rfl ?_
      refine lv_aload_n hx hb dX3_ofLeft_76 rfl (lv_at hl 0 rfl) ?_
      refine lv_iconst (v := iI 0) hx hb dX3_ofLeft_77 rfl ?_
      refine lv_iload_n hx hb dX3_ofLeft_78 rfl (lv_at hl 1 rfl) ?_
      have hpin : ∀ q ∈ bpath I F (I 9), q.1 ≤ 4 ∧ q.2.1 ≤ 7 ∧ q.2.2 ≤ 7 := fun q hq => by have h1 := bpath_in hOK0 hq; exact ⟨h1.1, by omega, by omega⟩
      refine m_calli (n := 2) C hB (As := [.int (iI 0), .int (iI ((k : Int)))]) (kX3_pairedWith0 l E o Ad (va_up I 24 ((bpath I F (I 9)).length : Int)) (up3 (upp F g24 g25 g26) g21 g22 g23) k (bpath I F (I 9)) (by omega) rfl (bpath_len I F (I 9)) hli28 hpin) (lw_V q1578 q1580 qs55 q77 q1581) (by decide +kernel) ⟨Nat.le_of_ble_eq_true rfl, Nat.le_of_ble_eq_true rfl⟩ rfl hl.1 rfl (Nat.le_of_ble_eq_true rfl) dX3_ofLeft_79 ⟨Nat.zero_le _, Nat.zero_le _⟩ (fun z30 I31 F32 H locs hz33 hp34 hB => ?_)
      obtain ⟨hz33a, hz33b⟩ := hz33
      obtain ⟨rfl, rfl, rfl⟩ := hp34
      exact m_iret C hB hr hlocks rfl dX3_ofLeft_82 ⟨by omega, by omega⟩ ⟨by unfold rLeft; rw [if_neg (by omega), if_neg (by omega), if_neg (by omega), if_neg (by omega), if_neg (by omega), if_pos (by omega)]; rfl, mAg_scr _ _ _ _ _ _ _ _ _⟩
    · refine x_tsOut (tgt := 83) hx hb dX3_ofLeft_11 ⟨by omega, by omega⟩ c8 (by decide) ?_
      refine lv_bipush (v := iI (-2)) hx hb dX3_ofLeft_83 rfl ?_
      exact m_iret C hB hr hlocks rfl dX3_ofLeft_85 ⟨by decide, by decide⟩ ⟨by unfold rLeft; rw [if_neg (by omega), if_neg (by omega), if_neg (by omega), if_neg (by omega), if_neg (by omega), if_neg (by omega)], mAg_rfl I F⟩
  · refine x_if_ne (tgt := 10) hx hb dX3_ofLeft_5 (by decide) ⟨by decide, by decide⟩ (fun c35 => by exfalso; omega) (fun c35 => ?_)
    refine lv_iconst (v := iI (-1)) hx hb dX3_ofLeft_8 rfl ?_
    exact m_iret C hB hr hlocks rfl dX3_ofLeft_9 ⟨by decide, by decide⟩ ⟨by unfold rLeft; rw [if_pos (by omega)], mAg_rfl I F⟩
