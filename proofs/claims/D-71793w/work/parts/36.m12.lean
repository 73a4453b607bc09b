/-! THE MODEL, 12: days, the parts -/
set_option maxHeartbeats 400000 in
set_option maxRecDepth 100000 in
theorem kX3_isPair (l : Launch) (E : xE) (a : Int) (act : Int) (ha : rg a) (hact : rg act) : si_ l E yX3_isPair cX3_isPair 2 (some .boolean) 1 22 [.int (iI a), .int (iI act)] (fun z => (z = 1 ∧ isPr a act) ∨ (z = 0 ∧ ¬ isPr a act)) := by
  intro w sz
  refine x_body (by decide) (Nat.le_of_ble_eq_true rfl) ?_
  intro p e s m args below meth c ls hx hb C hr hlocks _ hsz hB hl
  have C : xC E p s m args c cX3_isPair 2 RX3 := C
  have hl : lv_has ls 2 [(0, .int (iI a)), (1, .int (iI act))] := hl
  obtain ⟨ha1, ha2⟩ := ha
  obtain ⟨hact1, hact2⟩ := hact
  refine lv_iload_n hx hb dX3_isPair_0 rfl (lv_at hl 1 rfl) ?_
  refine lv_bipush (v := iI 20) hx hb dX3_isPair_1 rfl ?_
  refine lv_bipush (v := iI 22) hx hb dX3_isPair_3 rfl ?_
  refine s_calli (n := 3) C hB (As := [.int (iI act), .int (iI 20), .int (iI 22)]) (kX3_within l E act 20 22 ⟨by omega, by omega⟩ ⟨by omega, by omega⟩ ⟨by omega, by omega⟩) (lw_S q1498 q1499 q77 q1500) (by decide +kernel) ⟨Nat.le_of_ble_eq_true rfl, Nat.le_of_ble_eq_true rfl⟩ rfl hl.1 rfl (Nat.le_of_ble_eq_true rfl) dX3_isPair_5 ⟨Nat.zero_le _, Nat.zero_le _⟩ (fun z1 H locs hz2 hp3 hB => ?_)
  obtain ⟨hz2a, hz2b⟩ := hz2
  rcases hp3 with ⟨rfl, h4⟩ | ⟨rfl, h4⟩
  · refine x_if_eq (tgt := 30) hx hb dX3_isPair_8 (by decide) ⟨by decide, by decide⟩ (fun c5 => by exfalso; omega) (fun c5 => ?_)
    refine lv_iload_n hx hb dX3_isPair_11 rfl (lv_at hl 0 rfl) ?_
    refine lv_iconst (v := iI 0) hx hb dX3_isPair_12 rfl ?_
    refine lv_iload_n hx hb dX3_isPair_13 rfl (lv_at hl 1 rfl) ?_
    refine lv_bipush (v := iI 22) hx hb dX3_isPair_14 rfl ?_
    refine x_icmp_ne (tgt := 24) hx hb dX3_isPair_16 (by decide) ⟨by omega, by omega⟩ ⟨by decide, by decide⟩ (fun c6 => ?_) (fun c6 => ?_)
    · refine lv_bipush (v := iI 9) hx hb dX3_isPair_24 rfl ?_
      refine s_calli (n := 3) C hB (As := [.int (iI a), .int (iI 0), .int (iI 9)]) (kX3_within l E a 0 9 ⟨by omega, by omega⟩ ⟨by omega, by omega⟩ ⟨by omega, by omega⟩) (lw_S q1498 q1499 q77 q1500) (by decide +kernel) ⟨Nat.le_of_ble_eq_true rfl, Nat.le_of_ble_eq_true rfl⟩ rfl hl.1 rfl (Nat.le_of_ble_eq_true rfl) dX3_isPair_26 ⟨Nat.zero_le _, Nat.zero_le _⟩ (fun z7 H locs hz8 hp9 hB => ?_)
      obtain ⟨hz8a, hz8b⟩ := hz8
      rcases hp9 with ⟨rfl, h10⟩ | ⟨rfl, h10⟩
      · exact s_iret C hB hr hlocks rfl dX3_isPair_29 ⟨by decide, by decide⟩ (by first | exact Or.inl ⟨rfl, by unfold isPr; (repeat' split) <;> omega⟩ | exact Or.inr ⟨rfl, fun h => by unfold isPr at h; (repeat' split at h) <;> omega⟩)
      · exact s_iret C hB hr hlocks rfl dX3_isPair_29 ⟨by decide, by decide⟩ (by first | exact Or.inl ⟨rfl, by unfold isPr; (repeat' split) <;> omega⟩ | exact Or.inr ⟨rfl, fun h => by unfold isPr at h; (repeat' split at h) <;> omega⟩)
    · refine lv_bipush (v := iI 7) hx hb dX3_isPair_19 rfl ?_
      refine lv_goto (tgt := 26) hx hb dX3_isPair_21 (by decide) ?_
      refine s_calli (n := 3) C hB (As := [.int (iI a), .int (iI 0), .int (iI 7)]) (kX3_within l E a 0 7 ⟨by omega, by omega⟩ ⟨by omega, by omega⟩ ⟨by omega, by omega⟩) (lw_S q1498 q1499 q77 q1500) (by decide +kernel) ⟨Nat.le_of_ble_eq_true rfl, Nat.le_of_ble_eq_true rfl⟩ rfl hl.1 rfl (Nat.le_of_ble_eq_true rfl) dX3_isPair_26 ⟨Nat.zero_le _, Nat.zero_le _⟩ (fun z11 H locs hz12 hp13 hB => ?_)
      obtain ⟨hz12a, hz12b⟩ := hz12
      rcases hp13 with ⟨rfl, h14⟩ | ⟨rfl, h14⟩
      · exact s_iret C hB hr hlocks rfl dX3_isPair_29 ⟨by decide, by decide⟩ (by first | exact Or.inl ⟨rfl, by unfold isPr; (repeat' split) <;> omega⟩ | exact Or.inr ⟨rfl, fun h => by unfold isPr at h; (repeat' split at h) <;> omega⟩)
      · exact s_iret C hB hr hlocks rfl dX3_isPair_29 ⟨by decide, by decide⟩ (by first | exact Or.inl ⟨rfl, by unfold isPr; (repeat' split) <;> omega⟩ | exact Or.inr ⟨rfl, fun h => by unfold isPr at h; (repeat' split at h) <;> omega⟩)
  · refine x_if_eq (tgt := 30) hx hb dX3_isPair_8 (by decide) ⟨by decide, by decide⟩ (fun c15 => ?_) (fun c15 => by exfalso; omega)
    refine lv_iload_n hx hb dX3_isPair_30 rfl (lv_at hl 1 rfl) ?_
    refine lv_iconst (v := iI 0) hx hb dX3_isPair_31 rfl ?_
    refine lv_bipush (v := iI 6) hx hb dX3_isPair_32 rfl ?_
    refine s_calli (n := 3) C hB (As := [.int (iI act), .int (iI 0), .int (iI 6)]) (kX3_within l E act 0 6 ⟨by omega, by omega⟩ ⟨by omega, by omega⟩ ⟨by omega, by omega⟩) (lw_S q1498 q1499 q77 q1500) (by decide +kernel) ⟨Nat.le_of_ble_eq_true rfl, Nat.le_of_ble_eq_true rfl⟩ rfl hl.1 rfl (Nat.le_of_ble_eq_true rfl) dX3_isPair_34 ⟨Nat.zero_le _, Nat.zero_le _⟩ (fun z16 H locs hz17 hp18 hB => ?_)
    obtain ⟨hz17a, hz17b⟩ := hz17
    rcases hp18 with ⟨rfl, h19⟩ | ⟨rfl, h19⟩
    · refine x_if_ne (tgt := 51) hx hb dX3_isPair_37 (by decide) ⟨by decide, by decide⟩ (fun c20 => ?_) (fun c20 => by exfalso; omega)
      refine lv_iload_n hx hb dX3_isPair_51 rfl (lv_at hl 0 rfl) ?_
      refine lv_iconst (v := iI 1) hx hb dX3_isPair_52 rfl ?_
      refine lv_bipush (v := iI 9) hx hb dX3_isPair_53 rfl ?_
      refine s_calli (n := 3) C hB (As := [.int (iI a), .int (iI 1), .int (iI 9)]) (kX3_within l E a 1 9 ⟨by omega, by omega⟩ ⟨by omega, by omega⟩ ⟨by omega, by omega⟩) (lw_S q1498 q1499 q77 q1500) (by decide +kernel) ⟨Nat.le_of_ble_eq_true rfl, Nat.le_of_ble_eq_true rfl⟩ rfl hl.1 rfl (Nat.le_of_ble_eq_true rfl) dX3_isPair_55 ⟨Nat.zero_le _, Nat.zero_le _⟩ (fun z21 H locs hz22 hp23 hB => ?_)
      obtain ⟨hz22a, hz22b⟩ := hz22
      rcases hp23 with ⟨rfl, h24⟩ | ⟨rfl, h24⟩
      · refine x_if_eq (tgt := 65) hx hb dX3_isPair_58 (by decide) ⟨by decide, by decide⟩ (fun c25 => by exfalso; omega) (fun c25 => ?_)
        refine lv_iconst (v := iI 1) hx hb dX3_isPair_61 rfl ?_
        refine lv_goto (tgt := 66) hx hb dX3_isPair_62 (by decide) ?_
        exact s_iret C hB hr hlocks rfl dX3_isPair_66 ⟨by decide, by decide⟩ (by first | exact Or.inl ⟨rfl, by unfold isPr; (repeat' split) <;> omega⟩ | exact Or.inr ⟨rfl, fun h => by unfold isPr at h; (repeat' split at h) <;> omega⟩)
      · refine x_if_eq (tgt := 65) hx hb dX3_isPair_58 (by decide) ⟨by decide, by decide⟩ (fun c26 => ?_) (fun c26 => by exfalso; omega)
        refine lv_iconst (v := iI 0) hx hb dX3_isPair_65 rfl ?_
        exact s_iret C hB hr hlocks rfl dX3_isPair_66 ⟨by decide, by decide⟩ (by first | exact Or.inl ⟨rfl, by unfold isPr; (repeat' split) <;> omega⟩ | exact Or.inr ⟨rfl, fun h => by unfold isPr at h; (repeat' split at h) <;> omega⟩)
    · refine x_if_ne (tgt := 51) hx hb dX3_isPair_37 (by decide) ⟨by decide, by decide⟩ (fun c27 => by exfalso; omega) (fun c27 => ?_)
      refine lv_iload_n hx hb dX3_isPair_40 rfl (lv_at hl 1 rfl) ?_
      refine lv_bipush (v := iI 10) hx hb dX3_isPair_41 rfl ?_
      refine lv_bipush (v := iI 16) hx hb dX3_isPair_43 rfl ?_
      refine s_calli (n := 3) C hB (As := [.int (iI act), .int (iI 10), .int (iI 16)]) (kX3_within l E act 10 16 ⟨by omega, by omega⟩ ⟨by omega, by omega⟩ ⟨by omega, by omega⟩) (lw_S q1498 q1499 q77 q1500) (by decide +kernel) ⟨Nat.le_of_ble_eq_true rfl, Nat.le_of_ble_eq_true rfl⟩ rfl hl.1 rfl (Nat.le_of_ble_eq_true rfl) dX3_isPair_45 ⟨Nat.zero_le _, Nat.zero_le _⟩ (fun z28 H locs hz29 hp30 hB => ?_)
      obtain ⟨hz29a, hz29b⟩ := hz29
      rcases hp30 with ⟨rfl, h31⟩ | ⟨rfl, h31⟩
      · refine x_if_eq (tgt := 65) hx hb dX3_isPair_48 (by decide) ⟨by decide, by decide⟩ (fun c32 => by exfalso; omega) (fun c32 => ?_)
        refine lv_iload_n hx hb dX3_isPair_51 rfl (lv_at hl 0 rfl) ?_
        refine lv_iconst (v := iI 1) hx hb dX3_isPair_52 rfl ?_
        refine lv_bipush (v := iI 9) hx hb dX3_isPair_53 rfl ?_
        refine s_calli (n := 3) C hB (As := [.int (iI a), .int (iI 1), .int (iI 9)]) (kX3_within l E a 1 9 ⟨by omega, by omega⟩ ⟨by omega, by omega⟩ ⟨by omega, by omega⟩) (lw_S q1498 q1499 q77 q1500) (by decide +kernel) ⟨Nat.le_of_ble_eq_true rfl, Nat.le_of_ble_eq_true rfl⟩ rfl hl.1 rfl (Nat.le_of_ble_eq_true rfl) dX3_isPair_55 ⟨Nat.zero_le _, Nat.zero_le _⟩ (fun z33 H locs hz34 hp35 hB => ?_)
        obtain ⟨hz34a, hz34b⟩ := hz34
        rcases hp35 with ⟨rfl, h36⟩ | ⟨rfl, h36⟩
        · refine x_if_eq (tgt := 65) hx hb dX3_isPair_58 (by decide) ⟨by decide, by decide⟩ (fun c37 => by exfalso; omega) (fun c37 => ?_)
          refine lv_iconst (v := iI 1) hx hb dX3_isPair_61 rfl ?_
          refine lv_goto (tgt := 66) hx hb dX3_isPair_62 (by decide) ?_
          exact s_iret C hB hr hlocks rfl dX3_isPair_66 ⟨by decide, by decide⟩ (by first | exact Or.inl ⟨rfl, by unfold isPr; (repeat' split) <;> omega⟩ | exact Or.inr ⟨rfl, fun h => by unfold isPr at h; (repeat' split at h) <;> omega⟩)
        · refine x_if_eq (tgt := 65) hx hb dX3_isPair_58 (by decide) ⟨by decide, by decide⟩ (fun c38 => ?_) (fun c38 => by exfalso; omega)
          refine lv_iconst (v := iI 0) hx hb dX3_isPair_65 rfl ?_
          exact s_iret C hB hr hlocks rfl dX3_isPair_66 ⟨by decide, by decide⟩ (by first | exact Or.inl ⟨rfl, by unfold isPr; (repeat' split) <;> omega⟩ | exact Or.inr ⟨rfl, fun h => by unfold isPr at h; (repeat' split at h) <;> omega⟩)
      · refine x_if_eq (tgt := 65) hx hb dX3_isPair_48 (by decide) ⟨by decide, by decide⟩ (fun c39 => ?_) (fun c39 => by exfalso; omega)
        refine lv_iconst (v := iI 0) hx hb dX3_isPair_65 rfl ?_
        exact s_iret C hB hr hlocks rfl dX3_isPair_66 ⟨by decide, by decide⟩ (by first | exact Or.inl ⟨rfl, by unfold isPr; (repeat' split) <;> omega⟩ | exact Or.inr ⟨rfl, fun h => by unfold isPr at h; (repeat' split at h) <;> omega⟩)
set_option maxHeartbeats 400000 in
set_option maxRecDepth 100000 in
theorem kX3_keep (l : Launch) (E : xE) (o : Nat) (Ad : Nat → Nat) (I : Nat → Int) (F : Nat → Nat → Int) : mv_ l E yX3_keep cX3_keep 2 none 0 0 [.ref o] o Ad I F (fun I' F' => I = I' ∧ ∃ f, kpF F f = F' ∧ (∀ k, k < 7 → f k = F 11 k ∧ f (7 + k) = F 13 k) ∧ f 14 = I 7 ∧ f 15 = I 8 ∧ f 16 = I 9) := by
  intro w sz hM
  refine x_body (by decide) (Nat.le_of_ble_eq_true rfl) ?_
  intro p e s m args below meth c ls hx hb C hr hlocks _ hsz hB hl
  have C : xC E p s m args c cX3_keep 2 RX3 := C
  replace hB : mB E (xA w sz) s o Ad I F s.heap [] := ⟨w, hM, hB⟩
  have hl : lv_has ls 2 [(0, .ref o)] := hl
  refine lv_iconst (v := iI 0) hx hb dX3_keep_0 rfl ?_
  refine lv_istore_n (lv' := [(1, .int (iI 0)), (0, .ref o)]) hx hb dX3_keep_1 rfl hl (by decide) rfl (fun ls hl => ?_)
  rw [← kpF_id F] at hB
  refine w_loop (fun n4 H locs ls => ∃ (k : Nat) (f : Nat → Int), n4 = 7 - k ∧ (k ≤ 7) ∧ (∀ j, j < k → f j = F 11 j ∧ f (7 + j) = F 13 j) ∧ mB E (xA w sz) s o Ad I (kpF F f) H locs ∧ lv_has ls 2 [(0, .ref o), (1, .int (iI ((k : Int))))]) _ ⟨0, _, rfl, by omega, fun j h => absurd h (Nat.not_lt_zero j), hB, lv_sub hl [1, 0] rfl⟩ ?_
  intro n4 H locs ls hI3 ih1
  obtain ⟨k, f, hn2, hk, hf, hB, hl⟩ := hI3
  refine lv_iload_n hx hb dX3_keep_2 rfl (lv_at hl 1 rfl) ?_
  refine lv_bipush (v := iI 7) hx hb dX3_keep_3 rfl ?_
  refine x_icmp_ge (tgt := 41) hx hb dX3_keep_5 (by decide) ⟨by omega, by omega⟩ ⟨by decide, by decide⟩ (fun c5 => ?_) (fun c5 => ?_)
  · refine lv_aload_n hx hb dX3_keep_41 rfl (lv_at hl 0 rfl) ?_
    refine m_get C hB 28 (by decide) q1422 (v := .ref (Ad 28)) rfl rfl dX3_keep_42 ?_
    refine lv_bipush (v := iI 14) hx hb dX3_keep_45 rfl ?_
    refine lv_aload_n hx hb dX3_keep_47 rfl (lv_at hl 0 rfl) ?_
    refine m_get C hB 7 (by decide) q1401 (v := .int (iI (I 7))) rfl rfl dX3_keep_48 ?_
    refine m_ast C hB 28 17 rfl (f := f) 14 rfl (by decide) rfl dX3_keep_51 (fun H locs hB => ?_)
    rw [kpF_28] at hB
    refine lv_aload_n hx hb dX3_keep_52 rfl (lv_at hl 0 rfl) ?_
    refine m_get C hB 28 (by decide) q1422 (v := .ref (Ad 28)) rfl rfl dX3_keep_53 ?_
    refine lv_bipush (v := iI 15) hx hb dX3_keep_56 rfl ?_
    refine lv_aload_n hx hb dX3_keep_58 rfl (lv_at hl 0 rfl) ?_
    refine m_get C hB 8 (by decide) q1402 (v := .int (iI (I 8))) rfl rfl dX3_keep_59 ?_
    refine m_ast C hB 28 17 rfl (f := ((va_up f 14 (I 7)))) 15 rfl (by decide) rfl dX3_keep_62 (fun H locs hB => ?_)
    rw [kpF_28] at hB
    refine lv_aload_n hx hb dX3_keep_63 rfl (lv_at hl 0 rfl) ?_
    refine m_get C hB 28 (by decide) q1422 (v := .ref (Ad 28)) rfl rfl dX3_keep_64 ?_
    refine lv_bipush (v := iI 16) hx hb dX3_keep_67 rfl ?_
    refine lv_aload_n hx hb dX3_keep_69 rfl (lv_at hl 0 rfl) ?_
    refine m_get C hB 9 (by decide) q1403 (v := .int (iI (I 9))) rfl rfl dX3_keep_70 ?_
    refine m_ast C hB 28 17 rfl (f := ((va_up (((va_up f 14 (I 7)))) 15 (I 8)))) 16 rfl (by decide) rfl dX3_keep_73 (fun H locs hB => ?_)
    rw [kpF_28] at hB
    exact m_vret C hB hr hlocks dX3_keep_74 ⟨rfl, _, rfl, fun j h => by rw [va_up_n _ _ (by omega), va_up_n _ _ (by omega), va_up_n _ _ (by omega), va_up_n _ _ (by omega), va_up_n _ _ (by omega), va_up_n _ _ (by omega)]; exact hf j (by omega), rfl, rfl, rfl⟩
  · refine lv_aload_n hx hb dX3_keep_8 rfl (lv_at hl 0 rfl) ?_
    refine m_get C hB 28 (by decide) q1422 (v := .ref (Ad 28)) rfl rfl dX3_keep_9 ?_
    refine lv_iload_n hx hb dX3_keep_12 rfl (lv_at hl 1 rfl) ?_
    refine lv_aload_n hx hb dX3_keep_13 rfl (lv_at hl 0 rfl) ?_
    refine m_get C hB 11 (by decide) q1405 (v := .ref (Ad 11)) rfl rfl dX3_keep_14 ?_
    refine lv_iload_n hx hb dX3_keep_17 rfl (lv_at hl 1 rfl) ?_
    refine m_ald C hB 11 7 rfl (v := F 11 k) k rfl (by omega) rfl dX3_keep_18 ?_
    refine m_ast C hB 28 17 rfl (f := f) k rfl (by omega) rfl dX3_keep_19 (fun H locs hB => ?_)
    rw [kpF_28] at hB
    refine lv_aload_n hx hb dX3_keep_20 rfl (lv_at hl 0 rfl) ?_
    refine m_get C hB 28 (by decide) q1422 (v := .ref (Ad 28)) rfl rfl dX3_keep_21 ?_
    refine lv_bipush (v := iI 7) hx hb dX3_keep_24 rfl ?_
    refine lv_iload_n hx hb dX3_keep_26 rfl (lv_at hl 1 rfl) ?_
    refine x_iadd (z := (k : Int) + 7) hx hb dX3_keep_27 (by omega) ?_
    refine lv_aload_n hx hb dX3_keep_28 rfl (lv_at hl 0 rfl) ?_
    refine m_get C hB 13 (by decide) q1407 (v := .ref (Ad 13)) rfl rfl dX3_keep_29 ?_
    refine lv_iload_n hx hb dX3_keep_32 rfl (lv_at hl 1 rfl) ?_
    refine m_ald C hB 13 7 rfl (v := F 13 k) k rfl (by omega) rfl dX3_keep_33 ?_
    refine m_ast C hB 28 17 rfl (f := ((va_up f k (F 11 k)))) (7 + k) (by omega) (by omega) rfl dX3_keep_34 (fun H locs hB => ?_)
    rw [kpF_28] at hB
    refine lv_iinc (v := iI ((k : Int) + 1)) (lv' := [(1, .int (iI ((k : Int) + 1))), (0, .ref o)]) hx hb dX3_keep_35 hl (k := 1) rfl (iI_add _ _) (by decide) rfl (fun ls hl => ?_)
    refine lv_goto (tgt := 2) hx hb dX3_keep_38 (by decide) ?_
    exact ih1 _ _ _ _ (by omega) ⟨k + 1, _, rfl, by omega, fun j h => by
          by_cases e : j = k
          · subst e
            exact ⟨by rw [va_up_n _ _ (by omega), va_up_s], va_up_s _ _ _⟩
          · rw [va_up_n _ _ (by omega), va_up_n _ _ (by omega), va_up_n _ _ (by omega), va_up_n _ _ (by omega)]
            exact hf j (by omega), hB, lv_sub hl [1, 0] rfl⟩
set_option maxHeartbeats 400000 in
set_option maxRecDepth 100000 in
theorem kX3_putBack (l : Launch) (E : xE) (o : Nat) (Ad : Nat → Nat) (I : Nat → Int) (F : Nat → Nat → Int) : mv_ l E yX3_putBack cX3_putBack 2 none 0 0 [.ref o] o Ad I F (fun I' F' => ∃ f g, bd3 I (F 28 14) (F 28 15) (F 28 16) = I' ∧ dyF F f g = F' ∧ ∀ k, k < 7 → f k = F 28 k ∧ g k = F 28 (7 + k)) := by
  intro w sz hM
  refine x_body (by decide) (Nat.le_of_ble_eq_true rfl) ?_
  intro p e s m args below meth c ls hx hb C hr hlocks _ hsz hB hl
  have C : xC E p s m args c cX3_putBack 2 RX3 := C
  replace hB : mB E (xA w sz) s o Ad I F s.heap [] := ⟨w, hM, hB⟩
  have hl : lv_has ls 2 [(0, .ref o)] := hl
  refine lv_iconst (v := iI 0) hx hb dX3_putBack_0 rfl ?_
  refine lv_istore_n (lv' := [(1, .int (iI 0)), (0, .ref o)]) hx hb dX3_putBack_1 rfl hl (by decide) rfl (fun ls hl => ?_)
  rw [← dyF_id F] at hB
  refine w_loop (fun n4 H locs ls => ∃ (k : Nat) (f : Nat → Int) (g : Nat → Int), n4 = 7 - k ∧ (k ≤ 7) ∧ (∀ j, j < k → f j = F 28 j ∧ g j = F 28 (7 + j)) ∧ mB E (xA w sz) s o Ad I (dyF F f g) H locs ∧ lv_has ls 2 [(0, .ref o), (1, .int (iI ((k : Int))))]) _ ⟨0, _, _, rfl, by omega, fun j h => absurd h (Nat.not_lt_zero j), hB, lv_sub hl [1, 0] rfl⟩ ?_
  intro n4 H locs ls hI3 ih1
  obtain ⟨k, f, g, hn2, hk, hf, hB, hl⟩ := hI3
  refine lv_iload_n hx hb dX3_putBack_2 rfl (lv_at hl 1 rfl) ?_
  refine lv_bipush (v := iI 7) hx hb dX3_putBack_3 rfl ?_
  refine x_icmp_ge (tgt := 41) hx hb dX3_putBack_5 (by decide) ⟨by omega, by omega⟩ ⟨by decide, by decide⟩ (fun c5 => ?_) (fun c5 => ?_)
  · refine lv_aload_n hx hb dX3_putBack_41 rfl (lv_at hl 0 rfl) ?_
    refine lv_aload_n hx hb dX3_putBack_42 rfl (lv_at hl 0 rfl) ?_
    refine m_get C hB 28 (by decide) q1422 (v := .ref (Ad 28)) rfl rfl dX3_putBack_43 ?_
    refine lv_bipush (v := iI 14) hx hb dX3_putBack_46 rfl ?_
    refine m_ald C hB 28 17 rfl (v := F 28 14) 14 rfl (by decide) rfl dX3_putBack_48 ?_
    refine m_put C hB 7 (by decide) rfl q1401 rfl rfl dX3_putBack_49 (fun H locs hB => ?_)
    refine lv_aload_n hx hb dX3_putBack_52 rfl (lv_at hl 0 rfl) ?_
    refine lv_aload_n hx hb dX3_putBack_53 rfl (lv_at hl 0 rfl) ?_
    refine m_get C hB 28 (by decide) q1422 (v := .ref (Ad 28)) rfl rfl dX3_putBack_54 ?_
    refine lv_bipush (v := iI 15) hx hb dX3_putBack_57 rfl ?_
    refine m_ald C hB 28 17 rfl (v := F 28 15) 15 rfl (by decide) rfl dX3_putBack_59 ?_
    refine m_put C hB 8 (by decide) rfl q1402 rfl rfl dX3_putBack_60 (fun H locs hB => ?_)
    refine lv_aload_n hx hb dX3_putBack_63 rfl (lv_at hl 0 rfl) ?_
    refine lv_aload_n hx hb dX3_putBack_64 rfl (lv_at hl 0 rfl) ?_
    refine m_get C hB 28 (by decide) q1422 (v := .ref (Ad 28)) rfl rfl dX3_putBack_65 ?_
    refine lv_bipush (v := iI 16) hx hb dX3_putBack_68 rfl ?_
    refine m_ald C hB 28 17 rfl (v := F 28 16) 16 rfl (by decide) rfl dX3_putBack_70 ?_
    refine m_put C hB 9 (by decide) rfl q1403 rfl rfl dX3_putBack_71 (fun H locs hB => ?_)
    exact m_vret C hB hr hlocks dX3_putBack_74 ⟨_, _, rfl, rfl, fun j h => hf j (by omega)⟩
  · refine lv_aload_n hx hb dX3_putBack_8 rfl (lv_at hl 0 rfl) ?_
    refine m_get C hB 11 (by decide) q1405 (v := .ref (Ad 11)) rfl rfl dX3_putBack_9 ?_
    refine lv_iload_n hx hb dX3_putBack_12 rfl (lv_at hl 1 rfl) ?_
    refine lv_aload_n hx hb dX3_putBack_13 rfl (lv_at hl 0 rfl) ?_
    refine m_get C hB 28 (by decide) q1422 (v := .ref (Ad 28)) rfl rfl dX3_putBack_14 ?_
    refine lv_iload_n hx hb dX3_putBack_17 rfl (lv_at hl 1 rfl) ?_
    refine m_ald C hB 28 17 rfl (v := F 28 k) k rfl (by omega) rfl dX3_putBack_18 ?_
    refine m_ast C hB 11 7 rfl (f := f) k rfl (by omega) rfl dX3_putBack_19 (fun H locs hB => ?_)
    rw [dyF_11] at hB
    refine lv_aload_n hx hb dX3_putBack_20 rfl (lv_at hl 0 rfl) ?_
    refine m_get C hB 13 (by decide) q1407 (v := .ref (Ad 13)) rfl rfl dX3_putBack_21 ?_
    refine lv_iload_n hx hb dX3_putBack_24 rfl (lv_at hl 1 rfl) ?_
    refine lv_aload_n hx hb dX3_putBack_25 rfl (lv_at hl 0 rfl) ?_
    refine m_get C hB 28 (by decide) q1422 (v := .ref (Ad 28)) rfl rfl dX3_putBack_26 ?_
    refine lv_bipush (v := iI 7) hx hb dX3_putBack_29 rfl ?_
    refine lv_iload_n hx hb dX3_putBack_31 rfl (lv_at hl 1 rfl) ?_
    refine x_iadd (z := (k : Int) + 7) hx hb dX3_putBack_32 (by omega) ?_
    refine m_ald C hB 28 17 rfl (v := F 28 (7 + k)) (7 + k) (by omega) (by omega) rfl dX3_putBack_33 ?_
    refine m_ast C hB 13 7 rfl (f := g) k rfl (by omega) rfl dX3_putBack_34 (fun H locs hB => ?_)
    rw [dyF_13] at hB
    refine lv_iinc (v := iI ((k : Int) + 1)) (lv' := [(1, .int (iI ((k : Int) + 1))), (0, .ref o)]) hx hb dX3_putBack_35 hl (k := 1) rfl (iI_add _ _) (by decide) rfl (fun ls hl => ?_)
    refine lv_goto (tgt := 2) hx hb dX3_putBack_38 (by decide) ?_
    exact ih1 _ _ _ _ (by omega) ⟨k + 1, _, _, rfl, by omega, fun j h => by
          by_cases e : j = k
          · subst e
            exact ⟨va_up_s _ _ _, va_up_s _ _ _⟩
          · rw [va_up_n _ _ (by omega), va_up_n _ _ (by omega)]
            exact hf j (by omega), hB, lv_sub hl [1, 0] rfl⟩
set_option maxHeartbeats 400000 in
set_option maxRecDepth 100000 in
theorem kX3_does (l : Launch) (E : xE) (o : Nat) (Ad : Nat → Nat) (I : Nat → Int) (F : Nat → Nat → Int) (a : Int) (act : Int) (hpr : isPr a act) (hOK : mOK I F) : mi_ l E yX3_does cX3_does 3 (some .boolean) 1 21 [.ref o, .int (iI a), .int (iI act)] o Ad I F (fun z I' F' => (z = 1 ∧ okA I act = true ∧ dI I a act = I' ∧ dF F a act = F') ∨ (z = 0 ∧ okA I act = false ∧ I = I' ∧ F = F')) := by
  intro w sz hM
  refine x_body (by decide) (Nat.le_of_ble_eq_true rfl) ?_
  intro p e s m args below meth c ls hx hb C hr hlocks _ hsz hB hl
  have C : xC E p s m args c cX3_does 3 RX3 := C
  replace hB : mB E (xA w sz) s o Ad I F s.heap [] := ⟨w, hM, hB⟩
  have hl : lv_has ls 3 [(0, .ref o), (1, .int (iI a)), (2, .int (iI act))] := hl
  have hact : (0 ≤ act ∧ act ≤ 6) ∨ (10 ≤ act ∧ act ≤ 16) ∨ (20 ≤ act ∧ act ≤ 22) := by unfold isPr at hpr; (repeat' split at hpr) <;> omega
  have hOK0 := hOK
  obtain ⟨⟨hf1, hf2⟩, ⟨hl1, hl2⟩, ⟨hr1, hr2⟩, hlr, ⟨hs1, hs2⟩, ⟨hj1, hj2⟩, ⟨hb1, hb2⟩, ⟨hn1, hn2⟩, hL, hR, hN, hS, hC⟩ := hOK
  refine lv_iload_n hx hb dX3_does_0 rfl (lv_at hl 2 rfl) ?_
  refine lv_bipush (v := iI 20) hx hb dX3_does_1 rfl ?_
  refine x_icmp_lt (tgt := 62) hx hb dX3_does_3 (by decide) ⟨by omega, by omega⟩ ⟨by decide, by decide⟩ (fun c1 => ?_) (fun c1 => ?_)
  · refine lv_iload_n hx hb dX3_does_62 rfl (lv_at hl 2 rfl) ?_
    refine lv_bipush (v := iI 10) hx hb dX3_does_63 rfl ?_
    refine x_icmp_lt (tgt := 82) hx hb dX3_does_65 (by decide) ⟨by omega, by omega⟩ ⟨by decide, by decide⟩ (fun c2 => ?_) (fun c2 => ?_)
    · refine lv_aload_n hx hb dX3_does_82 rfl (lv_at hl 0 rfl) ?_
      refine lv_iload_n hx hb dX3_does_83 rfl (lv_at hl 2 rfl) ?_
      refine m_calli (n := 1) C hB (As := [.int (iI act)]) (kX3_isLeft l E o Ad I F act ⟨by omega, by omega⟩ ⟨by omega, by omega⟩) (lw_V q1532 q1534 qs46 q77 q1535) (by decide +kernel) ⟨Nat.le_of_ble_eq_true rfl, Nat.le_of_ble_eq_true rfl⟩ rfl hl.1 rfl (Nat.le_of_ble_eq_true rfl) dX3_does_84 ⟨Nat.zero_le _, Nat.zero_le _⟩ (fun z3 I4 F5 H locs hz6 hp7 hB => ?_)
      obtain ⟨hz6a, hz6b⟩ := hz6
      obtain ⟨rfl, rfl, ⟨rfl, h8⟩ | ⟨rfl, h8⟩⟩ := hp7
      · refine x_if_ne (tgt := 92) hx hb dX3_does_87 (by decide) ⟨by decide, by decide⟩ (fun c9 => ?_) (fun c9 => by exfalso; omega)
        refine lv_iload_n hx hb dX3_does_92 rfl (lv_at hl 2 rfl) ?_
        refine lv_bipush (v := iI 10) hx hb dX3_does_93 rfl ?_
        refine x_icmp_lt (tgt := 111) hx hb dX3_does_95 (by decide) ⟨by omega, by omega⟩ ⟨by decide, by decide⟩ (fun c10 => ?_) (fun c10 => ?_)
        · refine lv_aload_n hx hb dX3_does_111 rfl (lv_at hl 0 rfl) ?_
          refine m_get C hB 11 (by decide) q1405 (v := .ref (Ad 11)) rfl rfl dX3_does_112 ?_
          refine lv_iload_n hx hb dX3_does_115 rfl (lv_at hl 2 rfl) ?_
          refine lv_iload_n hx hb dX3_does_116 rfl (lv_at hl 1 rfl) ?_
          refine m_ast C hB 11 7 rfl (f := F 11) (act).toNat (by omega) (by omega) rfl dX3_does_117 (fun H locs hB => ?_)
          refine lv_iconst (v := iI 1) hx hb dX3_does_118 rfl ?_
          exact m_iret C hB hr hlocks rfl dX3_does_119 ⟨by decide, by decide⟩ (Or.inl ⟨rfl, decide_eq_true (by omega), by unfold dI; rw [if_neg (by omega), if_neg (by omega), if_neg (by omega)], by unfold dF; rw [if_neg (by omega), if_neg (by omega)]⟩)
        · refine lv_aload_n hx hb dX3_does_98 rfl (lv_at hl 0 rfl) ?_
          refine m_get C hB 13 (by decide) q1407 (v := .ref (Ad 13)) rfl rfl dX3_does_99 ?_
          refine lv_iload_n hx hb dX3_does_102 rfl (lv_at hl 2 rfl) ?_
          refine lv_bipush (v := iI 10) hx hb dX3_does_103 rfl ?_
          refine x_isub (z := act - 10) hx hb dX3_does_105 (by omega) ?_
          refine lv_iload_n hx hb dX3_does_106 rfl (lv_at hl 1 rfl) ?_
          refine m_ast C hB 13 7 rfl (f := F 13) (act - 10).toNat (by omega) (by omega) rfl dX3_does_107 (fun H locs hB => ?_)
          refine lv_goto (tgt := 118) hx hb dX3_does_108 (by decide) ?_
          refine lv_iconst (v := iI 1) hx hb dX3_does_118 rfl ?_
          exact m_iret C hB hr hlocks rfl dX3_does_119 ⟨by decide, by decide⟩ (Or.inl ⟨rfl, decide_eq_true (by omega), by unfold dI; rw [if_neg (by omega), if_neg (by omega), if_neg (by omega)], by unfold dF; rw [if_neg (by omega), if_pos (by omega)]⟩)
      · refine x_if_ne (tgt := 92) hx hb dX3_does_87 (by decide) ⟨by decide, by decide⟩ (fun c11 => by exfalso; omega) (fun c11 => ?_)
        refine lv_iconst (v := iI 0) hx hb dX3_does_90 rfl ?_
        exact m_iret C hB hr hlocks rfl dX3_does_91 ⟨by decide, by decide⟩ (Or.inr ⟨rfl, decide_eq_false (by omega), rfl, rfl⟩)
    · refine lv_aload_n hx hb dX3_does_68 rfl (lv_at hl 0 rfl) ?_
      refine lv_iload_n hx hb dX3_does_69 rfl (lv_at hl 2 rfl) ?_
      refine lv_bipush (v := iI 10) hx hb dX3_does_70 rfl ?_
      refine x_isub (z := act - 10) hx hb dX3_does_72 (by omega) ?_
      refine m_calli (n := 1) C hB (As := [.int (iI (act - 10))]) (kX3_isRight l E o Ad I F (act - 10) ⟨by omega, by omega⟩ ⟨by omega, by omega⟩) (lw_V q1586 q1588 qs56 q77 q1589) (by decide +kernel) ⟨Nat.le_of_ble_eq_true rfl, Nat.le_of_ble_eq_true rfl⟩ rfl hl.1 rfl (Nat.le_of_ble_eq_true rfl) dX3_does_73 ⟨Nat.zero_le _, Nat.zero_le _⟩ (fun z12 I13 F14 H locs hz15 hp16 hB => ?_)
      obtain ⟨hz15a, hz15b⟩ := hz15
      obtain ⟨rfl, rfl, ⟨rfl, h17⟩ | ⟨rfl, h17⟩⟩ := hp16
      · refine x_if_ne (tgt := 92) hx hb dX3_does_76 (by decide) ⟨by decide, by decide⟩ (fun c18 => ?_) (fun c18 => by exfalso; omega)
        refine lv_iload_n hx hb dX3_does_92 rfl (lv_at hl 2 rfl) ?_
        refine lv_bipush (v := iI 10) hx hb dX3_does_93 rfl ?_
        refine x_icmp_lt (tgt := 111) hx hb dX3_does_95 (by decide) ⟨by omega, by omega⟩ ⟨by decide, by decide⟩ (fun c19 => ?_) (fun c19 => ?_)
        · refine lv_aload_n hx hb dX3_does_111 rfl (lv_at hl 0 rfl) ?_
          refine m_get C hB 11 (by decide) q1405 (v := .ref (Ad 11)) rfl rfl dX3_does_112 ?_
          refine lv_iload_n hx hb dX3_does_115 rfl (lv_at hl 2 rfl) ?_
          refine lv_iload_n hx hb dX3_does_116 rfl (lv_at hl 1 rfl) ?_
          refine m_ast C hB 11 7 rfl (f := F 11) (act).toNat (by omega) (by omega) rfl dX3_does_117 (fun H locs hB => ?_)
          refine lv_iconst (v := iI 1) hx hb dX3_does_118 rfl ?_
          exact m_iret C hB hr hlocks rfl dX3_does_119 ⟨by decide, by decide⟩ (Or.inl ⟨rfl, decide_eq_true (by omega), by unfold dI; rw [if_neg (by omega), if_neg (by omega), if_neg (by omega)], by unfold dF; rw [if_neg (by omega), if_neg (by omega)]⟩)
        · refine lv_aload_n hx hb dX3_does_98 rfl (lv_at hl 0 rfl) ?_
          refine m_get C hB 13 (by decide) q1407 (v := .ref (Ad 13)) rfl rfl dX3_does_99 ?_
          refine lv_iload_n hx hb dX3_does_102 rfl (lv_at hl 2 rfl) ?_
          refine lv_bipush (v := iI 10) hx hb dX3_does_103 rfl ?_
          refine x_isub (z := act - 10) hx hb dX3_does_105 (by omega) ?_
          refine lv_iload_n hx hb dX3_does_106 rfl (lv_at hl 1 rfl) ?_
          refine m_ast C hB 13 7 rfl (f := F 13) (act - 10).toNat (by omega) (by omega) rfl dX3_does_107 (fun H locs hB => ?_)
          refine lv_goto (tgt := 118) hx hb dX3_does_108 (by decide) ?_
          refine lv_iconst (v := iI 1) hx hb dX3_does_118 rfl ?_
          exact m_iret C hB hr hlocks rfl dX3_does_119 ⟨by decide, by decide⟩ (Or.inl ⟨rfl, decide_eq_true (by omega), by unfold dI; rw [if_neg (by omega), if_neg (by omega), if_neg (by omega)], by unfold dF; rw [if_neg (by omega), if_pos (by omega)]⟩)
      · refine x_if_ne (tgt := 92) hx hb dX3_does_76 (by decide) ⟨by decide, by decide⟩ (fun c20 => by exfalso; omega) (fun c20 => ?_)
        refine lv_goto (tgt := 90) hx hb dX3_does_79 (by decide) ?_
        refine lv_iconst (v := iI 0) hx hb dX3_does_90 rfl ?_
        exact m_iret C hB hr hlocks rfl dX3_does_91 ⟨by decide, by decide⟩ (Or.inr ⟨rfl, decide_eq_false (by omega), rfl, rfl⟩)
  · rcases (show act = 20 ∨ act = 21 ∨ act = 22 by omega) with rfl | rfl | rfl
    · refine lv_aload_n hx hb dX3_does_6 rfl (lv_at hl 0 rfl) ?_
      refine lv_iload_n hx hb dX3_does_7 rfl (lv_at hl 2 rfl) ?_
      refine lv_bipush (v := iI 20) hx hb dX3_does_8 rfl ?_
      refine x_icmp_ne (tgt := 17) hx hb dX3_does_10 (by decide) ⟨by decide, by decide⟩ ⟨by decide, by decide⟩ (fun c21 => by exfalso; omega) (fun c21 => ?_)
      refine lv_iload_n hx hb dX3_does_13 rfl (lv_at hl 1 rfl) ?_
      refine lv_goto (tgt := 21) hx hb dX3_does_14 (by decide) ?_
      refine m_put C hB 7 (by decide) rfl q1401 rfl rfl dX3_does_21 (fun H locs hB => ?_)
      refine lv_aload_n hx hb dX3_does_24 rfl (lv_at hl 0 rfl) ?_
      refine lv_iload_n hx hb dX3_does_25 rfl (lv_at hl 2 rfl) ?_
      refine lv_bipush (v := iI 21) hx hb dX3_does_26 rfl ?_
      refine x_icmp_ne (tgt := 35) hx hb dX3_does_28 (by decide) ⟨by decide, by decide⟩ ⟨by decide, by decide⟩ (fun c22 => ?_) (fun c22 => by exfalso; omega)
      refine lv_aload_n hx hb dX3_does_35 rfl (lv_at hl 0 rfl) ?_
      refine m_get C hB 8 (by decide) q1402 (v := .int (iI (I 8))) rfl rfl dX3_does_36 ?_
      refine m_put C hB 8 (by decide) rfl q1402 rfl rfl dX3_does_39 (fun H locs hB => ?_)
      refine lv_aload_n hx hb dX3_does_42 rfl (lv_at hl 0 rfl) ?_
      refine lv_iload_n hx hb dX3_does_43 rfl (lv_at hl 2 rfl) ?_
      refine lv_bipush (v := iI 22) hx hb dX3_does_44 rfl ?_
      refine x_icmp_ne (tgt := 53) hx hb dX3_does_46 (by decide) ⟨by decide, by decide⟩ ⟨by decide, by decide⟩ (fun c23 => ?_) (fun c23 => by exfalso; omega)
      refine lv_aload_n hx hb dX3_does_53 rfl (lv_at hl 0 rfl) ?_
      refine m_get C hB 9 (by decide) q1403 (v := .int (iI (I 9))) rfl rfl dX3_does_54 ?_
      refine m_put C hB 9 (by decide) rfl q1403 rfl rfl dX3_does_57 (fun H locs hB => ?_)
      refine lv_iconst (v := iI 1) hx hb dX3_does_60 rfl ?_
      exact m_iret C hB hr hlocks rfl dX3_does_61 ⟨by decide, by decide⟩ (Or.inl ⟨rfl, decide_eq_true (Or.inl (by decide)), dI_bd I a 20, rfl⟩)
    · refine lv_aload_n hx hb dX3_does_6 rfl (lv_at hl 0 rfl) ?_
      refine lv_iload_n hx hb dX3_does_7 rfl (lv_at hl 2 rfl) ?_
      refine lv_bipush (v := iI 20) hx hb dX3_does_8 rfl ?_
      refine x_icmp_ne (tgt := 17) hx hb dX3_does_10 (by decide) ⟨by decide, by decide⟩ ⟨by decide, by decide⟩ (fun c24 => ?_) (fun c24 => by exfalso; omega)
      refine lv_aload_n hx hb dX3_does_17 rfl (lv_at hl 0 rfl) ?_
      refine m_get C hB 7 (by decide) q1401 (v := .int (iI (I 7))) rfl rfl dX3_does_18 ?_
      refine m_put C hB 7 (by decide) rfl q1401 rfl rfl dX3_does_21 (fun H locs hB => ?_)
      refine lv_aload_n hx hb dX3_does_24 rfl (lv_at hl 0 rfl) ?_
      refine lv_iload_n hx hb dX3_does_25 rfl (lv_at hl 2 rfl) ?_
      refine lv_bipush (v := iI 21) hx hb dX3_does_26 rfl ?_
      refine x_icmp_ne (tgt := 35) hx hb dX3_does_28 (by decide) ⟨by decide, by decide⟩ ⟨by decide, by decide⟩ (fun c25 => by exfalso; omega) (fun c25 => ?_)
      refine lv_iload_n hx hb dX3_does_31 rfl (lv_at hl 1 rfl) ?_
      refine lv_goto (tgt := 39) hx hb dX3_does_32 (by decide) ?_
      refine m_put C hB 8 (by decide) rfl q1402 rfl rfl dX3_does_39 (fun H locs hB => ?_)
      refine lv_aload_n hx hb dX3_does_42 rfl (lv_at hl 0 rfl) ?_
      refine lv_iload_n hx hb dX3_does_43 rfl (lv_at hl 2 rfl) ?_
      refine lv_bipush (v := iI 22) hx hb dX3_does_44 rfl ?_
      refine x_icmp_ne (tgt := 53) hx hb dX3_does_46 (by decide) ⟨by decide, by decide⟩ ⟨by decide, by decide⟩ (fun c26 => ?_) (fun c26 => by exfalso; omega)
      refine lv_aload_n hx hb dX3_does_53 rfl (lv_at hl 0 rfl) ?_
      refine m_get C hB 9 (by decide) q1403 (v := .int (iI (I 9))) rfl rfl dX3_does_54 ?_
      refine m_put C hB 9 (by decide) rfl q1403 rfl rfl dX3_does_57 (fun H locs hB => ?_)
      refine lv_iconst (v := iI 1) hx hb dX3_does_60 rfl ?_
      exact m_iret C hB hr hlocks rfl dX3_does_61 ⟨by decide, by decide⟩ (Or.inl ⟨rfl, decide_eq_true (Or.inl (by decide)), dI_bd I a 21, rfl⟩)
    · refine lv_aload_n hx hb dX3_does_6 rfl (lv_at hl 0 rfl) ?_
      refine lv_iload_n hx hb dX3_does_7 rfl (lv_at hl 2 rfl) ?_
      refine lv_bipush (v := iI 20) hx hb dX3_does_8 rfl ?_
      refine x_icmp_ne (tgt := 17) hx hb dX3_does_10 (by decide) ⟨by decide, by decide⟩ ⟨by decide, by decide⟩ (fun c27 => ?_) (fun c27 => by exfalso; omega)
      refine lv_aload_n hx hb dX3_does_17 rfl (lv_at hl 0 rfl) ?_
      refine m_get C hB 7 (by decide) q1401 (v := .int (iI (I 7))) rfl rfl dX3_does_18 ?_
      refine m_put C hB 7 (by decide) rfl q1401 rfl rfl dX3_does_21 (fun H locs hB => ?_)
      refine lv_aload_n hx hb dX3_does_24 rfl (lv_at hl 0 rfl) ?_
      refine lv_iload_n hx hb dX3_does_25 rfl (lv_at hl 2 rfl) ?_
      refine lv_bipush (v := iI 21) hx hb dX3_does_26 rfl ?_
      refine x_icmp_ne (tgt := 35) hx hb dX3_does_28 (by decide) ⟨by decide, by decide⟩ ⟨by decide, by decide⟩ (fun c28 => ?_) (fun c28 => by exfalso; omega)
      refine lv_aload_n hx hb dX3_does_35 rfl (lv_at hl 0 rfl) ?_
      refine m_get C hB 8 (by decide) q1402 (v := .int (iI (I 8))) rfl rfl dX3_does_36 ?_
      refine m_put C hB 8 (by decide) rfl q1402 rfl rfl dX3_does_39 (fun H locs hB => ?_)
      refine lv_aload_n hx hb dX3_does_42 rfl (lv_at hl 0 rfl) ?_
      refine lv_iload_n hx hb dX3_does_43 rfl (lv_at hl 2 rfl) ?_
      refine lv_bipush (v := iI 22) hx hb dX3_does_44 rfl ?_
      refine x_icmp_ne (tgt := 53) hx hb dX3_does_46 (by decide) ⟨by decide, by decide⟩ ⟨by decide, by decide⟩ (fun c29 => by exfalso; omega) (fun c29 => ?_)
      refine lv_iload_n hx hb dX3_does_49 rfl (lv_at hl 1 rfl) ?_
      refine lv_goto (tgt := 57) hx hb dX3_does_50 (by decide) ?_
      refine m_put C hB 9 (by decide) rfl q1403 rfl rfl dX3_does_57 (fun H locs hB => ?_)
      refine lv_iconst (v := iI 1) hx hb dX3_does_60 rfl ?_
      exact m_iret C hB hr hlocks rfl dX3_does_61 ⟨by decide, by decide⟩ (Or.inl ⟨rfl, decide_eq_true (Or.inl (by decide)), dI_bd I a 22, rfl⟩)
set_option maxHeartbeats 400000 in
set_option maxRecDepth 100000 in
theorem kX3_goDay (l : Launch) (E : xE) (o : Nat) (Ad : Nat → Nat) (I : Nat → Int) (F : Nat → Nat → Int) (fs : Nat) (n : Nat) (hfn : fs + 2 * n ≤ 240) (hn20 : n ≤ 20) (hpr : ∀ k, k < n → isPr (F 4 (fs + 2 * k)) (F 4 (fs + 2 * k + 1))) (hOK : mOK I F) : mi_ l E yX3_goDay cX3_goDay 4 (some .int) 2 43 [.ref o, .int (iI ((fs : Int))), .int (iI ((n : Int)))] o Ad I F (fun z I' F' => (gdy (fun j => F 4 (fs + j)) n 0 I F).1 = z ∧ (gdy (fun j => F 4 (fs + j)) n 0 I F).2.1 = I' ∧ (gdy (fun j => F 4 (fs + j)) n 0 I F).2.2 = F' ∧ mOK I' F') := by
  intro w sz hM
  refine x_body (by decide) (Nat.le_of_ble_eq_true rfl) ?_
  intro p e s m args below meth c ls hx hb C hr hlocks _ hsz hB hl
  have C : xC E p s m args c cX3_goDay 4 RX3 := C
  replace hB : mB E (xA w sz) s o Ad I F s.heap [] := ⟨w, hM, hB⟩
  have hl : lv_has ls 4 [(0, .ref o), (1, .int (iI ((fs : Int)))), (2, .int (iI ((n : Int))))] := hl
  have hOK0 := hOK
  obtain ⟨⟨hf1, hf2⟩, ⟨hl1, hl2⟩, ⟨hr1, hr2⟩, hlr, ⟨hs1, hs2⟩, ⟨hj1, hj2⟩, ⟨hb1, hb2⟩, ⟨hn1, hn2⟩, hL, hR, hN, hS, hC⟩ := hOK
  refine lv_iconst (v := iI 0) hx hb dX3_goDay_0 rfl ?_
  refine lv_istore_n (lv' := [(3, .int (iI 0)), (0, .ref o), (1, .int (iI ((fs : Int)))), (2, .int (iI ((n : Int))))]) hx hb dX3_goDay_1 rfl hl (by decide) rfl (fun ls hl => ?_)
  refine w_loop (fun n4 H locs ls => ∃ (k : Nat) (I1 : Nat → Int) (F1 : Nat → Nat → Int), n4 = n - k ∧ (k ≤ n) ∧ (gdy (fun j => F 4 (fs + j)) n 0 I F = gdy (fun j => F 4 (fs + j)) (n - k) k I1 F1) ∧ (F1 4 = F 4) ∧ (mOK I1 F1) ∧ mB E (xA w sz) s o Ad I1 F1 H locs ∧ lv_has ls 4 [(0, .ref o), (1, .int (iI ((fs : Int)))), (2, .int (iI ((n : Int)))), (3, .int (iI ((k : Int))))]) _ ⟨0, I, F, rfl, by omega, rfl, rfl, hOK0, hB, lv_sub hl [1, 2, 3, 0] rfl⟩ ?_
  intro n4 H locs ls hI3 ih1
  obtain ⟨k, I1, F1, hn2, hk, hgd, hF4, hOK1, hB, hl⟩ := hI3
  refine lv_iload_n hx hb dX3_goDay_2 rfl (lv_at hl 3 rfl) ?_
  refine lv_iload_n hx hb dX3_goDay_3 rfl (lv_at hl 2 rfl) ?_
  refine x_icmp_ge (tgt := 44) hx hb dX3_goDay_4 (by decide) ⟨by omega, by omega⟩ ⟨by omega, by omega⟩ (fun c5 => ?_) (fun c5 => ?_)
  · refine lv_bipush (v := iI (-9)) hx hb dX3_goDay_44 rfl ?_
    exact m_iret C hB hr hlocks rfl dX3_goDay_46 ⟨by decide, by decide⟩ (by rw [hgd, show n - k = 0 by omega]; exact ⟨rfl, rfl, rfl, hOK1⟩)
  · have hpr1 := hpr k (by omega)
    have hc1 := hC (fs + 2 * k) (by omega)
    have hc2 := hC (fs + 2 * k + 1) (by omega)
    refine lv_aload_n hx hb dX3_goDay_7 rfl (lv_at hl 0 rfl) ?_
    refine lv_aload_n hx hb dX3_goDay_8 rfl (lv_at hl 0 rfl) ?_
    refine m_get C hB 4 (by decide) q1398 (v := .ref (Ad 4)) rfl rfl dX3_goDay_9 ?_
    refine lv_iload_n hx hb dX3_goDay_12 rfl (lv_at hl 1 rfl) ?_
    refine lv_iconst (v := iI 2) hx hb dX3_goDay_13 rfl ?_
    refine lv_iload_n hx hb dX3_goDay_14 rfl (lv_at hl 3 rfl) ?_
    refine x_imul (z := 2 * (k : Int)) hx hb dX3_goDay_15 (by omega) ?_
    refine x_iadd (z := (fs : Int) + 2 * (k : Int)) hx hb dX3_goDay_16 (by omega) ?_
    refine m_ald C hB 4 240 rfl (v := F 4 (fs + 2 * k)) (fs + 2 * k) (by omega) (by omega) (congrFun hF4 _) dX3_goDay_17 ?_
    refine lv_aload_n hx hb dX3_goDay_18 rfl (lv_at hl 0 rfl) ?_
    refine m_get C hB 4 (by decide) q1398 (v := .ref (Ad 4)) rfl rfl dX3_goDay_19 ?_
    refine lv_iload_n hx hb dX3_goDay_22 rfl (lv_at hl 1 rfl) ?_
    refine lv_iconst (v := iI 2) hx hb dX3_goDay_23 rfl ?_
    refine lv_iload_n hx hb dX3_goDay_24 rfl (lv_at hl 3 rfl) ?_
    refine x_imul (z := 2 * (k : Int)) hx hb dX3_goDay_25 (by omega) ?_
    refine x_iadd (z := (fs : Int) + 2 * (k : Int)) hx hb dX3_goDay_26 (by omega) ?_
    refine lv_iconst (v := iI 1) hx hb dX3_goDay_27 rfl ?_
    refine x_iadd (z := (fs : Int) + 2 * (k : Int) + 1) hx hb dX3_goDay_28 (by omega) ?_
    refine m_ald C hB 4 240 rfl (v := F 4 (fs + 2 * k + 1)) (fs + 2 * k + 1) (by omega) (by omega) (congrFun hF4 _) dX3_goDay_29 ?_
    refine m_calli (n := 2) C hB (As := [.int (iI (F 4 (fs + 2 * k))), .int (iI (F 4 (fs + 2 * k + 1)))]) (kX3_does l E o Ad I1 F1 (F 4 (fs + 2 * k)) (F 4 (fs + 2 * k + 1)) hpr1 hOK1) (lw_V q1637 q1639 qs61 q77 q1640) (by decide +kernel) ⟨Nat.le_of_ble_eq_true rfl, Nat.le_of_ble_eq_true rfl⟩ rfl hl.1 rfl (Nat.le_of_ble_eq_true rfl) dX3_goDay_30 ⟨Nat.zero_le _, Nat.zero_le _⟩ (fun z6 I7 F8 H locs hz9 hp10 hB => ?_)
    obtain ⟨hz9a, hz9b⟩ := hz9
    rcases hp10 with ⟨rfl, hok, rfl, rfl⟩ | ⟨rfl, hok, rfl, rfl⟩
    · refine x_if_ne (tgt := 38) hx hb dX3_goDay_33 (by decide) ⟨by decide, by decide⟩ (fun c11 => ?_) (fun c11 => by exfalso; omega)
      refine lv_iinc (v := iI ((k : Int) + 1)) (lv' := [(3, .int (iI ((k : Int) + 1))), (0, .ref o), (1, .int (iI ((fs : Int)))), (2, .int (iI ((n : Int))))]) hx hb dX3_goDay_38 hl (k := 3) rfl (iI_add _ _) (by decide) rfl (fun ls hl => ?_)
      refine lv_goto (tgt := 2) hx hb dX3_goDay_41 (by decide) ?_
      exact ih1 _ _ _ _ (by omega) ⟨k + 1, _, _, rfl, by omega, by rw [hgd, show n - k = (n - (k + 1)) + 1 by omega]; exact if_pos hok, by rw [dF_4]; exact hF4, dOK hOK1 hpr1, hB, lv_sub hl [1, 2, 3, 0] rfl⟩
    · refine x_if_ne (tgt := 38) hx hb dX3_goDay_33 (by decide) ⟨by decide, by decide⟩ (fun c12 => by exfalso; omega) (fun c12 => ?_)
      refine lv_iload_n hx hb dX3_goDay_36 rfl (lv_at hl 3 rfl) ?_
      exact m_iret C hB hr hlocks rfl dX3_goDay_37 ⟨by omega, by omega⟩ (by
              rw [hgd, show n - k = (n - (k + 1)) + 1 by omega, show gdy (fun j => F 4 (fs + j)) ((n - (k + 1)) + 1) k I1 F1 = ((k : Int), I1, F1) from if_neg (fun q => by have q2 : okA I1 (F 4 (fs + 2 * k + 1)) = true := q; rw [hok] at q2; cases q2)]
              exact ⟨rfl, rfl, rfl, hOK1⟩)
set_option maxHeartbeats 400000 in
set_option maxRecDepth 100000 in
theorem kX3_tellDay (l : Launch) (E : xE) (o : Nat) (Ad : Nat → Nat) (I : Nat → Int) (F : Nat → Nat → Int) (wh : Int) (hw : (0 ≤ wh ∧ wh ≤ 4) ∨ (10 ≤ wh ∧ wh ≤ 16)) (hOK : mOK I F) : mi_ l E yX3_tellDay cX3_tellDay 2 (some .int) 6 146 [.ref o, .int (iI wh)] o Ad I F (fun z I' F' => (wh ≠ 1 → z = rTellD I F wh) ∧ scE I F I' F') := by
  intro w sz hM
  refine x_body (by decide) (Nat.le_of_ble_eq_true rfl) ?_
  intro p e s m args below meth c ls hx hb C hr hlocks _ hsz hB hl
  have C : xC E p s m args c cX3_tellDay 2 RX3 := C
  replace hB : mB E (xA w sz) s o Ad I F s.heap [] := ⟨w, hM, hB⟩
  have hl : lv_has ls 2 [(0, .ref o), (1, .int (iI wh))] := hl
  have hOK0 := hOK
  obtain ⟨⟨hf1, hf2⟩, ⟨hl1, hl2⟩, ⟨hr1, hr2⟩, hlr, ⟨hs1, hs2⟩, ⟨hj1, hj2⟩, ⟨hb1, hb2⟩, ⟨hn1, hn2⟩, hL, hR, hN, hS, hC⟩ := hOK
  refine lv_iload_n hx hb dX3_tellDay_0 rfl (lv_at hl 1 rfl) ?_
  refine lv_bipush (v := iI 10) hx hb dX3_tellDay_1 rfl ?_
  refine x_icmp_ge (tgt := 12) hx hb dX3_tellDay_3 (by decide) ⟨by omega, by omega⟩ ⟨by decide, by decide⟩ (fun c1 => ?_) (fun c1 => ?_)
  · refine lv_aload_n hx hb dX3_tellDay_12 rfl (lv_at hl 0 rfl) ?_
    refine m_calli (n := 0) C hB (As := []) (kX3_findBest l E o Ad I F hOK0) (lw_V q1540 q1542 qs48 q77 q1543) (by decide +kernel) ⟨Nat.le_of_ble_eq_true rfl, Nat.le_of_ble_eq_true rfl⟩ rfl hl.1 rfl (Nat.le_of_ble_eq_true rfl) dX3_tellDay_13 ⟨Nat.zero_le _, Nat.zero_le _⟩ (fun z2 I3 F4 H locs hz5 hp6 hB => ?_)
    obtain ⟨hz5a, hz5b⟩ := hz5
    obtain ⟨g7, g8, g9, g10, g11, g12, rfl, rfl, ht13, hli14, hv15⟩ := hp6
    refine lv_pop hx hb dX3_tellDay_16 rfl ?_
    refine lv_aload_n hx hb dX3_tellDay_17 rfl (lv_at hl 0 rfl) ?_
    refine lv_iload_n hx hb dX3_tellDay_18 rfl (lv_at hl 1 rfl) ?_
    refine lv_bipush (v := iI 10) hx hb dX3_tellDay_19 rfl ?_
    refine x_isub (z := wh - 10) hx hb dX3_tellDay_21 (by omega) ?_
    refine m_calli (n := 1) C hB (As := [.int (iI (wh - 10))]) (kX3_isLeft l E o Ad (va_up I 24 ((bpath I F (I 9)).length : Int)) (up3 (upp F g10 g11 g12) g7 g8 g9) (wh - 10) ⟨by omega, by omega⟩ (show rg (I 5) from ⟨by omega, by omega⟩)) (lw_V q1532 q1534 qs46 q77 q1535) (by decide +kernel) ⟨Nat.le_of_ble_eq_true rfl, Nat.le_of_ble_eq_true rfl⟩ rfl hl.1 rfl (Nat.le_of_ble_eq_true rfl) dX3_tellDay_22 ⟨Nat.zero_le _, Nat.zero_le _⟩ (fun z16 I17 F18 H locs hz19 hp20 hB => ?_)
    obtain ⟨hz19a, hz19b⟩ := hz19
    obtain ⟨rfl, rfl, ⟨rfl, h21⟩ | ⟨rfl, h21⟩⟩ := hp20
    · replace h21 : (0 ≤ (wh - 10) ∧ (wh - 10) < I 5) := h21
      refine x_if_eq (tgt := 40) hx hb dX3_tellDay_25 (by decide) ⟨by decide, by decide⟩ (fun c22 => by exfalso; omega) (fun c22 => ?_)
      obtain ⟨k, hk10⟩ : ∃ k : Nat, wh - 10 = (k : Int) := ⟨(wh - 10).toNat, by omega⟩
      rw [show wh = (k : Int) + 10 by omega] at hl
      refine lv_aload_n hx hb dX3_tellDay_28 rfl (lv_at hl 0 rfl) ?_
      refine lv_iconst (v := iI 0) hx hb dX3_tellDay_29 rfl ?_
      refine lv_iload_n hx hb dX3_tellDay_30 rfl (lv_at hl 1 rfl) ?_
      refine lv_bipush (v := iI 10) hx hb dX3_tellDay_31 rfl ?_
      refine x_isub (z := (k : Int)) hx hb dX3_tellDay_33 (by omega) ?_
      have hpin : ∀ q ∈ bpath I F (I 9), q.1 ≤ 4 ∧ q.2.1 ≤ 7 ∧ q.2.2 ≤ 7 := fun q hq => by have h1 := bpath_in hOK0 hq; exact ⟨h1.1, by omega, by omega⟩
      refine m_calli (n := 2) C hB (As := [.int (iI 0), .int (iI ((k : Int)))]) (kX3_pairedWith0 l E o Ad (va_up I 24 ((bpath I F (I 9)).length : Int)) (up3 (upp F g10 g11 g12) g7 g8 g9) k (bpath I F (I 9)) (by omega) rfl (bpath_len I F (I 9)) hli14 hpin) (lw_V q1578 q1580 qs55 q77 q1581) (by decide +kernel) ⟨Nat.le_of_ble_eq_true rfl, Nat.le_of_ble_eq_true rfl⟩ rfl hl.1 rfl (Nat.le_of_ble_eq_true rfl) dX3_tellDay_34 ⟨Nat.zero_le _, Nat.zero_le _⟩ (fun z23 I24 F25 H locs hz26 hp27 hB => ?_)
      obtain ⟨hz26a, hz26b⟩ := hz26
      obtain ⟨rfl, rfl, rfl⟩ := hp27
      refine lv_goto (tgt := 42) hx hb dX3_tellDay_37 (by decide) ?_
      exact m_iret C hB hr hlocks rfl dX3_tellDay_42 ⟨by omega, by omega⟩ ⟨fun hw1 => by unfold rTellD; rw [if_neg (by omega), if_pos (by omega), hk10]; rfl, _, _, _, _, _, _, _, rfl, rfl⟩
    · replace h21 : ¬ (0 ≤ (wh - 10) ∧ (wh - 10) < I 5) := h21
      refine x_if_eq (tgt := 40) hx hb dX3_tellDay_25 (by decide) ⟨by decide, by decide⟩ (fun c28 => ?_) (fun c28 => by exfalso; omega)
      refine lv_bipush (v := iI (-9)) hx hb dX3_tellDay_40 rfl ?_
      exact m_iret C hB hr hlocks rfl dX3_tellDay_42 ⟨by decide, by decide⟩ ⟨fun hw1 => by unfold rTellD; rw [if_neg (by omega), if_neg (by omega)], _, _, _, _, _, _, _, rfl, rfl⟩
  · refine lv_aload_n hx hb dX3_tellDay_6 rfl (lv_at hl 0 rfl) ?_
    refine lv_iload_n hx hb dX3_tellDay_7 rfl (lv_at hl 1 rfl) ?_
    refine m_calli (n := 1) C hB (As := [.int (iI wh)]) (kX3_tellBest l E o Ad I F wh (by omega) hOK0) (lw_V q1610 q1612 qs58 q77 q1613) (by decide +kernel) ⟨Nat.le_of_ble_eq_true rfl, Nat.le_of_ble_eq_true rfl⟩ rfl hl.1 rfl (Nat.le_of_ble_eq_true rfl) dX3_tellDay_8 ⟨Nat.zero_le _, Nat.zero_le _⟩ (fun z29 I30 F31 H locs hz32 hp33 hB => ?_)
    obtain ⟨hz32a, hz32b⟩ := hz32
    obtain ⟨hv, ha⟩ := hp33
    exact m_iret C hB hr hlocks rfl dX3_tellDay_11 ⟨by omega, by omega⟩ ⟨fun hw1 => by unfold rTellD; rw [if_pos (by omega)]; exact hv hw1, ha⟩
