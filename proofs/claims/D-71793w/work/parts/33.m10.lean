/-! THE MODEL, 10 -/
set_option maxHeartbeats 400000 in
set_option maxRecDepth 100000 in
theorem kX3_lose (l : Launch) (E : xE) (o : Nat) (Ad : Nat → Nat) (I : Nat → Int) (F : Nat → Nat → Int) (k : Int) (hk : rg k) (hOK : mOK I F) : mi_ l E yX3_lose cX3_lose 3 (some .int) 2 42 [.ref o, .int (iI k)] o Ad I F (fun z I' F' => z = rLose F k ∧ mAg I (nLose F k) I' F') := by
  intro w sz hM
  refine x_body (by decide) (Nat.le_of_ble_eq_true rfl) ?_
  intro p e s m args below meth c ls hx hb C hr hlocks _ hsz hB hl
  have C : xC E p s m args c cX3_lose 3 RX3 := C
  replace hB : mB E (xA w sz) s o Ad I F s.heap [] := ⟨w, hM, hB⟩
  have hl : lv_has ls 3 [(0, .ref o), (1, .int (iI k))] := hl
  obtain ⟨hk1, hk2⟩ := hk
  have hOK0 := hOK
  obtain ⟨⟨hf1, hf2⟩, ⟨hl1, hl2⟩, ⟨hr1, hr2⟩, hlr, ⟨hs1, hs2⟩, ⟨hj1, hj2⟩, ⟨hb1, hb2⟩, ⟨hn1, hn2⟩, hL, hR, hN, hS, hC⟩ := hOK
  refine lv_iload_n hx hb dX3_lose_0 rfl (lv_at hl 1 rfl) ?_
  obtain ⟨wq, hMq, hB⟩ := hB
  refine s_calli (n := 1) C hB (As := [.int (iI k)]) (kX3_isSheet l E k ⟨by omega, by omega⟩) (lw_S q1495 q1496 q77 q1497) (by decide +kernel) ⟨Nat.le_of_ble_eq_true rfl, Nat.le_of_ble_eq_true rfl⟩ rfl hl.1 rfl (Nat.le_of_ble_eq_true rfl) dX3_lose_1 ⟨Nat.zero_le _, Nat.zero_le _⟩ (fun z1 H locs hz2 hp3 hB => ?_)
  replace hB : mB E _ s o Ad I F H locs := ⟨wq, hMq, hB⟩
  obtain ⟨hz2a, hz2b⟩ := hz2
  rcases hp3 with ⟨rfl, h4⟩ | ⟨rfl, h4⟩
  · refine x_if_ne (tgt := 9) hx hb dX3_lose_4 (by decide) ⟨by decide, by decide⟩ (fun c5 => ?_) (fun c5 => by exfalso; omega)
    obtain ⟨kk, rfl⟩ : ∃ kk : Nat, k = (kk : Int) := ⟨k.toNat, by omega⟩
    refine lv_aload_n hx hb dX3_lose_9 rfl (lv_at hl 0 rfl) ?_
    refine m_get C hB 2 (by decide) q1396 (v := .ref (Ad 2)) rfl rfl dX3_lose_10 ?_
    refine lv_iload_n hx hb dX3_lose_13 rfl (lv_at hl 1 rfl) ?_
    refine m_ald C hB 2 4 rfl (v := F 2 kk) kk rfl (by omega) rfl dX3_lose_14 ?_
    have := hS kk (by omega)
    refine lv_bipush (v := iI (-9)) hx hb dX3_lose_15 rfl ?_
    refine x_icmp_ne (tgt := 24) hx hb dX3_lose_17 (by decide) ⟨by omega, by omega⟩ ⟨by decide, by decide⟩ (fun c6 => ?_) (fun c6 => ?_)
    · refine lv_iconst (v := iI 1) hx hb dX3_lose_24 rfl ?_
      refine lv_istore_n (lv' := [(2, .int (iI 1)), (0, .ref o), (1, .int (iI ((kk : Int))))]) hx hb dX3_lose_25 rfl hl (by decide) rfl (fun ls hl => ?_)
      refine lv_aload_n hx hb dX3_lose_26 rfl (lv_at hl 1 rfl) ?_
      refine m_get C hB 2 (by decide) q1396 (v := .ref (Ad 2)) rfl rfl dX3_lose_27 ?_
      refine lv_iload_n hx hb dX3_lose_30 rfl (lv_at hl 2 rfl) ?_
      refine lv_bipush (v := iI (-9)) hx hb dX3_lose_31 rfl ?_
      refine m_ast C hB 2 4 rfl (f := F 2) kk rfl (by omega) rfl dX3_lose_33 (fun H locs hB => ?_)
      refine lv_iload_n hx hb dX3_lose_34 rfl (lv_at hl 0 rfl) ?_
      exact m_iret C hB hr hlocks rfl dX3_lose_35 ⟨by decide, by decide⟩ ⟨by unfold rLose; simp only [Int.toNat_natCast]; rw [if_neg (by omega), if_neg (by first | assumption | exact ‹_›)], by unfold nLose; rw [if_neg (by omega)]; exact mAg_rfl I _⟩
    · refine lv_iconst (v := iI 0) hx hb dX3_lose_20 rfl ?_
      refine lv_goto (tgt := 25) hx hb dX3_lose_21 (by decide) ?_
      refine lv_istore_n (lv' := [(2, .int (iI 0)), (0, .ref o), (1, .int (iI ((kk : Int))))]) hx hb dX3_lose_25 rfl hl (by decide) rfl (fun ls hl => ?_)
      refine lv_aload_n hx hb dX3_lose_26 rfl (lv_at hl 1 rfl) ?_
      refine m_get C hB 2 (by decide) q1396 (v := .ref (Ad 2)) rfl rfl dX3_lose_27 ?_
      refine lv_iload_n hx hb dX3_lose_30 rfl (lv_at hl 2 rfl) ?_
      refine lv_bipush (v := iI (-9)) hx hb dX3_lose_31 rfl ?_
      refine m_ast C hB 2 4 rfl (f := F 2) kk rfl (by omega) rfl dX3_lose_33 (fun H locs hB => ?_)
      refine lv_iload_n hx hb dX3_lose_34 rfl (lv_at hl 0 rfl) ?_
      exact m_iret C hB hr hlocks rfl dX3_lose_35 ⟨by decide, by decide⟩ ⟨by unfold rLose; simp only [Int.toNat_natCast]; rw [if_neg (by omega), if_pos (by first | assumption | exact ‹_›)], by unfold nLose; rw [if_neg (by omega)]; exact mAg_rfl I _⟩
  · refine x_if_ne (tgt := 9) hx hb dX3_lose_4 (by decide) ⟨by decide, by decide⟩ (fun c7 => by exfalso; omega) (fun c7 => ?_)
    refine lv_iconst (v := iI (-1)) hx hb dX3_lose_7 rfl ?_
    exact m_iret C hB hr hlocks rfl dX3_lose_8 ⟨by decide, by decide⟩ ⟨by unfold rLose; rw [if_pos (by omega)], by unfold nLose; rw [if_pos (by omega)]; exact mAg_rfl I F⟩
set_option maxHeartbeats 400000 in
set_option maxRecDepth 100000 in
theorem kX3_put (l : Launch) (E : xE) (o : Nat) (Ad : Nat → Nat) (I : Nat → Int) (F : Nat → Nat → Int) (k : Int) (i : Int) (v : Int) (hk : rg k) (hi : rg i) (hv : rg v) (hOK : mOK I F) : mi_ l E yX3_put cX3_put 4 (some .int) 2 42 [.ref o, .int (iI k), .int (iI i), .int (iI v)] o Ad I F (fun z I' F' => z = rPut F k i ∧ mAg (nPutI I F k i) (nPutF F k i v) I' F') := by
  intro w sz hM
  refine x_body (by decide) (Nat.le_of_ble_eq_true rfl) ?_
  intro p e s m args below meth c ls hx hb C hr hlocks _ hsz hB hl
  have C : xC E p s m args c cX3_put 4 RX3 := C
  replace hB : mB E (xA w sz) s o Ad I F s.heap [] := ⟨w, hM, hB⟩
  have hl : lv_has ls 4 [(0, .ref o), (1, .int (iI k)), (2, .int (iI i)), (3, .int (iI v))] := hl
  obtain ⟨hk1, hk2⟩ := hk
  obtain ⟨hi1, hi2⟩ := hi
  obtain ⟨hv1, hv2⟩ := hv
  have hOK0 := hOK
  obtain ⟨⟨hf1, hf2⟩, ⟨hl1, hl2⟩, ⟨hr1, hr2⟩, hlr, ⟨hs1, hs2⟩, ⟨hj1, hj2⟩, ⟨hb1, hb2⟩, ⟨hn1, hn2⟩, hL, hR, hN, hS, hC⟩ := hOK
  refine lv_aload_n hx hb dX3_put_0 rfl (lv_at hl 0 rfl) ?_
  refine lv_iconst (v := iI 0) hx hb dX3_put_1 rfl ?_
  refine m_put C hB 0 (by decide) rfl q1394 rfl rfl dX3_put_2 (fun H locs hB => ?_)
  refine lv_iload_n hx hb dX3_put_5 rfl (lv_at hl 1 rfl) ?_
  obtain ⟨wq, hMq, hB⟩ := hB
  refine s_calli (n := 1) C hB (As := [.int (iI k)]) (kX3_isSheet l E k ⟨by omega, by omega⟩) (lw_S q1495 q1496 q77 q1497) (by decide +kernel) ⟨Nat.le_of_ble_eq_true rfl, Nat.le_of_ble_eq_true rfl⟩ rfl hl.1 rfl (Nat.le_of_ble_eq_true rfl) dX3_put_6 ⟨Nat.zero_le _, Nat.zero_le _⟩ (fun z1 H locs hz2 hp3 hB => ?_)
  replace hB : mB E _ s o Ad (va_up I 0 0) F H locs := ⟨wq, hMq, hB⟩
  obtain ⟨hz2a, hz2b⟩ := hz2
  rcases hp3 with ⟨rfl, h4⟩ | ⟨rfl, h4⟩
  · refine x_if_ne (tgt := 14) hx hb dX3_put_9 (by decide) ⟨by decide, by decide⟩ (fun c5 => ?_) (fun c5 => by exfalso; omega)
    obtain ⟨kk, rfl⟩ : ∃ kk : Nat, k = (kk : Int) := ⟨k.toNat, by omega⟩
    refine lv_aload_n hx hb dX3_put_14 rfl (lv_at hl 0 rfl) ?_
    refine m_get C hB 2 (by decide) q1396 (v := .ref (Ad 2)) rfl rfl dX3_put_15 ?_
    refine lv_iload_n hx hb dX3_put_18 rfl (lv_at hl 1 rfl) ?_
    refine m_ald C hB 2 4 rfl (v := F 2 kk) kk rfl (by omega) rfl dX3_put_19 ?_
    have := hS kk (by omega)
    refine lv_bipush (v := iI (-9)) hx hb dX3_put_20 rfl ?_
    refine x_icmp_ne (tgt := 31) hx hb dX3_put_22 (by decide) ⟨by omega, by omega⟩ ⟨by decide, by decide⟩ (fun c6 => ?_) (fun c6 => ?_)
    · refine lv_iload_n hx hb dX3_put_31 rfl (lv_at hl 2 rfl) ?_
      refine lv_iconst (v := iI 0) hx hb dX3_put_32 rfl ?_
      refine lv_aload_n hx hb dX3_put_33 rfl (lv_at hl 0 rfl) ?_
      refine m_get C hB 3 (by decide) q1397 (v := .ref (Ad 3)) rfl rfl dX3_put_34 ?_
      refine lv_iload_n hx hb dX3_put_37 rfl (lv_at hl 1 rfl) ?_
      refine m_ald C hB 3 4 rfl (v := F 3 kk) kk rfl (by omega) rfl dX3_put_38 ?_
      have := hS kk (by omega)
      refine lv_iconst (v := iI 1) hx hb dX3_put_39 rfl ?_
      refine x_isub (z := F 3 kk - 1) hx hb dX3_put_40 (by omega) ?_
      obtain ⟨wq, hMq, hB⟩ := hB
      refine s_calli (n := 3) C hB (As := [.int (iI i), .int (iI 0), .int (iI (F 3 kk - 1))]) (kX3_within l E i 0 (F 3 kk - 1) ⟨by omega, by omega⟩ ⟨by omega, by omega⟩ ⟨by omega, by omega⟩) (lw_S q1498 q1499 q77 q1500) (by decide +kernel) ⟨Nat.le_of_ble_eq_true rfl, Nat.le_of_ble_eq_true rfl⟩ rfl hl.1 rfl (Nat.le_of_ble_eq_true rfl) dX3_put_41 ⟨Nat.zero_le _, Nat.zero_le _⟩ (fun z7 H locs hz8 hp9 hB => ?_)
      replace hB : mB E _ s o Ad (va_up I 0 0) F H locs := ⟨wq, hMq, hB⟩
      obtain ⟨hz8a, hz8b⟩ := hz8
      rcases hp9 with ⟨rfl, h10⟩ | ⟨rfl, h10⟩
      · refine x_if_ne (tgt := 53) hx hb dX3_put_44 (by decide) ⟨by decide, by decide⟩ (fun c11 => ?_) (fun c11 => by exfalso; omega)
        refine lv_aload_n hx hb dX3_put_53 rfl (lv_at hl 0 rfl) ?_
        obtain ⟨ki, rfl⟩ : ∃ ki : Nat, i = (ki : Int) := ⟨i.toNat, by omega⟩
        refine m_get C hB 4 (by decide) q1398 (v := .ref (Ad 4)) rfl rfl dX3_put_54 ?_
        refine lv_bipush (v := iI 60) hx hb dX3_put_57 rfl ?_
        refine lv_iload_n hx hb dX3_put_59 rfl (lv_at hl 1 rfl) ?_
        refine x_imul (z := 60 * (kk : Int)) hx hb dX3_put_60 (by omega) ?_
        refine lv_iload_n hx hb dX3_put_61 rfl (lv_at hl 2 rfl) ?_
        refine x_iadd (z := 60 * (kk : Int) + (ki : Int)) hx hb dX3_put_62 (by omega) ?_
        refine lv_aload_n hx hb dX3_put_63 rfl (lv_at hl 0 rfl) ?_
        refine m_get C hB 2 (by decide) q1396 (v := .ref (Ad 2)) rfl rfl dX3_put_64 ?_
        refine lv_iload_n hx hb dX3_put_67 rfl (lv_at hl 1 rfl) ?_
        refine m_ald C hB 2 4 rfl (v := F 2 kk) kk rfl (by omega) rfl dX3_put_68 ?_
        have := hS kk (by omega)
        refine x_if_ne (tgt := 77) hx hb dX3_put_69 (by decide) ⟨by omega, by omega⟩ (fun c12 => ?_) (fun c12 => ?_)
        · refine lv_aload_n hx hb dX3_put_77 rfl (lv_at hl 0 rfl) ?_
          refine m_get C hB 2 (by decide) q1396 (v := .ref (Ad 2)) rfl rfl dX3_put_78 ?_
          refine lv_iload_n hx hb dX3_put_81 rfl (lv_at hl 1 rfl) ?_
          refine m_ald C hB 2 4 rfl (v := F 2 kk) kk rfl (by omega) rfl dX3_put_82 ?_
          have := hS kk (by omega)
          refine lv_iconst (v := iI 1) hx hb dX3_put_83 rfl ?_
          refine x_icmp_ne (tgt := 92) hx hb dX3_put_84 (by decide) ⟨by omega, by omega⟩ ⟨by decide, by decide⟩ (fun c13 => ?_) (fun c13 => ?_)
          · refine lv_iload_n hx hb dX3_put_92 rfl (lv_at hl 3 rfl) ?_
            refine m_ast C hB 4 240 rfl (f := F 4) (60 * kk + ki) (by omega) (by omega) rfl dX3_put_93 (fun H locs hB => ?_)
            refine lv_iconst (v := iI 1) hx hb dX3_put_94 rfl ?_
            exact m_iret C hB hr hlocks rfl dX3_put_95 ⟨by decide, by decide⟩ (by
                          have hr : rPut F (kk : Int) (ki : Int) = 1 := by { unfold rPut; (try simp only [Int.toNat_natCast]); (repeat' split) <;> omega }
                          exact ⟨hr.symm, by unfold nPutI nPutF; rw [hr, if_pos rfl]; simp only [Int.toNat_natCast]; rw [show (if F 2 kk = 0 then bB v else if F 2 kk = 1 then bS v else v) = v from by rw [if_neg (by omega), if_neg (by omega)]]; exact ⟨by simp [fI, va_up], rfl, rfl, rfl, rfl, rfl, rfl, rfl, fun _ _ => ⟨rfl, rfl, rfl⟩, fun _ _ => ⟨rfl, rfl⟩, fun _ _ => ⟨rfl, rfl⟩, fun _ _ => ⟨rfl, rfl⟩, fun _ _ => rfl⟩⟩)
          · refine lv_iload_n hx hb dX3_put_87 rfl (lv_at hl 3 rfl) ?_
            refine x_i2s hx hb dX3_put_88 ?_
            refine lv_goto (tgt := 93) hx hb dX3_put_89 (by decide) ?_
            refine m_ast C hB 4 240 rfl (f := F 4) (60 * kk + ki) (by omega) (by omega) rfl dX3_put_93 (fun H locs hB => ?_)
            refine lv_iconst (v := iI 1) hx hb dX3_put_94 rfl ?_
            exact m_iret C hB hr hlocks rfl dX3_put_95 ⟨by decide, by decide⟩ (by
                          have hr : rPut F (kk : Int) (ki : Int) = 1 := by { unfold rPut; (try simp only [Int.toNat_natCast]); (repeat' split) <;> omega }
                          exact ⟨hr.symm, by unfold nPutI nPutF; rw [hr, if_pos rfl]; simp only [Int.toNat_natCast]; rw [show (if F 2 kk = 0 then bB v else if F 2 kk = 1 then bS v else v) = bS v from by rw [if_neg (by omega), if_pos (by omega)]]; exact ⟨by simp [fI, va_up], rfl, rfl, rfl, rfl, rfl, rfl, rfl, fun _ _ => ⟨rfl, rfl, rfl⟩, fun _ _ => ⟨rfl, rfl⟩, fun _ _ => ⟨rfl, rfl⟩, fun _ _ => ⟨rfl, rfl⟩, fun _ _ => rfl⟩⟩)
        · refine lv_iload_n hx hb dX3_put_72 rfl (lv_at hl 3 rfl) ?_
          refine x_i2b hx hb dX3_put_73 ?_
          refine lv_goto (tgt := 93) hx hb dX3_put_74 (by decide) ?_
          refine m_ast C hB 4 240 rfl (f := F 4) (60 * kk + ki) (by omega) (by omega) rfl dX3_put_93 (fun H locs hB => ?_)
          refine lv_iconst (v := iI 1) hx hb dX3_put_94 rfl ?_
          exact m_iret C hB hr hlocks rfl dX3_put_95 ⟨by decide, by decide⟩ (by
                      have hr : rPut F (kk : Int) (ki : Int) = 1 := by { unfold rPut; (try simp only [Int.toNat_natCast]); (repeat' split) <;> omega }
                      exact ⟨hr.symm, by unfold nPutI nPutF; rw [hr, if_pos rfl]; simp only [Int.toNat_natCast]; rw [show (if F 2 kk = 0 then bB v else if F 2 kk = 1 then bS v else v) = bB v from if_pos (by omega)]; exact ⟨by simp [fI, va_up], rfl, rfl, rfl, rfl, rfl, rfl, rfl, fun _ _ => ⟨rfl, rfl, rfl⟩, fun _ _ => ⟨rfl, rfl⟩, fun _ _ => ⟨rfl, rfl⟩, fun _ _ => ⟨rfl, rfl⟩, fun _ _ => rfl⟩⟩)
      · refine x_if_ne (tgt := 53) hx hb dX3_put_44 (by decide) ⟨by decide, by decide⟩ (fun c14 => by exfalso; omega) (fun c14 => ?_)
        refine lv_aload_n hx hb dX3_put_47 rfl (lv_at hl 0 rfl) ?_
        refine lv_iconst (v := iI 3) hx hb dX3_put_48 rfl ?_
        refine m_calli (n := 1) C hB (As := [.int (iI 3)]) (kX3_fails l E o Ad (va_up I 0 0) F 3 (by omega)) (lw_V q1508 q1510 qs41 q77 q1511) (by decide +kernel) ⟨Nat.le_of_ble_eq_true rfl, Nat.le_of_ble_eq_true rfl⟩ rfl hl.1 rfl (Nat.le_of_ble_eq_true rfl) dX3_put_49 ⟨Nat.zero_le _, Nat.zero_le _⟩ (fun z15 I16 F17 H locs hz18 hp19 hB => ?_)
        obtain ⟨hz18a, hz18b⟩ := hz18
        obtain ⟨rfl, rfl, rfl⟩ := hp19
        exact m_iret C hB hr hlocks rfl dX3_put_52 ⟨by decide, by decide⟩ (by
                  have hr : rPut F (kk : Int) i = -13 := by { unfold rPut; (try simp only [Int.toNat_natCast]); (repeat' split) <;> omega }
                  exact ⟨hr.symm, by unfold nPutI nPutF; rw [hr, if_neg (show ¬ (-13 : Int) = 1 by decide)]; exact ⟨by simp [fI, va_up], rfl, rfl, rfl, rfl, rfl, rfl, rfl, fun _ _ => ⟨rfl, rfl, rfl⟩, fun _ _ => ⟨rfl, rfl⟩, fun _ _ => ⟨rfl, rfl⟩, fun _ _ => ⟨rfl, rfl⟩, fun _ _ => rfl⟩⟩)
    · refine lv_aload_n hx hb dX3_put_25 rfl (lv_at hl 0 rfl) ?_
      refine lv_iconst (v := iI 1) hx hb dX3_put_26 rfl ?_
      refine m_calli (n := 1) C hB (As := [.int (iI 1)]) (kX3_fails l E o Ad (va_up I 0 0) F 1 (by omega)) (lw_V q1508 q1510 qs41 q77 q1511) (by decide +kernel) ⟨Nat.le_of_ble_eq_true rfl, Nat.le_of_ble_eq_true rfl⟩ rfl hl.1 rfl (Nat.le_of_ble_eq_true rfl) dX3_put_27 ⟨Nat.zero_le _, Nat.zero_le _⟩ (fun z20 I21 F22 H locs hz23 hp24 hB => ?_)
      obtain ⟨hz23a, hz23b⟩ := hz23
      obtain ⟨rfl, rfl, rfl⟩ := hp24
      exact m_iret C hB hr hlocks rfl dX3_put_30 ⟨by decide, by decide⟩ (by
              have hr : rPut F (kk : Int) i = -11 := by { unfold rPut; (try simp only [Int.toNat_natCast]); (repeat' split) <;> omega }
              exact ⟨hr.symm, by unfold nPutI nPutF; rw [hr, if_neg (show ¬ (-11 : Int) = 1 by decide)]; exact ⟨by simp [fI, va_up], rfl, rfl, rfl, rfl, rfl, rfl, rfl, fun _ _ => ⟨rfl, rfl, rfl⟩, fun _ _ => ⟨rfl, rfl⟩, fun _ _ => ⟨rfl, rfl⟩, fun _ _ => ⟨rfl, rfl⟩, fun _ _ => rfl⟩⟩)
  · refine x_if_ne (tgt := 14) hx hb dX3_put_9 (by decide) ⟨by decide, by decide⟩ (fun c25 => by exfalso; omega) (fun c25 => ?_)
    refine lv_iconst (v := iI (-1)) hx hb dX3_put_12 rfl ?_
    exact m_iret C hB hr hlocks rfl dX3_put_13 ⟨by decide, by decide⟩ (by
          have hr : rPut F k i = -1 := by { unfold rPut; (try simp only [Int.toNat_natCast]); (repeat' split) <;> omega }
          exact ⟨hr.symm, by unfold nPutI nPutF; rw [hr, if_neg (show ¬ (-1 : Int) = 1 by decide)]; exact ⟨by simp [fI, va_up], rfl, rfl, rfl, rfl, rfl, rfl, rfl, fun _ _ => ⟨rfl, rfl, rfl⟩, fun _ _ => ⟨rfl, rfl⟩, fun _ _ => ⟨rfl, rfl⟩, fun _ _ => ⟨rfl, rfl⟩, fun _ _ => rfl⟩⟩)
set_option maxHeartbeats 400000 in
set_option maxRecDepth 100000 in
theorem kX3_cell (l : Launch) (E : xE) (o : Nat) (Ad : Nat → Nat) (I : Nat → Int) (F : Nat → Nat → Int) (k : Int) (i : Int) (so : Int) (hk : rg k) (hi : rg i) (hso : rg so) (hOK : mOK I F) : ml_ l E yX3_cell cX3_cell 4 (some .long) 2 42 [.ref o, .int (iI k), .int (iI i), .int (iI so)] o Ad I F (fun z I' F' => z = rCell F k i so ∧ mAg (fI I (eCell F k i so)) F I' F') := by
  intro w sz hM
  refine x_body (by decide) (Nat.le_of_ble_eq_true rfl) ?_
  intro p e s m args below meth c ls hx hb C hr hlocks _ hsz hB hl
  have C : xC E p s m args c cX3_cell 4 RX3 := C
  replace hB : mB E (xA w sz) s o Ad I F s.heap [] := ⟨w, hM, hB⟩
  have hl : lv_has ls 4 [(0, .ref o), (1, .int (iI k)), (2, .int (iI i)), (3, .int (iI so))] := hl
  obtain ⟨hk1, hk2⟩ := hk
  obtain ⟨hi1, hi2⟩ := hi
  obtain ⟨hso1, hso2⟩ := hso
  have hOK0 := hOK
  obtain ⟨⟨hf1, hf2⟩, ⟨hl1, hl2⟩, ⟨hr1, hr2⟩, hlr, ⟨hs1, hs2⟩, ⟨hj1, hj2⟩, ⟨hb1, hb2⟩, ⟨hn1, hn2⟩, hL, hR, hN, hS, hC⟩ := hOK
  refine lv_aload_n hx hb dX3_cell_0 rfl (lv_at hl 0 rfl) ?_
  refine lv_iconst (v := iI 0) hx hb dX3_cell_1 rfl ?_
  refine m_put C hB 0 (by decide) rfl q1394 rfl rfl dX3_cell_2 (fun H locs hB => ?_)
  refine lv_iload_n hx hb dX3_cell_5 rfl (lv_at hl 1 rfl) ?_
  obtain ⟨wq, hMq, hB⟩ := hB
  refine s_calli (n := 1) C hB (As := [.int (iI k)]) (kX3_isSheet l E k ⟨by omega, by omega⟩) (lw_S q1495 q1496 q77 q1497) (by decide +kernel) ⟨Nat.le_of_ble_eq_true rfl, Nat.le_of_ble_eq_true rfl⟩ rfl hl.1 rfl (Nat.le_of_ble_eq_true rfl) dX3_cell_6 ⟨Nat.zero_le _, Nat.zero_le _⟩ (fun z1 H locs hz2 hp3 hB => ?_)
  replace hB : mB E _ s o Ad (va_up I 0 0) F H locs := ⟨wq, hMq, hB⟩
  obtain ⟨hz2a, hz2b⟩ := hz2
  rcases hp3 with ⟨rfl, h4⟩ | ⟨rfl, h4⟩
  · refine x_if_eq (tgt := 19) hx hb dX3_cell_9 (by decide) ⟨by decide, by decide⟩ (fun c5 => by exfalso; omega) (fun c5 => ?_)
    refine lv_iload_n hx hb dX3_cell_12 rfl (lv_at hl 3 rfl) ?_
    obtain ⟨wq, hMq, hB⟩ := hB
    refine s_calli (n := 1) C hB (As := [.int (iI so)]) (kX3_isSort l E so ⟨by omega, by omega⟩) (lw_S q1501 q1502 q77 q1503) (by decide +kernel) ⟨Nat.le_of_ble_eq_true rfl, Nat.le_of_ble_eq_true rfl⟩ rfl hl.1 rfl (Nat.le_of_ble_eq_true rfl) dX3_cell_13 ⟨Nat.zero_le _, Nat.zero_le _⟩ (fun z6 H locs hz7 hp8 hB => ?_)
    replace hB : mB E _ s o Ad (va_up I 0 0) F H locs := ⟨wq, hMq, hB⟩
    obtain ⟨hz7a, hz7b⟩ := hz7
    rcases hp8 with ⟨rfl, h9⟩ | ⟨rfl, h9⟩
    · refine x_if_ne (tgt := 23) hx hb dX3_cell_16 (by decide) ⟨by decide, by decide⟩ (fun c10 => ?_) (fun c10 => by exfalso; omega)
      obtain ⟨kk, rfl⟩ : ∃ kk : Nat, k = (kk : Int) := ⟨k.toNat, by omega⟩
      refine lv_aload_n hx hb dX3_cell_23 rfl (lv_at hl 0 rfl) ?_
      refine m_get C hB 2 (by decide) q1396 (v := .ref (Ad 2)) rfl rfl dX3_cell_24 ?_
      refine lv_iload_n hx hb dX3_cell_27 rfl (lv_at hl 1 rfl) ?_
      refine m_ald C hB 2 4 rfl (v := F 2 kk) kk rfl (by omega) rfl dX3_cell_28 ?_
      have := hS kk (by omega)
      refine lv_bipush (v := iI (-9)) hx hb dX3_cell_29 rfl ?_
      refine x_icmp_eq (tgt := 50) hx hb dX3_cell_31 (by decide) ⟨by omega, by omega⟩ ⟨by decide, by decide⟩ (fun c11 => ?_) (fun c11 => ?_)
      · refine lv_aload_n hx hb dX3_cell_50 rfl (lv_at hl 0 rfl) ?_
        refine m_get C hB 2 (by decide) q1396 (v := .ref (Ad 2)) rfl rfl dX3_cell_51 ?_
        refine lv_iload_n hx hb dX3_cell_54 rfl (lv_at hl 1 rfl) ?_
        refine m_ald C hB 2 4 rfl (v := F 2 kk) kk rfl (by omega) rfl dX3_cell_55 ?_
        have := hS kk (by omega)
        refine lv_bipush (v := iI (-9)) hx hb dX3_cell_56 rfl ?_
        refine x_icmp_ne (tgt := 67) hx hb dX3_cell_58 (by decide) ⟨by omega, by omega⟩ ⟨by decide, by decide⟩ (fun c12 => ?_) (fun c12 => ?_)
        · refine lv_iload_n hx hb dX3_cell_67 rfl (lv_at hl 2 rfl) ?_
          refine lv_iconst (v := iI 0) hx hb dX3_cell_68 rfl ?_
          refine lv_aload_n hx hb dX3_cell_69 rfl (lv_at hl 0 rfl) ?_
          refine m_get C hB 3 (by decide) q1397 (v := .ref (Ad 3)) rfl rfl dX3_cell_70 ?_
          refine lv_iload_n hx hb dX3_cell_73 rfl (lv_at hl 1 rfl) ?_
          refine m_ald C hB 3 4 rfl (v := F 3 kk) kk rfl (by omega) rfl dX3_cell_74 ?_
          have := hS kk (by omega)
          refine lv_iconst (v := iI 1) hx hb dX3_cell_75 rfl ?_
          refine x_isub (z := F 3 kk - 1) hx hb dX3_cell_76 (by omega) ?_
          obtain ⟨wq, hMq, hB⟩ := hB
          refine s_calli (n := 3) C hB (As := [.int (iI i), .int (iI 0), .int (iI (F 3 kk - 1))]) (kX3_within l E i 0 (F 3 kk - 1) ⟨by omega, by omega⟩ ⟨by omega, by omega⟩ ⟨by omega, by omega⟩) (lw_S q1498 q1499 q77 q1500) (by decide +kernel) ⟨Nat.le_of_ble_eq_true rfl, Nat.le_of_ble_eq_true rfl⟩ rfl hl.1 rfl (Nat.le_of_ble_eq_true rfl) dX3_cell_77 ⟨Nat.zero_le _, Nat.zero_le _⟩ (fun z13 H locs hz14 hp15 hB => ?_)
          replace hB : mB E _ s o Ad (va_up I 0 0) F H locs := ⟨wq, hMq, hB⟩
          obtain ⟨hz14a, hz14b⟩ := hz14
          rcases hp15 with ⟨rfl, h16⟩ | ⟨rfl, h16⟩
          · refine x_if_ne (tgt := 89) hx hb dX3_cell_80 (by decide) ⟨by decide, by decide⟩ (fun c17 => ?_) (fun c17 => by exfalso; omega)
            refine lv_aload_n hx hb dX3_cell_89 rfl (lv_at hl 0 rfl) ?_
            obtain ⟨ki, rfl⟩ : ∃ ki : Nat, i = (ki : Int) := ⟨i.toNat, by omega⟩
            refine m_get C hB 4 (by decide) q1398 (v := .ref (Ad 4)) rfl rfl dX3_cell_90 ?_
            refine lv_bipush (v := iI 60) hx hb dX3_cell_93 rfl ?_
            refine lv_iload_n hx hb dX3_cell_95 rfl (lv_at hl 1 rfl) ?_
            refine x_imul (z := 60 * (kk : Int)) hx hb dX3_cell_96 (by omega) ?_
            refine lv_iload_n hx hb dX3_cell_97 rfl (lv_at hl 2 rfl) ?_
            refine x_iadd (z := 60 * (kk : Int) + (ki : Int)) hx hb dX3_cell_98 (by omega) ?_
            refine m_ald C hB 4 240 rfl (v := F 4 (60 * kk + ki)) (60 * kk + ki) (by omega) (by omega) rfl dX3_cell_99 ?_
            have := hC (60 * kk + ki) (by omega)
            refine x_i2l hx hb dX3_cell_100 ⟨by omega, by omega⟩ ?_
            exact m_lret C hB hr hlocks dX3_cell_101 ⟨by omega, by omega⟩ (by
                          have hr : eCell F (kk : Int) (ki : Int) so = 0 := by { unfold eCell; (try simp only [Int.toNat_natCast]); (repeat' split) <;> omega }
                          exact ⟨by unfold rCell; rw [hr]; rw [if_neg (by omega)]; rfl, by rw [hr]; exact ⟨by simp [fI, va_up], rfl, rfl, rfl, rfl, rfl, rfl, rfl, fun _ _ => ⟨rfl, rfl, rfl⟩, fun _ _ => ⟨rfl, rfl⟩, fun _ _ => ⟨rfl, rfl⟩, fun _ _ => ⟨rfl, rfl⟩, fun _ _ => rfl⟩⟩)
          · refine x_if_ne (tgt := 89) hx hb dX3_cell_80 (by decide) ⟨by decide, by decide⟩ (fun c18 => by exfalso; omega) (fun c18 => ?_)
            refine lv_aload_n hx hb dX3_cell_83 rfl (lv_at hl 0 rfl) ?_
            refine lv_iconst (v := iI 3) hx hb dX3_cell_84 rfl ?_
            refine m_calll (n := 1) C hB (As := [.int (iI 3)]) (kX3_lost l E o Ad (va_up I 0 0) F 3 (by omega)) (lw_V q1701 q1703 qs65 q77 q1704) (by decide +kernel) ⟨Nat.le_of_ble_eq_true rfl, Nat.le_of_ble_eq_true rfl⟩ rfl hl.1 rfl (Nat.le_of_ble_eq_true rfl) dX3_cell_85 ⟨Nat.zero_le _, Nat.zero_le _⟩ (fun z19 I20 F21 H locs hz22 hp23 hB => ?_)
            obtain ⟨hz22a, hz22b⟩ := hz22
            obtain ⟨rfl, rfl, rfl⟩ := hp23
            exact m_lret C hB hr hlocks dX3_cell_88 ⟨by decide, by decide⟩ (by
                          have hr : eCell F (kk : Int) i so = 3 := by { unfold eCell; (try simp only [Int.toNat_natCast]); (repeat' split) <;> omega }
                          exact ⟨by unfold rCell; rw [hr]; rw [if_pos (by omega)], by rw [hr]; exact ⟨by simp [fI, va_up], rfl, rfl, rfl, rfl, rfl, rfl, rfl, fun _ _ => ⟨rfl, rfl, rfl⟩, fun _ _ => ⟨rfl, rfl⟩, fun _ _ => ⟨rfl, rfl⟩, fun _ _ => ⟨rfl, rfl⟩, fun _ _ => rfl⟩⟩)
        · refine lv_aload_n hx hb dX3_cell_61 rfl (lv_at hl 0 rfl) ?_
          refine lv_iconst (v := iI 1) hx hb dX3_cell_62 rfl ?_
          refine m_calll (n := 1) C hB (As := [.int (iI 1)]) (kX3_lost l E o Ad (va_up I 0 0) F 1 (by omega)) (lw_V q1701 q1703 qs65 q77 q1704) (by decide +kernel) ⟨Nat.le_of_ble_eq_true rfl, Nat.le_of_ble_eq_true rfl⟩ rfl hl.1 rfl (Nat.le_of_ble_eq_true rfl) dX3_cell_63 ⟨Nat.zero_le _, Nat.zero_le _⟩ (fun z24 I25 F26 H locs hz27 hp28 hB => ?_)
          obtain ⟨hz27a, hz27b⟩ := hz27
          obtain ⟨rfl, rfl, rfl⟩ := hp28
          exact m_lret C hB hr hlocks dX3_cell_66 ⟨by decide, by decide⟩ (by
                      have hr : eCell F (kk : Int) i so = 1 := by { unfold eCell; (try simp only [Int.toNat_natCast]); (repeat' split) <;> omega }
                      exact ⟨by unfold rCell; rw [hr]; rw [if_pos (by omega)], by rw [hr]; exact ⟨by simp [fI, va_up], rfl, rfl, rfl, rfl, rfl, rfl, rfl, fun _ _ => ⟨rfl, rfl, rfl⟩, fun _ _ => ⟨rfl, rfl⟩, fun _ _ => ⟨rfl, rfl⟩, fun _ _ => ⟨rfl, rfl⟩, fun _ _ => rfl⟩⟩)
      · refine lv_aload_n hx hb dX3_cell_34 rfl (lv_at hl 0 rfl) ?_
        refine m_get C hB 2 (by decide) q1396 (v := .ref (Ad 2)) rfl rfl dX3_cell_35 ?_
        refine lv_iload_n hx hb dX3_cell_38 rfl (lv_at hl 1 rfl) ?_
        refine m_ald C hB 2 4 rfl (v := F 2 kk) kk rfl (by omega) rfl dX3_cell_39 ?_
        have := hS kk (by omega)
        refine lv_iload_n hx hb dX3_cell_40 rfl (lv_at hl 3 rfl) ?_
        refine x_icmp_eq (tgt := 50) hx hb dX3_cell_41 (by decide) ⟨by omega, by omega⟩ ⟨by omega, by omega⟩ (fun c29 => ?_) (fun c29 => ?_)
        · refine lv_aload_n hx hb dX3_cell_50 rfl (lv_at hl 0 rfl) ?_
          refine m_get C hB 2 (by decide) q1396 (v := .ref (Ad 2)) rfl rfl dX3_cell_51 ?_
          refine lv_iload_n hx hb dX3_cell_54 rfl (lv_at hl 1 rfl) ?_
          refine m_ald C hB 2 4 rfl (v := F 2 kk) kk rfl (by omega) rfl dX3_cell_55 ?_
          have := hS kk (by omega)
          refine lv_bipush (v := iI (-9)) hx hb dX3_cell_56 rfl ?_
          refine x_icmp_ne (tgt := 67) hx hb dX3_cell_58 (by decide) ⟨by omega, by omega⟩ ⟨by decide, by decide⟩ (fun c30 => ?_) (fun c30 => ?_)
          · refine lv_iload_n hx hb dX3_cell_67 rfl (lv_at hl 2 rfl) ?_
            refine lv_iconst (v := iI 0) hx hb dX3_cell_68 rfl ?_
            refine lv_aload_n hx hb dX3_cell_69 rfl (lv_at hl 0 rfl) ?_
            refine m_get C hB 3 (by decide) q1397 (v := .ref (Ad 3)) rfl rfl dX3_cell_70 ?_
            refine lv_iload_n hx hb dX3_cell_73 rfl (lv_at hl 1 rfl) ?_
            refine m_ald C hB 3 4 rfl (v := F 3 kk) kk rfl (by omega) rfl dX3_cell_74 ?_
            have := hS kk (by omega)
            refine lv_iconst (v := iI 1) hx hb dX3_cell_75 rfl ?_
            refine x_isub (z := F 3 kk - 1) hx hb dX3_cell_76 (by omega) ?_
            obtain ⟨wq, hMq, hB⟩ := hB
            refine s_calli (n := 3) C hB (As := [.int (iI i), .int (iI 0), .int (iI (F 3 kk - 1))]) (kX3_within l E i 0 (F 3 kk - 1) ⟨by omega, by omega⟩ ⟨by omega, by omega⟩ ⟨by omega, by omega⟩) (lw_S q1498 q1499 q77 q1500) (by decide +kernel) ⟨Nat.le_of_ble_eq_true rfl, Nat.le_of_ble_eq_true rfl⟩ rfl hl.1 rfl (Nat.le_of_ble_eq_true rfl) dX3_cell_77 ⟨Nat.zero_le _, Nat.zero_le _⟩ (fun z31 H locs hz32 hp33 hB => ?_)
            replace hB : mB E _ s o Ad (va_up I 0 0) F H locs := ⟨wq, hMq, hB⟩
            obtain ⟨hz32a, hz32b⟩ := hz32
            rcases hp33 with ⟨rfl, h34⟩ | ⟨rfl, h34⟩
            · refine x_if_ne (tgt := 89) hx hb dX3_cell_80 (by decide) ⟨by decide, by decide⟩ (fun c35 => ?_) (fun c35 => by exfalso; omega)
              refine lv_aload_n hx hb dX3_cell_89 rfl (lv_at hl 0 rfl) ?_
              obtain ⟨ki, rfl⟩ : ∃ ki : Nat, i = (ki : Int) := ⟨i.toNat, by omega⟩
              refine m_get C hB 4 (by decide) q1398 (v := .ref (Ad 4)) rfl rfl dX3_cell_90 ?_
              refine lv_bipush (v := iI 60) hx hb dX3_cell_93 rfl ?_
              refine lv_iload_n hx hb dX3_cell_95 rfl (lv_at hl 1 rfl) ?_
              refine x_imul (z := 60 * (kk : Int)) hx hb dX3_cell_96 (by omega) ?_
              refine lv_iload_n hx hb dX3_cell_97 rfl (lv_at hl 2 rfl) ?_
              refine x_iadd (z := 60 * (kk : Int) + (ki : Int)) hx hb dX3_cell_98 (by omega) ?_
              refine m_ald C hB 4 240 rfl (v := F 4 (60 * kk + ki)) (60 * kk + ki) (by omega) (by omega) rfl dX3_cell_99 ?_
              have := hC (60 * kk + ki) (by omega)
              refine x_i2l hx hb dX3_cell_100 ⟨by omega, by omega⟩ ?_
              exact m_lret C hB hr hlocks dX3_cell_101 ⟨by omega, by omega⟩ (by
                              have hr : eCell F (kk : Int) (ki : Int) so = 0 := by { unfold eCell; (try simp only [Int.toNat_natCast]); (repeat' split) <;> omega }
                              exact ⟨by unfold rCell; rw [hr]; rw [if_neg (by omega)]; rfl, by rw [hr]; exact ⟨by simp [fI, va_up], rfl, rfl, rfl, rfl, rfl, rfl, rfl, fun _ _ => ⟨rfl, rfl, rfl⟩, fun _ _ => ⟨rfl, rfl⟩, fun _ _ => ⟨rfl, rfl⟩, fun _ _ => ⟨rfl, rfl⟩, fun _ _ => rfl⟩⟩)
            · refine x_if_ne (tgt := 89) hx hb dX3_cell_80 (by decide) ⟨by decide, by decide⟩ (fun c36 => by exfalso; omega) (fun c36 => ?_)
              refine lv_aload_n hx hb dX3_cell_83 rfl (lv_at hl 0 rfl) ?_
              refine lv_iconst (v := iI 3) hx hb dX3_cell_84 rfl ?_
              refine m_calll (n := 1) C hB (As := [.int (iI 3)]) (kX3_lost l E o Ad (va_up I 0 0) F 3 (by omega)) (lw_V q1701 q1703 qs65 q77 q1704) (by decide +kernel) ⟨Nat.le_of_ble_eq_true rfl, Nat.le_of_ble_eq_true rfl⟩ rfl hl.1 rfl (Nat.le_of_ble_eq_true rfl) dX3_cell_85 ⟨Nat.zero_le _, Nat.zero_le _⟩ (fun z37 I38 F39 H locs hz40 hp41 hB => ?_)
              obtain ⟨hz40a, hz40b⟩ := hz40
              obtain ⟨rfl, rfl, rfl⟩ := hp41
              exact m_lret C hB hr hlocks dX3_cell_88 ⟨by decide, by decide⟩ (by
                              have hr : eCell F (kk : Int) i so = 3 := by { unfold eCell; (try simp only [Int.toNat_natCast]); (repeat' split) <;> omega }
                              exact ⟨by unfold rCell; rw [hr]; rw [if_pos (by omega)], by rw [hr]; exact ⟨by simp [fI, va_up], rfl, rfl, rfl, rfl, rfl, rfl, rfl, fun _ _ => ⟨rfl, rfl, rfl⟩, fun _ _ => ⟨rfl, rfl⟩, fun _ _ => ⟨rfl, rfl⟩, fun _ _ => ⟨rfl, rfl⟩, fun _ _ => rfl⟩⟩)
          · refine lv_aload_n hx hb dX3_cell_61 rfl (lv_at hl 0 rfl) ?_
            refine lv_iconst (v := iI 1) hx hb dX3_cell_62 rfl ?_
            refine m_calll (n := 1) C hB (As := [.int (iI 1)]) (kX3_lost l E o Ad (va_up I 0 0) F 1 (by omega)) (lw_V q1701 q1703 qs65 q77 q1704) (by decide +kernel) ⟨Nat.le_of_ble_eq_true rfl, Nat.le_of_ble_eq_true rfl⟩ rfl hl.1 rfl (Nat.le_of_ble_eq_true rfl) dX3_cell_63 ⟨Nat.zero_le _, Nat.zero_le _⟩ (fun z42 I43 F44 H locs hz45 hp46 hB => ?_)
            obtain ⟨hz45a, hz45b⟩ := hz45
            obtain ⟨rfl, rfl, rfl⟩ := hp46
            exact m_lret C hB hr hlocks dX3_cell_66 ⟨by decide, by decide⟩ (by
                          have hr : eCell F (kk : Int) i so = 1 := by { unfold eCell; (try simp only [Int.toNat_natCast]); (repeat' split) <;> omega }
                          exact ⟨by unfold rCell; rw [hr]; rw [if_pos (by omega)], by rw [hr]; exact ⟨by simp [fI, va_up], rfl, rfl, rfl, rfl, rfl, rfl, rfl, fun _ _ => ⟨rfl, rfl, rfl⟩, fun _ _ => ⟨rfl, rfl⟩, fun _ _ => ⟨rfl, rfl⟩, fun _ _ => ⟨rfl, rfl⟩, fun _ _ => rfl⟩⟩)
        · refine lv_aload_n hx hb dX3_cell_44 rfl (lv_at hl 0 rfl) ?_
          refine lv_iconst (v := iI 2) hx hb dX3_cell_45 rfl ?_
          refine m_calll (n := 1) C hB (As := [.int (iI 2)]) (kX3_lost l E o Ad (va_up I 0 0) F 2 (by omega)) (lw_V q1701 q1703 qs65 q77 q1704) (by decide +kernel) ⟨Nat.le_of_ble_eq_true rfl, Nat.le_of_ble_eq_true rfl⟩ rfl hl.1 rfl (Nat.le_of_ble_eq_true rfl) dX3_cell_46 ⟨Nat.zero_le _, Nat.zero_le _⟩ (fun z47 I48 F49 H locs hz50 hp51 hB => ?_)
          obtain ⟨hz50a, hz50b⟩ := hz50
          obtain ⟨rfl, rfl, rfl⟩ := hp51
          exact m_lret C hB hr hlocks dX3_cell_49 ⟨by decide, by decide⟩ (by
                      have hr : eCell F (kk : Int) i so = 2 := by { unfold eCell; (try simp only [Int.toNat_natCast]); (repeat' split) <;> omega }
                      exact ⟨by unfold rCell; rw [hr]; rw [if_pos (by omega)], by rw [hr]; exact ⟨by simp [fI, va_up], rfl, rfl, rfl, rfl, rfl, rfl, rfl, fun _ _ => ⟨rfl, rfl, rfl⟩, fun _ _ => ⟨rfl, rfl⟩, fun _ _ => ⟨rfl, rfl⟩, fun _ _ => ⟨rfl, rfl⟩, fun _ _ => rfl⟩⟩)
    · refine x_if_ne (tgt := 23) hx hb dX3_cell_16 (by decide) ⟨by decide, by decide⟩ (fun c52 => by exfalso; omega) (fun c52 => ?_)
      refine lv_ldc2 hx hb C.1.2.2.2.1 (C.1.2.2.2.2 _ q1681) dX3_cell_19 ?_
      refine x_rwl (y := lI (-9223372036854775808)) (by decide) ?_
      exact m_lret C hB hr hlocks dX3_cell_22 ⟨by decide, by decide⟩ (by
              have hr : eCell F k i so = 0 := by { unfold eCell; (try simp only [Int.toNat_natCast]); (repeat' split) <;> omega }
              exact ⟨by unfold rCell; rw [hr]; rw [if_pos (by omega)], by rw [hr]; exact ⟨by simp [fI, va_up], rfl, rfl, rfl, rfl, rfl, rfl, rfl, fun _ _ => ⟨rfl, rfl, rfl⟩, fun _ _ => ⟨rfl, rfl⟩, fun _ _ => ⟨rfl, rfl⟩, fun _ _ => ⟨rfl, rfl⟩, fun _ _ => rfl⟩⟩)
  · refine x_if_eq (tgt := 19) hx hb dX3_cell_9 (by decide) ⟨by decide, by decide⟩ (fun c53 => ?_) (fun c53 => by exfalso; omega)
    refine lv_ldc2 hx hb C.1.2.2.2.1 (C.1.2.2.2.2 _ q1681) dX3_cell_19 ?_
    refine x_rwl (y := lI (-9223372036854775808)) (by decide) ?_
    exact m_lret C hB hr hlocks dX3_cell_22 ⟨by decide, by decide⟩ (by
          have hr : eCell F k i so = 0 := by { unfold eCell; (try simp only [Int.toNat_natCast]); (repeat' split) <;> omega }
          exact ⟨by unfold rCell; rw [hr]; rw [if_pos (by omega)], by rw [hr]; exact ⟨by simp [fI, va_up], rfl, rfl, rfl, rfl, rfl, rfl, rfl, fun _ _ => ⟨rfl, rfl, rfl⟩, fun _ _ => ⟨rfl, rfl⟩, fun _ _ => ⟨rfl, rfl⟩, fun _ _ => ⟨rfl, rfl⟩, fun _ _ => rfl⟩⟩)
set_option maxHeartbeats 400000 in
set_option maxRecDepth 100000 in
theorem kX3_tell (l : Launch) (E : xE) (o : Nat) (Ad : Nat → Nat) (I : Nat → Int) (F : Nat → Nat → Int) (a : Int) (ha : rg a) (hOK : mOK I F) : mi_ l E yX3_tell cX3_tell 3 (some .int) 1 21 [.ref o, .int (iI a)] o Ad I F (fun z I' F' => z = rTellA I F a ∧ mAg (nTellA I F a) F I' F') := by
  intro w sz hM
  refine x_body (by decide) (Nat.le_of_ble_eq_true rfl) ?_
  intro p e s m args below meth c ls hx hb C hr hlocks _ hsz hB hl
  have C : xC E p s m args c cX3_tell 3 RX3 := C
  replace hB : mB E (xA w sz) s o Ad I F s.heap [] := ⟨w, hM, hB⟩
  have hl : lv_has ls 3 [(0, .ref o), (1, .int (iI a))] := hl
  obtain ⟨ha1, ha2⟩ := ha
  have hOK0 := hOK
  obtain ⟨⟨hf1, hf2⟩, ⟨hl1, hl2⟩, ⟨hr1, hr2⟩, hlr, ⟨hs1, hs2⟩, ⟨hj1, hj2⟩, ⟨hb1, hb2⟩, ⟨hn1, hn2⟩, hL, hR, hN, hS, hC⟩ := hOK
  refine lv_aload_n hx hb dX3_tell_0 rfl (lv_at hl 0 rfl) ?_
  refine lv_iload_n hx hb dX3_tell_1 rfl (lv_at hl 1 rfl) ?_
  refine m_calli (n := 1) C hB (As := [.int (iI a)]) (kX3_isLeft l E o Ad I F a ⟨by omega, by omega⟩ ⟨by omega, by omega⟩) (lw_V q1532 q1534 qs46 q77 q1535) (by decide +kernel) ⟨Nat.le_of_ble_eq_true rfl, Nat.le_of_ble_eq_true rfl⟩ rfl hl.1 rfl (Nat.le_of_ble_eq_true rfl) dX3_tell_2 ⟨Nat.zero_le _, Nat.zero_le _⟩ (fun z1 I2 F3 H locs hz4 hp5 hB => ?_)
  obtain ⟨hz4a, hz4b⟩ := hz4
  obtain ⟨rfl, rfl, ⟨rfl, h6⟩ | ⟨rfl, h6⟩⟩ := hp5
  · refine x_if_ne (tgt := 10) hx hb dX3_tell_5 (by decide) ⟨by decide, by decide⟩ (fun c7 => ?_) (fun c7 => by exfalso; omega)
    obtain ⟨k, rfl⟩ : ∃ k : Nat, a = (k : Int) := ⟨a.toNat, by omega⟩
    refine lv_aload_n hx hb dX3_tell_10 rfl (lv_at hl 0 rfl) ?_
    refine m_get C hB 11 (by decide) q1405 (v := .ref (Ad 11)) rfl rfl dX3_tell_11 ?_
    refine lv_iload_n hx hb dX3_tell_14 rfl (lv_at hl 1 rfl) ?_
    refine m_ald C hB 11 7 rfl (v := F 11 k) k rfl (by omega) rfl dX3_tell_15 ?_
    have := hL k (by omega)
    refine lv_istore_n (lv' := [(2, .int (iI (F 11 k))), (0, .ref o), (1, .int (iI ((k : Int))))]) hx hb dX3_tell_16 rfl hl (by decide) rfl (fun ls hl => ?_)
    refine lv_aload_n hx hb dX3_tell_17 rfl (lv_at hl 1 rfl) ?_
    refine m_get C hB 10 (by decide) q1404 (v := .ref (Ad 10)) rfl rfl dX3_tell_18 ?_
    refine lv_iload_n hx hb dX3_tell_21 rfl (lv_at hl 2 rfl) ?_
    refine m_ald C hB 10 7 rfl (v := F 10 k) k rfl (by omega) rfl dX3_tell_22 ?_
    have := hL k (by omega)
    rcases (show F 10 k = 0 ∨ F 10 k = 1 ∨ F 10 k = 2 by omega) with c8 | c8 | c8
    · refine x_lk (tgt := 90) (off := 67) hx hb 0 dX3_tell_23 c8 ⟨by decide, by decide⟩ (by decide) (by decide) (by decide) ?_
      refine lv_aload_n hx hb dX3_tell_90 rfl (lv_at hl 1 rfl) ?_
      refine lv_iconst (v := iI 1) hx hb dX3_tell_91 rfl ?_
      refine m_callv (n := 1) C hB (As := [.int (iI 1)]) (kX3_begins l E o Ad I F 1) (lw_V q1713 q1715 qs66 q77 q1716) (by decide +kernel) ⟨Nat.le_of_ble_eq_true rfl, Nat.le_of_ble_eq_true rfl⟩ rfl hl.1 rfl (Nat.le_of_ble_eq_true rfl) dX3_tell_92 ⟨Nat.zero_le _, Nat.zero_le _⟩ (fun I10 F11 H locs hp13 hB => ?_)
      obtain ⟨rfl, rfl⟩ := hp13
      refine lv_iload_n hx hb dX3_tell_95 rfl (lv_at hl 0 rfl) ?_
      exact m_iret C hB hr hlocks rfl dX3_tell_96 ⟨by omega, by omega⟩ ⟨by unfold rTellA; rw [if_neg (by omega), Int.toNat_natCast, if_neg (by omega), if_neg (by omega)], by unfold nTellA; rw [if_neg (by omega), Int.toNat_natCast, if_neg (by omega), if_neg (by omega)]; exact ⟨rfl, rfl, rfl, rfl, rfl, rfl, rfl, rfl, fun _ _ => ⟨rfl, rfl, rfl⟩, fun _ _ => ⟨rfl, rfl⟩, fun _ _ => ⟨rfl, rfl⟩, fun _ _ => ⟨rfl, rfl⟩, fun _ _ => rfl⟩⟩
    · refine x_lk (tgt := 48) (off := 25) hx hb 1 dX3_tell_23 c8 ⟨by decide, by decide⟩ (by decide) (by decide) (by decide) ?_
      refine lv_aload_n hx hb dX3_tell_48 rfl (lv_at hl 1 rfl) ?_
      refine lv_iconst (v := iI 2) hx hb dX3_tell_49 rfl ?_
      refine m_callv (n := 1) C hB (As := [.int (iI 2)]) (kX3_begins l E o Ad I F 2) (lw_V q1713 q1715 qs66 q77 q1716) (by decide +kernel) ⟨Nat.le_of_ble_eq_true rfl, Nat.le_of_ble_eq_true rfl⟩ rfl hl.1 rfl (Nat.le_of_ble_eq_true rfl) dX3_tell_50 ⟨Nat.zero_le _, Nat.zero_le _⟩ (fun I15 F16 H locs hp18 hB => ?_)
      obtain ⟨rfl, rfl⟩ := hp18
      refine lv_aload_n hx hb dX3_tell_53 rfl (lv_at hl 1 rfl) ?_
      refine lv_iconst (v := iI 1) hx hb dX3_tell_54 rfl ?_
      refine m_callv (n := 1) C hB (As := [.int (iI 1)]) (kX3_begins l E o Ad (va_up I 1 (31 * (I 1) + 2)) F 1) (lw_V q1713 q1715 qs66 q77 q1716) (by decide +kernel) ⟨Nat.le_of_ble_eq_true rfl, Nat.le_of_ble_eq_true rfl⟩ rfl hl.1 rfl (Nat.le_of_ble_eq_true rfl) dX3_tell_55 ⟨Nat.zero_le _, Nat.zero_le _⟩ (fun I20 F21 H locs hp23 hB => ?_)
      obtain ⟨rfl, rfl⟩ := hp23
      refine lv_iload_n hx hb dX3_tell_58 rfl (lv_at hl 0 rfl) ?_
      refine lv_bipush (v := iI 100) hx hb dX3_tell_59 rfl ?_
      refine x_iadd (z := F 11 k + 100) hx hb dX3_tell_61 (by omega) ?_
      exact m_iret C hB hr hlocks rfl dX3_tell_62 ⟨by omega, by omega⟩ ⟨by unfold rTellA; rw [if_neg (by omega), Int.toNat_natCast, if_pos (by omega)], by unfold nTellA; rw [if_neg (by omega), Int.toNat_natCast, if_pos (by omega)]; exact ⟨rfl, rfl, rfl, rfl, rfl, rfl, rfl, rfl, fun _ _ => ⟨rfl, rfl, rfl⟩, fun _ _ => ⟨rfl, rfl⟩, fun _ _ => ⟨rfl, rfl⟩, fun _ _ => ⟨rfl, rfl⟩, fun _ _ => rfl⟩⟩
    · refine x_lk (tgt := 63) (off := 40) hx hb 2 dX3_tell_23 c8 ⟨by decide, by decide⟩ (by decide) (by decide) (by decide) ?_
      refine lv_aload_n hx hb dX3_tell_63 rfl (lv_at hl 1 rfl) ?_
      refine lv_iconst (v := iI 3) hx hb dX3_tell_64 rfl ?_
      refine m_callv (n := 1) C hB (As := [.int (iI 3)]) (kX3_begins l E o Ad I F 3) (lw_V q1713 q1715 qs66 q77 q1716) (by decide +kernel) ⟨Nat.le_of_ble_eq_true rfl, Nat.le_of_ble_eq_true rfl⟩ rfl hl.1 rfl (Nat.le_of_ble_eq_true rfl) dX3_tell_65 ⟨Nat.zero_le _, Nat.zero_le _⟩ (fun I25 F26 H locs hp28 hB => ?_)
      obtain ⟨rfl, rfl⟩ := hp28
      refine lv_aload_n hx hb dX3_tell_68 rfl (lv_at hl 1 rfl) ?_
      refine lv_iconst (v := iI 2) hx hb dX3_tell_69 rfl ?_
      refine m_callv (n := 1) C hB (As := [.int (iI 2)]) (kX3_begins l E o Ad (va_up I 1 (31 * (I 1) + 3)) F 2) (lw_V q1713 q1715 qs66 q77 q1716) (by decide +kernel) ⟨Nat.le_of_ble_eq_true rfl, Nat.le_of_ble_eq_true rfl⟩ rfl hl.1 rfl (Nat.le_of_ble_eq_true rfl) dX3_tell_70 ⟨Nat.zero_le _, Nat.zero_le _⟩ (fun I30 F31 H locs hp33 hB => ?_)
      obtain ⟨rfl, rfl⟩ := hp33
      refine lv_aload_n hx hb dX3_tell_73 rfl (lv_at hl 1 rfl) ?_
      refine lv_iconst (v := iI 1) hx hb dX3_tell_74 rfl ?_
      refine m_callv (n := 1) C hB (As := [.int (iI 1)]) (kX3_begins l E o Ad (va_up (va_up I 1 (31 * (I 1) + 3)) 1 (31 * ((va_up I 1 (31 * (I 1) + 3)) 1) + 2)) F 1) (lw_V q1713 q1715 qs66 q77 q1716) (by decide +kernel) ⟨Nat.le_of_ble_eq_true rfl, Nat.le_of_ble_eq_true rfl⟩ rfl hl.1 rfl (Nat.le_of_ble_eq_true rfl) dX3_tell_75 ⟨Nat.zero_le _, Nat.zero_le _⟩ (fun I35 F36 H locs hp38 hB => ?_)
      obtain ⟨rfl, rfl⟩ := hp38
      refine lv_aload_n hx hb dX3_tell_78 rfl (lv_at hl 1 rfl) ?_
      refine lv_iconst (v := iI 1) hx hb dX3_tell_79 rfl ?_
      refine m_callv (n := 1) C hB (As := [.int (iI 1)]) (kX3_begins l E o Ad (va_up (va_up (va_up I 1 (31 * (I 1) + 3)) 1 (31 * ((va_up I 1 (31 * (I 1) + 3)) 1) + 2)) 1 (31 * ((va_up (va_up I 1 (31 * (I 1) + 3)) 1 (31 * ((va_up I 1 (31 * (I 1) + 3)) 1) + 2)) 1) + 1)) F 1) (lw_V q1713 q1715 qs66 q77 q1716) (by decide +kernel) ⟨Nat.le_of_ble_eq_true rfl, Nat.le_of_ble_eq_true rfl⟩ rfl hl.1 rfl (Nat.le_of_ble_eq_true rfl) dX3_tell_80 ⟨Nat.zero_le _, Nat.zero_le _⟩ (fun I40 F41 H locs hp43 hB => ?_)
      obtain ⟨rfl, rfl⟩ := hp43
      refine lv_iconst (v := iI 2) hx hb dX3_tell_83 rfl ?_
      refine lv_iload_n hx hb dX3_tell_84 rfl (lv_at hl 0 rfl) ?_
      refine x_imul (z := 2 * F 11 k) hx hb dX3_tell_85 (by omega) ?_
      refine lv_bipush (v := iI 100) hx hb dX3_tell_86 rfl ?_
      refine x_iadd (z := 2 * F 11 k + 100) hx hb dX3_tell_88 (by omega) ?_
      exact m_iret C hB hr hlocks rfl dX3_tell_89 ⟨by omega, by omega⟩ ⟨by unfold rTellA; rw [if_neg (by omega), Int.toNat_natCast, if_neg (by omega), if_pos (by omega)], by unfold nTellA; rw [if_neg (by omega), Int.toNat_natCast, if_neg (by omega), if_pos (by omega)]; exact ⟨rfl, rfl, rfl, rfl, rfl, rfl, rfl, rfl, fun _ _ => ⟨rfl, rfl, rfl⟩, fun _ _ => ⟨rfl, rfl⟩, fun _ _ => ⟨rfl, rfl⟩, fun _ _ => ⟨rfl, rfl⟩, fun _ _ => rfl⟩⟩
  · refine x_if_ne (tgt := 10) hx hb dX3_tell_5 (by decide) ⟨by decide, by decide⟩ (fun c44 => by exfalso; omega) (fun c44 => ?_)
    refine lv_iconst (v := iI (-1)) hx hb dX3_tell_8 rfl ?_
    exact m_iret C hB hr hlocks rfl dX3_tell_9 ⟨by decide, by decide⟩ ⟨by unfold rTellA; rw [if_pos (by omega)], by unfold nTellA; rw [if_pos (by omega)]; exact mAg_rfl I F⟩
set_option maxHeartbeats 400000 in
set_option maxRecDepth 100000 in
theorem kX3_read (l : Launch) (E : xE) (o : Nat) (Ad : Nat → Nat) (I : Nat → Int) (F : Nat → Nat → Int) (a : Int) (ha : rg a) (hOK : mOK I F) : mi_ l E yX3_read cX3_read 2 (some .int) 1 21 [.ref o, .int (iI a)] o Ad I F (fun z I' F' => z = rReadA I F a ∧ mAg (nReadA I F a) F I' F') := by
  intro w sz hM
  refine x_body (by decide) (Nat.le_of_ble_eq_true rfl) ?_
  intro p e s m args below meth c ls hx hb C hr hlocks _ hsz hB hl
  have C : xC E p s m args c cX3_read 2 RX3 := C
  replace hB : mB E (xA w sz) s o Ad I F s.heap [] := ⟨w, hM, hB⟩
  have hl : lv_has ls 2 [(0, .ref o), (1, .int (iI a))] := hl
  obtain ⟨ha1, ha2⟩ := ha
  have hOK0 := hOK
  obtain ⟨⟨hf1, hf2⟩, ⟨hl1, hl2⟩, ⟨hr1, hr2⟩, hlr, ⟨hs1, hs2⟩, ⟨hj1, hj2⟩, ⟨hb1, hb2⟩, ⟨hn1, hn2⟩, hL, hR, hN, hS, hC⟩ := hOK
  refine lv_aload_n hx hb dX3_read_0 rfl (lv_at hl 0 rfl) ?_
  refine lv_iload_n hx hb dX3_read_1 rfl (lv_at hl 1 rfl) ?_
  refine m_calli (n := 1) C hB (As := [.int (iI a)]) (kX3_isLeft l E o Ad I F a ⟨by omega, by omega⟩ ⟨by omega, by omega⟩) (lw_V q1532 q1534 qs46 q77 q1535) (by decide +kernel) ⟨Nat.le_of_ble_eq_true rfl, Nat.le_of_ble_eq_true rfl⟩ rfl hl.1 rfl (Nat.le_of_ble_eq_true rfl) dX3_read_2 ⟨Nat.zero_le _, Nat.zero_le _⟩ (fun z1 I2 F3 H locs hz4 hp5 hB => ?_)
  obtain ⟨hz4a, hz4b⟩ := hz4
  obtain ⟨rfl, rfl, ⟨rfl, h6⟩ | ⟨rfl, h6⟩⟩ := hp5
  · refine x_if_ne (tgt := 10) hx hb dX3_read_5 (by decide) ⟨by decide, by decide⟩ (fun c7 => ?_) (fun c7 => by exfalso; omega)
    obtain ⟨k, rfl⟩ : ∃ k : Nat, a = (k : Int) := ⟨a.toNat, by omega⟩
    refine lv_aload_n hx hb dX3_read_10 rfl (lv_at hl 0 rfl) ?_
    refine m_get C hB 10 (by decide) q1404 (v := .ref (Ad 10)) rfl rfl dX3_read_11 ?_
    refine lv_iload_n hx hb dX3_read_14 rfl (lv_at hl 1 rfl) ?_
    refine m_ald C hB 10 7 rfl (v := F 10 k) k rfl (by omega) rfl dX3_read_15 ?_
    have := hL k (by omega)
    refine lv_iconst (v := iI 2) hx hb dX3_read_16 rfl ?_
    refine x_icmp_ne (tgt := 25) hx hb dX3_read_17 (by decide) ⟨by omega, by omega⟩ ⟨by decide, by decide⟩ (fun c8 => ?_) (fun c8 => ?_)
    · refine lv_aload_n hx hb dX3_read_25 rfl (lv_at hl 0 rfl) ?_
      refine lv_iconst (v := iI 4) hx hb dX3_read_26 rfl ?_
      refine m_callv (n := 1) C hB (As := [.int (iI 4)]) (kX3_begins l E o Ad I F 4) (lw_V q1713 q1715 qs66 q77 q1716) (by decide +kernel) ⟨Nat.le_of_ble_eq_true rfl, Nat.le_of_ble_eq_true rfl⟩ rfl hl.1 rfl (Nat.le_of_ble_eq_true rfl) dX3_read_27 ⟨Nat.zero_le _, Nat.zero_le _⟩ (fun I10 F11 H locs hp13 hB => ?_)
      obtain ⟨rfl, rfl⟩ := hp13
      refine lv_aload_n hx hb dX3_read_30 rfl (lv_at hl 0 rfl) ?_
      refine m_get C hB 10 (by decide) q1404 (v := .ref (Ad 10)) rfl rfl dX3_read_31 ?_
      refine lv_iload_n hx hb dX3_read_34 rfl (lv_at hl 1 rfl) ?_
      refine m_ald C hB 10 7 rfl (v := F 10 k) k rfl (by omega) rfl dX3_read_35 ?_
      have := hL k (by omega)
      refine lv_iconst (v := iI 2) hx hb dX3_read_36 rfl ?_
      refine x_icmp_ne (tgt := 52) hx hb dX3_read_37 (by decide) ⟨by omega, by omega⟩ ⟨by decide, by decide⟩ (fun c14 => ?_) (fun c14 => by exfalso; omega)
      refine lv_aload_n hx hb dX3_read_52 rfl (lv_at hl 0 rfl) ?_
      refine m_get C hB 12 (by decide) q1406 (v := .ref (Ad 12)) rfl rfl dX3_read_53 ?_
      refine lv_iload_n hx hb dX3_read_56 rfl (lv_at hl 1 rfl) ?_
      refine m_ald C hB 12 7 rfl (v := F 12 k) k rfl (by omega) rfl dX3_read_57 ?_
      have := hL k (by omega)
      exact m_iret C hB hr hlocks rfl dX3_read_58 ⟨by omega, by omega⟩ (by first | exact ⟨by unfold rReadA; rw [if_neg (by omega), Int.toNat_natCast, if_pos (by omega)], by unfold nReadA; rw [if_neg (by omega), Int.toNat_natCast, if_pos (by omega)]; exact ⟨rfl, rfl, rfl, rfl, rfl, rfl, rfl, rfl, fun _ _ => ⟨rfl, rfl, rfl⟩, fun _ _ => ⟨rfl, rfl⟩, fun _ _ => ⟨rfl, rfl⟩, fun _ _ => ⟨rfl, rfl⟩, fun _ _ => rfl⟩⟩ | exact ⟨by unfold rReadA; rw [if_neg (by omega), Int.toNat_natCast, if_neg (by omega)], by unfold nReadA; rw [if_neg (by omega), Int.toNat_natCast, if_neg (by omega)]; exact ⟨rfl, rfl, rfl, rfl, rfl, rfl, rfl, rfl, fun _ _ => ⟨rfl, rfl, rfl⟩, fun _ _ => ⟨rfl, rfl⟩, fun _ _ => ⟨rfl, rfl⟩, fun _ _ => ⟨rfl, rfl⟩, fun _ _ => rfl⟩⟩)
    · refine lv_aload_n hx hb dX3_read_20 rfl (lv_at hl 0 rfl) ?_
      refine lv_iconst (v := iI 5) hx hb dX3_read_21 rfl ?_
      refine m_callv (n := 1) C hB (As := [.int (iI 5)]) (kX3_begins l E o Ad I F 5) (lw_V q1713 q1715 qs66 q77 q1716) (by decide +kernel) ⟨Nat.le_of_ble_eq_true rfl, Nat.le_of_ble_eq_true rfl⟩ rfl hl.1 rfl (Nat.le_of_ble_eq_true rfl) dX3_read_22 ⟨Nat.zero_le _, Nat.zero_le _⟩ (fun I16 F17 H locs hp19 hB => ?_)
      obtain ⟨rfl, rfl⟩ := hp19
      refine lv_aload_n hx hb dX3_read_25 rfl (lv_at hl 0 rfl) ?_
      refine lv_iconst (v := iI 4) hx hb dX3_read_26 rfl ?_
      refine m_callv (n := 1) C hB (As := [.int (iI 4)]) (kX3_begins l E o Ad (va_up I 1 (31 * (I 1) + 5)) F 4) (lw_V q1713 q1715 qs66 q77 q1716) (by decide +kernel) ⟨Nat.le_of_ble_eq_true rfl, Nat.le_of_ble_eq_true rfl⟩ rfl hl.1 rfl (Nat.le_of_ble_eq_true rfl) dX3_read_27 ⟨Nat.zero_le _, Nat.zero_le _⟩ (fun I21 F22 H locs hp24 hB => ?_)
      obtain ⟨rfl, rfl⟩ := hp24
      refine lv_aload_n hx hb dX3_read_30 rfl (lv_at hl 0 rfl) ?_
      refine m_get C hB 10 (by decide) q1404 (v := .ref (Ad 10)) rfl rfl dX3_read_31 ?_
      refine lv_iload_n hx hb dX3_read_34 rfl (lv_at hl 1 rfl) ?_
      refine m_ald C hB 10 7 rfl (v := F 10 k) k rfl (by omega) rfl dX3_read_35 ?_
      have := hL k (by omega)
      refine lv_iconst (v := iI 2) hx hb dX3_read_36 rfl ?_
      refine x_icmp_ne (tgt := 52) hx hb dX3_read_37 (by decide) ⟨by omega, by omega⟩ ⟨by decide, by decide⟩ (fun c25 => by exfalso; omega) (fun c25 => ?_)
      refine lv_aload_n hx hb dX3_read_40 rfl (lv_at hl 0 rfl) ?_
      refine m_get C hB 12 (by decide) q1406 (v := .ref (Ad 12)) rfl rfl dX3_read_41 ?_
      refine lv_iload_n hx hb dX3_read_44 rfl (lv_at hl 1 rfl) ?_
      refine m_ald C hB 12 7 rfl (v := F 12 k) k rfl (by omega) rfl dX3_read_45 ?_
      have := hL k (by omega)
      refine lv_bipush (v := iI 80) hx hb dX3_read_46 rfl ?_
      refine x_iadd (z := F 12 k + 80) hx hb dX3_read_48 (by omega) ?_
      refine lv_goto (tgt := 58) hx hb dX3_read_49 (by decide) ?_
      exact m_iret C hB hr hlocks rfl dX3_read_58 ⟨by omega, by omega⟩ (by first | exact ⟨by unfold rReadA; rw [if_neg (by omega), Int.toNat_natCast, if_pos (by omega)], by unfold nReadA; rw [if_neg (by omega), Int.toNat_natCast, if_pos (by omega)]; exact ⟨rfl, rfl, rfl, rfl, rfl, rfl, rfl, rfl, fun _ _ => ⟨rfl, rfl, rfl⟩, fun _ _ => ⟨rfl, rfl⟩, fun _ _ => ⟨rfl, rfl⟩, fun _ _ => ⟨rfl, rfl⟩, fun _ _ => rfl⟩⟩ | exact ⟨by unfold rReadA; rw [if_neg (by omega), Int.toNat_natCast, if_neg (by omega)], by unfold nReadA; rw [if_neg (by omega), Int.toNat_natCast, if_neg (by omega)]; exact ⟨rfl, rfl, rfl, rfl, rfl, rfl, rfl, rfl, fun _ _ => ⟨rfl, rfl, rfl⟩, fun _ _ => ⟨rfl, rfl⟩, fun _ _ => ⟨rfl, rfl⟩, fun _ _ => ⟨rfl, rfl⟩, fun _ _ => rfl⟩⟩)
  · refine x_if_ne (tgt := 10) hx hb dX3_read_5 (by decide) ⟨by decide, by decide⟩ (fun c26 => by exfalso; omega) (fun c26 => ?_)
    refine lv_iconst (v := iI (-1)) hx hb dX3_read_8 rfl ?_
    exact m_iret C hB hr hlocks rfl dX3_read_9 ⟨by decide, by decide⟩ ⟨by unfold rReadA; rw [if_pos (by omega)], by unfold nReadA; rw [if_pos (by omega)]; exact mAg_rfl I F⟩
set_option maxHeartbeats 400000 in
set_option maxRecDepth 100000 in
theorem kX3_as (l : Launch) (E : xE) (o : Nat) (Ad : Nat → Nat) (I : Nat → Int) (F : Nat → Nat → Int) (a : Int) (so : Int) (ha : rg a) (hso : rg so) (hOK : mOK I F) : mi_ l E yX3_as cX3_as 3 (some .int) 1 22 [.ref o, .int (iI a), .int (iI so)] o Ad I F (fun z I' F' => z = rAs I F a so ∧ mAg (nAs I F a so) F I' F') := by
  intro w sz hM
  refine x_body (by decide) (Nat.le_of_ble_eq_true rfl) ?_
  intro p e s m args below meth c ls hx hb C hr hlocks _ hsz hB hl
  have C : xC E p s m args c cX3_as 3 RX3 := C
  replace hB : mB E (xA w sz) s o Ad I F s.heap [] := ⟨w, hM, hB⟩
  have hl : lv_has ls 3 [(0, .ref o), (1, .int (iI a)), (2, .int (iI so))] := hl
  obtain ⟨ha1, ha2⟩ := ha
  obtain ⟨hso1, hso2⟩ := hso
  have hOK0 := hOK
  obtain ⟨⟨hf1, hf2⟩, ⟨hl1, hl2⟩, ⟨hr1, hr2⟩, hlr, ⟨hs1, hs2⟩, ⟨hj1, hj2⟩, ⟨hb1, hb2⟩, ⟨hn1, hn2⟩, hL, hR, hN, hS, hC⟩ := hOK
  refine lv_aload_n hx hb dX3_as_0 rfl (lv_at hl 0 rfl) ?_
  refine lv_iconst (v := iI 0) hx hb dX3_as_1 rfl ?_
  refine m_put C hB 0 (by decide) rfl q1394 rfl rfl dX3_as_2 (fun H locs hB => ?_)
  refine lv_aload_n hx hb dX3_as_5 rfl (lv_at hl 0 rfl) ?_
  refine lv_iload_n hx hb dX3_as_6 rfl (lv_at hl 1 rfl) ?_
  refine m_calli (n := 1) C hB (As := [.int (iI a)]) (kX3_isLeft l E o Ad (va_up I 0 0) F a ⟨by omega, by omega⟩ (show rg (I 5) from ⟨by omega, by omega⟩)) (lw_V q1532 q1534 qs46 q77 q1535) (by decide +kernel) ⟨Nat.le_of_ble_eq_true rfl, Nat.le_of_ble_eq_true rfl⟩ rfl hl.1 rfl (Nat.le_of_ble_eq_true rfl) dX3_as_7 ⟨Nat.zero_le _, Nat.zero_le _⟩ (fun z1 I2 F3 H locs hz4 hp5 hB => ?_)
  obtain ⟨hz4a, hz4b⟩ := hz4
  obtain ⟨rfl, rfl, ⟨rfl, h6⟩ | ⟨rfl, h6⟩⟩ := hp5
  · replace h6 : (0 ≤ a ∧ a < I 5) := h6
    refine x_if_ne (tgt := 15) hx hb dX3_as_10 (by decide) ⟨by decide, by decide⟩ (fun c7 => ?_) (fun c7 => by exfalso; omega)
    refine lv_iload_n hx hb dX3_as_15 rfl (lv_at hl 2 rfl) ?_
    refine lv_iconst (v := iI 0) hx hb dX3_as_16 rfl ?_
    refine lv_iconst (v := iI 2) hx hb dX3_as_17 rfl ?_
    obtain ⟨wq, hMq, hB⟩ := hB
    refine s_calli (n := 3) C hB (As := [.int (iI so), .int (iI 0), .int (iI 2)]) (kX3_within l E so 0 2 ⟨by omega, by omega⟩ ⟨by omega, by omega⟩ ⟨by omega, by omega⟩) (lw_S q1498 q1499 q77 q1500) (by decide +kernel) ⟨Nat.le_of_ble_eq_true rfl, Nat.le_of_ble_eq_true rfl⟩ rfl hl.1 rfl (Nat.le_of_ble_eq_true rfl) dX3_as_18 ⟨Nat.zero_le _, Nat.zero_le _⟩ (fun z8 H locs hz9 hp10 hB => ?_)
    replace hB : mB E _ s o Ad (va_up I 0 0) F H locs := ⟨wq, hMq, hB⟩
    obtain ⟨hz9a, hz9b⟩ := hz9
    rcases hp10 with ⟨rfl, h11⟩ | ⟨rfl, h11⟩
    · refine x_if_ne (tgt := 27) hx hb dX3_as_21 (by decide) ⟨by decide, by decide⟩ (fun c12 => ?_) (fun c12 => by exfalso; omega)
      obtain ⟨k, rfl⟩ : ∃ k : Nat, a = (k : Int) := ⟨a.toNat, by omega⟩
      refine lv_aload_n hx hb dX3_as_27 rfl (lv_at hl 0 rfl) ?_
      refine m_get C hB 10 (by decide) q1404 (v := .ref (Ad 10)) rfl rfl dX3_as_28 ?_
      refine lv_iload_n hx hb dX3_as_31 rfl (lv_at hl 1 rfl) ?_
      refine m_ald C hB 10 7 rfl (v := F 10 k) k rfl (by omega) rfl dX3_as_32 ?_
      have := hL k (by omega)
      refine lv_iload_n hx hb dX3_as_33 rfl (lv_at hl 2 rfl) ?_
      refine x_icmp_lt (tgt := 41) hx hb dX3_as_34 (by decide) ⟨by omega, by omega⟩ ⟨by omega, by omega⟩ (fun c13 => ?_) (fun c13 => ?_)
      · refine lv_aload_n hx hb dX3_as_41 rfl (lv_at hl 0 rfl) ?_
        refine lv_iconst (v := iI 2) hx hb dX3_as_42 rfl ?_
        refine m_calli (n := 1) C hB (As := [.int (iI 2)]) (kX3_fails l E o Ad (va_up I 0 0) F 2 (by omega)) (lw_V q1508 q1510 qs41 q77 q1511) (by decide +kernel) ⟨Nat.le_of_ble_eq_true rfl, Nat.le_of_ble_eq_true rfl⟩ rfl hl.1 rfl (Nat.le_of_ble_eq_true rfl) dX3_as_43 ⟨Nat.zero_le _, Nat.zero_le _⟩ (fun z14 I15 F16 H locs hz17 hp18 hB => ?_)
        obtain ⟨hz17a, hz17b⟩ := hz17
        obtain ⟨rfl, rfl, rfl⟩ := hp18
        exact m_iret C hB hr hlocks rfl dX3_as_46 ⟨by decide, by decide⟩ (by
                  have hr : rAs I F (k : Int) so = -12 := by { unfold rAs; (try simp only [Int.toNat_natCast]); (repeat' split) <;> omega }
                  exact ⟨hr.symm, by unfold nAs; rw [hr]; exact ⟨by simp [fI, va_up], rfl, rfl, rfl, rfl, rfl, rfl, rfl, fun _ _ => ⟨rfl, rfl, rfl⟩, fun _ _ => ⟨rfl, rfl⟩, fun _ _ => ⟨rfl, rfl⟩, fun _ _ => ⟨rfl, rfl⟩, fun _ _ => rfl⟩⟩)
      · refine lv_iconst (v := iI 1) hx hb dX3_as_37 rfl ?_
        refine lv_goto (tgt := 46) hx hb dX3_as_38 (by decide) ?_
        exact m_iret C hB hr hlocks rfl dX3_as_46 ⟨by decide, by decide⟩ (by
                  have hr : rAs I F (k : Int) so = 1 := by { unfold rAs; (try simp only [Int.toNat_natCast]); (repeat' split) <;> omega }
                  exact ⟨hr.symm, by unfold nAs; rw [hr]; exact ⟨by simp [fI, va_up], rfl, rfl, rfl, rfl, rfl, rfl, rfl, fun _ _ => ⟨rfl, rfl, rfl⟩, fun _ _ => ⟨rfl, rfl⟩, fun _ _ => ⟨rfl, rfl⟩, fun _ _ => ⟨rfl, rfl⟩, fun _ _ => rfl⟩⟩)
    · refine x_if_ne (tgt := 27) hx hb dX3_as_21 (by decide) ⟨by decide, by decide⟩ (fun c19 => by exfalso; omega) (fun c19 => ?_)
      refine lv_bipush (v := iI (-2)) hx hb dX3_as_24 rfl ?_
      exact m_iret C hB hr hlocks rfl dX3_as_26 ⟨by decide, by decide⟩ (by
              have hr : rAs I F a so = -2 := by { unfold rAs; (try simp only [Int.toNat_natCast]); (repeat' split) <;> omega }
              exact ⟨hr.symm, by unfold nAs; rw [hr]; exact ⟨by simp [fI, va_up], rfl, rfl, rfl, rfl, rfl, rfl, rfl, fun _ _ => ⟨rfl, rfl, rfl⟩, fun _ _ => ⟨rfl, rfl⟩, fun _ _ => ⟨rfl, rfl⟩, fun _ _ => ⟨rfl, rfl⟩, fun _ _ => rfl⟩⟩)
  · replace h6 : ¬ (0 ≤ a ∧ a < I 5) := h6
    refine x_if_ne (tgt := 15) hx hb dX3_as_10 (by decide) ⟨by decide, by decide⟩ (fun c20 => by exfalso; omega) (fun c20 => ?_)
    refine lv_iconst (v := iI (-1)) hx hb dX3_as_13 rfl ?_
    exact m_iret C hB hr hlocks rfl dX3_as_14 ⟨by decide, by decide⟩ (by
          have hr : rAs I F a so = -1 := by { unfold rAs; (try simp only [Int.toNat_natCast]); (repeat' split) <;> omega }
          exact ⟨hr.symm, by unfold nAs; rw [hr]; exact ⟨by simp [fI, va_up], rfl, rfl, rfl, rfl, rfl, rfl, rfl, fun _ _ => ⟨rfl, rfl, rfl⟩, fun _ _ => ⟨rfl, rfl⟩, fun _ _ => ⟨rfl, rfl⟩, fun _ _ => ⟨rfl, rfl⟩, fun _ _ => rfl⟩⟩)
set_option maxHeartbeats 400000 in
set_option maxRecDepth 100000 in
theorem kX3_copy (l : Launch) (E : xE) (o : Nat) (Ad : Nat → Nat) (I : Nat → Int) (F : Nat → Nat → Int) (k : Int) (i : Int) (t : Int) (j : Int) (n : Int) (hk : rg k) (hi : rg i) (ht : rg t) (hj : rg j) (hnr : rg n) (hOK : mOK I F) : mi_ l E yX3_copy cX3_copy 10 (some .int) 2 42 [.ref o, .int (iI k), .int (iI i), .int (iI t), .int (iI j), .int (iI n)] o Ad I F (fun z I' F' => z = rCopy F k i t j n ∧ mAg (nCopyI I F k i t j n) (nCopyF F k i t j n) I' F') := by
  intro w sz hM
  refine x_body (by decide) (Nat.le_of_ble_eq_true rfl) ?_
  intro p e s m args below meth c ls hx hb C hr hlocks _ hsz hB hl
  have C : xC E p s m args c cX3_copy 10 RX3 := C
  replace hB : mB E (xA w sz) s o Ad I F s.heap [] := ⟨w, hM, hB⟩
  have hl : lv_has ls 10 [(0, .ref o), (1, .int (iI k)), (2, .int (iI i)), (3, .int (iI t)), (4, .int (iI j)), (5, .int (iI n))] := hl
  obtain ⟨hk1, hk2⟩ := hk
  obtain ⟨hi1, hi2⟩ := hi
  obtain ⟨ht1, ht2⟩ := ht
  obtain ⟨hj1, hj2⟩ := hj
  obtain ⟨hnr1, hnr2⟩ := hnr
  have hOK0 := hOK
  obtain ⟨⟨hf1, hf2⟩, ⟨hl1, hl2⟩, ⟨hr1, hr2⟩, hlr, ⟨hs1, hs2⟩, ⟨hj1, hj2⟩, ⟨hb1, hb2⟩, ⟨hn1, hn2⟩, hL, hR, hN, hS, hC⟩ := hOK
  refine lv_aload_n hx hb dX3_copy_0 rfl (lv_at hl 0 rfl) ?_
  refine lv_iconst (v := iI 0) hx hb dX3_copy_1 rfl ?_
  refine m_put C hB 0 (by decide) rfl q1394 rfl rfl dX3_copy_2 (fun H locs hB => ?_)
  refine lv_iload_n hx hb dX3_copy_5 rfl (lv_at hl 1 rfl) ?_
  obtain ⟨wq, hMq, hB⟩ := hB
  refine s_calli (n := 1) C hB (As := [.int (iI k)]) (kX3_isSheet l E k ⟨by omega, by omega⟩) (lw_S q1495 q1496 q77 q1497) (by decide +kernel) ⟨Nat.le_of_ble_eq_true rfl, Nat.le_of_ble_eq_true rfl⟩ rfl hl.1 rfl (Nat.le_of_ble_eq_true rfl) dX3_copy_6 ⟨Nat.zero_le _, Nat.zero_le _⟩ (fun z1 H locs hz2 hp3 hB => ?_)
  replace hB : mB E _ s o Ad (va_up I 0 0) F H locs := ⟨wq, hMq, hB⟩
  obtain ⟨hz2a, hz2b⟩ := hz2
  rcases hp3 with ⟨rfl, h4⟩ | ⟨rfl, h4⟩
  · refine x_if_eq (tgt := 19) hx hb dX3_copy_9 (by decide) ⟨by decide, by decide⟩ (fun c5 => by exfalso; omega) (fun c5 => ?_)
    refine lv_iload_n hx hb dX3_copy_12 rfl (lv_at hl 3 rfl) ?_
    obtain ⟨wq, hMq, hB⟩ := hB
    refine s_calli (n := 1) C hB (As := [.int (iI t)]) (kX3_isSheet l E t ⟨by omega, by omega⟩) (lw_S q1495 q1496 q77 q1497) (by decide +kernel) ⟨Nat.le_of_ble_eq_true rfl, Nat.le_of_ble_eq_true rfl⟩ rfl hl.1 rfl (Nat.le_of_ble_eq_true rfl) dX3_copy_13 ⟨Nat.zero_le _, Nat.zero_le _⟩ (fun z6 H locs hz7 hp8 hB => ?_)
    replace hB : mB E _ s o Ad (va_up I 0 0) F H locs := ⟨wq, hMq, hB⟩
    obtain ⟨hz7a, hz7b⟩ := hz7
    rcases hp8 with ⟨rfl, h9⟩ | ⟨rfl, h9⟩
    · refine x_if_ne (tgt := 21) hx hb dX3_copy_16 (by decide) ⟨by decide, by decide⟩ (fun c10 => ?_) (fun c10 => by exfalso; omega)
      obtain ⟨kk, rfl⟩ : ∃ kk : Nat, k = (kk : Int) := ⟨k.toNat, by omega⟩
      obtain ⟨kt, rfl⟩ : ∃ kt : Nat, t = (kt : Int) := ⟨t.toNat, by omega⟩
      refine lv_aload_n hx hb dX3_copy_21 rfl (lv_at hl 0 rfl) ?_
      refine m_get C hB 2 (by decide) q1396 (v := .ref (Ad 2)) rfl rfl dX3_copy_22 ?_
      refine lv_iload_n hx hb dX3_copy_25 rfl (lv_at hl 1 rfl) ?_
      refine m_ald C hB 2 4 rfl (v := F 2 kk) kk rfl (by omega) rfl dX3_copy_26 ?_
      have := hS kk (by omega)
      refine lv_bipush (v := iI (-9)) hx hb dX3_copy_27 rfl ?_
      refine x_icmp_eq (tgt := 43) hx hb dX3_copy_29 (by decide) ⟨by omega, by omega⟩ ⟨by decide, by decide⟩ (fun c11 => ?_) (fun c11 => ?_)
      · refine lv_aload_n hx hb dX3_copy_43 rfl (lv_at hl 0 rfl) ?_
        refine lv_iconst (v := iI 1) hx hb dX3_copy_44 rfl ?_
        refine m_calli (n := 1) C hB (As := [.int (iI 1)]) (kX3_fails l E o Ad (va_up I 0 0) F 1 (by omega)) (lw_V q1508 q1510 qs41 q77 q1511) (by decide +kernel) ⟨Nat.le_of_ble_eq_true rfl, Nat.le_of_ble_eq_true rfl⟩ rfl hl.1 rfl (Nat.le_of_ble_eq_true rfl) dX3_copy_45 ⟨Nat.zero_le _, Nat.zero_le _⟩ (fun z12 I13 F14 H locs hz15 hp16 hB => ?_)
        obtain ⟨hz15a, hz15b⟩ := hz15
        obtain ⟨rfl, rfl, rfl⟩ := hp16
        exact m_iret C hB hr hlocks rfl dX3_copy_48 ⟨by decide, by decide⟩ (by
                  have hr : rCopy F (kk : Int) i (kt : Int) j n = -11 := by { unfold rCopy; (try simp only [Int.toNat_natCast]); (repeat' split) <;> omega }
                  exact ⟨hr.symm, by unfold nCopyI nCopyF; rw [hr, if_neg (show ¬ (0 : Int) ≤ -11 by decide)]; exact ⟨by simp [fI, va_up], rfl, rfl, rfl, rfl, rfl, rfl, rfl, fun _ _ => ⟨rfl, rfl, rfl⟩, fun _ _ => ⟨rfl, rfl⟩, fun _ _ => ⟨rfl, rfl⟩, fun _ _ => ⟨rfl, rfl⟩, fun _ _ => rfl⟩⟩)
      · refine lv_aload_n hx hb dX3_copy_32 rfl (lv_at hl 0 rfl) ?_
        refine m_get C hB 2 (by decide) q1396 (v := .ref (Ad 2)) rfl rfl dX3_copy_33 ?_
        refine lv_iload_n hx hb dX3_copy_36 rfl (lv_at hl 3 rfl) ?_
        refine m_ald C hB 2 4 rfl (v := F 2 kt) kt rfl (by omega) rfl dX3_copy_37 ?_
        have := hS kt (by omega)
        refine lv_bipush (v := iI (-9)) hx hb dX3_copy_38 rfl ?_
        refine x_icmp_ne (tgt := 49) hx hb dX3_copy_40 (by decide) ⟨by omega, by omega⟩ ⟨by decide, by decide⟩ (fun c17 => ?_) (fun c17 => ?_)
        · refine lv_aload_n hx hb dX3_copy_49 rfl (lv_at hl 0 rfl) ?_
          refine m_get C hB 2 (by decide) q1396 (v := .ref (Ad 2)) rfl rfl dX3_copy_50 ?_
          refine lv_iload_n hx hb dX3_copy_53 rfl (lv_at hl 1 rfl) ?_
          refine m_ald C hB 2 4 rfl (v := F 2 kk) kk rfl (by omega) rfl dX3_copy_54 ?_
          have := hS kk (by omega)
          refine lv_aload_n hx hb dX3_copy_55 rfl (lv_at hl 0 rfl) ?_
          refine m_get C hB 2 (by decide) q1396 (v := .ref (Ad 2)) rfl rfl dX3_copy_56 ?_
          refine lv_iload_n hx hb dX3_copy_59 rfl (lv_at hl 3 rfl) ?_
          refine m_ald C hB 2 4 rfl (v := F 2 kt) kt rfl (by omega) rfl dX3_copy_60 ?_
          have := hS kt (by omega)
          refine x_icmp_eq (tgt := 70) hx hb dX3_copy_61 (by decide) ⟨by omega, by omega⟩ ⟨by omega, by omega⟩ (fun c18 => ?_) (fun c18 => ?_)
          · refine lv_iload_n hx hb dX3_copy_70 rfl (lv_at hl 2 rfl) ?_
            refine x_if_lt (tgt := 109) hx hb dX3_copy_71 (by decide) ⟨by omega, by omega⟩ (fun c19 => ?_) (fun c19 => ?_)
            · refine lv_iconst (v := iI 0) hx hb dX3_copy_109 rfl ?_
              refine lv_istore (lv' := [(6, .int (iI 0)), (0, .ref o), (1, .int (iI ((kk : Int)))), (2, .int (iI i)), (3, .int (iI ((kt : Int)))), (4, .int (iI j)), (5, .int (iI n))]) hx hb dX3_copy_110 hl (by decide) rfl (fun ls hl => ?_)
              refine lv_iload hx hb dX3_copy_112 (lv_at hl 0 rfl) ?_
              refine x_if_eq (tgt := 144) hx hb dX3_copy_114 (by decide) ⟨by decide, by decide⟩ (fun c20 => ?_) (fun c20 => by exfalso; omega)
              refine lv_aload_n hx hb dX3_copy_144 rfl (lv_at hl 1 rfl) ?_
              refine lv_iconst (v := iI 3) hx hb dX3_copy_145 rfl ?_
              refine m_calli (n := 1) C hB (As := [.int (iI 3)]) (kX3_fails l E o Ad (va_up I 0 0) F 3 (by omega)) (lw_V q1508 q1510 qs41 q77 q1511) (by decide +kernel) ⟨Nat.le_of_ble_eq_true rfl, Nat.le_of_ble_eq_true rfl⟩ rfl hl.1 rfl (Nat.le_of_ble_eq_true rfl) dX3_copy_146 ⟨Nat.zero_le _, Nat.zero_le _⟩ (fun z21 I22 F23 H locs hz24 hp25 hB => ?_)
              obtain ⟨hz24a, hz24b⟩ := hz24
              obtain ⟨rfl, rfl, rfl⟩ := hp25
              exact m_iret C hB hr hlocks rfl dX3_copy_149 ⟨by decide, by decide⟩ (by
                              have hr : rCopy F (kk : Int) i (kt : Int) j n = -13 := by { unfold rCopy; (try simp only [Int.toNat_natCast]); (repeat' split) <;> omega }
                              exact ⟨hr.symm, by unfold nCopyI nCopyF; rw [hr, if_neg (show ¬ (0 : Int) ≤ -13 by decide)]; exact ⟨by simp [fI, va_up], rfl, rfl, rfl, rfl, rfl, rfl, rfl, fun _ _ => ⟨rfl, rfl, rfl⟩, fun _ _ => ⟨rfl, rfl⟩, fun _ _ => ⟨rfl, rfl⟩, fun _ _ => ⟨rfl, rfl⟩, fun _ _ => rfl⟩⟩)
            · refine lv_iload hx hb dX3_copy_74 (lv_at hl 4 rfl) ?_
              refine x_if_lt (tgt := 109) hx hb dX3_copy_76 (by decide) ⟨by omega, by omega⟩ (fun c26 => ?_) (fun c26 => ?_)
              · refine lv_iconst (v := iI 0) hx hb dX3_copy_109 rfl ?_
                refine lv_istore (lv' := [(6, .int (iI 0)), (0, .ref o), (1, .int (iI ((kk : Int)))), (2, .int (iI i)), (3, .int (iI ((kt : Int)))), (4, .int (iI j)), (5, .int (iI n))]) hx hb dX3_copy_110 hl (by decide) rfl (fun ls hl => ?_)
                refine lv_iload hx hb dX3_copy_112 (lv_at hl 0 rfl) ?_
                refine x_if_eq (tgt := 144) hx hb dX3_copy_114 (by decide) ⟨by decide, by decide⟩ (fun c27 => ?_) (fun c27 => by exfalso; omega)
                refine lv_aload_n hx hb dX3_copy_144 rfl (lv_at hl 1 rfl) ?_
                refine lv_iconst (v := iI 3) hx hb dX3_copy_145 rfl ?_
                refine m_calli (n := 1) C hB (As := [.int (iI 3)]) (kX3_fails l E o Ad (va_up I 0 0) F 3 (by omega)) (lw_V q1508 q1510 qs41 q77 q1511) (by decide +kernel) ⟨Nat.le_of_ble_eq_true rfl, Nat.le_of_ble_eq_true rfl⟩ rfl hl.1 rfl (Nat.le_of_ble_eq_true rfl) dX3_copy_146 ⟨Nat.zero_le _, Nat.zero_le _⟩ (fun z28 I29 F30 H locs hz31 hp32 hB => ?_)
                obtain ⟨hz31a, hz31b⟩ := hz31
                obtain ⟨rfl, rfl, rfl⟩ := hp32
                exact m_iret C hB hr hlocks rfl dX3_copy_149 ⟨by decide, by decide⟩ (by
                                  have hr : rCopy F (kk : Int) i (kt : Int) j n = -13 := by { unfold rCopy; (try simp only [Int.toNat_natCast]); (repeat' split) <;> omega }
                                  exact ⟨hr.symm, by unfold nCopyI nCopyF; rw [hr, if_neg (show ¬ (0 : Int) ≤ -13 by decide)]; exact ⟨by simp [fI, va_up], rfl, rfl, rfl, rfl, rfl, rfl, rfl, fun _ _ => ⟨rfl, rfl, rfl⟩, fun _ _ => ⟨rfl, rfl⟩, fun _ _ => ⟨rfl, rfl⟩, fun _ _ => ⟨rfl, rfl⟩, fun _ _ => rfl⟩⟩)
              · refine lv_iload hx hb dX3_copy_79 (lv_at hl 5 rfl) ?_
                refine x_if_lt (tgt := 109) hx hb dX3_copy_81 (by decide) ⟨by omega, by omega⟩ (fun c33 => ?_) (fun c33 => ?_)
                · refine lv_iconst (v := iI 0) hx hb dX3_copy_109 rfl ?_
                  refine lv_istore (lv' := [(6, .int (iI 0)), (0, .ref o), (1, .int (iI ((kk : Int)))), (2, .int (iI i)), (3, .int (iI ((kt : Int)))), (4, .int (iI j)), (5, .int (iI n))]) hx hb dX3_copy_110 hl (by decide) rfl (fun ls hl => ?_)
                  refine lv_iload hx hb dX3_copy_112 (lv_at hl 0 rfl) ?_
                  refine x_if_eq (tgt := 144) hx hb dX3_copy_114 (by decide) ⟨by decide, by decide⟩ (fun c34 => ?_) (fun c34 => by exfalso; omega)
                  refine lv_aload_n hx hb dX3_copy_144 rfl (lv_at hl 1 rfl) ?_
                  refine lv_iconst (v := iI 3) hx hb dX3_copy_145 rfl ?_
                  refine m_calli (n := 1) C hB (As := [.int (iI 3)]) (kX3_fails l E o Ad (va_up I 0 0) F 3 (by omega)) (lw_V q1508 q1510 qs41 q77 q1511) (by decide +kernel) ⟨Nat.le_of_ble_eq_true rfl, Nat.le_of_ble_eq_true rfl⟩ rfl hl.1 rfl (Nat.le_of_ble_eq_true rfl) dX3_copy_146 ⟨Nat.zero_le _, Nat.zero_le _⟩ (fun z35 I36 F37 H locs hz38 hp39 hB => ?_)
                  obtain ⟨hz38a, hz38b⟩ := hz38
                  obtain ⟨rfl, rfl, rfl⟩ := hp39
                  exact m_iret C hB hr hlocks rfl dX3_copy_149 ⟨by decide, by decide⟩ (by
                                      have hr : rCopy F (kk : Int) i (kt : Int) j n = -13 := by { unfold rCopy; (try simp only [Int.toNat_natCast]); (repeat' split) <;> omega }
                                      exact ⟨hr.symm, by unfold nCopyI nCopyF; rw [hr, if_neg (show ¬ (0 : Int) ≤ -13 by decide)]; exact ⟨by simp [fI, va_up], rfl, rfl, rfl, rfl, rfl, rfl, rfl, fun _ _ => ⟨rfl, rfl, rfl⟩, fun _ _ => ⟨rfl, rfl⟩, fun _ _ => ⟨rfl, rfl⟩, fun _ _ => ⟨rfl, rfl⟩, fun _ _ => rfl⟩⟩)
                · refine lv_iload_n hx hb dX3_copy_84 rfl (lv_at hl 2 rfl) ?_
                  refine lv_aload_n hx hb dX3_copy_85 rfl (lv_at hl 0 rfl) ?_
                  refine m_get C hB 3 (by decide) q1397 (v := .ref (Ad 3)) rfl rfl dX3_copy_86 ?_
                  refine lv_iload_n hx hb dX3_copy_89 rfl (lv_at hl 1 rfl) ?_
                  refine m_ald C hB 3 4 rfl (v := F 3 kk) kk rfl (by omega) rfl dX3_copy_90 ?_
                  have := hS kk (by omega)
                  refine x_icmp_gt (tgt := 109) hx hb dX3_copy_91 (by decide) ⟨by omega, by omega⟩ ⟨by omega, by omega⟩ (fun c40 => ?_) (fun c40 => ?_)
                  · refine lv_iconst (v := iI 0) hx hb dX3_copy_109 rfl ?_
                    refine lv_istore (lv' := [(6, .int (iI 0)), (0, .ref o), (1, .int (iI ((kk : Int)))), (2, .int (iI i)), (3, .int (iI ((kt : Int)))), (4, .int (iI j)), (5, .int (iI n))]) hx hb dX3_copy_110 hl (by decide) rfl (fun ls hl => ?_)
                    refine lv_iload hx hb dX3_copy_112 (lv_at hl 0 rfl) ?_
                    refine x_if_eq (tgt := 144) hx hb dX3_copy_114 (by decide) ⟨by decide, by decide⟩ (fun c41 => ?_) (fun c41 => by exfalso; omega)
                    refine lv_aload_n hx hb dX3_copy_144 rfl (lv_at hl 1 rfl) ?_
                    refine lv_iconst (v := iI 3) hx hb dX3_copy_145 rfl ?_
                    refine m_calli (n := 1) C hB (As := [.int (iI 3)]) (kX3_fails l E o Ad (va_up I 0 0) F 3 (by omega)) (lw_V q1508 q1510 qs41 q77 q1511) (by decide +kernel) ⟨Nat.le_of_ble_eq_true rfl, Nat.le_of_ble_eq_true rfl⟩ rfl hl.1 rfl (Nat.le_of_ble_eq_true rfl) dX3_copy_146 ⟨Nat.zero_le _, Nat.zero_le _⟩ (fun z42 I43 F44 H locs hz45 hp46 hB => ?_)
                    obtain ⟨hz45a, hz45b⟩ := hz45
                    obtain ⟨rfl, rfl, rfl⟩ := hp46
                    exact m_iret C hB hr hlocks rfl dX3_copy_149 ⟨by decide, by decide⟩ (by
                                          have hr : rCopy F (kk : Int) i (kt : Int) j n = -13 := by { unfold rCopy; (try simp only [Int.toNat_natCast]); (repeat' split) <;> omega }
                                          exact ⟨hr.symm, by unfold nCopyI nCopyF; rw [hr, if_neg (show ¬ (0 : Int) ≤ -13 by decide)]; exact ⟨by simp [fI, va_up], rfl, rfl, rfl, rfl, rfl, rfl, rfl, fun _ _ => ⟨rfl, rfl, rfl⟩, fun _ _ => ⟨rfl, rfl⟩, fun _ _ => ⟨rfl, rfl⟩, fun _ _ => ⟨rfl, rfl⟩, fun _ _ => rfl⟩⟩)
                  · refine lv_iload hx hb dX3_copy_94 (lv_at hl 4 rfl) ?_
                    refine lv_aload_n hx hb dX3_copy_96 rfl (lv_at hl 0 rfl) ?_
                    refine m_get C hB 3 (by decide) q1397 (v := .ref (Ad 3)) rfl rfl dX3_copy_97 ?_
                    refine lv_iload_n hx hb dX3_copy_100 rfl (lv_at hl 3 rfl) ?_
                    refine m_ald C hB 3 4 rfl (v := F 3 kt) kt rfl (by omega) rfl dX3_copy_101 ?_
                    have := hS kt (by omega)
                    refine x_icmp_gt (tgt := 109) hx hb dX3_copy_102 (by decide) ⟨by omega, by omega⟩ ⟨by omega, by omega⟩ (fun c47 => ?_) (fun c47 => ?_)
                    · refine lv_iconst (v := iI 0) hx hb dX3_copy_109 rfl ?_
                      refine lv_istore (lv' := [(6, .int (iI 0)), (0, .ref o), (1, .int (iI ((kk : Int)))), (2, .int (iI i)), (3, .int (iI ((kt : Int)))), (4, .int (iI j)), (5, .int (iI n))]) hx hb dX3_copy_110 hl (by decide) rfl (fun ls hl => ?_)
                      refine lv_iload hx hb dX3_copy_112 (lv_at hl 0 rfl) ?_
                      refine x_if_eq (tgt := 144) hx hb dX3_copy_114 (by decide) ⟨by decide, by decide⟩ (fun c48 => ?_) (fun c48 => by exfalso; omega)
                      refine lv_aload_n hx hb dX3_copy_144 rfl (lv_at hl 1 rfl) ?_
                      refine lv_iconst (v := iI 3) hx hb dX3_copy_145 rfl ?_
                      refine m_calli (n := 1) C hB (As := [.int (iI 3)]) (kX3_fails l E o Ad (va_up I 0 0) F 3 (by omega)) (lw_V q1508 q1510 qs41 q77 q1511) (by decide +kernel) ⟨Nat.le_of_ble_eq_true rfl, Nat.le_of_ble_eq_true rfl⟩ rfl hl.1 rfl (Nat.le_of_ble_eq_true rfl) dX3_copy_146 ⟨Nat.zero_le _, Nat.zero_le _⟩ (fun z49 I50 F51 H locs hz52 hp53 hB => ?_)
                      obtain ⟨hz52a, hz52b⟩ := hz52
                      obtain ⟨rfl, rfl, rfl⟩ := hp53
                      exact m_iret C hB hr hlocks rfl dX3_copy_149 ⟨by decide, by decide⟩ (by
                                              have hr : rCopy F (kk : Int) i (kt : Int) j n = -13 := by { unfold rCopy; (try simp only [Int.toNat_natCast]); (repeat' split) <;> omega }
                                              exact ⟨hr.symm, by unfold nCopyI nCopyF; rw [hr, if_neg (show ¬ (0 : Int) ≤ -13 by decide)]; exact ⟨by simp [fI, va_up], rfl, rfl, rfl, rfl, rfl, rfl, rfl, fun _ _ => ⟨rfl, rfl, rfl⟩, fun _ _ => ⟨rfl, rfl⟩, fun _ _ => ⟨rfl, rfl⟩, fun _ _ => ⟨rfl, rfl⟩, fun _ _ => rfl⟩⟩)
                    · refine lv_iconst (v := iI 1) hx hb dX3_copy_105 rfl ?_
                      refine lv_goto (tgt := 110) hx hb dX3_copy_106 (by decide) ?_
                      refine lv_istore (lv' := [(6, .int (iI 1)), (0, .ref o), (1, .int (iI ((kk : Int)))), (2, .int (iI i)), (3, .int (iI ((kt : Int)))), (4, .int (iI j)), (5, .int (iI n))]) hx hb dX3_copy_110 hl (by decide) rfl (fun ls hl => ?_)
                      refine lv_iload hx hb dX3_copy_112 (lv_at hl 0 rfl) ?_
                      refine x_if_eq (tgt := 144) hx hb dX3_copy_114 (by decide) ⟨by decide, by decide⟩ (fun c54 => by exfalso; omega) (fun c54 => ?_)
                      refine lv_iload hx hb dX3_copy_117 (lv_at hl 6 rfl) ?_
                      refine lv_aload_n hx hb dX3_copy_119 rfl (lv_at hl 1 rfl) ?_
                      refine m_get C hB 3 (by decide) q1397 (v := .ref (Ad 3)) rfl rfl dX3_copy_120 ?_
                      refine lv_iload_n hx hb dX3_copy_123 rfl (lv_at hl 2 rfl) ?_
                      refine m_ald C hB 3 4 rfl (v := F 3 kk) kk rfl (by omega) rfl dX3_copy_124 ?_
                      have := hS kk (by omega)
                      refine lv_iload_n hx hb dX3_copy_125 rfl (lv_at hl 3 rfl) ?_
                      refine x_isub (z := F 3 kk - i) hx hb dX3_copy_126 (by omega) ?_
                      refine x_icmp_gt (tgt := 144) hx hb dX3_copy_127 (by decide) ⟨by omega, by omega⟩ ⟨by omega, by omega⟩ (fun c55 => ?_) (fun c55 => ?_)
                      · refine lv_aload_n hx hb dX3_copy_144 rfl (lv_at hl 1 rfl) ?_
                        refine lv_iconst (v := iI 3) hx hb dX3_copy_145 rfl ?_
                        refine m_calli (n := 1) C hB (As := [.int (iI 3)]) (kX3_fails l E o Ad (va_up I 0 0) F 3 (by omega)) (lw_V q1508 q1510 qs41 q77 q1511) (by decide +kernel) ⟨Nat.le_of_ble_eq_true rfl, Nat.le_of_ble_eq_true rfl⟩ rfl hl.1 rfl (Nat.le_of_ble_eq_true rfl) dX3_copy_146 ⟨Nat.zero_le _, Nat.zero_le _⟩ (fun z56 I57 F58 H locs hz59 hp60 hB => ?_)
                        obtain ⟨hz59a, hz59b⟩ := hz59
                        obtain ⟨rfl, rfl, rfl⟩ := hp60
                        exact m_iret C hB hr hlocks rfl dX3_copy_149 ⟨by decide, by decide⟩ (by
                                                  have hr : rCopy F (kk : Int) i (kt : Int) j n = -13 := by { unfold rCopy; (try simp only [Int.toNat_natCast]); (repeat' split) <;> omega }
                                                  exact ⟨hr.symm, by unfold nCopyI nCopyF; rw [hr, if_neg (show ¬ (0 : Int) ≤ -13 by decide)]; exact ⟨by simp [fI, va_up], rfl, rfl, rfl, rfl, rfl, rfl, rfl, fun _ _ => ⟨rfl, rfl, rfl⟩, fun _ _ => ⟨rfl, rfl⟩, fun _ _ => ⟨rfl, rfl⟩, fun _ _ => ⟨rfl, rfl⟩, fun _ _ => rfl⟩⟩)
                      · refine lv_iload hx hb dX3_copy_130 (lv_at hl 6 rfl) ?_
                        refine lv_aload_n hx hb dX3_copy_132 rfl (lv_at hl 1 rfl) ?_
                        refine m_get C hB 3 (by decide) q1397 (v := .ref (Ad 3)) rfl rfl dX3_copy_133 ?_
                        refine lv_iload_n hx hb dX3_copy_136 rfl (lv_at hl 4 rfl) ?_
                        refine m_ald C hB 3 4 rfl (v := F 3 kt) kt rfl (by omega) rfl dX3_copy_137 ?_
                        have := hS kt (by omega)
                        refine lv_iload hx hb dX3_copy_138 (lv_at hl 5 rfl) ?_
                        refine x_isub (z := F 3 kt - j) hx hb dX3_copy_140 (by omega) ?_
                        refine x_icmp_le (tgt := 150) hx hb dX3_copy_141 (by decide) ⟨by omega, by omega⟩ ⟨by omega, by omega⟩ (fun c61 => ?_) (fun c61 => ?_)
                        · obtain ⟨ki, rfl⟩ : ∃ ki : Nat, i = (ki : Int) := ⟨i.toNat, by omega⟩
                          obtain ⟨kj, rfl⟩ : ∃ kj : Nat, j = (kj : Int) := ⟨j.toNat, by omega⟩
                          obtain ⟨kn, rfl⟩ : ∃ kn : Nat, n = (kn : Int) := ⟨n.toNat, by omega⟩
                          refine lv_iload_n hx hb dX3_copy_150 rfl (lv_at hl 3 rfl) ?_
                          refine lv_iload hx hb dX3_copy_151 (lv_at hl 5 rfl) ?_
                          refine x_icmp_ge (tgt := 160) hx hb dX3_copy_153 (by decide) ⟨by omega, by omega⟩ ⟨by omega, by omega⟩ (fun c62 => ?_) (fun c62 => ?_)
                          · refine lv_iconst (v := iI 0) hx hb dX3_copy_160 rfl ?_
                            refine lv_istore (lv' := [(7, .int (iI 0)), (6, .int (iI 1)), (0, .ref o), (1, .int (iI ((kk : Int)))), (2, .int (iI ((ki : Int)))), (3, .int (iI ((kt : Int)))), (4, .int (iI ((kj : Int)))), (5, .int (iI ((kn : Int))))]) hx hb dX3_copy_161 hl (by decide) rfl (fun ls hl => ?_)
                            refine lv_iconst (v := iI 0) hx hb dX3_copy_163 rfl ?_
                            refine lv_istore (lv' := [(8, .int (iI 0)), (7, .int (iI 0)), (6, .int (iI 1)), (0, .ref o), (1, .int (iI ((kk : Int)))), (2, .int (iI ((ki : Int)))), (3, .int (iI ((kt : Int)))), (4, .int (iI ((kj : Int)))), (5, .int (iI ((kn : Int))))]) hx hb dX3_copy_164 hl (by decide) rfl (fun ls hl => ?_)
                            have hB : mB E (xA w sz) s o Ad (va_up I 0 0) (va_up F 4 (va_cpy (F 4) (F 4) (60 * kk + ki) (60 * kt + kj) 0)) H locs := by rw [cpy_0, va_up_id]; exact hB
                            refine w_loop (fun n66 H locs ls => ∃ (q : Nat), n66 = kn - q ∧ (q ≤ kn) ∧ mB E (xA w sz) s o Ad (va_up I 0 0) (va_up F 4 (va_cpy (F 4) (F 4) (60 * kk + ki) (60 * kt + kj) q)) H locs ∧ lv_has ls 10 [(0, .ref o), (1, .int (iI ((kk : Int)))), (2, .int (iI ((ki : Int)))), (3, .int (iI ((kt : Int)))), (4, .int (iI ((kj : Int)))), (5, .int (iI ((kn : Int)))), (6, .int (iI 1)), (7, .int (iI 0)), (8, .int (iI ((q : Int))))]) _ ⟨0, rfl, by omega, hB, lv_sub hl [3, 4, 5, 6, 7, 8, 2, 1, 0] rfl⟩ ?_
                            intro n66 H locs ls hI65 ih63
                            obtain ⟨q, hn64, hq, hB, hl⟩ := hI65
                            refine lv_iload hx hb dX3_copy_166 (lv_at hl 8 rfl) ?_
                            refine lv_iload hx hb dX3_copy_168 (lv_at hl 5 rfl) ?_
                            refine x_icmp_ge (tgt := 227) hx hb dX3_copy_170 (by decide) ⟨by omega, by omega⟩ ⟨by omega, by omega⟩ (fun c67 => ?_) (fun c67 => ?_)
                            · refine lv_iload hx hb dX3_copy_227 (lv_at hl 5 rfl) ?_
                              exact m_iret C hB hr hlocks rfl dX3_copy_229 ⟨by omega, by omega⟩ (by
                                                              have hr : rCopy F (kk : Int) (ki : Int) (kt : Int) (kj : Int) (kn : Int) = (kn : Int) := by { unfold rCopy; (try simp only [Int.toNat_natCast]); (repeat' split) <;> omega }
                                                              have hqn : q = kn := by omega
                                                              subst hqn
                                                              exact ⟨hr.symm, by unfold nCopyI nCopyF; rw [hr, if_pos (show (0 : Int) ≤ (q : Int) by omega), if_neg (by omega), if_neg (by omega), if_neg (by omega)]; exact ⟨by simp [fI, va_up], rfl, rfl, rfl, rfl, rfl, rfl, rfl, fun _ _ => ⟨rfl, rfl, rfl⟩, fun _ _ => ⟨rfl, rfl⟩, fun _ _ => ⟨rfl, rfl⟩, fun _ _ => ⟨rfl, rfl⟩, fun _ _ => rfl⟩⟩)
                            · refine lv_iload hx hb dX3_copy_173 (lv_at hl 7 rfl) ?_
                              refine x_if_eq (tgt := 188) hx hb dX3_copy_175 (by decide) ⟨by decide, by decide⟩ (fun c68 => ?_) (fun c68 => by exfalso; omega)
                              refine lv_iload hx hb dX3_copy_188 (lv_at hl 8 rfl) ?_
                              refine lv_istore (lv' := [(9, .int (iI ((q : Int)))), (0, .ref o), (1, .int (iI ((kk : Int)))), (2, .int (iI ((ki : Int)))), (3, .int (iI ((kt : Int)))), (4, .int (iI ((kj : Int)))), (5, .int (iI ((kn : Int)))), (6, .int (iI 1)), (7, .int (iI 0)), (8, .int (iI ((q : Int))))]) hx hb dX3_copy_190 hl (by decide) rfl (fun ls hl => ?_)
                              refine lv_aload_n hx hb dX3_copy_192 rfl (lv_at hl 1 rfl) ?_
                              refine m_get C hB 4 (by decide) q1398 (v := .ref (Ad 4)) rfl rfl dX3_copy_193 ?_
                              refine lv_bipush (v := iI 60) hx hb dX3_copy_196 rfl ?_
                              refine lv_iload_n hx hb dX3_copy_198 rfl (lv_at hl 4 rfl) ?_
                              refine x_imul (z := 60 * (kt : Int)) hx hb dX3_copy_199 (by omega) ?_
                              refine lv_iload hx hb dX3_copy_200 (lv_at hl 5 rfl) ?_
                              refine x_iadd (z := 60 * (kt : Int) + (kj : Int)) hx hb dX3_copy_202 (by omega) ?_
                              refine lv_iload hx hb dX3_copy_203 (lv_at hl 0 rfl) ?_
                              refine x_iadd (z := 60 * (kt : Int) + (kj : Int) + (q : Int)) hx hb dX3_copy_205 (by omega) ?_
                              refine lv_aload_n hx hb dX3_copy_206 rfl (lv_at hl 1 rfl) ?_
                              refine m_get C hB 4 (by decide) q1398 (v := .ref (Ad 4)) rfl rfl dX3_copy_207 ?_
                              refine lv_bipush (v := iI 60) hx hb dX3_copy_210 rfl ?_
                              refine lv_iload_n hx hb dX3_copy_212 rfl (lv_at hl 2 rfl) ?_
                              refine x_imul (z := 60 * (kk : Int)) hx hb dX3_copy_213 (by omega) ?_
                              refine lv_iload_n hx hb dX3_copy_214 rfl (lv_at hl 3 rfl) ?_
                              refine x_iadd (z := 60 * (kk : Int) + (ki : Int)) hx hb dX3_copy_215 (by omega) ?_
                              refine lv_iload hx hb dX3_copy_216 (lv_at hl 0 rfl) ?_
                              refine x_iadd (z := 60 * (kk : Int) + (ki : Int) + (q : Int)) hx hb dX3_copy_218 (by omega) ?_
                              refine m_ald C hB 4 240 rfl (v := (va_cpy (F 4) (F 4) (60 * kk + ki) (60 * kt + kj) q) (60 * kk + ki + q)) (60 * kk + ki + q) (by omega) (by omega) rfl dX3_copy_219 ?_
                              have := hC (60 * kk + ki + q) (by omega)
                              refine m_ast C hB 4 240 rfl (f := (va_cpy (F 4) (F 4) (60 * kk + ki) (60 * kt + kj) q)) (60 * kt + kj + q) (by omega) (by omega) rfl dX3_copy_220 (fun H locs hB => ?_)
                              rw [bx_uu, cpy_asc (by omega)] at hB
                              refine lv_iinc (v := iI ((q : Int) + 1)) (lv' := [(8, .int (iI ((q : Int) + 1))), (9, .int (iI ((q : Int)))), (0, .ref o), (1, .int (iI ((kk : Int)))), (2, .int (iI ((ki : Int)))), (3, .int (iI ((kt : Int)))), (4, .int (iI ((kj : Int)))), (5, .int (iI ((kn : Int)))), (6, .int (iI 1)), (7, .int (iI 0))]) hx hb dX3_copy_221 hl (k := 9) rfl (iI_add _ _) (by decide) rfl (fun ls hl => ?_)
                              refine lv_goto (tgt := 166) hx hb dX3_copy_224 (by decide) ?_
                              exact ih63 _ _ _ _ (by omega) ⟨q + 1, rfl, by omega, hB, lv_sub hl [2, 3, 4, 5, 6, 7, 8, 9, 0] rfl⟩
                          · refine lv_iconst (v := iI 1) hx hb dX3_copy_156 rfl ?_
                            refine lv_goto (tgt := 161) hx hb dX3_copy_157 (by decide) ?_
                            refine lv_istore (lv' := [(7, .int (iI 1)), (6, .int (iI 1)), (0, .ref o), (1, .int (iI ((kk : Int)))), (2, .int (iI ((ki : Int)))), (3, .int (iI ((kt : Int)))), (4, .int (iI ((kj : Int)))), (5, .int (iI ((kn : Int))))]) hx hb dX3_copy_161 hl (by decide) rfl (fun ls hl => ?_)
                            refine lv_iconst (v := iI 0) hx hb dX3_copy_163 rfl ?_
                            refine lv_istore (lv' := [(8, .int (iI 0)), (7, .int (iI 1)), (6, .int (iI 1)), (0, .ref o), (1, .int (iI ((kk : Int)))), (2, .int (iI ((ki : Int)))), (3, .int (iI ((kt : Int)))), (4, .int (iI ((kj : Int)))), (5, .int (iI ((kn : Int))))]) hx hb dX3_copy_164 hl (by decide) rfl (fun ls hl => ?_)
                            have hB : mB E (xA w sz) s o Ad (va_up I 0 0) (va_up F 4 (va_cpy (F 4) (F 4) ((60 * kk + ki) + (kn - 0)) ((60 * kt + kj) + (kn - 0)) 0)) H locs := by rw [cpy_0, va_up_id]; exact hB
                            refine w_loop (fun n72 H locs ls => ∃ (q : Nat), n72 = kn - q ∧ (q ≤ kn) ∧ mB E (xA w sz) s o Ad (va_up I 0 0) (va_up F 4 (va_cpy (F 4) (F 4) ((60 * kk + ki) + (kn - q)) ((60 * kt + kj) + (kn - q)) q)) H locs ∧ lv_has ls 10 [(0, .ref o), (1, .int (iI ((kk : Int)))), (2, .int (iI ((ki : Int)))), (3, .int (iI ((kt : Int)))), (4, .int (iI ((kj : Int)))), (5, .int (iI ((kn : Int)))), (6, .int (iI 1)), (7, .int (iI 1)), (8, .int (iI ((q : Int))))]) _ ⟨0, rfl, by omega, hB, lv_sub hl [3, 4, 5, 6, 7, 8, 2, 1, 0] rfl⟩ ?_
                            intro n72 H locs ls hI71 ih69
                            obtain ⟨q, hn70, hq, hB, hl⟩ := hI71
                            refine lv_iload hx hb dX3_copy_166 (lv_at hl 8 rfl) ?_
                            refine lv_iload hx hb dX3_copy_168 (lv_at hl 5 rfl) ?_
                            refine x_icmp_ge (tgt := 227) hx hb dX3_copy_170 (by decide) ⟨by omega, by omega⟩ ⟨by omega, by omega⟩ (fun c73 => ?_) (fun c73 => ?_)
                            · refine lv_iload hx hb dX3_copy_227 (lv_at hl 5 rfl) ?_
                              exact m_iret C hB hr hlocks rfl dX3_copy_229 ⟨by omega, by omega⟩ (by
                                                              have hr : rCopy F (kk : Int) (ki : Int) (kt : Int) (kj : Int) (kn : Int) = (kn : Int) := by { unfold rCopy; (try simp only [Int.toNat_natCast]); (repeat' split) <;> omega }
                                                              have hqn : q = kn := by omega
                                                              subst hqn
                                                              exact ⟨hr.symm, by unfold nCopyI nCopyF; rw [hr, if_pos (show (0 : Int) ≤ (q : Int) by omega), if_neg (by omega), if_neg (by omega), if_neg (by omega), Nat.sub_self]; exact ⟨by simp [fI, va_up], rfl, rfl, rfl, rfl, rfl, rfl, rfl, fun _ _ => ⟨rfl, rfl, rfl⟩, fun _ _ => ⟨rfl, rfl⟩, fun _ _ => ⟨rfl, rfl⟩, fun _ _ => ⟨rfl, rfl⟩, fun _ _ => rfl⟩⟩)
                            · refine lv_iload hx hb dX3_copy_173 (lv_at hl 7 rfl) ?_
                              refine x_if_eq (tgt := 188) hx hb dX3_copy_175 (by decide) ⟨by decide, by decide⟩ (fun c74 => by exfalso; omega) (fun c74 => ?_)
                              refine lv_iload hx hb dX3_copy_178 (lv_at hl 5 rfl) ?_
                              refine lv_iconst (v := iI 1) hx hb dX3_copy_180 rfl ?_
                              refine x_isub (z := (kn : Int) - 1) hx hb dX3_copy_181 (by omega) ?_
                              refine lv_iload hx hb dX3_copy_182 (lv_at hl 8 rfl) ?_
                              refine x_isub (z := (kn : Int) - (q : Int) - 1) hx hb dX3_copy_184 (by omega) ?_
                              refine lv_goto (tgt := 190) hx hb dX3_copy_185 (by decide) ?_
                              refine lv_istore (lv' := [(9, .int (iI ((kn : Int) - (q : Int) - 1))), (0, .ref o), (1, .int (iI ((kk : Int)))), (2, .int (iI ((ki : Int)))), (3, .int (iI ((kt : Int)))), (4, .int (iI ((kj : Int)))), (5, .int (iI ((kn : Int)))), (6, .int (iI 1)), (7, .int (iI 1)), (8, .int (iI ((q : Int))))]) hx hb dX3_copy_190 hl (by decide) rfl (fun ls hl => ?_)
                              refine lv_aload_n hx hb dX3_copy_192 rfl (lv_at hl 1 rfl) ?_
                              refine m_get C hB 4 (by decide) q1398 (v := .ref (Ad 4)) rfl rfl dX3_copy_193 ?_
                              refine lv_bipush (v := iI 60) hx hb dX3_copy_196 rfl ?_
                              refine lv_iload_n hx hb dX3_copy_198 rfl (lv_at hl 4 rfl) ?_
                              refine x_imul (z := 60 * (kt : Int)) hx hb dX3_copy_199 (by omega) ?_
                              refine lv_iload hx hb dX3_copy_200 (lv_at hl 5 rfl) ?_
                              refine x_iadd (z := 60 * (kt : Int) + (kj : Int)) hx hb dX3_copy_202 (by omega) ?_
                              refine lv_iload hx hb dX3_copy_203 (lv_at hl 0 rfl) ?_
                              refine x_iadd (z := 60 * (kt : Int) + (kj : Int) + (kn : Int) - (q : Int) - 1) hx hb dX3_copy_205 (by omega) ?_
                              refine lv_aload_n hx hb dX3_copy_206 rfl (lv_at hl 1 rfl) ?_
                              refine m_get C hB 4 (by decide) q1398 (v := .ref (Ad 4)) rfl rfl dX3_copy_207 ?_
                              refine lv_bipush (v := iI 60) hx hb dX3_copy_210 rfl ?_
                              refine lv_iload_n hx hb dX3_copy_212 rfl (lv_at hl 2 rfl) ?_
                              refine x_imul (z := 60 * (kk : Int)) hx hb dX3_copy_213 (by omega) ?_
                              refine lv_iload_n hx hb dX3_copy_214 rfl (lv_at hl 3 rfl) ?_
                              refine x_iadd (z := 60 * (kk : Int) + (ki : Int)) hx hb dX3_copy_215 (by omega) ?_
                              refine lv_iload hx hb dX3_copy_216 (lv_at hl 0 rfl) ?_
                              refine x_iadd (z := 60 * (kk : Int) + (ki : Int) + (kn : Int) - (q : Int) - 1) hx hb dX3_copy_218 (by omega) ?_
                              refine m_ald C hB 4 240 rfl (v := (va_cpy (F 4) (F 4) ((60 * kk + ki) + (kn - q)) ((60 * kt + kj) + (kn - q)) q) (60 * kk + ki + (kn - (q + 1)))) (60 * kk + ki + (kn - (q + 1))) (by omega) (by omega) rfl dX3_copy_219 ?_
                              have := hC (60 * kk + ki + (kn - (q + 1))) (by omega)
                              refine m_ast C hB 4 240 rfl (f := (va_cpy (F 4) (F 4) ((60 * kk + ki) + (kn - q)) ((60 * kt + kj) + (kn - q)) q)) (60 * kt + kj + (kn - (q + 1))) (by omega) (by omega) rfl dX3_copy_220 (fun H locs hB => ?_)
                              rw [bx_uu, cpy_desc (by omega) (by omega)] at hB
                              refine lv_iinc (v := iI ((q : Int) + 1)) (lv' := [(8, .int (iI ((q : Int) + 1))), (9, .int (iI ((kn : Int) - (q : Int) - 1))), (0, .ref o), (1, .int (iI ((kk : Int)))), (2, .int (iI ((ki : Int)))), (3, .int (iI ((kt : Int)))), (4, .int (iI ((kj : Int)))), (5, .int (iI ((kn : Int)))), (6, .int (iI 1)), (7, .int (iI 1))]) hx hb dX3_copy_221 hl (k := 9) rfl (iI_add _ _) (by decide) rfl (fun ls hl => ?_)
                              refine lv_goto (tgt := 166) hx hb dX3_copy_224 (by decide) ?_
                              exact ih69 _ _ _ _ (by omega) ⟨q + 1, rfl, by omega, hB, lv_sub hl [2, 3, 4, 5, 6, 7, 8, 9, 0] rfl⟩
                        · refine lv_aload_n hx hb dX3_copy_144 rfl (lv_at hl 1 rfl) ?_
                          refine lv_iconst (v := iI 3) hx hb dX3_copy_145 rfl ?_
                          refine m_calli (n := 1) C hB (As := [.int (iI 3)]) (kX3_fails l E o Ad (va_up I 0 0) F 3 (by omega)) (lw_V q1508 q1510 qs41 q77 q1511) (by decide +kernel) ⟨Nat.le_of_ble_eq_true rfl, Nat.le_of_ble_eq_true rfl⟩ rfl hl.1 rfl (Nat.le_of_ble_eq_true rfl) dX3_copy_146 ⟨Nat.zero_le _, Nat.zero_le _⟩ (fun z75 I76 F77 H locs hz78 hp79 hB => ?_)
                          obtain ⟨hz78a, hz78b⟩ := hz78
                          obtain ⟨rfl, rfl, rfl⟩ := hp79
                          exact m_iret C hB hr hlocks rfl dX3_copy_149 ⟨by decide, by decide⟩ (by
                                                      have hr : rCopy F (kk : Int) i (kt : Int) j n = -13 := by { unfold rCopy; (try simp only [Int.toNat_natCast]); (repeat' split) <;> omega }
                                                      exact ⟨hr.symm, by unfold nCopyI nCopyF; rw [hr, if_neg (show ¬ (0 : Int) ≤ -13 by decide)]; exact ⟨by simp [fI, va_up], rfl, rfl, rfl, rfl, rfl, rfl, rfl, fun _ _ => ⟨rfl, rfl, rfl⟩, fun _ _ => ⟨rfl, rfl⟩, fun _ _ => ⟨rfl, rfl⟩, fun _ _ => ⟨rfl, rfl⟩, fun _ _ => rfl⟩⟩)
          · refine lv_aload_n hx hb dX3_copy_64 rfl (lv_at hl 0 rfl) ?_
            refine lv_iconst (v := iI 2) hx hb dX3_copy_65 rfl ?_
            refine m_calli (n := 1) C hB (As := [.int (iI 2)]) (kX3_fails l E o Ad (va_up I 0 0) F 2 (by omega)) (lw_V q1508 q1510 qs41 q77 q1511) (by decide +kernel) ⟨Nat.le_of_ble_eq_true rfl, Nat.le_of_ble_eq_true rfl⟩ rfl hl.1 rfl (Nat.le_of_ble_eq_true rfl) dX3_copy_66 ⟨Nat.zero_le _, Nat.zero_le _⟩ (fun z80 I81 F82 H locs hz83 hp84 hB => ?_)
            obtain ⟨hz83a, hz83b⟩ := hz83
            obtain ⟨rfl, rfl, rfl⟩ := hp84
            exact m_iret C hB hr hlocks rfl dX3_copy_69 ⟨by decide, by decide⟩ (by
                          have hr : rCopy F (kk : Int) i (kt : Int) j n = -12 := by { unfold rCopy; (try simp only [Int.toNat_natCast]); (repeat' split) <;> omega }
                          exact ⟨hr.symm, by unfold nCopyI nCopyF; rw [hr, if_neg (show ¬ (0 : Int) ≤ -12 by decide)]; exact ⟨by simp [fI, va_up], rfl, rfl, rfl, rfl, rfl, rfl, rfl, fun _ _ => ⟨rfl, rfl, rfl⟩, fun _ _ => ⟨rfl, rfl⟩, fun _ _ => ⟨rfl, rfl⟩, fun _ _ => ⟨rfl, rfl⟩, fun _ _ => rfl⟩⟩)
        · refine lv_aload_n hx hb dX3_copy_43 rfl (lv_at hl 0 rfl) ?_
          refine lv_iconst (v := iI 1) hx hb dX3_copy_44 rfl ?_
          refine m_calli (n := 1) C hB (As := [.int (iI 1)]) (kX3_fails l E o Ad (va_up I 0 0) F 1 (by omega)) (lw_V q1508 q1510 qs41 q77 q1511) (by decide +kernel) ⟨Nat.le_of_ble_eq_true rfl, Nat.le_of_ble_eq_true rfl⟩ rfl hl.1 rfl (Nat.le_of_ble_eq_true rfl) dX3_copy_45 ⟨Nat.zero_le _, Nat.zero_le _⟩ (fun z85 I86 F87 H locs hz88 hp89 hB => ?_)
          obtain ⟨hz88a, hz88b⟩ := hz88
          obtain ⟨rfl, rfl, rfl⟩ := hp89
          exact m_iret C hB hr hlocks rfl dX3_copy_48 ⟨by decide, by decide⟩ (by
                      have hr : rCopy F (kk : Int) i (kt : Int) j n = -11 := by { unfold rCopy; (try simp only [Int.toNat_natCast]); (repeat' split) <;> omega }
                      exact ⟨hr.symm, by unfold nCopyI nCopyF; rw [hr, if_neg (show ¬ (0 : Int) ≤ -11 by decide)]; exact ⟨by simp [fI, va_up], rfl, rfl, rfl, rfl, rfl, rfl, rfl, fun _ _ => ⟨rfl, rfl, rfl⟩, fun _ _ => ⟨rfl, rfl⟩, fun _ _ => ⟨rfl, rfl⟩, fun _ _ => ⟨rfl, rfl⟩, fun _ _ => rfl⟩⟩)
    · refine x_if_ne (tgt := 21) hx hb dX3_copy_16 (by decide) ⟨by decide, by decide⟩ (fun c90 => by exfalso; omega) (fun c90 => ?_)
      refine lv_iconst (v := iI (-1)) hx hb dX3_copy_19 rfl ?_
      exact m_iret C hB hr hlocks rfl dX3_copy_20 ⟨by decide, by decide⟩ (by
              have hr : rCopy F k i t j n = -1 := by { unfold rCopy; (try simp only [Int.toNat_natCast]); (repeat' split) <;> omega }
              exact ⟨hr.symm, by unfold nCopyI nCopyF; rw [hr, if_neg (show ¬ (0 : Int) ≤ -1 by decide)]; exact ⟨by simp [fI, va_up], rfl, rfl, rfl, rfl, rfl, rfl, rfl, fun _ _ => ⟨rfl, rfl, rfl⟩, fun _ _ => ⟨rfl, rfl⟩, fun _ _ => ⟨rfl, rfl⟩, fun _ _ => ⟨rfl, rfl⟩, fun _ _ => rfl⟩⟩)
  · refine x_if_eq (tgt := 19) hx hb dX3_copy_9 (by decide) ⟨by decide, by decide⟩ (fun c91 => ?_) (fun c91 => by exfalso; omega)
    refine lv_iconst (v := iI (-1)) hx hb dX3_copy_19 rfl ?_
    exact m_iret C hB hr hlocks rfl dX3_copy_20 ⟨by decide, by decide⟩ (by
          have hr : rCopy F k i t j n = -1 := by { unfold rCopy; (try simp only [Int.toNat_natCast]); (repeat' split) <;> omega }
          exact ⟨hr.symm, by unfold nCopyI nCopyF; rw [hr, if_neg (show ¬ (0 : Int) ≤ -1 by decide)]; exact ⟨by simp [fI, va_up], rfl, rfl, rfl, rfl, rfl, rfl, rfl, fun _ _ => ⟨rfl, rfl, rfl⟩, fun _ _ => ⟨rfl, rfl⟩, fun _ _ => ⟨rfl, rfl⟩, fun _ _ => ⟨rfl, rfl⟩, fun _ _ => rfl⟩⟩)
