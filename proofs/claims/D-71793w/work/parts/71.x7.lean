/-! THE COMPONENT: simple operations -/
set_option maxRecDepth 100000
theorem iI_rg (z : Int) : rg (iI z).toInt := by
  have h1 := Int32.toInt_lt (iI z)
  have h2 := Int32.le_toInt (iI z)
  exact ⟨by omega, by omega⟩
theorem iI_inv (z : Int) : iI ((iI z).toInt) = iI z := Int32.ofInt_toInt _
theorem pr_0 (I : Nat → Int) (v : Int) : va_up I (if (0 : Int) = 0 then 7 else if (0 : Int) = 1 then 8 else 9) v = va_up (va_up (va_up I 7 v) 8 (I 8)) 9 (I 9) := by
  rw [if_pos rfl]
  funext q
  unfold va_up
  (repeat' split) <;> first | rfl | omega | (subst_vars; rfl)
theorem pr_1 (I : Nat → Int) (v : Int) : va_up I (if (1 : Int) = 0 then 7 else if (1 : Int) = 1 then 8 else 9) v = va_up (va_up (va_up I 7 (I 7)) 8 v) 9 (I 9) := by
  rw [if_neg (by decide), if_pos rfl]
  funext q
  unfold va_up
  (repeat' split) <;> first | rfl | omega | (subst_vars; rfl)
theorem pr_2 (I : Nat → Int) (v : Int) : va_up I (if (2 : Int) = 0 then 7 else if (2 : Int) = 1 then 8 else 9) v = va_up (va_up (va_up I 7 (I 7)) 8 (I 8)) 9 v := by
  rw [if_neg (by decide), if_neg (by decide)]
  funext q
  unfold va_up
  (repeat' split) <;> first | rfl | omega | (subst_vars; rfl)
set_option maxHeartbeats 800000 in
set_option maxRecDepth 100000 in
theorem kX0_trace (l : Launch) (E : xE) (o : Nat) (Ad : Nat → Nat) (I : Nat → Int) (F : Nat → Nat → Int) (X : xw) : ci_ l E yX0_trace cX0_trace 1 (some .int) 0 0 0 0 [.ref o] o Ad I F X (fun z Ad' I' F' X' => Ad = Ad' ∧ I = I' ∧ F = F' ∧ X = X' ∧ z = (iI (I 1)).toInt) := by
  intro w hI hd sz
  refine x_bodyz (by decide) (Nat.le_of_ble_eq_true rfl) ?_
  intro p e s m args below meth c ls hx hb C hr hlocks hin hsz hZ hB hl
  have C : xC E p s m args c cX0_trace 1 RX0 := C
  replace hB : xBB E (xA (wU w X) sz) s o Ad I F X s.heap [] := ⟨w, hI, hd, hB⟩
  have hl : lv_has ls 1 [(0, .ref o)] := hl
  refine lv_aload_n hx hb dX0_trace_0 rfl (lv_at hl 0 rfl) ?_
  refine b_get C hB 2 (by decide) q294 (v := .int (iI (I 1))) rfl rfl dX0_trace_1 ?_
  obtain ⟨ht1, ht2⟩ := iI_rg (I 1)
  refine x_rw (y := iI ((iI (I 1)).toInt)) (iI_inv _).symm ?_
  exact b_iret C hB hr hlocks rfl dX0_trace_4 (Nat.le_of_ble_eq_true rfl) (Nat.le_of_ble_eq_true rfl) ⟨by omega, by omega⟩ ⟨rfl, rfl, rfl, rfl, rfl⟩
set_option maxHeartbeats 800000 in
set_option maxRecDepth 100000 in
theorem kX0_fault (l : Launch) (E : xE) (o : Nat) (Ad : Nat → Nat) (I : Nat → Int) (F : Nat → Nat → Int) (X : xw) (hOK : mOK I F) : ci_ l E yX0_fault cX0_fault 1 (some .int) 0 0 0 0 [.ref o] o Ad I F X (fun z Ad' I' F' X' => Ad = Ad' ∧ I = I' ∧ F = F' ∧ X = X' ∧ z = I 0) := by
  intro w hI hd sz
  refine x_bodyz (by decide) (Nat.le_of_ble_eq_true rfl) ?_
  intro p e s m args below meth c ls hx hb C hr hlocks hin hsz hZ hB hl
  have C : xC E p s m args c cX0_fault 1 RX0 := C
  replace hB : xBB E (xA (wU w X) sz) s o Ad I F X s.heap [] := ⟨w, hI, hd, hB⟩
  have hl : lv_has ls 1 [(0, .ref o)] := hl
  have hOK0 := hOK
  obtain ⟨⟨hf1, hf2⟩, ⟨hl1, hl2⟩, ⟨hr1, hr2⟩, hlr, ⟨hs1, hs2⟩, ⟨hj1, hj2⟩, ⟨hb1, hb2⟩, ⟨hn1, hn2⟩, hL, hR, hN, hS, hC⟩ := hOK
  
  refine lv_aload_n hx hb dX0_fault_0 rfl (lv_at hl 0 rfl) ?_
  refine b_get C hB 17 (by decide) q314 (v := .int (iI (I 0))) rfl rfl dX0_fault_1 ?_
  exact b_iret C hB hr hlocks rfl dX0_fault_4 (Nat.le_of_ble_eq_true rfl) (Nat.le_of_ble_eq_true rfl) ⟨by omega, by omega⟩ ⟨rfl, rfl, rfl, rfl, rfl⟩
set_option maxHeartbeats 800000 in
set_option maxRecDepth 100000 in
theorem kX0_refused (l : Launch) (E : xE) (o : Nat) (Ad : Nat → Nat) (I : Nat → Int) (F : Nat → Nat → Int) (X : xw) (k : Int) (hk : rg k) : ci_ l E yX0_refused cX0_refused 2 (some .int) 0 0 0 0 [.ref o, .int (iI k)] o Ad I F X (fun z Ad' I' F' X' => Ad = Ad' ∧ va_up I 0 0 = I' ∧ F = F' ∧ X = X' ∧ z = k) := by
  intro w hI hd sz
  refine x_bodyz (by decide) (Nat.le_of_ble_eq_true rfl) ?_
  intro p e s m args below meth c ls hx hb C hr hlocks hin hsz hZ hB hl
  have C : xC E p s m args c cX0_refused 2 RX0 := C
  replace hB : xBB E (xA (wU w X) sz) s o Ad I F X s.heap [] := ⟨w, hI, hd, hB⟩
  have hl : lv_has ls 2 [(0, .ref o), (1, .int (iI k))] := hl
  obtain ⟨hk1, hk2⟩ := hk
  refine lv_aload_n hx hb dX0_refused_0 rfl (lv_at hl 0 rfl) ?_
  refine lv_iconst (v := iI 0) hx hb dX0_refused_1 rfl ?_
  refine b_put C hB 17 0 (by decide) rfl q314 rfl rfl rfl dX0_refused_2 (fun H locs hB => ?_)
  refine lv_iload_n hx hb dX0_refused_5 rfl (lv_at hl 1 rfl) ?_
  exact b_iret C hB hr hlocks rfl dX0_refused_6 (Nat.le_of_ble_eq_true rfl) (Nat.le_of_ble_eq_true rfl) ⟨by omega, by omega⟩ ⟨rfl, rfl, rfl, rfl, rfl⟩
set_option maxHeartbeats 800000 in
set_option maxRecDepth 100000 in
theorem kX0_fails (l : Launch) (E : xE) (o : Nat) (Ad : Nat → Nat) (I : Nat → Int) (F : Nat → Nat → Int) (X : xw) (k : Int) (hk : 0 ≤ k ∧ k ≤ 4) : ci_ l E yX0_fails cX0_fails 2 (some .int) 0 0 0 0 [.ref o, .int (iI k)] o Ad I F X (fun z Ad' I' F' X' => Ad = Ad' ∧ va_up I 0 k = I' ∧ F = F' ∧ X = X' ∧ z = -10 - k) := by
  intro w hI hd sz
  refine x_bodyz (by decide) (Nat.le_of_ble_eq_true rfl) ?_
  intro p e s m args below meth c ls hx hb C hr hlocks hin hsz hZ hB hl
  have C : xC E p s m args c cX0_fails 2 RX0 := C
  replace hB : xBB E (xA (wU w X) sz) s o Ad I F X s.heap [] := ⟨w, hI, hd, hB⟩
  have hl : lv_has ls 2 [(0, .ref o), (1, .int (iI k))] := hl
  refine lv_aload_n hx hb dX0_fails_0 rfl (lv_at hl 0 rfl) ?_
  refine lv_iload_n hx hb dX0_fails_1 rfl (lv_at hl 1 rfl) ?_
  refine b_put C hB 17 0 (by decide) rfl q314 rfl rfl rfl dX0_fails_2 (fun H locs hB => ?_)
  refine lv_bipush (v := iI (-10)) hx hb dX0_fails_5 rfl ?_
  refine lv_iload_n hx hb dX0_fails_7 rfl (lv_at hl 1 rfl) ?_
  refine x_isub (z := -k - 10) hx hb dX0_fails_8 (by omega) ?_
  exact b_iret C hB hr hlocks rfl dX0_fails_9 (Nat.le_of_ble_eq_true rfl) (Nat.le_of_ble_eq_true rfl) ⟨by omega, by omega⟩ ⟨rfl, rfl, rfl, rfl, by omega⟩
set_option maxHeartbeats 800000 in
set_option maxRecDepth 100000 in
theorem kX0_failsLong (l : Launch) (E : xE) (o : Nat) (Ad : Nat → Nat) (I : Nat → Int) (F : Nat → Nat → Int) (X : xw) (k : Int) (hk : 0 ≤ k ∧ k ≤ 4) : cl_ l E yX0_failsLong cX0_failsLong 2 (some .long) 0 0 0 0 [.ref o, .int (iI k)] o Ad I F X (fun z Ad' I' F' X' => Ad = Ad' ∧ va_up I 0 k = I' ∧ F = F' ∧ X = X' ∧ z = -9223372036854775808) := by
  intro w hI hd sz
  refine x_bodyz (by decide) (Nat.le_of_ble_eq_true rfl) ?_
  intro p e s m args below meth c ls hx hb C hr hlocks hin hsz hZ hB hl
  have C : xC E p s m args c cX0_failsLong 2 RX0 := C
  replace hB : xBB E (xA (wU w X) sz) s o Ad I F X s.heap [] := ⟨w, hI, hd, hB⟩
  have hl : lv_has ls 2 [(0, .ref o), (1, .int (iI k))] := hl
  refine lv_aload_n hx hb dX0_failsLong_0 rfl (lv_at hl 0 rfl) ?_
  refine lv_iload_n hx hb dX0_failsLong_1 rfl (lv_at hl 1 rfl) ?_
  refine b_put C hB 17 0 (by decide) rfl q314 rfl rfl rfl dX0_failsLong_2 (fun H locs hB => ?_)
  refine lv_ldc2 hx hb C.1.2.2.2.1 (C.1.2.2.2.2 _ q842) dX0_failsLong_5 ?_
  refine x_rwl (y := lI (-9223372036854775808)) (by decide) ?_
  exact b_lret C hB hr hlocks dX0_failsLong_8 (Nat.le_of_ble_eq_true rfl) (Nat.le_of_ble_eq_true rfl) ⟨by decide, by decide⟩ ⟨rfl, rfl, rfl, rfl, rfl⟩
set_option maxHeartbeats 800000 in
set_option maxRecDepth 100000 in
theorem kX0_many (l : Launch) (E : xE) (o : Nat) (Ad : Nat → Nat) (I : Nat → Int) (F : Nat → Nat → Int) (X : xw) (wh : Int) (hwh : rg wh) (hOK : mOK I F) : ci_ l E yX0_many cX0_many 2 (some .int) 1 20 0 0 [.ref o, .int (iI wh)] o Ad I F X (fun z Ad' I' F' X' => Ad = Ad' ∧ I = I' ∧ F = F' ∧ X = X' ∧ z = rMany I wh) := by
  intro w hI hd sz
  refine x_bodyz (by decide) (Nat.le_of_ble_eq_true rfl) ?_
  intro p e s m args below meth c ls hx hb C hr hlocks hin hsz hZ hB hl
  have C : xC E p s m args c cX0_many 2 RX0 := C
  replace hB : xBB E (xA (wU w X) sz) s o Ad I F X s.heap [] := ⟨w, hI, hd, hB⟩
  have hl : lv_has ls 2 [(0, .ref o), (1, .int (iI wh))] := hl
  have hOK0 := hOK
  obtain ⟨⟨hf1, hf2⟩, ⟨hl1, hl2⟩, ⟨hr1, hr2⟩, hlr, ⟨hs1, hs2⟩, ⟨hj1, hj2⟩, ⟨hb1, hb2⟩, ⟨hn1, hn2⟩, hL, hR, hN, hS, hC⟩ := hOK
  obtain ⟨hwh1, hwh2⟩ := hwh
  refine lv_iload_n hx hb dX0_many_0 rfl (lv_at hl 1 rfl) ?_
  rcases (show wh = 0 ∨ wh = 1 ∨ wh = 2 ∨ wh = 3 ∨ wh = 4 ∨ wh = 5 ∨ (wh < 0 ∨ 5 < wh) by omega) with c1 | c1 | c1 | c1 | c1 | c1 | c1
  · refine x_tsIn (tgt := 40) hx hb 0 dX0_many_1 (by omega) ⟨by decide, by decide⟩ (by decide) (by decide) rfl (by decide) ?_
    refine lv_aload_n hx hb dX0_many_40 rfl (lv_at hl 0 rfl) ?_
    refine b_get C hB 3 (by decide) q296 (v := .ref (Ad 4)) rfl rfl dX0_many_41 ?_
    refine b_size C hZ hB (n := I 5) (ed := Ad 30) (fun w hI _ => wU_l (hI.at (r := 4) rfl)) (by omega) q242 ⟨Nat.le_of_ble_eq_true rfl, Nat.le_of_ble_eq_true rfl⟩ hl.1 (Nat.le_of_ble_eq_true rfl) dX0_many_44 ⟨Nat.le_of_ble_eq_true rfl, Nat.le_of_ble_eq_true rfl⟩ (fun H locs hB => ?_)
    exact b_iret C hB hr hlocks rfl dX0_many_49 (Nat.le_of_ble_eq_true rfl) (Nat.le_of_ble_eq_true rfl) ⟨by omega, by omega⟩ ⟨rfl, rfl, rfl, rfl, by unfold rMany; (repeat' split) <;> omega⟩
  · refine x_tsIn (tgt := 50) hx hb 1 dX0_many_1 (by omega) ⟨by decide, by decide⟩ (by decide) (by decide) rfl (by decide) ?_
    refine lv_aload_n hx hb dX0_many_50 rfl (lv_at hl 0 rfl) ?_
    refine b_get C hB 4 (by decide) q298 (v := .int (iI (I 6))) rfl rfl dX0_many_51 ?_
    exact b_iret C hB hr hlocks rfl dX0_many_54 (Nat.le_of_ble_eq_true rfl) (Nat.le_of_ble_eq_true rfl) ⟨by omega, by omega⟩ ⟨rfl, rfl, rfl, rfl, by unfold rMany; (repeat' split) <;> omega⟩
  · refine x_tsIn (tgt := 55) hx hb 2 dX0_many_1 (by omega) ⟨by decide, by decide⟩ (by decide) (by decide) rfl (by decide) ?_
    refine lv_aload_n hx hb dX0_many_55 rfl (lv_at hl 0 rfl) ?_
    refine b_get C hB 7 (by decide) q301 (v := .int (iI (I 7))) rfl rfl dX0_many_56 ?_
    exact b_iret C hB hr hlocks rfl dX0_many_59 (Nat.le_of_ble_eq_true rfl) (Nat.le_of_ble_eq_true rfl) ⟨by omega, by omega⟩ ⟨rfl, rfl, rfl, rfl, by unfold rMany; (repeat' split) <;> omega⟩
  · refine x_tsIn (tgt := 60) hx hb 3 dX0_many_1 (by omega) ⟨by decide, by decide⟩ (by decide) (by decide) rfl (by decide) ?_
    refine lv_aload_n hx hb dX0_many_60 rfl (lv_at hl 0 rfl) ?_
    refine b_get C hB 8 (by decide) q302 (v := .int (iI (I 8))) rfl rfl dX0_many_61 ?_
    exact b_iret C hB hr hlocks rfl dX0_many_64 (Nat.le_of_ble_eq_true rfl) (Nat.le_of_ble_eq_true rfl) ⟨by omega, by omega⟩ ⟨rfl, rfl, rfl, rfl, by unfold rMany; (repeat' split) <;> omega⟩
  · refine x_tsIn (tgt := 65) hx hb 4 dX0_many_1 (by omega) ⟨by decide, by decide⟩ (by decide) (by decide) rfl (by decide) ?_
    refine lv_aload_n hx hb dX0_many_65 rfl (lv_at hl 0 rfl) ?_
    refine b_get C hB 9 (by decide) q304 (v := .int (iI (I 9))) rfl rfl dX0_many_66 ?_
    exact b_iret C hB hr hlocks rfl dX0_many_69 (Nat.le_of_ble_eq_true rfl) (Nat.le_of_ble_eq_true rfl) ⟨by omega, by omega⟩ ⟨rfl, rfl, rfl, rfl, by unfold rMany; (repeat' split) <;> omega⟩
  · refine x_tsIn (tgt := 70) hx hb 5 dX0_many_1 (by omega) ⟨by decide, by decide⟩ (by decide) (by decide) rfl (by decide) ?_
    refine lv_aload_n hx hb dX0_many_70 rfl (lv_at hl 0 rfl) ?_
    refine b_get C hB 16 (by decide) q312 (v := .ref (Ad 17)) rfl rfl dX0_many_71 ?_
    refine b_size C hZ hB (n := I 29) (ed := Ad 31) (fun w hI _ => wU_l (hI.at (r := 17) rfl)) (by omega) q242 ⟨Nat.le_of_ble_eq_true rfl, Nat.le_of_ble_eq_true rfl⟩ hl.1 (Nat.le_of_ble_eq_true rfl) dX0_many_74 ⟨Nat.le_of_ble_eq_true rfl, Nat.le_of_ble_eq_true rfl⟩ (fun H locs hB => ?_)
    exact b_iret C hB hr hlocks rfl dX0_many_79 (Nat.le_of_ble_eq_true rfl) (Nat.le_of_ble_eq_true rfl) ⟨by omega, by omega⟩ ⟨rfl, rfl, rfl, rfl, by unfold rMany; (repeat' split) <;> omega⟩
  · refine x_tsOut (tgt := 80) hx hb dX0_many_1 ⟨by omega, by omega⟩ c1 (by decide) ?_
    refine lv_bipush (v := iI (-2)) hx hb dX0_many_80 rfl ?_
    exact b_iret C hB hr hlocks rfl dX0_many_82 (Nat.le_of_ble_eq_true rfl) (Nat.le_of_ble_eq_true rfl) ⟨by decide, by decide⟩ ⟨rfl, rfl, rfl, rfl, by unfold rMany; (repeat' split) <;> omega⟩
set_option maxHeartbeats 800000 in
set_option maxRecDepth 100000 in
theorem kX0_letters (l : Launch) (E : xE) (o : Nat) (Ad : Nat → Nat) (I : Nat → Int) (F : Nat → Nat → Int) (X : xw) (sd : Int) (kv : Int) (v : Int) (hsd : rg sd) (hkv : rg kv) (hv : rg v) (hOK : mOK I F) : ci_ l E yX0_letters cX0_letters 5 (some .int) 3 64 0 0 [.ref o, .int (iI sd), .int (iI kv), .int (iI v)] o Ad I F X (fun z Ad' I' F' X' => Ad = Ad' ∧ I = I' ∧ nLet I F sd kv v = F' ∧ X = X' ∧ z = rLet I F sd kv v) := by
  intro w hI hd sz
  refine x_bodyz (by decide) (Nat.le_of_ble_eq_true rfl) ?_
  intro p e s m args below meth c ls hx hb C hr hlocks hin hsz hZ hB hl
  have C : xC E p s m args c cX0_letters 5 RX0 := C
  replace hB : xBB E (xA (wU w X) sz) s o Ad I F X s.heap [] := ⟨w, hI, hd, hB⟩
  have hl : lv_has ls 5 [(0, .ref o), (1, .int (iI sd)), (2, .int (iI kv)), (3, .int (iI v))] := hl
  have hOK0 := hOK
  obtain ⟨⟨hf1, hf2⟩, ⟨hl1, hl2⟩, ⟨hr1, hr2⟩, hlr, ⟨hs1, hs2⟩, ⟨hj1, hj2⟩, ⟨hb1, hb2⟩, ⟨hn1, hn2⟩, hL, hR, hN, hS, hC⟩ := hOK
  obtain ⟨hsd1, hsd2⟩ := hsd
  obtain ⟨hkv1, hkv2⟩ := hkv
  obtain ⟨hv1, hv2⟩ := hv
  refine lv_iload_n hx hb dX0_letters_0 rfl (lv_at hl 1 rfl) ?_
  refine x_i2l hx hb dX0_letters_1 ⟨by omega, by omega⟩ ?_
  refine lv_lconst (v := lI 0) hx hb dX0_letters_2 rfl ?_
  refine lv_lconst (v := lI 1) hx hb dX0_letters_3 rfl ?_
  refine bs_calli (n := 3) C hB (As := [.long (lI sd), .long (lI 0), .long (lI 1)]) (kX0_in l E sd 0 1 ⟨by omega, by omega⟩ ⟨by omega, by omega⟩ ⟨by omega, by omega⟩) (lw_S q234 q235 q68 q236) (by decide +kernel) ⟨Nat.le_of_ble_eq_true rfl, Nat.le_of_ble_eq_true rfl⟩ rfl hl.1 rfl (Nat.le_of_ble_eq_true rfl) dX0_letters_4 ⟨Nat.le_of_ble_eq_true rfl, Nat.le_of_ble_eq_true rfl⟩ (fun z1 H locs hz2 hp3 hB => ?_)
  obtain ⟨hz2a, hz2b⟩ := hz2
  rcases hp3 with ⟨rfl, h4⟩ | ⟨rfl, h4⟩
  · refine x_if_ne (tgt := 13) hx hb dX0_letters_7 (by decide) ⟨by decide, by decide⟩ (fun c5 => ?_) (fun c5 => by exfalso; omega)
    rcases (show sd = 0 ∨ sd = 1 by omega) with rfl | rfl
    · refine lv_iload_n hx hb dX0_letters_13 rfl (lv_at hl 1 rfl) ?_
      refine x_if_ne (tgt := 28) hx hb dX0_letters_14 (by decide) ⟨by decide, by decide⟩ (fun c6 => by exfalso; omega) (fun c6 => ?_)
      refine lv_aload_n hx hb dX0_letters_17 rfl (lv_at hl 0 rfl) ?_
      refine lv_iload_n hx hb dX0_letters_18 rfl (lv_at hl 2 rfl) ?_
      refine b_calli 0 0 (Nat.le_of_ble_eq_true rfl) (Nat.le_of_ble_eq_true rfl) hB (fun w hI hd hB => rV (As := [.int (iI kv)]) (n := 1) C hZ hB (kX0_noLeft l E o Ad I F X kv ⟨by omega, by omega⟩ hOK0 w hI hd _) (lw_V q237 q239 qs7 q68 q240) (by decide +kernel) ⟨Nat.le_of_ble_eq_true rfl, Nat.le_of_ble_eq_true rfl⟩ (wU_l hI.x) rfl rfl rfl hl.1 rfl (Nat.le_of_ble_eq_true rfl) dX0_letters_19 ⟨Nat.le_of_ble_eq_true rfl, Nat.le_of_ble_eq_true rfl⟩) (fun z7 Ad8 I9 F10 X11 H locs hz12 hp13 hB => ?_)
      obtain ⟨hz12a, hz12b⟩ := hz12
      obtain ⟨rfl, rfl, rfl, rfl, ⟨rfl, h14⟩ | ⟨rfl, h14⟩⟩ := hp13
      · refine x_if_eq (tgt := 38) hx hb dX0_letters_22 (by decide) ⟨by decide, by decide⟩ (fun c15 => by exfalso; omega) (fun c15 => ?_)
        refine lv_goto (tgt := 36) hx hb dX0_letters_25 (by decide) ?_
        refine lv_iconst (v := iI (-1)) hx hb dX0_letters_36 rfl ?_
        exact b_iret C hB hr hlocks rfl dX0_letters_37 (Nat.le_of_ble_eq_true rfl) (Nat.le_of_ble_eq_true rfl) ⟨by decide, by decide⟩ ⟨rfl, rfl, by unfold nLet; rw [if_neg (by omega), if_neg (by omega)], rfl, by unfold rLet; (repeat' split) <;> omega⟩
      · refine x_if_eq (tgt := 38) hx hb dX0_letters_22 (by decide) ⟨by decide, by decide⟩ (fun c16 => ?_) (fun c16 => by exfalso; omega)
        refine lv_iload_n hx hb dX0_letters_38 rfl (lv_at hl 3 rfl) ?_
        refine x_i2l hx hb dX0_letters_39 ⟨by omega, by omega⟩ ?_
        refine lv_lconst (v := lI 1) hx hb dX0_letters_40 rfl ?_
        refine lv_ldc2 hx hb C.1.2.2.2.1 (C.1.2.2.2.2 _ q254) dX0_letters_41 ?_
        refine x_rwl (y := lI 9) (by decide) ?_
        refine bs_calli (n := 3) C hB (As := [.long (lI v), .long (lI 1), .long (lI 9)]) (kX0_in l E v 1 9 ⟨by omega, by omega⟩ ⟨by omega, by omega⟩ ⟨by omega, by omega⟩) (lw_S q234 q235 q68 q236) (by decide +kernel) ⟨Nat.le_of_ble_eq_true rfl, Nat.le_of_ble_eq_true rfl⟩ rfl hl.1 rfl (Nat.le_of_ble_eq_true rfl) dX0_letters_44 ⟨Nat.le_of_ble_eq_true rfl, Nat.le_of_ble_eq_true rfl⟩ (fun z17 H locs hz18 hp19 hB => ?_)
        obtain ⟨hz18a, hz18b⟩ := hz18
        rcases hp19 with ⟨rfl, h20⟩ | ⟨rfl, h20⟩
        · refine x_if_ne (tgt := 53) hx hb dX0_letters_47 (by decide) ⟨by decide, by decide⟩ (fun c21 => ?_) (fun c21 => by exfalso; omega)
          obtain ⟨kk, rfl⟩ : ∃ kk : Nat, kv = (kk : Int) := ⟨kv.toNat, by omega⟩
          refine lv_iload_n hx hb dX0_letters_53 rfl (lv_at hl 1 rfl) ?_
          refine x_if_ne (tgt := 76) hx hb dX0_letters_54 (by decide) ⟨by decide, by decide⟩ (fun c22 => by exfalso; omega) (fun c22 => ?_)
          refine lv_aload_n hx hb dX0_letters_57 rfl (lv_at hl 0 rfl) ?_
          refine b_get C hB 3 (by decide) q296 (v := .ref (Ad 4)) rfl rfl dX0_letters_58 ?_
          refine lv_iload_n hx hb dX0_letters_61 rfl (lv_at hl 2 rfl) ?_
          refine b_lget C hZ hB kk rfl (show ((kk : Nat) : Int) < I 5 by omega) (show I 5 ≤ 7 by omega) q156 ⟨Nat.le_of_ble_eq_true rfl, Nat.le_of_ble_eq_true rfl⟩ hl.1 (Nat.le_of_ble_eq_true rfl) dX0_letters_62 ⟨Nat.le_of_ble_eq_true rfl, Nat.le_of_ble_eq_true rfl⟩ (fun H locs hB => ?_)
          refine b_castP C hB kk (show ((kk : Nat) : Int) < I 5 by omega) (show I 5 ≤ 7 by omega) q175 dX0_letters_67 ?_
          refine b_plL C hB kk (show ((kk : Nat) : Int) < I 5 by omega) (show I 5 ≤ 7 by omega) q786 dX0_letters_70 ?_
          have := hL kk (by omega)
          refine lv_goto (tgt := 82) hx hb dX0_letters_73 (by decide) ?_
          refine lv_istore (lv' := [(4, .int (iI ((F 11) kk))), (0, .ref o), (1, .int (iI 0)), (2, .int (iI ((kk : Int)))), (3, .int (iI v))]) hx hb dX0_letters_82 hl (by decide) rfl (fun ls hl => ?_)
          refine lv_iload_n hx hb dX0_letters_84 rfl (lv_at hl 2 rfl) ?_
          refine x_if_ne (tgt := 108) hx hb dX0_letters_85 (by decide) ⟨by decide, by decide⟩ (fun c23 => by exfalso; omega) (fun c23 => ?_)
          refine lv_aload_n hx hb dX0_letters_88 rfl (lv_at hl 1 rfl) ?_
          refine b_get C hB 3 (by decide) q296 (v := .ref (Ad 4)) rfl rfl dX0_letters_89 ?_
          refine lv_iload_n hx hb dX0_letters_92 rfl (lv_at hl 3 rfl) ?_
          refine b_lget C hZ hB kk rfl (show ((kk : Nat) : Int) < I 5 by omega) (show I 5 ≤ 7 by omega) q156 ⟨Nat.le_of_ble_eq_true rfl, Nat.le_of_ble_eq_true rfl⟩ hl.1 (Nat.le_of_ble_eq_true rfl) dX0_letters_93 ⟨Nat.le_of_ble_eq_true rfl, Nat.le_of_ble_eq_true rfl⟩ (fun H locs hB => ?_)
          refine b_castP C hB kk (show ((kk : Nat) : Int) < I 5 by omega) (show I 5 ≤ 7 by omega) q175 dX0_letters_98 ?_
          refine lv_iload_n hx hb dX0_letters_101 rfl (lv_at hl 4 rfl) ?_
          refine b_plput C hB kk (show ((kk : Nat) : Int) < I 5 by omega) (show I 5 ≤ 7 by omega) q786 dX0_letters_102 (fun H locs hB => ?_)
          replace hB : xBB E (xA (wU w X) sz) s o Ad I (va_up F 11 (va_up (F 11) kk v)) X _ _ := hB
          refine lv_goto (tgt := 115) hx hb dX0_letters_105 (by decide) ?_
          refine lv_iload hx hb dX0_letters_115 (lv_at hl 0 rfl) ?_
          exact b_iret C hB hr hlocks rfl dX0_letters_117 (Nat.le_of_ble_eq_true rfl) (Nat.le_of_ble_eq_true rfl) ⟨by omega, by omega⟩ ⟨rfl, rfl, by unfold nLet; rw [if_pos ⟨⟨rfl, by omega, by omega⟩, by omega, by omega⟩]; rfl, rfl, by unfold rLet; rw [if_neg (by omega), if_neg (by first | (rw [if_pos rfl]; omega) | (rw [if_neg (by decide)]; omega)), if_neg (by omega), if_pos rfl]; rfl⟩
        · refine x_if_ne (tgt := 53) hx hb dX0_letters_47 (by decide) ⟨by decide, by decide⟩ (fun c24 => by exfalso; omega) (fun c24 => ?_)
          refine lv_bipush (v := iI (-2)) hx hb dX0_letters_50 rfl ?_
          exact b_iret C hB hr hlocks rfl dX0_letters_52 (Nat.le_of_ble_eq_true rfl) (Nat.le_of_ble_eq_true rfl) ⟨by decide, by decide⟩ ⟨rfl, rfl, by unfold nLet; rw [if_neg (by omega), if_neg (by omega)], rfl, by unfold rLet; (repeat' split) <;> omega⟩
    · refine lv_iload_n hx hb dX0_letters_13 rfl (lv_at hl 1 rfl) ?_
      refine x_if_ne (tgt := 28) hx hb dX0_letters_14 (by decide) ⟨by decide, by decide⟩ (fun c25 => ?_) (fun c25 => by exfalso; omega)
      refine lv_aload_n hx hb dX0_letters_28 rfl (lv_at hl 0 rfl) ?_
      refine lv_iload_n hx hb dX0_letters_29 rfl (lv_at hl 2 rfl) ?_
      refine b_calli 0 0 (Nat.le_of_ble_eq_true rfl) (Nat.le_of_ble_eq_true rfl) hB (fun w hI hd hB => rV (As := [.int (iI kv)]) (n := 1) C hZ hB (kX0_noRight l E o Ad I F X kv ⟨by omega, by omega⟩ hOK0 w hI hd _) (lw_V q250 q252 qs8 q68 q253) (by decide +kernel) ⟨Nat.le_of_ble_eq_true rfl, Nat.le_of_ble_eq_true rfl⟩ (wU_l hI.x) rfl rfl rfl hl.1 rfl (Nat.le_of_ble_eq_true rfl) dX0_letters_30 ⟨Nat.le_of_ble_eq_true rfl, Nat.le_of_ble_eq_true rfl⟩) (fun z26 Ad27 I28 F29 X30 H locs hz31 hp32 hB => ?_)
      obtain ⟨hz31a, hz31b⟩ := hz31
      obtain ⟨rfl, rfl, rfl, rfl, ⟨rfl, h33⟩ | ⟨rfl, h33⟩⟩ := hp32
      · refine x_if_eq (tgt := 38) hx hb dX0_letters_33 (by decide) ⟨by decide, by decide⟩ (fun c34 => by exfalso; omega) (fun c34 => ?_)
        refine lv_iconst (v := iI (-1)) hx hb dX0_letters_36 rfl ?_
        exact b_iret C hB hr hlocks rfl dX0_letters_37 (Nat.le_of_ble_eq_true rfl) (Nat.le_of_ble_eq_true rfl) ⟨by decide, by decide⟩ ⟨rfl, rfl, by unfold nLet; rw [if_neg (by omega), if_neg (by omega)], rfl, by unfold rLet; (repeat' split) <;> omega⟩
      · refine x_if_eq (tgt := 38) hx hb dX0_letters_33 (by decide) ⟨by decide, by decide⟩ (fun c35 => ?_) (fun c35 => by exfalso; omega)
        refine lv_iload_n hx hb dX0_letters_38 rfl (lv_at hl 3 rfl) ?_
        refine x_i2l hx hb dX0_letters_39 ⟨by omega, by omega⟩ ?_
        refine lv_lconst (v := lI 1) hx hb dX0_letters_40 rfl ?_
        refine lv_ldc2 hx hb C.1.2.2.2.1 (C.1.2.2.2.2 _ q254) dX0_letters_41 ?_
        refine x_rwl (y := lI 9) (by decide) ?_
        refine bs_calli (n := 3) C hB (As := [.long (lI v), .long (lI 1), .long (lI 9)]) (kX0_in l E v 1 9 ⟨by omega, by omega⟩ ⟨by omega, by omega⟩ ⟨by omega, by omega⟩) (lw_S q234 q235 q68 q236) (by decide +kernel) ⟨Nat.le_of_ble_eq_true rfl, Nat.le_of_ble_eq_true rfl⟩ rfl hl.1 rfl (Nat.le_of_ble_eq_true rfl) dX0_letters_44 ⟨Nat.le_of_ble_eq_true rfl, Nat.le_of_ble_eq_true rfl⟩ (fun z36 H locs hz37 hp38 hB => ?_)
        obtain ⟨hz37a, hz37b⟩ := hz37
        rcases hp38 with ⟨rfl, h39⟩ | ⟨rfl, h39⟩
        · refine x_if_ne (tgt := 53) hx hb dX0_letters_47 (by decide) ⟨by decide, by decide⟩ (fun c40 => ?_) (fun c40 => by exfalso; omega)
          obtain ⟨kk, rfl⟩ : ∃ kk : Nat, kv = (kk : Int) := ⟨kv.toNat, by omega⟩
          refine lv_iload_n hx hb dX0_letters_53 rfl (lv_at hl 1 rfl) ?_
          refine x_if_ne (tgt := 76) hx hb dX0_letters_54 (by decide) ⟨by decide, by decide⟩ (fun c41 => ?_) (fun c41 => by exfalso; omega)
          refine lv_aload_n hx hb dX0_letters_76 rfl (lv_at hl 0 rfl) ?_
          refine b_get C hB 5 (by decide) q299 (v := .ref (Ad 6)) rfl rfl dX0_letters_77 ?_
          refine lv_iload_n hx hb dX0_letters_80 rfl (lv_at hl 2 rfl) ?_
          refine b_ald C hB 6 13 7 rfl (v := (F 13) kk) kk rfl (by omega) (by omega) rfl dX0_letters_81 ?_
          have := hR kk (by omega)
          refine lv_istore (lv' := [(4, .int (iI ((F 13) kk))), (0, .ref o), (1, .int (iI 1)), (2, .int (iI ((kk : Int)))), (3, .int (iI v))]) hx hb dX0_letters_82 hl (by decide) rfl (fun ls hl => ?_)
          refine lv_iload_n hx hb dX0_letters_84 rfl (lv_at hl 2 rfl) ?_
          refine x_if_ne (tgt := 108) hx hb dX0_letters_85 (by decide) ⟨by decide, by decide⟩ (fun c42 => ?_) (fun c42 => by exfalso; omega)
          refine lv_aload_n hx hb dX0_letters_108 rfl (lv_at hl 1 rfl) ?_
          refine b_get C hB 5 (by decide) q299 (v := .ref (Ad 6)) rfl rfl dX0_letters_109 ?_
          refine lv_iload_n hx hb dX0_letters_112 rfl (lv_at hl 3 rfl) ?_
          refine lv_iload_n hx hb dX0_letters_113 rfl (lv_at hl 4 rfl) ?_
          refine b_ast C hB 6 13 7 rfl (f := F 13) kk rfl (by omega) (by omega) rfl dX0_letters_114 (fun H locs hB => ?_)
          replace hB : xBB E (xA (wU w X) sz) s o Ad I (va_up F 13 (va_up (F 13) kk v)) X _ _ := hB
          refine lv_iload hx hb dX0_letters_115 (lv_at hl 0 rfl) ?_
          exact b_iret C hB hr hlocks rfl dX0_letters_117 (Nat.le_of_ble_eq_true rfl) (Nat.le_of_ble_eq_true rfl) ⟨by omega, by omega⟩ ⟨rfl, rfl, by unfold nLet; rw [if_neg (by omega), if_pos ⟨⟨rfl, by omega, by omega⟩, by omega, by omega⟩]; rfl, rfl, by unfold rLet; rw [if_neg (by omega), if_neg (by first | (rw [if_pos rfl]; omega) | (rw [if_neg (by decide)]; omega)), if_neg (by omega), if_neg (by decide)]; rfl⟩
        · refine x_if_ne (tgt := 53) hx hb dX0_letters_47 (by decide) ⟨by decide, by decide⟩ (fun c43 => by exfalso; omega) (fun c43 => ?_)
          refine lv_bipush (v := iI (-2)) hx hb dX0_letters_50 rfl ?_
          exact b_iret C hB hr hlocks rfl dX0_letters_52 (Nat.le_of_ble_eq_true rfl) (Nat.le_of_ble_eq_true rfl) ⟨by decide, by decide⟩ ⟨rfl, rfl, by unfold nLet; rw [if_neg (by omega), if_neg (by omega)], rfl, by unfold rLet; (repeat' split) <;> omega⟩
  · refine x_if_ne (tgt := 13) hx hb dX0_letters_7 (by decide) ⟨by decide, by decide⟩ (fun c44 => by exfalso; omega) (fun c44 => ?_)
    refine lv_bipush (v := iI (-2)) hx hb dX0_letters_10 rfl ?_
    exact b_iret C hB hr hlocks rfl dX0_letters_12 (Nat.le_of_ble_eq_true rfl) (Nat.le_of_ble_eq_true rfl) ⟨by decide, by decide⟩ ⟨rfl, rfl, by unfold nLet; rw [if_neg (by omega), if_neg (by omega)], rfl, by unfold rLet; rw [if_pos (by omega)]⟩
set_option maxHeartbeats 800000 in
set_option maxRecDepth 100000 in
theorem kX0_price (l : Launch) (E : xE) (o : Nat) (Ad : Nat → Nat) (I : Nat → Int) (F : Nat → Nat → Int) (X : xw) (wh : Int) (v : Int) (hwh : rg wh) (hv : rg v) (hOK : mOK I F) : ci_ l E yX0_price cX0_price 4 (some .int) 2 40 0 0 [.ref o, .int (iI wh), .int (iI v)] o Ad I F X (fun z Ad' I' F' X' => Ad = Ad' ∧ nPrice I wh v = I' ∧ F = F' ∧ X = X' ∧ z = rPrice I wh v) := by
  intro w hI hd sz
  refine x_bodyz (by decide) (Nat.le_of_ble_eq_true rfl) ?_
  intro p e s m args below meth c ls hx hb C hr hlocks hin hsz hZ hB hl
  have C : xC E p s m args c cX0_price 4 RX0 := C
  replace hB : xBB E (xA (wU w X) sz) s o Ad I F X s.heap [] := ⟨w, hI, hd, hB⟩
  have hl : lv_has ls 4 [(0, .ref o), (1, .int (iI wh)), (2, .int (iI v))] := hl
  have hOK0 := hOK
  obtain ⟨⟨hf1, hf2⟩, ⟨hl1, hl2⟩, ⟨hr1, hr2⟩, hlr, ⟨hs1, hs2⟩, ⟨hj1, hj2⟩, ⟨hb1, hb2⟩, ⟨hn1, hn2⟩, hL, hR, hN, hS, hC⟩ := hOK
  obtain ⟨hwh1, hwh2⟩ := hwh
  obtain ⟨hv1, hv2⟩ := hv
  refine lv_iload_n hx hb dX0_price_0 rfl (lv_at hl 1 rfl) ?_
  refine x_i2l hx hb dX0_price_1 ⟨by omega, by omega⟩ ?_
  refine lv_lconst (v := lI 0) hx hb dX0_price_2 rfl ?_
  refine lv_ldc2 hx hb C.1.2.2.2.1 (C.1.2.2.2.2 _ q274) dX0_price_3 ?_
  refine x_rwl (y := lI 2) (by decide) ?_
  refine bs_calli (n := 3) C hB (As := [.long (lI wh), .long (lI 0), .long (lI 2)]) (kX0_in l E wh 0 2 ⟨by omega, by omega⟩ ⟨by omega, by omega⟩ ⟨by omega, by omega⟩) (lw_S q234 q235 q68 q236) (by decide +kernel) ⟨Nat.le_of_ble_eq_true rfl, Nat.le_of_ble_eq_true rfl⟩ rfl hl.1 rfl (Nat.le_of_ble_eq_true rfl) dX0_price_6 ⟨Nat.le_of_ble_eq_true rfl, Nat.le_of_ble_eq_true rfl⟩ (fun z1 H locs hz2 hp3 hB => ?_)
  obtain ⟨hz2a, hz2b⟩ := hz2
  rcases hp3 with ⟨rfl, h4⟩ | ⟨rfl, h4⟩
  · refine x_if_ne (tgt := 15) hx hb dX0_price_9 (by decide) ⟨by decide, by decide⟩ (fun c5 => ?_) (fun c5 => by exfalso; omega)
    refine lv_aload_n hx hb dX0_price_15 rfl (lv_at hl 0 rfl) ?_
    refine b_calli 0 0 (Nat.le_of_ble_eq_true rfl) (Nat.le_of_ble_eq_true rfl) hB (fun w hI hd hB => rV (As := []) (n := 0) C hZ hB (kX0_noBooks l E o Ad I F X hOK0 w hI hd _) (lw_V q275 q277 qs11 q68 q278) (by decide +kernel) ⟨Nat.le_of_ble_eq_true rfl, Nat.le_of_ble_eq_true rfl⟩ (wU_l hI.x) rfl rfl rfl hl.1 rfl (Nat.le_of_ble_eq_true rfl) dX0_price_16 ⟨Nat.le_of_ble_eq_true rfl, Nat.le_of_ble_eq_true rfl⟩) (fun z6 Ad7 I8 F9 X10 H locs hz11 hp12 hB => ?_)
    obtain ⟨hz11a, hz11b⟩ := hz11
    obtain ⟨rfl, rfl, rfl, rfl, ⟨rfl, h13⟩ | ⟨rfl, h13⟩⟩ := hp12
    · refine x_if_eq (tgt := 25) hx hb dX0_price_19 (by decide) ⟨by decide, by decide⟩ (fun c14 => by exfalso; omega) (fun c14 => ?_)
      refine lv_bipush (v := iI (-3)) hx hb dX0_price_22 rfl ?_
      exact b_iret C hB hr hlocks rfl dX0_price_24 (Nat.le_of_ble_eq_true rfl) (Nat.le_of_ble_eq_true rfl) ⟨by decide, by decide⟩ ⟨rfl, by unfold nPrice; rw [if_neg (by intro q; obtain ⟨q1, q2, q3, q4⟩ := q; split at q4 <;> omega)], rfl, rfl, by unfold rPrice; (repeat' split) <;> omega⟩
    · refine x_if_eq (tgt := 25) hx hb dX0_price_19 (by decide) ⟨by decide, by decide⟩ (fun c15 => ?_) (fun c15 => by exfalso; omega)
      refine lv_iload_n hx hb dX0_price_25 rfl (lv_at hl 2 rfl) ?_
      refine x_i2l hx hb dX0_price_26 ⟨by omega, by omega⟩ ?_
      refine lv_lconst (v := lI 0) hx hb dX0_price_27 rfl ?_
      refine lv_iload_n hx hb dX0_price_28 rfl (lv_at hl 1 rfl) ?_
      refine lv_iconst (v := iI 2) hx hb dX0_price_29 rfl ?_
      refine x_icmp_ne (tgt := 39) hx hb dX0_price_30 (by decide) ⟨by omega, by omega⟩ ⟨by decide, by decide⟩ (fun c16 => ?_) (fun c16 => ?_)
      · refine lv_ldc2 hx hb C.1.2.2.2.1 (C.1.2.2.2.2 _ q254) dX0_price_39 ?_
        refine x_rwl (y := lI 9) (by decide) ?_
        refine bs_calli (n := 3) C hB (As := [.long (lI v), .long (lI 0), .long (lI 9)]) (kX0_in l E v 0 9 ⟨by omega, by omega⟩ ⟨by omega, by omega⟩ ⟨by omega, by omega⟩) (lw_S q234 q235 q68 q236) (by decide +kernel) ⟨Nat.le_of_ble_eq_true rfl, Nat.le_of_ble_eq_true rfl⟩ rfl hl.1 rfl (Nat.le_of_ble_eq_true rfl) dX0_price_42 ⟨Nat.le_of_ble_eq_true rfl, Nat.le_of_ble_eq_true rfl⟩ (fun z17 H locs hz18 hp19 hB => ?_)
        obtain ⟨hz18a, hz18b⟩ := hz18
        rcases hp19 with ⟨rfl, h20⟩ | ⟨rfl, h20⟩
        · refine x_if_ne (tgt := 51) hx hb dX0_price_45 (by decide) ⟨by decide, by decide⟩ (fun c21 => ?_) (fun c21 => by exfalso; omega)
          rcases (show wh = 0 ∨ wh = 1 ∨ wh = 2 by omega) with rfl | rfl | rfl
          · refine lv_iload_n hx hb dX0_price_51 rfl (lv_at hl 1 rfl) ?_
            refine x_if_ne (tgt := 62) hx hb dX0_price_52 (by decide) ⟨by decide, by decide⟩ (fun c22 => by exfalso; omega) (fun c22 => ?_)
            refine lv_aload_n hx hb dX0_price_55 rfl (lv_at hl 0 rfl) ?_
            refine b_get C hB 7 (by decide) q301 (v := .int (iI (I 7))) rfl rfl dX0_price_56 ?_
            refine lv_goto (tgt := 78) hx hb dX0_price_59 (by decide) ?_
            refine lv_istore_n (lv' := [(3, .int (iI (I 7))), (0, .ref o), (1, .int (iI 0)), (2, .int (iI v))]) hx hb dX0_price_78 rfl hl (by decide) rfl (fun ls hl => ?_)
            refine lv_aload_n hx hb dX0_price_79 rfl (lv_at hl 1 rfl) ?_
            refine lv_iload_n hx hb dX0_price_80 rfl (lv_at hl 2 rfl) ?_
            refine x_if_ne (tgt := 88) hx hb dX0_price_81 (by decide) ⟨by decide, by decide⟩ (fun c23 => by exfalso; omega) (fun c23 => ?_)
            refine lv_iload_n hx hb dX0_price_84 rfl (lv_at hl 3 rfl) ?_
            refine lv_goto (tgt := 92) hx hb dX0_price_85 (by decide) ?_
            refine b_put C hB 7 7 (by decide) rfl q301 rfl rfl rfl dX0_price_92 (fun H locs hB => ?_)
            refine lv_aload_n hx hb dX0_price_95 rfl (lv_at hl 1 rfl) ?_
            refine lv_iload_n hx hb dX0_price_96 rfl (lv_at hl 2 rfl) ?_
            refine lv_iconst (v := iI 1) hx hb dX0_price_97 rfl ?_
            refine x_icmp_ne (tgt := 105) hx hb dX0_price_98 (by decide) ⟨by decide, by decide⟩ ⟨by decide, by decide⟩ (fun c24 => ?_) (fun c24 => by exfalso; omega)
            refine lv_aload_n hx hb dX0_price_105 rfl (lv_at hl 1 rfl) ?_
            refine b_get C hB 8 (by decide) q302 (v := .int (iI (I 8))) rfl rfl dX0_price_106 ?_
            refine b_put C hB 8 8 (by decide) rfl q302 rfl rfl rfl dX0_price_109 (fun H locs hB => ?_)
            refine lv_aload_n hx hb dX0_price_112 rfl (lv_at hl 1 rfl) ?_
            refine lv_iload_n hx hb dX0_price_113 rfl (lv_at hl 2 rfl) ?_
            refine lv_iconst (v := iI 2) hx hb dX0_price_114 rfl ?_
            refine x_icmp_ne (tgt := 122) hx hb dX0_price_115 (by decide) ⟨by decide, by decide⟩ ⟨by decide, by decide⟩ (fun c25 => ?_) (fun c25 => by exfalso; omega)
            refine lv_aload_n hx hb dX0_price_122 rfl (lv_at hl 1 rfl) ?_
            refine b_get C hB 9 (by decide) q304 (v := .int (iI (I 9))) rfl rfl dX0_price_123 ?_
            refine b_put C hB 9 9 (by decide) rfl q304 rfl rfl rfl dX0_price_126 (fun H locs hB => ?_)
            refine lv_iload_n hx hb dX0_price_129 rfl (lv_at hl 0 rfl) ?_
            exact b_iret C hB hr hlocks rfl dX0_price_130 (Nat.le_of_ble_eq_true rfl) (Nat.le_of_ble_eq_true rfl) ⟨by omega, by omega⟩ ⟨rfl, by unfold nPrice; rw [if_pos ⟨by omega, by omega, by omega, by split <;> omega⟩]; exact pr_0 I v, rfl, rfl, by unfold rPrice; rw [if_neg (by omega), if_neg (by omega), if_neg (by split <;> omega)]; rfl⟩
          · refine lv_iload_n hx hb dX0_price_51 rfl (lv_at hl 1 rfl) ?_
            refine x_if_ne (tgt := 62) hx hb dX0_price_52 (by decide) ⟨by decide, by decide⟩ (fun c26 => ?_) (fun c26 => by exfalso; omega)
            refine lv_iload_n hx hb dX0_price_62 rfl (lv_at hl 1 rfl) ?_
            refine lv_iconst (v := iI 1) hx hb dX0_price_63 rfl ?_
            refine x_icmp_ne (tgt := 74) hx hb dX0_price_64 (by decide) ⟨by decide, by decide⟩ ⟨by decide, by decide⟩ (fun c27 => by exfalso; omega) (fun c27 => ?_)
            refine lv_aload_n hx hb dX0_price_67 rfl (lv_at hl 0 rfl) ?_
            refine b_get C hB 8 (by decide) q302 (v := .int (iI (I 8))) rfl rfl dX0_price_68 ?_
            refine lv_goto (tgt := 78) hx hb dX0_price_71 (by decide) ?_
            refine lv_istore_n (lv' := [(3, .int (iI (I 8))), (0, .ref o), (1, .int (iI 1)), (2, .int (iI v))]) hx hb dX0_price_78 rfl hl (by decide) rfl (fun ls hl => ?_)
            refine lv_aload_n hx hb dX0_price_79 rfl (lv_at hl 1 rfl) ?_
            refine lv_iload_n hx hb dX0_price_80 rfl (lv_at hl 2 rfl) ?_
            refine x_if_ne (tgt := 88) hx hb dX0_price_81 (by decide) ⟨by decide, by decide⟩ (fun c28 => ?_) (fun c28 => by exfalso; omega)
            refine lv_aload_n hx hb dX0_price_88 rfl (lv_at hl 1 rfl) ?_
            refine b_get C hB 7 (by decide) q301 (v := .int (iI (I 7))) rfl rfl dX0_price_89 ?_
            refine b_put C hB 7 7 (by decide) rfl q301 rfl rfl rfl dX0_price_92 (fun H locs hB => ?_)
            refine lv_aload_n hx hb dX0_price_95 rfl (lv_at hl 1 rfl) ?_
            refine lv_iload_n hx hb dX0_price_96 rfl (lv_at hl 2 rfl) ?_
            refine lv_iconst (v := iI 1) hx hb dX0_price_97 rfl ?_
            refine x_icmp_ne (tgt := 105) hx hb dX0_price_98 (by decide) ⟨by decide, by decide⟩ ⟨by decide, by decide⟩ (fun c29 => by exfalso; omega) (fun c29 => ?_)
            refine lv_iload_n hx hb dX0_price_101 rfl (lv_at hl 3 rfl) ?_
            refine lv_goto (tgt := 109) hx hb dX0_price_102 (by decide) ?_
            refine b_put C hB 8 8 (by decide) rfl q302 rfl rfl rfl dX0_price_109 (fun H locs hB => ?_)
            refine lv_aload_n hx hb dX0_price_112 rfl (lv_at hl 1 rfl) ?_
            refine lv_iload_n hx hb dX0_price_113 rfl (lv_at hl 2 rfl) ?_
            refine lv_iconst (v := iI 2) hx hb dX0_price_114 rfl ?_
            refine x_icmp_ne (tgt := 122) hx hb dX0_price_115 (by decide) ⟨by decide, by decide⟩ ⟨by decide, by decide⟩ (fun c30 => ?_) (fun c30 => by exfalso; omega)
            refine lv_aload_n hx hb dX0_price_122 rfl (lv_at hl 1 rfl) ?_
            refine b_get C hB 9 (by decide) q304 (v := .int (iI (I 9))) rfl rfl dX0_price_123 ?_
            refine b_put C hB 9 9 (by decide) rfl q304 rfl rfl rfl dX0_price_126 (fun H locs hB => ?_)
            refine lv_iload_n hx hb dX0_price_129 rfl (lv_at hl 0 rfl) ?_
            exact b_iret C hB hr hlocks rfl dX0_price_130 (Nat.le_of_ble_eq_true rfl) (Nat.le_of_ble_eq_true rfl) ⟨by omega, by omega⟩ ⟨rfl, by unfold nPrice; rw [if_pos ⟨by omega, by omega, by omega, by split <;> omega⟩]; exact pr_1 I v, rfl, rfl, by unfold rPrice; rw [if_neg (by omega), if_neg (by omega), if_neg (by split <;> omega)]; rfl⟩
          · refine lv_iload_n hx hb dX0_price_51 rfl (lv_at hl 1 rfl) ?_
            refine x_if_ne (tgt := 62) hx hb dX0_price_52 (by decide) ⟨by decide, by decide⟩ (fun c31 => ?_) (fun c31 => by exfalso; omega)
            refine lv_iload_n hx hb dX0_price_62 rfl (lv_at hl 1 rfl) ?_
            refine lv_iconst (v := iI 1) hx hb dX0_price_63 rfl ?_
            refine x_icmp_ne (tgt := 74) hx hb dX0_price_64 (by decide) ⟨by decide, by decide⟩ ⟨by decide, by decide⟩ (fun c32 => ?_) (fun c32 => by exfalso; omega)
            refine lv_aload_n hx hb dX0_price_74 rfl (lv_at hl 0 rfl) ?_
            refine b_get C hB 9 (by decide) q304 (v := .int (iI (I 9))) rfl rfl dX0_price_75 ?_
            refine lv_istore_n (lv' := [(3, .int (iI (I 9))), (0, .ref o), (1, .int (iI 2)), (2, .int (iI v))]) hx hb dX0_price_78 rfl hl (by decide) rfl (fun ls hl => ?_)
            refine lv_aload_n hx hb dX0_price_79 rfl (lv_at hl 1 rfl) ?_
            refine lv_iload_n hx hb dX0_price_80 rfl (lv_at hl 2 rfl) ?_
            refine x_if_ne (tgt := 88) hx hb dX0_price_81 (by decide) ⟨by decide, by decide⟩ (fun c33 => ?_) (fun c33 => by exfalso; omega)
            refine lv_aload_n hx hb dX0_price_88 rfl (lv_at hl 1 rfl) ?_
            refine b_get C hB 7 (by decide) q301 (v := .int (iI (I 7))) rfl rfl dX0_price_89 ?_
            refine b_put C hB 7 7 (by decide) rfl q301 rfl rfl rfl dX0_price_92 (fun H locs hB => ?_)
            refine lv_aload_n hx hb dX0_price_95 rfl (lv_at hl 1 rfl) ?_
            refine lv_iload_n hx hb dX0_price_96 rfl (lv_at hl 2 rfl) ?_
            refine lv_iconst (v := iI 1) hx hb dX0_price_97 rfl ?_
            refine x_icmp_ne (tgt := 105) hx hb dX0_price_98 (by decide) ⟨by decide, by decide⟩ ⟨by decide, by decide⟩ (fun c34 => ?_) (fun c34 => by exfalso; omega)
            refine lv_aload_n hx hb dX0_price_105 rfl (lv_at hl 1 rfl) ?_
            refine b_get C hB 8 (by decide) q302 (v := .int (iI (I 8))) rfl rfl dX0_price_106 ?_
            refine b_put C hB 8 8 (by decide) rfl q302 rfl rfl rfl dX0_price_109 (fun H locs hB => ?_)
            refine lv_aload_n hx hb dX0_price_112 rfl (lv_at hl 1 rfl) ?_
            refine lv_iload_n hx hb dX0_price_113 rfl (lv_at hl 2 rfl) ?_
            refine lv_iconst (v := iI 2) hx hb dX0_price_114 rfl ?_
            refine x_icmp_ne (tgt := 122) hx hb dX0_price_115 (by decide) ⟨by decide, by decide⟩ ⟨by decide, by decide⟩ (fun c35 => by exfalso; omega) (fun c35 => ?_)
            refine lv_iload_n hx hb dX0_price_118 rfl (lv_at hl 3 rfl) ?_
            refine lv_goto (tgt := 126) hx hb dX0_price_119 (by decide) ?_
            refine b_put C hB 9 9 (by decide) rfl q304 rfl rfl rfl dX0_price_126 (fun H locs hB => ?_)
            refine lv_iload_n hx hb dX0_price_129 rfl (lv_at hl 0 rfl) ?_
            exact b_iret C hB hr hlocks rfl dX0_price_130 (Nat.le_of_ble_eq_true rfl) (Nat.le_of_ble_eq_true rfl) ⟨by omega, by omega⟩ ⟨rfl, by unfold nPrice; rw [if_pos ⟨by omega, by omega, by omega, by split <;> omega⟩]; exact pr_2 I v, rfl, rfl, by unfold rPrice; rw [if_neg (by omega), if_neg (by omega), if_neg (by split <;> omega)]; rfl⟩
        · refine x_if_ne (tgt := 51) hx hb dX0_price_45 (by decide) ⟨by decide, by decide⟩ (fun c36 => by exfalso; omega) (fun c36 => ?_)
          refine lv_bipush (v := iI (-2)) hx hb dX0_price_48 rfl ?_
          exact b_iret C hB hr hlocks rfl dX0_price_50 (Nat.le_of_ble_eq_true rfl) (Nat.le_of_ble_eq_true rfl) ⟨by decide, by decide⟩ ⟨rfl, by unfold nPrice; rw [if_neg (by intro q; obtain ⟨q1, q2, q3, q4⟩ := q; split at q4 <;> omega)], rfl, rfl, by unfold rPrice; (repeat' split) <;> omega⟩
      · refine lv_ldc2 hx hb C.1.2.2.2.1 (C.1.2.2.2.2 _ q288) dX0_price_33 ?_
        refine x_rwl (y := lI 7) (by decide) ?_
        refine lv_goto (tgt := 42) hx hb dX0_price_36 (by decide) ?_
        refine bs_calli (n := 3) C hB (As := [.long (lI v), .long (lI 0), .long (lI 7)]) (kX0_in l E v 0 7 ⟨by omega, by omega⟩ ⟨by omega, by omega⟩ ⟨by omega, by omega⟩) (lw_S q234 q235 q68 q236) (by decide +kernel) ⟨Nat.le_of_ble_eq_true rfl, Nat.le_of_ble_eq_true rfl⟩ rfl hl.1 rfl (Nat.le_of_ble_eq_true rfl) dX0_price_42 ⟨Nat.le_of_ble_eq_true rfl, Nat.le_of_ble_eq_true rfl⟩ (fun z37 H locs hz38 hp39 hB => ?_)
        obtain ⟨hz38a, hz38b⟩ := hz38
        rcases hp39 with ⟨rfl, h40⟩ | ⟨rfl, h40⟩
        · refine x_if_ne (tgt := 51) hx hb dX0_price_45 (by decide) ⟨by decide, by decide⟩ (fun c41 => ?_) (fun c41 => by exfalso; omega)
          rcases (show wh = 0 ∨ wh = 1 ∨ wh = 2 by omega) with rfl | rfl | rfl
          · refine lv_iload_n hx hb dX0_price_51 rfl (lv_at hl 1 rfl) ?_
            refine x_if_ne (tgt := 62) hx hb dX0_price_52 (by decide) ⟨by decide, by decide⟩ (fun c42 => by exfalso; omega) (fun c42 => ?_)
            refine lv_aload_n hx hb dX0_price_55 rfl (lv_at hl 0 rfl) ?_
            refine b_get C hB 7 (by decide) q301 (v := .int (iI (I 7))) rfl rfl dX0_price_56 ?_
            refine lv_goto (tgt := 78) hx hb dX0_price_59 (by decide) ?_
            refine lv_istore_n (lv' := [(3, .int (iI (I 7))), (0, .ref o), (1, .int (iI 0)), (2, .int (iI v))]) hx hb dX0_price_78 rfl hl (by decide) rfl (fun ls hl => ?_)
            refine lv_aload_n hx hb dX0_price_79 rfl (lv_at hl 1 rfl) ?_
            refine lv_iload_n hx hb dX0_price_80 rfl (lv_at hl 2 rfl) ?_
            refine x_if_ne (tgt := 88) hx hb dX0_price_81 (by decide) ⟨by decide, by decide⟩ (fun c43 => by exfalso; omega) (fun c43 => ?_)
            refine lv_iload_n hx hb dX0_price_84 rfl (lv_at hl 3 rfl) ?_
            refine lv_goto (tgt := 92) hx hb dX0_price_85 (by decide) ?_
            refine b_put C hB 7 7 (by decide) rfl q301 rfl rfl rfl dX0_price_92 (fun H locs hB => ?_)
            refine lv_aload_n hx hb dX0_price_95 rfl (lv_at hl 1 rfl) ?_
            refine lv_iload_n hx hb dX0_price_96 rfl (lv_at hl 2 rfl) ?_
            refine lv_iconst (v := iI 1) hx hb dX0_price_97 rfl ?_
            refine x_icmp_ne (tgt := 105) hx hb dX0_price_98 (by decide) ⟨by decide, by decide⟩ ⟨by decide, by decide⟩ (fun c44 => ?_) (fun c44 => by exfalso; omega)
            refine lv_aload_n hx hb dX0_price_105 rfl (lv_at hl 1 rfl) ?_
            refine b_get C hB 8 (by decide) q302 (v := .int (iI (I 8))) rfl rfl dX0_price_106 ?_
            refine b_put C hB 8 8 (by decide) rfl q302 rfl rfl rfl dX0_price_109 (fun H locs hB => ?_)
            refine lv_aload_n hx hb dX0_price_112 rfl (lv_at hl 1 rfl) ?_
            refine lv_iload_n hx hb dX0_price_113 rfl (lv_at hl 2 rfl) ?_
            refine lv_iconst (v := iI 2) hx hb dX0_price_114 rfl ?_
            refine x_icmp_ne (tgt := 122) hx hb dX0_price_115 (by decide) ⟨by decide, by decide⟩ ⟨by decide, by decide⟩ (fun c45 => ?_) (fun c45 => by exfalso; omega)
            refine lv_aload_n hx hb dX0_price_122 rfl (lv_at hl 1 rfl) ?_
            refine b_get C hB 9 (by decide) q304 (v := .int (iI (I 9))) rfl rfl dX0_price_123 ?_
            refine b_put C hB 9 9 (by decide) rfl q304 rfl rfl rfl dX0_price_126 (fun H locs hB => ?_)
            refine lv_iload_n hx hb dX0_price_129 rfl (lv_at hl 0 rfl) ?_
            exact b_iret C hB hr hlocks rfl dX0_price_130 (Nat.le_of_ble_eq_true rfl) (Nat.le_of_ble_eq_true rfl) ⟨by omega, by omega⟩ ⟨rfl, by unfold nPrice; rw [if_pos ⟨by omega, by omega, by omega, by split <;> omega⟩]; exact pr_0 I v, rfl, rfl, by unfold rPrice; rw [if_neg (by omega), if_neg (by omega), if_neg (by split <;> omega)]; rfl⟩
          · refine lv_iload_n hx hb dX0_price_51 rfl (lv_at hl 1 rfl) ?_
            refine x_if_ne (tgt := 62) hx hb dX0_price_52 (by decide) ⟨by decide, by decide⟩ (fun c46 => ?_) (fun c46 => by exfalso; omega)
            refine lv_iload_n hx hb dX0_price_62 rfl (lv_at hl 1 rfl) ?_
            refine lv_iconst (v := iI 1) hx hb dX0_price_63 rfl ?_
            refine x_icmp_ne (tgt := 74) hx hb dX0_price_64 (by decide) ⟨by decide, by decide⟩ ⟨by decide, by decide⟩ (fun c47 => by exfalso; omega) (fun c47 => ?_)
            refine lv_aload_n hx hb dX0_price_67 rfl (lv_at hl 0 rfl) ?_
            refine b_get C hB 8 (by decide) q302 (v := .int (iI (I 8))) rfl rfl dX0_price_68 ?_
            refine lv_goto (tgt := 78) hx hb dX0_price_71 (by decide) ?_
            refine lv_istore_n (lv' := [(3, .int (iI (I 8))), (0, .ref o), (1, .int (iI 1)), (2, .int (iI v))]) hx hb dX0_price_78 rfl hl (by decide) rfl (fun ls hl => ?_)
            refine lv_aload_n hx hb dX0_price_79 rfl (lv_at hl 1 rfl) ?_
            refine lv_iload_n hx hb dX0_price_80 rfl (lv_at hl 2 rfl) ?_
            refine x_if_ne (tgt := 88) hx hb dX0_price_81 (by decide) ⟨by decide, by decide⟩ (fun c48 => ?_) (fun c48 => by exfalso; omega)
            refine lv_aload_n hx hb dX0_price_88 rfl (lv_at hl 1 rfl) ?_
            refine b_get C hB 7 (by decide) q301 (v := .int (iI (I 7))) rfl rfl dX0_price_89 ?_
            refine b_put C hB 7 7 (by decide) rfl q301 rfl rfl rfl dX0_price_92 (fun H locs hB => ?_)
            refine lv_aload_n hx hb dX0_price_95 rfl (lv_at hl 1 rfl) ?_
            refine lv_iload_n hx hb dX0_price_96 rfl (lv_at hl 2 rfl) ?_
            refine lv_iconst (v := iI 1) hx hb dX0_price_97 rfl ?_
            refine x_icmp_ne (tgt := 105) hx hb dX0_price_98 (by decide) ⟨by decide, by decide⟩ ⟨by decide, by decide⟩ (fun c49 => by exfalso; omega) (fun c49 => ?_)
            refine lv_iload_n hx hb dX0_price_101 rfl (lv_at hl 3 rfl) ?_
            refine lv_goto (tgt := 109) hx hb dX0_price_102 (by decide) ?_
            refine b_put C hB 8 8 (by decide) rfl q302 rfl rfl rfl dX0_price_109 (fun H locs hB => ?_)
            refine lv_aload_n hx hb dX0_price_112 rfl (lv_at hl 1 rfl) ?_
            refine lv_iload_n hx hb dX0_price_113 rfl (lv_at hl 2 rfl) ?_
            refine lv_iconst (v := iI 2) hx hb dX0_price_114 rfl ?_
            refine x_icmp_ne (tgt := 122) hx hb dX0_price_115 (by decide) ⟨by decide, by decide⟩ ⟨by decide, by decide⟩ (fun c50 => ?_) (fun c50 => by exfalso; omega)
            refine lv_aload_n hx hb dX0_price_122 rfl (lv_at hl 1 rfl) ?_
            refine b_get C hB 9 (by decide) q304 (v := .int (iI (I 9))) rfl rfl dX0_price_123 ?_
            refine b_put C hB 9 9 (by decide) rfl q304 rfl rfl rfl dX0_price_126 (fun H locs hB => ?_)
            refine lv_iload_n hx hb dX0_price_129 rfl (lv_at hl 0 rfl) ?_
            exact b_iret C hB hr hlocks rfl dX0_price_130 (Nat.le_of_ble_eq_true rfl) (Nat.le_of_ble_eq_true rfl) ⟨by omega, by omega⟩ ⟨rfl, by unfold nPrice; rw [if_pos ⟨by omega, by omega, by omega, by split <;> omega⟩]; exact pr_1 I v, rfl, rfl, by unfold rPrice; rw [if_neg (by omega), if_neg (by omega), if_neg (by split <;> omega)]; rfl⟩
          · refine lv_iload_n hx hb dX0_price_51 rfl (lv_at hl 1 rfl) ?_
            refine x_if_ne (tgt := 62) hx hb dX0_price_52 (by decide) ⟨by decide, by decide⟩ (fun c51 => ?_) (fun c51 => by exfalso; omega)
            refine lv_iload_n hx hb dX0_price_62 rfl (lv_at hl 1 rfl) ?_
            refine lv_iconst (v := iI 1) hx hb dX0_price_63 rfl ?_
            refine x_icmp_ne (tgt := 74) hx hb dX0_price_64 (by decide) ⟨by decide, by decide⟩ ⟨by decide, by decide⟩ (fun c52 => ?_) (fun c52 => by exfalso; omega)
            refine lv_aload_n hx hb dX0_price_74 rfl (lv_at hl 0 rfl) ?_
            refine b_get C hB 9 (by decide) q304 (v := .int (iI (I 9))) rfl rfl dX0_price_75 ?_
            refine lv_istore_n (lv' := [(3, .int (iI (I 9))), (0, .ref o), (1, .int (iI 2)), (2, .int (iI v))]) hx hb dX0_price_78 rfl hl (by decide) rfl (fun ls hl => ?_)
            refine lv_aload_n hx hb dX0_price_79 rfl (lv_at hl 1 rfl) ?_
            refine lv_iload_n hx hb dX0_price_80 rfl (lv_at hl 2 rfl) ?_
            refine x_if_ne (tgt := 88) hx hb dX0_price_81 (by decide) ⟨by decide, by decide⟩ (fun c53 => ?_) (fun c53 => by exfalso; omega)
            refine lv_aload_n hx hb dX0_price_88 rfl (lv_at hl 1 rfl) ?_
            refine b_get C hB 7 (by decide) q301 (v := .int (iI (I 7))) rfl rfl dX0_price_89 ?_
            refine b_put C hB 7 7 (by decide) rfl q301 rfl rfl rfl dX0_price_92 (fun H locs hB => ?_)
            refine lv_aload_n hx hb dX0_price_95 rfl (lv_at hl 1 rfl) ?_
            refine lv_iload_n hx hb dX0_price_96 rfl (lv_at hl 2 rfl) ?_
            refine lv_iconst (v := iI 1) hx hb dX0_price_97 rfl ?_
            refine x_icmp_ne (tgt := 105) hx hb dX0_price_98 (by decide) ⟨by decide, by decide⟩ ⟨by decide, by decide⟩ (fun c54 => ?_) (fun c54 => by exfalso; omega)
            refine lv_aload_n hx hb dX0_price_105 rfl (lv_at hl 1 rfl) ?_
            refine b_get C hB 8 (by decide) q302 (v := .int (iI (I 8))) rfl rfl dX0_price_106 ?_
            refine b_put C hB 8 8 (by decide) rfl q302 rfl rfl rfl dX0_price_109 (fun H locs hB => ?_)
            refine lv_aload_n hx hb dX0_price_112 rfl (lv_at hl 1 rfl) ?_
            refine lv_iload_n hx hb dX0_price_113 rfl (lv_at hl 2 rfl) ?_
            refine lv_iconst (v := iI 2) hx hb dX0_price_114 rfl ?_
            refine x_icmp_ne (tgt := 122) hx hb dX0_price_115 (by decide) ⟨by decide, by decide⟩ ⟨by decide, by decide⟩ (fun c55 => by exfalso; omega) (fun c55 => ?_)
            refine lv_iload_n hx hb dX0_price_118 rfl (lv_at hl 3 rfl) ?_
            refine lv_goto (tgt := 126) hx hb dX0_price_119 (by decide) ?_
            refine b_put C hB 9 9 (by decide) rfl q304 rfl rfl rfl dX0_price_126 (fun H locs hB => ?_)
            refine lv_iload_n hx hb dX0_price_129 rfl (lv_at hl 0 rfl) ?_
            exact b_iret C hB hr hlocks rfl dX0_price_130 (Nat.le_of_ble_eq_true rfl) (Nat.le_of_ble_eq_true rfl) ⟨by omega, by omega⟩ ⟨rfl, by unfold nPrice; rw [if_pos ⟨by omega, by omega, by omega, by split <;> omega⟩]; exact pr_2 I v, rfl, rfl, by unfold rPrice; rw [if_neg (by omega), if_neg (by omega), if_neg (by split <;> omega)]; rfl⟩
        · refine x_if_ne (tgt := 51) hx hb dX0_price_45 (by decide) ⟨by decide, by decide⟩ (fun c56 => by exfalso; omega) (fun c56 => ?_)
          refine lv_bipush (v := iI (-2)) hx hb dX0_price_48 rfl ?_
          exact b_iret C hB hr hlocks rfl dX0_price_50 (Nat.le_of_ble_eq_true rfl) (Nat.le_of_ble_eq_true rfl) ⟨by decide, by decide⟩ ⟨rfl, by unfold nPrice; rw [if_neg (by intro q; obtain ⟨q1, q2, q3, q4⟩ := q; split at q4 <;> omega)], rfl, rfl, by unfold rPrice; (repeat' split) <;> omega⟩
  · refine x_if_ne (tgt := 15) hx hb dX0_price_9 (by decide) ⟨by decide, by decide⟩ (fun c57 => by exfalso; omega) (fun c57 => ?_)
    refine lv_bipush (v := iI (-2)) hx hb dX0_price_12 rfl ?_
    exact b_iret C hB hr hlocks rfl dX0_price_14 (Nat.le_of_ble_eq_true rfl) (Nat.le_of_ble_eq_true rfl) ⟨by decide, by decide⟩ ⟨rfl, by unfold nPrice; rw [if_neg (by intro q; obtain ⟨q1, q2, q3, q4⟩ := q; split at q4 <;> omega)], rfl, rfl, by unfold rPrice; (repeat' split) <;> omega⟩
set_option maxHeartbeats 800000 in
set_option maxRecDepth 100000 in
theorem kX0_by (l : Launch) (E : xE) (o : Nat) (Ad : Nat → Nat) (I : Nat → Int) (F : Nat → Nat → Int) (X : xw) (wd : Int) (hwd : rg wd) (hOK : mOK I F) : ci_ l E yX0_by cX0_by 2 (some .int) 8 186 0 0 [.ref o, .int (iI wd)] o Ad I F X (fun z Ad' I' F' X' => Ad = Ad' ∧ I = I' ∧ X = X' ∧ (∃ g1 g2 g3, up3 F g1 g2 g3 = F') ∧ z = rByO I F wd) := by
  intro w hI hd sz
  refine x_bodyz (by decide) (Nat.le_of_ble_eq_true rfl) ?_
  intro p e s m args below meth c ls hx hb C hr hlocks hin hsz hZ hB hl
  have C : xC E p s m args c cX0_by 2 RX0 := C
  replace hB : xBB E (xA (wU w X) sz) s o Ad I F X s.heap [] := ⟨w, hI, hd, hB⟩
  have hl : lv_has ls 2 [(0, .ref o), (1, .int (iI wd))] := hl
  have hOK0 := hOK
  obtain ⟨⟨hf1, hf2⟩, ⟨hl1, hl2⟩, ⟨hr1, hr2⟩, hlr, ⟨hs1, hs2⟩, ⟨hj1, hj2⟩, ⟨hb1, hb2⟩, ⟨hn1, hn2⟩, hL, hR, hN, hS, hC⟩ := hOK
  obtain ⟨hwd1, hwd2⟩ := hwd
  refine lv_iload_n hx hb dX0_by_0 rfl (lv_at hl 1 rfl) ?_
  refine x_i2l hx hb dX0_by_1 ⟨by omega, by omega⟩ ?_
  refine lv_lconst (v := lI 0) hx hb dX0_by_2 rfl ?_
  refine lv_ldc2 hx hb C.1.2.2.2.1 (C.1.2.2.2.2 _ q288) dX0_by_3 ?_
  refine x_rwl (y := lI 7) (by decide) ?_
  refine bs_calli (n := 3) C hB (As := [.long (lI wd), .long (lI 0), .long (lI 7)]) (kX0_in l E wd 0 7 ⟨by omega, by omega⟩ ⟨by omega, by omega⟩ ⟨by omega, by omega⟩) (lw_S q234 q235 q68 q236) (by decide +kernel) ⟨Nat.le_of_ble_eq_true rfl, Nat.le_of_ble_eq_true rfl⟩ rfl hl.1 rfl (Nat.le_of_ble_eq_true rfl) dX0_by_6 ⟨Nat.le_of_ble_eq_true rfl, Nat.le_of_ble_eq_true rfl⟩ (fun z1 H locs hz2 hp3 hB => ?_)
  obtain ⟨hz2a, hz2b⟩ := hz2
  rcases hp3 with ⟨rfl, h4⟩ | ⟨rfl, h4⟩
  · refine x_if_ne (tgt := 15) hx hb dX0_by_9 (by decide) ⟨by decide, by decide⟩ (fun c5 => ?_) (fun c5 => by exfalso; omega)
    refine lv_aload_n hx hb dX0_by_15 rfl (lv_at hl 0 rfl) ?_
    refine b_calli 0 0 (Nat.le_of_ble_eq_true rfl) (Nat.le_of_ble_eq_true rfl) hB (fun w hI hd hB => rV (As := []) (n := 0) C hZ hB (kX0_noBooks l E o Ad I F X hOK0 w hI hd _) (lw_V q275 q277 qs11 q68 q278) (by decide +kernel) ⟨Nat.le_of_ble_eq_true rfl, Nat.le_of_ble_eq_true rfl⟩ (wU_l hI.x) rfl rfl rfl hl.1 rfl (Nat.le_of_ble_eq_true rfl) dX0_by_16 ⟨Nat.le_of_ble_eq_true rfl, Nat.le_of_ble_eq_true rfl⟩) (fun z6 Ad7 I8 F9 X10 H locs hz11 hp12 hB => ?_)
    obtain ⟨hz11a, hz11b⟩ := hz11
    obtain ⟨rfl, rfl, rfl, rfl, ⟨rfl, h13⟩ | ⟨rfl, h13⟩⟩ := hp12
    · refine x_if_eq (tgt := 27) hx hb dX0_by_19 (by decide) ⟨by decide, by decide⟩ (fun c14 => by exfalso; omega) (fun c14 => ?_)
      refine lv_bipush (v := iI (-3)) hx hb dX0_by_22 rfl ?_
      refine lv_goto (tgt := 35) hx hb dX0_by_24 (by decide) ?_
      exact b_iret C hB hr hlocks rfl dX0_by_35 (Nat.le_of_ble_eq_true rfl) (Nat.le_of_ble_eq_true rfl) ⟨by decide, by decide⟩ ⟨rfl, rfl, rfl, ⟨_, _, _, up3_id F⟩, by unfold rByO rBy; (repeat' split) <;> omega⟩
    · refine x_if_eq (tgt := 27) hx hb dX0_by_19 (by decide) ⟨by decide, by decide⟩ (fun c15 => ?_) (fun c15 => by exfalso; omega)
      refine lv_aload_n hx hb dX0_by_27 rfl (lv_at hl 0 rfl) ?_
      refine lv_iload_n hx hb dX0_by_28 rfl (lv_at hl 1 rfl) ?_
      rw [← up3_id F] at hB
      refine b_calli 0 0 (Nat.le_of_ble_eq_true rfl) (Nat.le_of_ble_eq_true rfl) hB (fun w hI hd hB => rV (As := [.int (iI wd)]) (n := 1) C hZ hB (kX0_aligns l E o Ad I F (F 21) (F 22) (F 23) X wd (by omega) hOK0 w hI hd _) (lw_V q603 q432 qs13 q68 q433) (by decide +kernel) ⟨Nat.le_of_ble_eq_true rfl, Nat.le_of_ble_eq_true rfl⟩ (wU_l hI.x) rfl rfl rfl hl.1 rfl (Nat.le_of_ble_eq_true rfl) dX0_by_29 ⟨Nat.le_of_ble_eq_true rfl, Nat.le_of_ble_eq_true rfl⟩) (fun z16 Ad17 I18 F19 X20 H locs hz21 hp22 hB => ?_)
      obtain ⟨hz21a, hz21b⟩ := hz21
      obtain ⟨rfl, rfl, rfl, g23, g24, g25, rfl, ht26, rfl⟩ := hp22
      have hVht26 : VB 840 (DT I F wd 0 0) := VBD (by omega) (by omega) (csM60 hOK0) (by omega) (by omega)
      have hbht26 : 0 ≤ (DT I F wd 0 0).1 ∧ (DT I F wd 0 0).1 ≤ 100000 := by unfold VB at hVht26; omega
      refine bs_calli (n := 1) C hB (As := [.int (iI ((DT I F wd 0 0).1))]) (kX0_orNone l E ((DT I F wd 0 0).1) ⟨by omega, by omega⟩) (lw_S q623 q624 q68 q625) (by decide +kernel) ⟨Nat.le_of_ble_eq_true rfl, Nat.le_of_ble_eq_true rfl⟩ rfl hl.1 rfl (Nat.le_of_ble_eq_true rfl) dX0_by_32 ⟨Nat.le_of_ble_eq_true rfl, Nat.le_of_ble_eq_true rfl⟩ (fun z27 H locs hz28 hp29 hB => ?_)
      obtain ⟨hz28a, hz28b⟩ := hz28
      subst hp29
      exact b_iret C hB hr hlocks rfl dX0_by_35 (Nat.le_of_ble_eq_true rfl) (Nat.le_of_ble_eq_true rfl) ⟨by omega, by omega⟩ ⟨rfl, rfl, rfl, ⟨_, _, _, rfl⟩, by unfold rByO rBy; (repeat' split) <;> omega⟩
  · refine x_if_ne (tgt := 15) hx hb dX0_by_9 (by decide) ⟨by decide, by decide⟩ (fun c30 => by exfalso; omega) (fun c30 => ?_)
    refine lv_bipush (v := iI (-2)) hx hb dX0_by_12 rfl ?_
    exact b_iret C hB hr hlocks rfl dX0_by_14 (Nat.le_of_ble_eq_true rfl) (Nat.le_of_ble_eq_true rfl) ⟨by decide, by decide⟩ ⟨rfl, rfl, rfl, ⟨_, _, _, up3_id F⟩, by unfold rByO rBy; (repeat' split) <;> omega⟩
set_option maxHeartbeats 800000 in
set_option maxRecDepth 100000 in
theorem kX0_cost (l : Launch) (E : xE) (o : Nat) (Ad : Nat → Nat) (I : Nat → Int) (F : Nat → Nat → Int) (X : xw) (so : Int) (ax : Int) (bx : Int) (hso : rg so) (hax : rg ax) (hbx : rg bx) (hOK : mOK I F) : ci_ l E yX0_cost cX0_cost 6 (some .int) 6 136 0 0 [.ref o, .int (iI so), .int (iI ax), .int (iI bx)] o Ad I F X (fun z Ad' I' F' X' => Ad = Ad' ∧ I = I' ∧ F = F' ∧ X = X' ∧ z = rCost I F so ax bx) := by
  intro w hI hd sz
  refine x_bodyz (by decide) (Nat.le_of_ble_eq_true rfl) ?_
  intro p e s m args below meth c ls hx hb C hr hlocks hin hsz hZ hB hl
  have C : xC E p s m args c cX0_cost 6 RX0 := C
  replace hB : xBB E (xA (wU w X) sz) s o Ad I F X s.heap [] := ⟨w, hI, hd, hB⟩
  have hl : lv_has ls 6 [(0, .ref o), (1, .int (iI so)), (2, .int (iI ax)), (3, .int (iI bx))] := hl
  have hOK0 := hOK
  obtain ⟨⟨hf1, hf2⟩, ⟨hl1, hl2⟩, ⟨hr1, hr2⟩, hlr, ⟨hs1, hs2⟩, ⟨hj1, hj2⟩, ⟨hb1, hb2⟩, ⟨hn1, hn2⟩, hL, hR, hN, hS, hC⟩ := hOK
  obtain ⟨hso1, hso2⟩ := hso
  obtain ⟨hax1, hax2⟩ := hax
  obtain ⟨hbx1, hbx2⟩ := hbx
  refine lv_iload_n hx hb dX0_cost_0 rfl (lv_at hl 1 rfl) ?_
  refine x_i2l hx hb dX0_cost_1 ⟨by omega, by omega⟩ ?_
  refine lv_lconst (v := lI 0) hx hb dX0_cost_2 rfl ?_
  refine lv_ldc2 hx hb C.1.2.2.2.1 (C.1.2.2.2.2 _ q359) dX0_cost_3 ?_
  refine x_rwl (y := lI 4) (by decide) ?_
  refine bs_calli (n := 3) C hB (As := [.long (lI so), .long (lI 0), .long (lI 4)]) (kX0_in l E so 0 4 ⟨by omega, by omega⟩ ⟨by omega, by omega⟩ ⟨by omega, by omega⟩) (lw_S q234 q235 q68 q236) (by decide +kernel) ⟨Nat.le_of_ble_eq_true rfl, Nat.le_of_ble_eq_true rfl⟩ rfl hl.1 rfl (Nat.le_of_ble_eq_true rfl) dX0_cost_6 ⟨Nat.le_of_ble_eq_true rfl, Nat.le_of_ble_eq_true rfl⟩ (fun z1 H locs hz2 hp3 hB => ?_)
  obtain ⟨hz2a, hz2b⟩ := hz2
  rcases hp3 with ⟨rfl, h4⟩ | ⟨rfl, h4⟩
  · refine x_if_ne (tgt := 15) hx hb dX0_cost_9 (by decide) ⟨by decide, by decide⟩ (fun c5 => ?_) (fun c5 => by exfalso; omega)
    rcases (show so = 0 ∨ so = 1 ∨ so = 2 ∨ so = 3 ∨ so = 4 by omega) with rfl | rfl | rfl | rfl | rfl
    · refine lv_iload_n hx hb dX0_cost_15 rfl (lv_at hl 1 rfl) ?_
      refine bs_calli (n := 1) C hB (As := [.int (iI 0)]) (kX0_leftOf l E 0 ⟨by omega, by omega⟩) (lw_S q360 q361 q68 q362) (by decide +kernel) ⟨Nat.le_of_ble_eq_true rfl, Nat.le_of_ble_eq_true rfl⟩ rfl hl.1 rfl (Nat.le_of_ble_eq_true rfl) dX0_cost_16 ⟨Nat.le_of_ble_eq_true rfl, Nat.le_of_ble_eq_true rfl⟩ (fun z6 H locs hz7 hp8 hB => ?_)
      obtain ⟨hz7a, hz7b⟩ := hz7
      obtain rfl : z6 = 1 := by omega
      refine x_if_le (tgt := 50) hx hb dX0_cost_19 (by decide) ⟨by decide, by decide⟩ (fun c9 => by exfalso; omega) (fun c9 => ?_)
      refine lv_iload_n hx hb dX0_cost_22 rfl (lv_at hl 2 rfl) ?_
      refine x_i2l hx hb dX0_cost_23 ⟨by omega, by omega⟩ ?_
      refine lv_lconst (v := lI 0) hx hb dX0_cost_24 rfl ?_
      refine lv_aload_n hx hb dX0_cost_25 rfl (lv_at hl 0 rfl) ?_
      refine b_get C hB 3 (by decide) q296 (v := .ref (Ad 4)) rfl rfl dX0_cost_26 ?_
      refine b_size C hZ hB (n := I 5) (ed := Ad 30) (fun w hI _ => wU_l (hI.at (r := 4) rfl)) (by omega) q242 ⟨Nat.le_of_ble_eq_true rfl, Nat.le_of_ble_eq_true rfl⟩ hl.1 (Nat.le_of_ble_eq_true rfl) dX0_cost_29 ⟨Nat.le_of_ble_eq_true rfl, Nat.le_of_ble_eq_true rfl⟩ (fun H locs hB => ?_)
      refine lv_iload_n hx hb dX0_cost_34 rfl (lv_at hl 1 rfl) ?_
      refine bs_calli (n := 1) C hB (As := [.int (iI 0)]) (kX0_leftOf l E 0 ⟨by omega, by omega⟩) (lw_S q360 q361 q68 q362) (by decide +kernel) ⟨Nat.le_of_ble_eq_true rfl, Nat.le_of_ble_eq_true rfl⟩ rfl hl.1 rfl (Nat.le_of_ble_eq_true rfl) dX0_cost_35 ⟨Nat.le_of_ble_eq_true rfl, Nat.le_of_ble_eq_true rfl⟩ (fun z10 H locs hz11 hp12 hB => ?_)
      obtain ⟨hz11a, hz11b⟩ := hz11
      obtain rfl : z10 = 1 := by omega
      refine x_isub (z := I 5 - 1) hx hb dX0_cost_38 (by omega) ?_
      refine x_i2l hx hb dX0_cost_39 ⟨by omega, by omega⟩ ?_
      refine bs_calli (n := 3) C hB (As := [.long (lI ax), .long (lI 0), .long (lI (I 5 - 1))]) (kX0_in l E ax 0 (I 5 - 1) ⟨by omega, by omega⟩ ⟨by omega, by omega⟩ ⟨by omega, by omega⟩) (lw_S q234 q235 q68 q236) (by decide +kernel) ⟨Nat.le_of_ble_eq_true rfl, Nat.le_of_ble_eq_true rfl⟩ rfl hl.1 rfl (Nat.le_of_ble_eq_true rfl) dX0_cost_40 ⟨Nat.le_of_ble_eq_true rfl, Nat.le_of_ble_eq_true rfl⟩ (fun z13 H locs hz14 hp15 hB => ?_)
      obtain ⟨hz14a, hz14b⟩ := hz14
      rcases hp15 with ⟨rfl, h16⟩ | ⟨rfl, h16⟩
      · refine x_if_ne (tgt := 50) hx hb dX0_cost_43 (by decide) ⟨by decide, by decide⟩ (fun c17 => ?_) (fun c17 => by exfalso; omega)
        refine lv_iconst (v := iI 0) hx hb dX0_cost_50 rfl ?_
        refine lv_istore (lv' := [(4, .int (iI 0)), (0, .ref o), (1, .int (iI 0)), (2, .int (iI ax)), (3, .int (iI bx))]) hx hb dX0_cost_51 hl (by decide) rfl (fun ls hl => ?_)
        refine lv_iload_n hx hb dX0_cost_53 rfl (lv_at hl 2 rfl) ?_
        refine bs_calli (n := 1) C hB (As := [.int (iI 0)]) (kX0_rightOf l E 0 ⟨by omega, by omega⟩) (lw_S q363 q364 q68 q365) (by decide +kernel) ⟨Nat.le_of_ble_eq_true rfl, Nat.le_of_ble_eq_true rfl⟩ rfl hl.1 rfl (Nat.le_of_ble_eq_true rfl) dX0_cost_54 ⟨Nat.le_of_ble_eq_true rfl, Nat.le_of_ble_eq_true rfl⟩ (fun z18 H locs hz19 hp20 hB => ?_)
        obtain ⟨hz19a, hz19b⟩ := hz19
        obtain rfl : z18 = 1 := by omega
        refine x_if_le (tgt := 83) hx hb dX0_cost_57 (by decide) ⟨by decide, by decide⟩ (fun c21 => by exfalso; omega) (fun c21 => ?_)
        refine lv_iload_n hx hb dX0_cost_60 rfl (lv_at hl 4 rfl) ?_
        refine x_i2l hx hb dX0_cost_61 ⟨by omega, by omega⟩ ?_
        refine lv_lconst (v := lI 0) hx hb dX0_cost_62 rfl ?_
        refine lv_aload_n hx hb dX0_cost_63 rfl (lv_at hl 1 rfl) ?_
        refine b_get C hB 4 (by decide) q298 (v := .int (iI (I 6))) rfl rfl dX0_cost_64 ?_
        refine lv_iload_n hx hb dX0_cost_67 rfl (lv_at hl 2 rfl) ?_
        refine bs_calli (n := 1) C hB (As := [.int (iI 0)]) (kX0_rightOf l E 0 ⟨by omega, by omega⟩) (lw_S q363 q364 q68 q365) (by decide +kernel) ⟨Nat.le_of_ble_eq_true rfl, Nat.le_of_ble_eq_true rfl⟩ rfl hl.1 rfl (Nat.le_of_ble_eq_true rfl) dX0_cost_68 ⟨Nat.le_of_ble_eq_true rfl, Nat.le_of_ble_eq_true rfl⟩ (fun z22 H locs hz23 hp24 hB => ?_)
        obtain ⟨hz23a, hz23b⟩ := hz23
        obtain rfl : z22 = 1 := by omega
        refine x_isub (z := I 6 - 1) hx hb dX0_cost_71 (by omega) ?_
        refine x_i2l hx hb dX0_cost_72 ⟨by omega, by omega⟩ ?_
        refine bs_calli (n := 3) C hB (As := [.long (lI bx), .long (lI 0), .long (lI (I 6 - 1))]) (kX0_in l E bx 0 (I 6 - 1) ⟨by omega, by omega⟩ ⟨by omega, by omega⟩ ⟨by omega, by omega⟩) (lw_S q234 q235 q68 q236) (by decide +kernel) ⟨Nat.le_of_ble_eq_true rfl, Nat.le_of_ble_eq_true rfl⟩ rfl hl.1 rfl (Nat.le_of_ble_eq_true rfl) dX0_cost_73 ⟨Nat.le_of_ble_eq_true rfl, Nat.le_of_ble_eq_true rfl⟩ (fun z25 H locs hz26 hp27 hB => ?_)
        obtain ⟨hz26a, hz26b⟩ := hz26
        rcases hp27 with ⟨rfl, h28⟩ | ⟨rfl, h28⟩
        · refine x_if_ne (tgt := 83) hx hb dX0_cost_76 (by decide) ⟨by decide, by decide⟩ (fun c29 => ?_) (fun c29 => by exfalso; omega)
          refine lv_iconst (v := iI 0) hx hb dX0_cost_83 rfl ?_
          refine lv_istore (lv' := [(5, .int (iI 0)), (4, .int (iI 0)), (0, .ref o), (1, .int (iI 0)), (2, .int (iI ax)), (3, .int (iI bx))]) hx hb dX0_cost_84 hl (by decide) rfl (fun ls hl => ?_)
          refine lv_iload hx hb dX0_cost_86 (lv_at hl 1 rfl) ?_
          refine x_if_ne (tgt := 96) hx hb dX0_cost_88 (by decide) ⟨by decide, by decide⟩ (fun c30 => by exfalso; omega) (fun c30 => ?_)
          refine lv_iload hx hb dX0_cost_91 (lv_at hl 0 rfl) ?_
          refine x_if_eq (tgt := 100) hx hb dX0_cost_93 (by decide) ⟨by decide, by decide⟩ (fun c31 => ?_) (fun c31 => by exfalso; omega)
          obtain ⟨ka, rfl⟩ : ∃ ka : Nat, ax = (ka : Int) := ⟨ax.toNat, by omega⟩
          obtain ⟨kb, rfl⟩ : ∃ kb : Nat, bx = (kb : Int) := ⟨bx.toNat, by omega⟩
          refine lv_aload_n hx hb dX0_cost_100 rfl (lv_at hl 2 rfl) ?_
          refine b_get C hB 0 (by decide) q290 (v := .ref (Ad 1)) rfl rfl dX0_cost_101 ?_
          refine lv_iload_n hx hb dX0_cost_104 rfl (lv_at hl 3 rfl) ?_
          refine r_aald C hB 1 4 rfl rfl 0 rfl (by omega) (by omega) (v := some (Ad (50 + 0))) (if_pos (by omega)) dX0_cost_105 ?_
          refine r_getN C hB (50 + 0) (C0_so (by omega)) rfl in_X1 0 (by decide) q209 (fun x h => h) rfl dX0_cost_106 ?_
          refine lv_iload_n hx hb dX0_cost_109 rfl (lv_at hl 4 rfl) ?_
          refine lv_iload_n hx hb dX0_cost_110 rfl (lv_at hl 5 rfl) ?_
          refine b_cost l C hZ hB 0 (by omega) ka kb (fun _ => by unfold lo; (repeat' split) <;> omega) (fun _ => by unfold ro; (repeat' split) <;> omega) hOK0 q367 ⟨Nat.le_of_ble_eq_true rfl, Nat.le_of_ble_eq_true rfl⟩ hl.1 (Nat.le_of_ble_eq_true rfl) dX0_cost_111 ⟨Nat.le_of_ble_eq_true rfl, Nat.le_of_ble_eq_true rfl⟩ (fun H locs hcra hcrb hB => ?_)
          exact b_iret C hB hr hlocks rfl dX0_cost_116 (Nat.le_of_ble_eq_true rfl) (Nat.le_of_ble_eq_true rfl) ⟨by omega, by omega⟩ ⟨rfl, rfl, rfl, rfl, by unfold rCost; rw [if_neg (by omega), show lo 0 = 1 by decide, show ro 0 = 1 by decide, if_pos (by omega)]; rfl⟩
        · refine x_if_ne (tgt := 83) hx hb dX0_cost_76 (by decide) ⟨by decide, by decide⟩ (fun c32 => by exfalso; omega) (fun c32 => ?_)
          refine lv_iconst (v := iI 1) hx hb dX0_cost_79 rfl ?_
          refine lv_goto (tgt := 84) hx hb dX0_cost_80 (by decide) ?_
          refine lv_istore (lv' := [(5, .int (iI 1)), (4, .int (iI 0)), (0, .ref o), (1, .int (iI 0)), (2, .int (iI ax)), (3, .int (iI bx))]) hx hb dX0_cost_84 hl (by decide) rfl (fun ls hl => ?_)
          refine lv_iload hx hb dX0_cost_86 (lv_at hl 1 rfl) ?_
          refine x_if_ne (tgt := 96) hx hb dX0_cost_88 (by decide) ⟨by decide, by decide⟩ (fun c33 => by exfalso; omega) (fun c33 => ?_)
          refine lv_iload hx hb dX0_cost_91 (lv_at hl 0 rfl) ?_
          refine x_if_eq (tgt := 100) hx hb dX0_cost_93 (by decide) ⟨by decide, by decide⟩ (fun c34 => by exfalso; omega) (fun c34 => ?_)
          refine lv_iconst (v := iI (-1)) hx hb dX0_cost_96 rfl ?_
          refine lv_goto (tgt := 116) hx hb dX0_cost_97 (by decide) ?_
          exact b_iret C hB hr hlocks rfl dX0_cost_116 (Nat.le_of_ble_eq_true rfl) (Nat.le_of_ble_eq_true rfl) ⟨by decide, by decide⟩ ⟨rfl, rfl, rfl, rfl, by unfold rCost; rw [if_neg (by omega), show lo 0 = 1 by decide, show ro 0 = 1 by decide, if_neg (by omega)]⟩
      · refine x_if_ne (tgt := 50) hx hb dX0_cost_43 (by decide) ⟨by decide, by decide⟩ (fun c35 => by exfalso; omega) (fun c35 => ?_)
        refine lv_iconst (v := iI 1) hx hb dX0_cost_46 rfl ?_
        refine lv_goto (tgt := 51) hx hb dX0_cost_47 (by decide) ?_
        refine lv_istore (lv' := [(4, .int (iI 1)), (0, .ref o), (1, .int (iI 0)), (2, .int (iI ax)), (3, .int (iI bx))]) hx hb dX0_cost_51 hl (by decide) rfl (fun ls hl => ?_)
        refine lv_iload_n hx hb dX0_cost_53 rfl (lv_at hl 2 rfl) ?_
        refine bs_calli (n := 1) C hB (As := [.int (iI 0)]) (kX0_rightOf l E 0 ⟨by omega, by omega⟩) (lw_S q363 q364 q68 q365) (by decide +kernel) ⟨Nat.le_of_ble_eq_true rfl, Nat.le_of_ble_eq_true rfl⟩ rfl hl.1 rfl (Nat.le_of_ble_eq_true rfl) dX0_cost_54 ⟨Nat.le_of_ble_eq_true rfl, Nat.le_of_ble_eq_true rfl⟩ (fun z36 H locs hz37 hp38 hB => ?_)
        obtain ⟨hz37a, hz37b⟩ := hz37
        obtain rfl : z36 = 1 := by omega
        refine x_if_le (tgt := 83) hx hb dX0_cost_57 (by decide) ⟨by decide, by decide⟩ (fun c39 => by exfalso; omega) (fun c39 => ?_)
        refine lv_iload_n hx hb dX0_cost_60 rfl (lv_at hl 4 rfl) ?_
        refine x_i2l hx hb dX0_cost_61 ⟨by omega, by omega⟩ ?_
        refine lv_lconst (v := lI 0) hx hb dX0_cost_62 rfl ?_
        refine lv_aload_n hx hb dX0_cost_63 rfl (lv_at hl 1 rfl) ?_
        refine b_get C hB 4 (by decide) q298 (v := .int (iI (I 6))) rfl rfl dX0_cost_64 ?_
        refine lv_iload_n hx hb dX0_cost_67 rfl (lv_at hl 2 rfl) ?_
        refine bs_calli (n := 1) C hB (As := [.int (iI 0)]) (kX0_rightOf l E 0 ⟨by omega, by omega⟩) (lw_S q363 q364 q68 q365) (by decide +kernel) ⟨Nat.le_of_ble_eq_true rfl, Nat.le_of_ble_eq_true rfl⟩ rfl hl.1 rfl (Nat.le_of_ble_eq_true rfl) dX0_cost_68 ⟨Nat.le_of_ble_eq_true rfl, Nat.le_of_ble_eq_true rfl⟩ (fun z40 H locs hz41 hp42 hB => ?_)
        obtain ⟨hz41a, hz41b⟩ := hz41
        obtain rfl : z40 = 1 := by omega
        refine x_isub (z := I 6 - 1) hx hb dX0_cost_71 (by omega) ?_
        refine x_i2l hx hb dX0_cost_72 ⟨by omega, by omega⟩ ?_
        refine bs_calli (n := 3) C hB (As := [.long (lI bx), .long (lI 0), .long (lI (I 6 - 1))]) (kX0_in l E bx 0 (I 6 - 1) ⟨by omega, by omega⟩ ⟨by omega, by omega⟩ ⟨by omega, by omega⟩) (lw_S q234 q235 q68 q236) (by decide +kernel) ⟨Nat.le_of_ble_eq_true rfl, Nat.le_of_ble_eq_true rfl⟩ rfl hl.1 rfl (Nat.le_of_ble_eq_true rfl) dX0_cost_73 ⟨Nat.le_of_ble_eq_true rfl, Nat.le_of_ble_eq_true rfl⟩ (fun z43 H locs hz44 hp45 hB => ?_)
        obtain ⟨hz44a, hz44b⟩ := hz44
        rcases hp45 with ⟨rfl, h46⟩ | ⟨rfl, h46⟩
        · refine x_if_ne (tgt := 83) hx hb dX0_cost_76 (by decide) ⟨by decide, by decide⟩ (fun c47 => ?_) (fun c47 => by exfalso; omega)
          refine lv_iconst (v := iI 0) hx hb dX0_cost_83 rfl ?_
          refine lv_istore (lv' := [(5, .int (iI 0)), (4, .int (iI 1)), (0, .ref o), (1, .int (iI 0)), (2, .int (iI ax)), (3, .int (iI bx))]) hx hb dX0_cost_84 hl (by decide) rfl (fun ls hl => ?_)
          refine lv_iload hx hb dX0_cost_86 (lv_at hl 1 rfl) ?_
          refine x_if_ne (tgt := 96) hx hb dX0_cost_88 (by decide) ⟨by decide, by decide⟩ (fun c48 => ?_) (fun c48 => by exfalso; omega)
          refine lv_iconst (v := iI (-1)) hx hb dX0_cost_96 rfl ?_
          refine lv_goto (tgt := 116) hx hb dX0_cost_97 (by decide) ?_
          exact b_iret C hB hr hlocks rfl dX0_cost_116 (Nat.le_of_ble_eq_true rfl) (Nat.le_of_ble_eq_true rfl) ⟨by decide, by decide⟩ ⟨rfl, rfl, rfl, rfl, by unfold rCost; rw [if_neg (by omega), show lo 0 = 1 by decide, show ro 0 = 1 by decide, if_neg (by omega)]⟩
        · refine x_if_ne (tgt := 83) hx hb dX0_cost_76 (by decide) ⟨by decide, by decide⟩ (fun c49 => by exfalso; omega) (fun c49 => ?_)
          refine lv_iconst (v := iI 1) hx hb dX0_cost_79 rfl ?_
          refine lv_goto (tgt := 84) hx hb dX0_cost_80 (by decide) ?_
          refine lv_istore (lv' := [(5, .int (iI 1)), (4, .int (iI 1)), (0, .ref o), (1, .int (iI 0)), (2, .int (iI ax)), (3, .int (iI bx))]) hx hb dX0_cost_84 hl (by decide) rfl (fun ls hl => ?_)
          refine lv_iload hx hb dX0_cost_86 (lv_at hl 1 rfl) ?_
          refine x_if_ne (tgt := 96) hx hb dX0_cost_88 (by decide) ⟨by decide, by decide⟩ (fun c50 => ?_) (fun c50 => by exfalso; omega)
          refine lv_iconst (v := iI (-1)) hx hb dX0_cost_96 rfl ?_
          refine lv_goto (tgt := 116) hx hb dX0_cost_97 (by decide) ?_
          exact b_iret C hB hr hlocks rfl dX0_cost_116 (Nat.le_of_ble_eq_true rfl) (Nat.le_of_ble_eq_true rfl) ⟨by decide, by decide⟩ ⟨rfl, rfl, rfl, rfl, by unfold rCost; rw [if_neg (by omega), show lo 0 = 1 by decide, show ro 0 = 1 by decide, if_neg (by omega)]⟩
    · refine lv_iload_n hx hb dX0_cost_15 rfl (lv_at hl 1 rfl) ?_
      refine bs_calli (n := 1) C hB (As := [.int (iI 1)]) (kX0_leftOf l E 1 ⟨by omega, by omega⟩) (lw_S q360 q361 q68 q362) (by decide +kernel) ⟨Nat.le_of_ble_eq_true rfl, Nat.le_of_ble_eq_true rfl⟩ rfl hl.1 rfl (Nat.le_of_ble_eq_true rfl) dX0_cost_16 ⟨Nat.le_of_ble_eq_true rfl, Nat.le_of_ble_eq_true rfl⟩ (fun z51 H locs hz52 hp53 hB => ?_)
      obtain ⟨hz52a, hz52b⟩ := hz52
      obtain rfl : z51 = 1 := by omega
      refine x_if_le (tgt := 50) hx hb dX0_cost_19 (by decide) ⟨by decide, by decide⟩ (fun c54 => by exfalso; omega) (fun c54 => ?_)
      refine lv_iload_n hx hb dX0_cost_22 rfl (lv_at hl 2 rfl) ?_
      refine x_i2l hx hb dX0_cost_23 ⟨by omega, by omega⟩ ?_
      refine lv_lconst (v := lI 0) hx hb dX0_cost_24 rfl ?_
      refine lv_aload_n hx hb dX0_cost_25 rfl (lv_at hl 0 rfl) ?_
      refine b_get C hB 3 (by decide) q296 (v := .ref (Ad 4)) rfl rfl dX0_cost_26 ?_
      refine b_size C hZ hB (n := I 5) (ed := Ad 30) (fun w hI _ => wU_l (hI.at (r := 4) rfl)) (by omega) q242 ⟨Nat.le_of_ble_eq_true rfl, Nat.le_of_ble_eq_true rfl⟩ hl.1 (Nat.le_of_ble_eq_true rfl) dX0_cost_29 ⟨Nat.le_of_ble_eq_true rfl, Nat.le_of_ble_eq_true rfl⟩ (fun H locs hB => ?_)
      refine lv_iload_n hx hb dX0_cost_34 rfl (lv_at hl 1 rfl) ?_
      refine bs_calli (n := 1) C hB (As := [.int (iI 1)]) (kX0_leftOf l E 1 ⟨by omega, by omega⟩) (lw_S q360 q361 q68 q362) (by decide +kernel) ⟨Nat.le_of_ble_eq_true rfl, Nat.le_of_ble_eq_true rfl⟩ rfl hl.1 rfl (Nat.le_of_ble_eq_true rfl) dX0_cost_35 ⟨Nat.le_of_ble_eq_true rfl, Nat.le_of_ble_eq_true rfl⟩ (fun z55 H locs hz56 hp57 hB => ?_)
      obtain ⟨hz56a, hz56b⟩ := hz56
      obtain rfl : z55 = 1 := by omega
      refine x_isub (z := I 5 - 1) hx hb dX0_cost_38 (by omega) ?_
      refine x_i2l hx hb dX0_cost_39 ⟨by omega, by omega⟩ ?_
      refine bs_calli (n := 3) C hB (As := [.long (lI ax), .long (lI 0), .long (lI (I 5 - 1))]) (kX0_in l E ax 0 (I 5 - 1) ⟨by omega, by omega⟩ ⟨by omega, by omega⟩ ⟨by omega, by omega⟩) (lw_S q234 q235 q68 q236) (by decide +kernel) ⟨Nat.le_of_ble_eq_true rfl, Nat.le_of_ble_eq_true rfl⟩ rfl hl.1 rfl (Nat.le_of_ble_eq_true rfl) dX0_cost_40 ⟨Nat.le_of_ble_eq_true rfl, Nat.le_of_ble_eq_true rfl⟩ (fun z58 H locs hz59 hp60 hB => ?_)
      obtain ⟨hz59a, hz59b⟩ := hz59
      rcases hp60 with ⟨rfl, h61⟩ | ⟨rfl, h61⟩
      · refine x_if_ne (tgt := 50) hx hb dX0_cost_43 (by decide) ⟨by decide, by decide⟩ (fun c62 => ?_) (fun c62 => by exfalso; omega)
        refine lv_iconst (v := iI 0) hx hb dX0_cost_50 rfl ?_
        refine lv_istore (lv' := [(4, .int (iI 0)), (0, .ref o), (1, .int (iI 1)), (2, .int (iI ax)), (3, .int (iI bx))]) hx hb dX0_cost_51 hl (by decide) rfl (fun ls hl => ?_)
        refine lv_iload_n hx hb dX0_cost_53 rfl (lv_at hl 2 rfl) ?_
        refine bs_calli (n := 1) C hB (As := [.int (iI 1)]) (kX0_rightOf l E 1 ⟨by omega, by omega⟩) (lw_S q363 q364 q68 q365) (by decide +kernel) ⟨Nat.le_of_ble_eq_true rfl, Nat.le_of_ble_eq_true rfl⟩ rfl hl.1 rfl (Nat.le_of_ble_eq_true rfl) dX0_cost_54 ⟨Nat.le_of_ble_eq_true rfl, Nat.le_of_ble_eq_true rfl⟩ (fun z63 H locs hz64 hp65 hB => ?_)
        obtain ⟨hz64a, hz64b⟩ := hz64
        obtain rfl : z63 = 0 := by omega
        refine x_if_le (tgt := 83) hx hb dX0_cost_57 (by decide) ⟨by decide, by decide⟩ (fun c66 => ?_) (fun c66 => by exfalso; omega)
        refine lv_iconst (v := iI 0) hx hb dX0_cost_83 rfl ?_
        refine lv_istore (lv' := [(5, .int (iI 0)), (4, .int (iI 0)), (0, .ref o), (1, .int (iI 1)), (2, .int (iI ax)), (3, .int (iI bx))]) hx hb dX0_cost_84 hl (by decide) rfl (fun ls hl => ?_)
        refine lv_iload hx hb dX0_cost_86 (lv_at hl 1 rfl) ?_
        refine x_if_ne (tgt := 96) hx hb dX0_cost_88 (by decide) ⟨by decide, by decide⟩ (fun c67 => by exfalso; omega) (fun c67 => ?_)
        refine lv_iload hx hb dX0_cost_91 (lv_at hl 0 rfl) ?_
        refine x_if_eq (tgt := 100) hx hb dX0_cost_93 (by decide) ⟨by decide, by decide⟩ (fun c68 => ?_) (fun c68 => by exfalso; omega)
        obtain ⟨ka, rfl⟩ : ∃ ka : Nat, ax = (ka : Int) := ⟨ax.toNat, by omega⟩
        refine lv_aload_n hx hb dX0_cost_100 rfl (lv_at hl 2 rfl) ?_
        refine b_get C hB 0 (by decide) q290 (v := .ref (Ad 1)) rfl rfl dX0_cost_101 ?_
        refine lv_iload_n hx hb dX0_cost_104 rfl (lv_at hl 3 rfl) ?_
        refine r_aald C hB 1 4 rfl rfl 1 rfl (by omega) (by omega) (v := some (Ad (50 + 1))) (if_pos (by omega)) dX0_cost_105 ?_
        refine r_getN C hB (50 + 1) (C0_so (by omega)) rfl in_X1 0 (by decide) q209 (fun x h => h) rfl dX0_cost_106 ?_
        refine lv_iload_n hx hb dX0_cost_109 rfl (lv_at hl 4 rfl) ?_
        refine lv_iload_n hx hb dX0_cost_110 rfl (lv_at hl 5 rfl) ?_
        refine b_cost1 l C hZ hB ka bx (show ((ka : Nat) : Int) + 1 ≤ I 5 by omega) hOK0 q367 ⟨Nat.le_of_ble_eq_true rfl, Nat.le_of_ble_eq_true rfl⟩ hl.1 (Nat.le_of_ble_eq_true rfl) dX0_cost_111 ⟨Nat.le_of_ble_eq_true rfl, Nat.le_of_ble_eq_true rfl⟩ (fun H locs hB => ?_)
        have hlb := lenF_b hOK0 (a := ka) (by omega)
        exact b_iret C hB hr hlocks rfl dX0_cost_116 (Nat.le_of_ble_eq_true rfl) (Nat.le_of_ble_eq_true rfl) ⟨by omega, by omega⟩ ⟨rfl, rfl, rfl, rfl, by unfold rCost; rw [if_neg (by omega), show lo 1 = 1 by decide, show ro 1 = 0 by decide, if_pos (by omega)]; rw [cst_1]; rfl⟩
      · refine x_if_ne (tgt := 50) hx hb dX0_cost_43 (by decide) ⟨by decide, by decide⟩ (fun c69 => by exfalso; omega) (fun c69 => ?_)
        refine lv_iconst (v := iI 1) hx hb dX0_cost_46 rfl ?_
        refine lv_goto (tgt := 51) hx hb dX0_cost_47 (by decide) ?_
        refine lv_istore (lv' := [(4, .int (iI 1)), (0, .ref o), (1, .int (iI 1)), (2, .int (iI ax)), (3, .int (iI bx))]) hx hb dX0_cost_51 hl (by decide) rfl (fun ls hl => ?_)
        refine lv_iload_n hx hb dX0_cost_53 rfl (lv_at hl 2 rfl) ?_
        refine bs_calli (n := 1) C hB (As := [.int (iI 1)]) (kX0_rightOf l E 1 ⟨by omega, by omega⟩) (lw_S q363 q364 q68 q365) (by decide +kernel) ⟨Nat.le_of_ble_eq_true rfl, Nat.le_of_ble_eq_true rfl⟩ rfl hl.1 rfl (Nat.le_of_ble_eq_true rfl) dX0_cost_54 ⟨Nat.le_of_ble_eq_true rfl, Nat.le_of_ble_eq_true rfl⟩ (fun z70 H locs hz71 hp72 hB => ?_)
        obtain ⟨hz71a, hz71b⟩ := hz71
        obtain rfl : z70 = 0 := by omega
        refine x_if_le (tgt := 83) hx hb dX0_cost_57 (by decide) ⟨by decide, by decide⟩ (fun c73 => ?_) (fun c73 => by exfalso; omega)
        refine lv_iconst (v := iI 0) hx hb dX0_cost_83 rfl ?_
        refine lv_istore (lv' := [(5, .int (iI 0)), (4, .int (iI 1)), (0, .ref o), (1, .int (iI 1)), (2, .int (iI ax)), (3, .int (iI bx))]) hx hb dX0_cost_84 hl (by decide) rfl (fun ls hl => ?_)
        refine lv_iload hx hb dX0_cost_86 (lv_at hl 1 rfl) ?_
        refine x_if_ne (tgt := 96) hx hb dX0_cost_88 (by decide) ⟨by decide, by decide⟩ (fun c74 => ?_) (fun c74 => by exfalso; omega)
        refine lv_iconst (v := iI (-1)) hx hb dX0_cost_96 rfl ?_
        refine lv_goto (tgt := 116) hx hb dX0_cost_97 (by decide) ?_
        exact b_iret C hB hr hlocks rfl dX0_cost_116 (Nat.le_of_ble_eq_true rfl) (Nat.le_of_ble_eq_true rfl) ⟨by decide, by decide⟩ ⟨rfl, rfl, rfl, rfl, by unfold rCost; rw [if_neg (by omega), show lo 1 = 1 by decide, show ro 1 = 0 by decide, if_neg (by omega)]⟩
    · refine lv_iload_n hx hb dX0_cost_15 rfl (lv_at hl 1 rfl) ?_
      refine bs_calli (n := 1) C hB (As := [.int (iI 2)]) (kX0_leftOf l E 2 ⟨by omega, by omega⟩) (lw_S q360 q361 q68 q362) (by decide +kernel) ⟨Nat.le_of_ble_eq_true rfl, Nat.le_of_ble_eq_true rfl⟩ rfl hl.1 rfl (Nat.le_of_ble_eq_true rfl) dX0_cost_16 ⟨Nat.le_of_ble_eq_true rfl, Nat.le_of_ble_eq_true rfl⟩ (fun z75 H locs hz76 hp77 hB => ?_)
      obtain ⟨hz76a, hz76b⟩ := hz76
      obtain rfl : z75 = 0 := by omega
      refine x_if_le (tgt := 50) hx hb dX0_cost_19 (by decide) ⟨by decide, by decide⟩ (fun c78 => ?_) (fun c78 => by exfalso; omega)
      refine lv_iconst (v := iI 0) hx hb dX0_cost_50 rfl ?_
      refine lv_istore (lv' := [(4, .int (iI 0)), (0, .ref o), (1, .int (iI 2)), (2, .int (iI ax)), (3, .int (iI bx))]) hx hb dX0_cost_51 hl (by decide) rfl (fun ls hl => ?_)
      refine lv_iload_n hx hb dX0_cost_53 rfl (lv_at hl 2 rfl) ?_
      refine bs_calli (n := 1) C hB (As := [.int (iI 2)]) (kX0_rightOf l E 2 ⟨by omega, by omega⟩) (lw_S q363 q364 q68 q365) (by decide +kernel) ⟨Nat.le_of_ble_eq_true rfl, Nat.le_of_ble_eq_true rfl⟩ rfl hl.1 rfl (Nat.le_of_ble_eq_true rfl) dX0_cost_54 ⟨Nat.le_of_ble_eq_true rfl, Nat.le_of_ble_eq_true rfl⟩ (fun z79 H locs hz80 hp81 hB => ?_)
      obtain ⟨hz80a, hz80b⟩ := hz80
      obtain rfl : z79 = 1 := by omega
      refine x_if_le (tgt := 83) hx hb dX0_cost_57 (by decide) ⟨by decide, by decide⟩ (fun c82 => by exfalso; omega) (fun c82 => ?_)
      refine lv_iload_n hx hb dX0_cost_60 rfl (lv_at hl 4 rfl) ?_
      refine x_i2l hx hb dX0_cost_61 ⟨by omega, by omega⟩ ?_
      refine lv_lconst (v := lI 0) hx hb dX0_cost_62 rfl ?_
      refine lv_aload_n hx hb dX0_cost_63 rfl (lv_at hl 1 rfl) ?_
      refine b_get C hB 4 (by decide) q298 (v := .int (iI (I 6))) rfl rfl dX0_cost_64 ?_
      refine lv_iload_n hx hb dX0_cost_67 rfl (lv_at hl 2 rfl) ?_
      refine bs_calli (n := 1) C hB (As := [.int (iI 2)]) (kX0_rightOf l E 2 ⟨by omega, by omega⟩) (lw_S q363 q364 q68 q365) (by decide +kernel) ⟨Nat.le_of_ble_eq_true rfl, Nat.le_of_ble_eq_true rfl⟩ rfl hl.1 rfl (Nat.le_of_ble_eq_true rfl) dX0_cost_68 ⟨Nat.le_of_ble_eq_true rfl, Nat.le_of_ble_eq_true rfl⟩ (fun z83 H locs hz84 hp85 hB => ?_)
      obtain ⟨hz84a, hz84b⟩ := hz84
      obtain rfl : z83 = 1 := by omega
      refine x_isub (z := I 6 - 1) hx hb dX0_cost_71 (by omega) ?_
      refine x_i2l hx hb dX0_cost_72 ⟨by omega, by omega⟩ ?_
      refine bs_calli (n := 3) C hB (As := [.long (lI bx), .long (lI 0), .long (lI (I 6 - 1))]) (kX0_in l E bx 0 (I 6 - 1) ⟨by omega, by omega⟩ ⟨by omega, by omega⟩ ⟨by omega, by omega⟩) (lw_S q234 q235 q68 q236) (by decide +kernel) ⟨Nat.le_of_ble_eq_true rfl, Nat.le_of_ble_eq_true rfl⟩ rfl hl.1 rfl (Nat.le_of_ble_eq_true rfl) dX0_cost_73 ⟨Nat.le_of_ble_eq_true rfl, Nat.le_of_ble_eq_true rfl⟩ (fun z86 H locs hz87 hp88 hB => ?_)
      obtain ⟨hz87a, hz87b⟩ := hz87
      rcases hp88 with ⟨rfl, h89⟩ | ⟨rfl, h89⟩
      · refine x_if_ne (tgt := 83) hx hb dX0_cost_76 (by decide) ⟨by decide, by decide⟩ (fun c90 => ?_) (fun c90 => by exfalso; omega)
        refine lv_iconst (v := iI 0) hx hb dX0_cost_83 rfl ?_
        refine lv_istore (lv' := [(5, .int (iI 0)), (4, .int (iI 0)), (0, .ref o), (1, .int (iI 2)), (2, .int (iI ax)), (3, .int (iI bx))]) hx hb dX0_cost_84 hl (by decide) rfl (fun ls hl => ?_)
        refine lv_iload hx hb dX0_cost_86 (lv_at hl 1 rfl) ?_
        refine x_if_ne (tgt := 96) hx hb dX0_cost_88 (by decide) ⟨by decide, by decide⟩ (fun c91 => by exfalso; omega) (fun c91 => ?_)
        refine lv_iload hx hb dX0_cost_91 (lv_at hl 0 rfl) ?_
        refine x_if_eq (tgt := 100) hx hb dX0_cost_93 (by decide) ⟨by decide, by decide⟩ (fun c92 => ?_) (fun c92 => by exfalso; omega)
        obtain ⟨kb, rfl⟩ : ∃ kb : Nat, bx = (kb : Int) := ⟨bx.toNat, by omega⟩
        refine lv_aload_n hx hb dX0_cost_100 rfl (lv_at hl 2 rfl) ?_
        refine b_get C hB 0 (by decide) q290 (v := .ref (Ad 1)) rfl rfl dX0_cost_101 ?_
        refine lv_iload_n hx hb dX0_cost_104 rfl (lv_at hl 3 rfl) ?_
        refine r_aald C hB 1 4 rfl rfl 2 rfl (by omega) (by omega) (v := some (Ad (50 + 2))) (if_pos (by omega)) dX0_cost_105 ?_
        refine r_getN C hB (50 + 2) (C0_so (by omega)) rfl in_X1 0 (by decide) q209 (fun x h => h) rfl dX0_cost_106 ?_
        refine lv_iload_n hx hb dX0_cost_109 rfl (lv_at hl 4 rfl) ?_
        refine lv_iload_n hx hb dX0_cost_110 rfl (lv_at hl 5 rfl) ?_
        refine b_cost2 l C hZ hB ax kb (show ((kb : Nat) : Int) + 1 ≤ I 6 by omega) hOK0 q367 ⟨Nat.le_of_ble_eq_true rfl, Nat.le_of_ble_eq_true rfl⟩ hl.1 (Nat.le_of_ble_eq_true rfl) dX0_cost_111 ⟨Nat.le_of_ble_eq_true rfl, Nat.le_of_ble_eq_true rfl⟩ (fun H locs hB => ?_)
        have := hR kb (by omega)
        exact b_iret C hB hr hlocks rfl dX0_cost_116 (Nat.le_of_ble_eq_true rfl) (Nat.le_of_ble_eq_true rfl) ⟨by omega, by omega⟩ ⟨rfl, rfl, rfl, rfl, by unfold rCost; rw [if_neg (by omega), show lo 2 = 0 by decide, show ro 2 = 1 by decide, if_pos (by omega)]; rw [cst_2]; rfl⟩
      · refine x_if_ne (tgt := 83) hx hb dX0_cost_76 (by decide) ⟨by decide, by decide⟩ (fun c93 => by exfalso; omega) (fun c93 => ?_)
        refine lv_iconst (v := iI 1) hx hb dX0_cost_79 rfl ?_
        refine lv_goto (tgt := 84) hx hb dX0_cost_80 (by decide) ?_
        refine lv_istore (lv' := [(5, .int (iI 1)), (4, .int (iI 0)), (0, .ref o), (1, .int (iI 2)), (2, .int (iI ax)), (3, .int (iI bx))]) hx hb dX0_cost_84 hl (by decide) rfl (fun ls hl => ?_)
        refine lv_iload hx hb dX0_cost_86 (lv_at hl 1 rfl) ?_
        refine x_if_ne (tgt := 96) hx hb dX0_cost_88 (by decide) ⟨by decide, by decide⟩ (fun c94 => by exfalso; omega) (fun c94 => ?_)
        refine lv_iload hx hb dX0_cost_91 (lv_at hl 0 rfl) ?_
        refine x_if_eq (tgt := 100) hx hb dX0_cost_93 (by decide) ⟨by decide, by decide⟩ (fun c95 => by exfalso; omega) (fun c95 => ?_)
        refine lv_iconst (v := iI (-1)) hx hb dX0_cost_96 rfl ?_
        refine lv_goto (tgt := 116) hx hb dX0_cost_97 (by decide) ?_
        exact b_iret C hB hr hlocks rfl dX0_cost_116 (Nat.le_of_ble_eq_true rfl) (Nat.le_of_ble_eq_true rfl) ⟨by decide, by decide⟩ ⟨rfl, rfl, rfl, rfl, by unfold rCost; rw [if_neg (by omega), show lo 2 = 0 by decide, show ro 2 = 1 by decide, if_neg (by omega)]⟩
    · refine lv_iload_n hx hb dX0_cost_15 rfl (lv_at hl 1 rfl) ?_
      refine bs_calli (n := 1) C hB (As := [.int (iI 3)]) (kX0_leftOf l E 3 ⟨by omega, by omega⟩) (lw_S q360 q361 q68 q362) (by decide +kernel) ⟨Nat.le_of_ble_eq_true rfl, Nat.le_of_ble_eq_true rfl⟩ rfl hl.1 rfl (Nat.le_of_ble_eq_true rfl) dX0_cost_16 ⟨Nat.le_of_ble_eq_true rfl, Nat.le_of_ble_eq_true rfl⟩ (fun z96 H locs hz97 hp98 hB => ?_)
      obtain ⟨hz97a, hz97b⟩ := hz97
      obtain rfl : z96 = 2 := by omega
      refine x_if_le (tgt := 50) hx hb dX0_cost_19 (by decide) ⟨by decide, by decide⟩ (fun c99 => by exfalso; omega) (fun c99 => ?_)
      refine lv_iload_n hx hb dX0_cost_22 rfl (lv_at hl 2 rfl) ?_
      refine x_i2l hx hb dX0_cost_23 ⟨by omega, by omega⟩ ?_
      refine lv_lconst (v := lI 0) hx hb dX0_cost_24 rfl ?_
      refine lv_aload_n hx hb dX0_cost_25 rfl (lv_at hl 0 rfl) ?_
      refine b_get C hB 3 (by decide) q296 (v := .ref (Ad 4)) rfl rfl dX0_cost_26 ?_
      refine b_size C hZ hB (n := I 5) (ed := Ad 30) (fun w hI _ => wU_l (hI.at (r := 4) rfl)) (by omega) q242 ⟨Nat.le_of_ble_eq_true rfl, Nat.le_of_ble_eq_true rfl⟩ hl.1 (Nat.le_of_ble_eq_true rfl) dX0_cost_29 ⟨Nat.le_of_ble_eq_true rfl, Nat.le_of_ble_eq_true rfl⟩ (fun H locs hB => ?_)
      refine lv_iload_n hx hb dX0_cost_34 rfl (lv_at hl 1 rfl) ?_
      refine bs_calli (n := 1) C hB (As := [.int (iI 3)]) (kX0_leftOf l E 3 ⟨by omega, by omega⟩) (lw_S q360 q361 q68 q362) (by decide +kernel) ⟨Nat.le_of_ble_eq_true rfl, Nat.le_of_ble_eq_true rfl⟩ rfl hl.1 rfl (Nat.le_of_ble_eq_true rfl) dX0_cost_35 ⟨Nat.le_of_ble_eq_true rfl, Nat.le_of_ble_eq_true rfl⟩ (fun z100 H locs hz101 hp102 hB => ?_)
      obtain ⟨hz101a, hz101b⟩ := hz101
      obtain rfl : z100 = 2 := by omega
      refine x_isub (z := I 5 - 2) hx hb dX0_cost_38 (by omega) ?_
      refine x_i2l hx hb dX0_cost_39 ⟨by omega, by omega⟩ ?_
      refine bs_calli (n := 3) C hB (As := [.long (lI ax), .long (lI 0), .long (lI (I 5 - 2))]) (kX0_in l E ax 0 (I 5 - 2) ⟨by omega, by omega⟩ ⟨by omega, by omega⟩ ⟨by omega, by omega⟩) (lw_S q234 q235 q68 q236) (by decide +kernel) ⟨Nat.le_of_ble_eq_true rfl, Nat.le_of_ble_eq_true rfl⟩ rfl hl.1 rfl (Nat.le_of_ble_eq_true rfl) dX0_cost_40 ⟨Nat.le_of_ble_eq_true rfl, Nat.le_of_ble_eq_true rfl⟩ (fun z103 H locs hz104 hp105 hB => ?_)
      obtain ⟨hz104a, hz104b⟩ := hz104
      rcases hp105 with ⟨rfl, h106⟩ | ⟨rfl, h106⟩
      · refine x_if_ne (tgt := 50) hx hb dX0_cost_43 (by decide) ⟨by decide, by decide⟩ (fun c107 => ?_) (fun c107 => by exfalso; omega)
        refine lv_iconst (v := iI 0) hx hb dX0_cost_50 rfl ?_
        refine lv_istore (lv' := [(4, .int (iI 0)), (0, .ref o), (1, .int (iI 3)), (2, .int (iI ax)), (3, .int (iI bx))]) hx hb dX0_cost_51 hl (by decide) rfl (fun ls hl => ?_)
        refine lv_iload_n hx hb dX0_cost_53 rfl (lv_at hl 2 rfl) ?_
        refine bs_calli (n := 1) C hB (As := [.int (iI 3)]) (kX0_rightOf l E 3 ⟨by omega, by omega⟩) (lw_S q363 q364 q68 q365) (by decide +kernel) ⟨Nat.le_of_ble_eq_true rfl, Nat.le_of_ble_eq_true rfl⟩ rfl hl.1 rfl (Nat.le_of_ble_eq_true rfl) dX0_cost_54 ⟨Nat.le_of_ble_eq_true rfl, Nat.le_of_ble_eq_true rfl⟩ (fun z108 H locs hz109 hp110 hB => ?_)
        obtain ⟨hz109a, hz109b⟩ := hz109
        obtain rfl : z108 = 1 := by omega
        refine x_if_le (tgt := 83) hx hb dX0_cost_57 (by decide) ⟨by decide, by decide⟩ (fun c111 => by exfalso; omega) (fun c111 => ?_)
        refine lv_iload_n hx hb dX0_cost_60 rfl (lv_at hl 4 rfl) ?_
        refine x_i2l hx hb dX0_cost_61 ⟨by omega, by omega⟩ ?_
        refine lv_lconst (v := lI 0) hx hb dX0_cost_62 rfl ?_
        refine lv_aload_n hx hb dX0_cost_63 rfl (lv_at hl 1 rfl) ?_
        refine b_get C hB 4 (by decide) q298 (v := .int (iI (I 6))) rfl rfl dX0_cost_64 ?_
        refine lv_iload_n hx hb dX0_cost_67 rfl (lv_at hl 2 rfl) ?_
        refine bs_calli (n := 1) C hB (As := [.int (iI 3)]) (kX0_rightOf l E 3 ⟨by omega, by omega⟩) (lw_S q363 q364 q68 q365) (by decide +kernel) ⟨Nat.le_of_ble_eq_true rfl, Nat.le_of_ble_eq_true rfl⟩ rfl hl.1 rfl (Nat.le_of_ble_eq_true rfl) dX0_cost_68 ⟨Nat.le_of_ble_eq_true rfl, Nat.le_of_ble_eq_true rfl⟩ (fun z112 H locs hz113 hp114 hB => ?_)
        obtain ⟨hz113a, hz113b⟩ := hz113
        obtain rfl : z112 = 1 := by omega
        refine x_isub (z := I 6 - 1) hx hb dX0_cost_71 (by omega) ?_
        refine x_i2l hx hb dX0_cost_72 ⟨by omega, by omega⟩ ?_
        refine bs_calli (n := 3) C hB (As := [.long (lI bx), .long (lI 0), .long (lI (I 6 - 1))]) (kX0_in l E bx 0 (I 6 - 1) ⟨by omega, by omega⟩ ⟨by omega, by omega⟩ ⟨by omega, by omega⟩) (lw_S q234 q235 q68 q236) (by decide +kernel) ⟨Nat.le_of_ble_eq_true rfl, Nat.le_of_ble_eq_true rfl⟩ rfl hl.1 rfl (Nat.le_of_ble_eq_true rfl) dX0_cost_73 ⟨Nat.le_of_ble_eq_true rfl, Nat.le_of_ble_eq_true rfl⟩ (fun z115 H locs hz116 hp117 hB => ?_)
        obtain ⟨hz116a, hz116b⟩ := hz116
        rcases hp117 with ⟨rfl, h118⟩ | ⟨rfl, h118⟩
        · refine x_if_ne (tgt := 83) hx hb dX0_cost_76 (by decide) ⟨by decide, by decide⟩ (fun c119 => ?_) (fun c119 => by exfalso; omega)
          refine lv_iconst (v := iI 0) hx hb dX0_cost_83 rfl ?_
          refine lv_istore (lv' := [(5, .int (iI 0)), (4, .int (iI 0)), (0, .ref o), (1, .int (iI 3)), (2, .int (iI ax)), (3, .int (iI bx))]) hx hb dX0_cost_84 hl (by decide) rfl (fun ls hl => ?_)
          refine lv_iload hx hb dX0_cost_86 (lv_at hl 1 rfl) ?_
          refine x_if_ne (tgt := 96) hx hb dX0_cost_88 (by decide) ⟨by decide, by decide⟩ (fun c120 => by exfalso; omega) (fun c120 => ?_)
          refine lv_iload hx hb dX0_cost_91 (lv_at hl 0 rfl) ?_
          refine x_if_eq (tgt := 100) hx hb dX0_cost_93 (by decide) ⟨by decide, by decide⟩ (fun c121 => ?_) (fun c121 => by exfalso; omega)
          obtain ⟨ka, rfl⟩ : ∃ ka : Nat, ax = (ka : Int) := ⟨ax.toNat, by omega⟩
          obtain ⟨kb, rfl⟩ : ∃ kb : Nat, bx = (kb : Int) := ⟨bx.toNat, by omega⟩
          refine lv_aload_n hx hb dX0_cost_100 rfl (lv_at hl 2 rfl) ?_
          refine b_get C hB 0 (by decide) q290 (v := .ref (Ad 1)) rfl rfl dX0_cost_101 ?_
          refine lv_iload_n hx hb dX0_cost_104 rfl (lv_at hl 3 rfl) ?_
          refine r_aald C hB 1 4 rfl rfl 3 rfl (by omega) (by omega) (v := some (Ad (50 + 3))) (if_pos (by omega)) dX0_cost_105 ?_
          refine r_getN C hB (50 + 3) (C0_so (by omega)) rfl in_X1 0 (by decide) q209 (fun x h => h) rfl dX0_cost_106 ?_
          refine lv_iload_n hx hb dX0_cost_109 rfl (lv_at hl 4 rfl) ?_
          refine lv_iload_n hx hb dX0_cost_110 rfl (lv_at hl 5 rfl) ?_
          refine b_cost l C hZ hB 3 (by omega) ka kb (fun _ => by unfold lo; (repeat' split) <;> omega) (fun _ => by unfold ro; (repeat' split) <;> omega) hOK0 q367 ⟨Nat.le_of_ble_eq_true rfl, Nat.le_of_ble_eq_true rfl⟩ hl.1 (Nat.le_of_ble_eq_true rfl) dX0_cost_111 ⟨Nat.le_of_ble_eq_true rfl, Nat.le_of_ble_eq_true rfl⟩ (fun H locs hcra hcrb hB => ?_)
          exact b_iret C hB hr hlocks rfl dX0_cost_116 (Nat.le_of_ble_eq_true rfl) (Nat.le_of_ble_eq_true rfl) ⟨by omega, by omega⟩ ⟨rfl, rfl, rfl, rfl, by unfold rCost; rw [if_neg (by omega), show lo 3 = 2 by decide, show ro 3 = 1 by decide, if_pos (by omega)]; rfl⟩
        · refine x_if_ne (tgt := 83) hx hb dX0_cost_76 (by decide) ⟨by decide, by decide⟩ (fun c122 => by exfalso; omega) (fun c122 => ?_)
          refine lv_iconst (v := iI 1) hx hb dX0_cost_79 rfl ?_
          refine lv_goto (tgt := 84) hx hb dX0_cost_80 (by decide) ?_
          refine lv_istore (lv' := [(5, .int (iI 1)), (4, .int (iI 0)), (0, .ref o), (1, .int (iI 3)), (2, .int (iI ax)), (3, .int (iI bx))]) hx hb dX0_cost_84 hl (by decide) rfl (fun ls hl => ?_)
          refine lv_iload hx hb dX0_cost_86 (lv_at hl 1 rfl) ?_
          refine x_if_ne (tgt := 96) hx hb dX0_cost_88 (by decide) ⟨by decide, by decide⟩ (fun c123 => by exfalso; omega) (fun c123 => ?_)
          refine lv_iload hx hb dX0_cost_91 (lv_at hl 0 rfl) ?_
          refine x_if_eq (tgt := 100) hx hb dX0_cost_93 (by decide) ⟨by decide, by decide⟩ (fun c124 => by exfalso; omega) (fun c124 => ?_)
          refine lv_iconst (v := iI (-1)) hx hb dX0_cost_96 rfl ?_
          refine lv_goto (tgt := 116) hx hb dX0_cost_97 (by decide) ?_
          exact b_iret C hB hr hlocks rfl dX0_cost_116 (Nat.le_of_ble_eq_true rfl) (Nat.le_of_ble_eq_true rfl) ⟨by decide, by decide⟩ ⟨rfl, rfl, rfl, rfl, by unfold rCost; rw [if_neg (by omega), show lo 3 = 2 by decide, show ro 3 = 1 by decide, if_neg (by omega)]⟩
      · refine x_if_ne (tgt := 50) hx hb dX0_cost_43 (by decide) ⟨by decide, by decide⟩ (fun c125 => by exfalso; omega) (fun c125 => ?_)
        refine lv_iconst (v := iI 1) hx hb dX0_cost_46 rfl ?_
        refine lv_goto (tgt := 51) hx hb dX0_cost_47 (by decide) ?_
        refine lv_istore (lv' := [(4, .int (iI 1)), (0, .ref o), (1, .int (iI 3)), (2, .int (iI ax)), (3, .int (iI bx))]) hx hb dX0_cost_51 hl (by decide) rfl (fun ls hl => ?_)
        refine lv_iload_n hx hb dX0_cost_53 rfl (lv_at hl 2 rfl) ?_
        refine bs_calli (n := 1) C hB (As := [.int (iI 3)]) (kX0_rightOf l E 3 ⟨by omega, by omega⟩) (lw_S q363 q364 q68 q365) (by decide +kernel) ⟨Nat.le_of_ble_eq_true rfl, Nat.le_of_ble_eq_true rfl⟩ rfl hl.1 rfl (Nat.le_of_ble_eq_true rfl) dX0_cost_54 ⟨Nat.le_of_ble_eq_true rfl, Nat.le_of_ble_eq_true rfl⟩ (fun z126 H locs hz127 hp128 hB => ?_)
        obtain ⟨hz127a, hz127b⟩ := hz127
        obtain rfl : z126 = 1 := by omega
        refine x_if_le (tgt := 83) hx hb dX0_cost_57 (by decide) ⟨by decide, by decide⟩ (fun c129 => by exfalso; omega) (fun c129 => ?_)
        refine lv_iload_n hx hb dX0_cost_60 rfl (lv_at hl 4 rfl) ?_
        refine x_i2l hx hb dX0_cost_61 ⟨by omega, by omega⟩ ?_
        refine lv_lconst (v := lI 0) hx hb dX0_cost_62 rfl ?_
        refine lv_aload_n hx hb dX0_cost_63 rfl (lv_at hl 1 rfl) ?_
        refine b_get C hB 4 (by decide) q298 (v := .int (iI (I 6))) rfl rfl dX0_cost_64 ?_
        refine lv_iload_n hx hb dX0_cost_67 rfl (lv_at hl 2 rfl) ?_
        refine bs_calli (n := 1) C hB (As := [.int (iI 3)]) (kX0_rightOf l E 3 ⟨by omega, by omega⟩) (lw_S q363 q364 q68 q365) (by decide +kernel) ⟨Nat.le_of_ble_eq_true rfl, Nat.le_of_ble_eq_true rfl⟩ rfl hl.1 rfl (Nat.le_of_ble_eq_true rfl) dX0_cost_68 ⟨Nat.le_of_ble_eq_true rfl, Nat.le_of_ble_eq_true rfl⟩ (fun z130 H locs hz131 hp132 hB => ?_)
        obtain ⟨hz131a, hz131b⟩ := hz131
        obtain rfl : z130 = 1 := by omega
        refine x_isub (z := I 6 - 1) hx hb dX0_cost_71 (by omega) ?_
        refine x_i2l hx hb dX0_cost_72 ⟨by omega, by omega⟩ ?_
        refine bs_calli (n := 3) C hB (As := [.long (lI bx), .long (lI 0), .long (lI (I 6 - 1))]) (kX0_in l E bx 0 (I 6 - 1) ⟨by omega, by omega⟩ ⟨by omega, by omega⟩ ⟨by omega, by omega⟩) (lw_S q234 q235 q68 q236) (by decide +kernel) ⟨Nat.le_of_ble_eq_true rfl, Nat.le_of_ble_eq_true rfl⟩ rfl hl.1 rfl (Nat.le_of_ble_eq_true rfl) dX0_cost_73 ⟨Nat.le_of_ble_eq_true rfl, Nat.le_of_ble_eq_true rfl⟩ (fun z133 H locs hz134 hp135 hB => ?_)
        obtain ⟨hz134a, hz134b⟩ := hz134
        rcases hp135 with ⟨rfl, h136⟩ | ⟨rfl, h136⟩
        · refine x_if_ne (tgt := 83) hx hb dX0_cost_76 (by decide) ⟨by decide, by decide⟩ (fun c137 => ?_) (fun c137 => by exfalso; omega)
          refine lv_iconst (v := iI 0) hx hb dX0_cost_83 rfl ?_
          refine lv_istore (lv' := [(5, .int (iI 0)), (4, .int (iI 1)), (0, .ref o), (1, .int (iI 3)), (2, .int (iI ax)), (3, .int (iI bx))]) hx hb dX0_cost_84 hl (by decide) rfl (fun ls hl => ?_)
          refine lv_iload hx hb dX0_cost_86 (lv_at hl 1 rfl) ?_
          refine x_if_ne (tgt := 96) hx hb dX0_cost_88 (by decide) ⟨by decide, by decide⟩ (fun c138 => ?_) (fun c138 => by exfalso; omega)
          refine lv_iconst (v := iI (-1)) hx hb dX0_cost_96 rfl ?_
          refine lv_goto (tgt := 116) hx hb dX0_cost_97 (by decide) ?_
          exact b_iret C hB hr hlocks rfl dX0_cost_116 (Nat.le_of_ble_eq_true rfl) (Nat.le_of_ble_eq_true rfl) ⟨by decide, by decide⟩ ⟨rfl, rfl, rfl, rfl, by unfold rCost; rw [if_neg (by omega), show lo 3 = 2 by decide, show ro 3 = 1 by decide, if_neg (by omega)]⟩
        · refine x_if_ne (tgt := 83) hx hb dX0_cost_76 (by decide) ⟨by decide, by decide⟩ (fun c139 => by exfalso; omega) (fun c139 => ?_)
          refine lv_iconst (v := iI 1) hx hb dX0_cost_79 rfl ?_
          refine lv_goto (tgt := 84) hx hb dX0_cost_80 (by decide) ?_
          refine lv_istore (lv' := [(5, .int (iI 1)), (4, .int (iI 1)), (0, .ref o), (1, .int (iI 3)), (2, .int (iI ax)), (3, .int (iI bx))]) hx hb dX0_cost_84 hl (by decide) rfl (fun ls hl => ?_)
          refine lv_iload hx hb dX0_cost_86 (lv_at hl 1 rfl) ?_
          refine x_if_ne (tgt := 96) hx hb dX0_cost_88 (by decide) ⟨by decide, by decide⟩ (fun c140 => ?_) (fun c140 => by exfalso; omega)
          refine lv_iconst (v := iI (-1)) hx hb dX0_cost_96 rfl ?_
          refine lv_goto (tgt := 116) hx hb dX0_cost_97 (by decide) ?_
          exact b_iret C hB hr hlocks rfl dX0_cost_116 (Nat.le_of_ble_eq_true rfl) (Nat.le_of_ble_eq_true rfl) ⟨by decide, by decide⟩ ⟨rfl, rfl, rfl, rfl, by unfold rCost; rw [if_neg (by omega), show lo 3 = 2 by decide, show ro 3 = 1 by decide, if_neg (by omega)]⟩
    · refine lv_iload_n hx hb dX0_cost_15 rfl (lv_at hl 1 rfl) ?_
      refine bs_calli (n := 1) C hB (As := [.int (iI 4)]) (kX0_leftOf l E 4 ⟨by omega, by omega⟩) (lw_S q360 q361 q68 q362) (by decide +kernel) ⟨Nat.le_of_ble_eq_true rfl, Nat.le_of_ble_eq_true rfl⟩ rfl hl.1 rfl (Nat.le_of_ble_eq_true rfl) dX0_cost_16 ⟨Nat.le_of_ble_eq_true rfl, Nat.le_of_ble_eq_true rfl⟩ (fun z141 H locs hz142 hp143 hB => ?_)
      obtain ⟨hz142a, hz142b⟩ := hz142
      obtain rfl : z141 = 1 := by omega
      refine x_if_le (tgt := 50) hx hb dX0_cost_19 (by decide) ⟨by decide, by decide⟩ (fun c144 => by exfalso; omega) (fun c144 => ?_)
      refine lv_iload_n hx hb dX0_cost_22 rfl (lv_at hl 2 rfl) ?_
      refine x_i2l hx hb dX0_cost_23 ⟨by omega, by omega⟩ ?_
      refine lv_lconst (v := lI 0) hx hb dX0_cost_24 rfl ?_
      refine lv_aload_n hx hb dX0_cost_25 rfl (lv_at hl 0 rfl) ?_
      refine b_get C hB 3 (by decide) q296 (v := .ref (Ad 4)) rfl rfl dX0_cost_26 ?_
      refine b_size C hZ hB (n := I 5) (ed := Ad 30) (fun w hI _ => wU_l (hI.at (r := 4) rfl)) (by omega) q242 ⟨Nat.le_of_ble_eq_true rfl, Nat.le_of_ble_eq_true rfl⟩ hl.1 (Nat.le_of_ble_eq_true rfl) dX0_cost_29 ⟨Nat.le_of_ble_eq_true rfl, Nat.le_of_ble_eq_true rfl⟩ (fun H locs hB => ?_)
      refine lv_iload_n hx hb dX0_cost_34 rfl (lv_at hl 1 rfl) ?_
      refine bs_calli (n := 1) C hB (As := [.int (iI 4)]) (kX0_leftOf l E 4 ⟨by omega, by omega⟩) (lw_S q360 q361 q68 q362) (by decide +kernel) ⟨Nat.le_of_ble_eq_true rfl, Nat.le_of_ble_eq_true rfl⟩ rfl hl.1 rfl (Nat.le_of_ble_eq_true rfl) dX0_cost_35 ⟨Nat.le_of_ble_eq_true rfl, Nat.le_of_ble_eq_true rfl⟩ (fun z145 H locs hz146 hp147 hB => ?_)
      obtain ⟨hz146a, hz146b⟩ := hz146
      obtain rfl : z145 = 1 := by omega
      refine x_isub (z := I 5 - 1) hx hb dX0_cost_38 (by omega) ?_
      refine x_i2l hx hb dX0_cost_39 ⟨by omega, by omega⟩ ?_
      refine bs_calli (n := 3) C hB (As := [.long (lI ax), .long (lI 0), .long (lI (I 5 - 1))]) (kX0_in l E ax 0 (I 5 - 1) ⟨by omega, by omega⟩ ⟨by omega, by omega⟩ ⟨by omega, by omega⟩) (lw_S q234 q235 q68 q236) (by decide +kernel) ⟨Nat.le_of_ble_eq_true rfl, Nat.le_of_ble_eq_true rfl⟩ rfl hl.1 rfl (Nat.le_of_ble_eq_true rfl) dX0_cost_40 ⟨Nat.le_of_ble_eq_true rfl, Nat.le_of_ble_eq_true rfl⟩ (fun z148 H locs hz149 hp150 hB => ?_)
      obtain ⟨hz149a, hz149b⟩ := hz149
      rcases hp150 with ⟨rfl, h151⟩ | ⟨rfl, h151⟩
      · refine x_if_ne (tgt := 50) hx hb dX0_cost_43 (by decide) ⟨by decide, by decide⟩ (fun c152 => ?_) (fun c152 => by exfalso; omega)
        refine lv_iconst (v := iI 0) hx hb dX0_cost_50 rfl ?_
        refine lv_istore (lv' := [(4, .int (iI 0)), (0, .ref o), (1, .int (iI 4)), (2, .int (iI ax)), (3, .int (iI bx))]) hx hb dX0_cost_51 hl (by decide) rfl (fun ls hl => ?_)
        refine lv_iload_n hx hb dX0_cost_53 rfl (lv_at hl 2 rfl) ?_
        refine bs_calli (n := 1) C hB (As := [.int (iI 4)]) (kX0_rightOf l E 4 ⟨by omega, by omega⟩) (lw_S q363 q364 q68 q365) (by decide +kernel) ⟨Nat.le_of_ble_eq_true rfl, Nat.le_of_ble_eq_true rfl⟩ rfl hl.1 rfl (Nat.le_of_ble_eq_true rfl) dX0_cost_54 ⟨Nat.le_of_ble_eq_true rfl, Nat.le_of_ble_eq_true rfl⟩ (fun z153 H locs hz154 hp155 hB => ?_)
        obtain ⟨hz154a, hz154b⟩ := hz154
        obtain rfl : z153 = 2 := by omega
        refine x_if_le (tgt := 83) hx hb dX0_cost_57 (by decide) ⟨by decide, by decide⟩ (fun c156 => by exfalso; omega) (fun c156 => ?_)
        refine lv_iload_n hx hb dX0_cost_60 rfl (lv_at hl 4 rfl) ?_
        refine x_i2l hx hb dX0_cost_61 ⟨by omega, by omega⟩ ?_
        refine lv_lconst (v := lI 0) hx hb dX0_cost_62 rfl ?_
        refine lv_aload_n hx hb dX0_cost_63 rfl (lv_at hl 1 rfl) ?_
        refine b_get C hB 4 (by decide) q298 (v := .int (iI (I 6))) rfl rfl dX0_cost_64 ?_
        refine lv_iload_n hx hb dX0_cost_67 rfl (lv_at hl 2 rfl) ?_
        refine bs_calli (n := 1) C hB (As := [.int (iI 4)]) (kX0_rightOf l E 4 ⟨by omega, by omega⟩) (lw_S q363 q364 q68 q365) (by decide +kernel) ⟨Nat.le_of_ble_eq_true rfl, Nat.le_of_ble_eq_true rfl⟩ rfl hl.1 rfl (Nat.le_of_ble_eq_true rfl) dX0_cost_68 ⟨Nat.le_of_ble_eq_true rfl, Nat.le_of_ble_eq_true rfl⟩ (fun z157 H locs hz158 hp159 hB => ?_)
        obtain ⟨hz158a, hz158b⟩ := hz158
        obtain rfl : z157 = 2 := by omega
        refine x_isub (z := I 6 - 2) hx hb dX0_cost_71 (by omega) ?_
        refine x_i2l hx hb dX0_cost_72 ⟨by omega, by omega⟩ ?_
        refine bs_calli (n := 3) C hB (As := [.long (lI bx), .long (lI 0), .long (lI (I 6 - 2))]) (kX0_in l E bx 0 (I 6 - 2) ⟨by omega, by omega⟩ ⟨by omega, by omega⟩ ⟨by omega, by omega⟩) (lw_S q234 q235 q68 q236) (by decide +kernel) ⟨Nat.le_of_ble_eq_true rfl, Nat.le_of_ble_eq_true rfl⟩ rfl hl.1 rfl (Nat.le_of_ble_eq_true rfl) dX0_cost_73 ⟨Nat.le_of_ble_eq_true rfl, Nat.le_of_ble_eq_true rfl⟩ (fun z160 H locs hz161 hp162 hB => ?_)
        obtain ⟨hz161a, hz161b⟩ := hz161
        rcases hp162 with ⟨rfl, h163⟩ | ⟨rfl, h163⟩
        · refine x_if_ne (tgt := 83) hx hb dX0_cost_76 (by decide) ⟨by decide, by decide⟩ (fun c164 => ?_) (fun c164 => by exfalso; omega)
          refine lv_iconst (v := iI 0) hx hb dX0_cost_83 rfl ?_
          refine lv_istore (lv' := [(5, .int (iI 0)), (4, .int (iI 0)), (0, .ref o), (1, .int (iI 4)), (2, .int (iI ax)), (3, .int (iI bx))]) hx hb dX0_cost_84 hl (by decide) rfl (fun ls hl => ?_)
          refine lv_iload hx hb dX0_cost_86 (lv_at hl 1 rfl) ?_
          refine x_if_ne (tgt := 96) hx hb dX0_cost_88 (by decide) ⟨by decide, by decide⟩ (fun c165 => by exfalso; omega) (fun c165 => ?_)
          refine lv_iload hx hb dX0_cost_91 (lv_at hl 0 rfl) ?_
          refine x_if_eq (tgt := 100) hx hb dX0_cost_93 (by decide) ⟨by decide, by decide⟩ (fun c166 => ?_) (fun c166 => by exfalso; omega)
          obtain ⟨ka, rfl⟩ : ∃ ka : Nat, ax = (ka : Int) := ⟨ax.toNat, by omega⟩
          obtain ⟨kb, rfl⟩ : ∃ kb : Nat, bx = (kb : Int) := ⟨bx.toNat, by omega⟩
          refine lv_aload_n hx hb dX0_cost_100 rfl (lv_at hl 2 rfl) ?_
          refine b_get C hB 0 (by decide) q290 (v := .ref (Ad 1)) rfl rfl dX0_cost_101 ?_
          refine lv_iload_n hx hb dX0_cost_104 rfl (lv_at hl 3 rfl) ?_
          refine r_aald C hB 1 4 rfl rfl 4 rfl (by omega) (by omega) (v := some (Ad (50 + 4))) (if_pos (by omega)) dX0_cost_105 ?_
          refine r_getN C hB (50 + 4) (C0_so (by omega)) rfl in_X1 0 (by decide) q209 (fun x h => h) rfl dX0_cost_106 ?_
          refine lv_iload_n hx hb dX0_cost_109 rfl (lv_at hl 4 rfl) ?_
          refine lv_iload_n hx hb dX0_cost_110 rfl (lv_at hl 5 rfl) ?_
          refine b_cost l C hZ hB 4 (by omega) ka kb (fun _ => by unfold lo; (repeat' split) <;> omega) (fun _ => by unfold ro; (repeat' split) <;> omega) hOK0 q367 ⟨Nat.le_of_ble_eq_true rfl, Nat.le_of_ble_eq_true rfl⟩ hl.1 (Nat.le_of_ble_eq_true rfl) dX0_cost_111 ⟨Nat.le_of_ble_eq_true rfl, Nat.le_of_ble_eq_true rfl⟩ (fun H locs hcra hcrb hB => ?_)
          exact b_iret C hB hr hlocks rfl dX0_cost_116 (Nat.le_of_ble_eq_true rfl) (Nat.le_of_ble_eq_true rfl) ⟨by omega, by omega⟩ ⟨rfl, rfl, rfl, rfl, by unfold rCost; rw [if_neg (by omega), show lo 4 = 1 by decide, show ro 4 = 2 by decide, if_pos (by omega)]; rfl⟩
        · refine x_if_ne (tgt := 83) hx hb dX0_cost_76 (by decide) ⟨by decide, by decide⟩ (fun c167 => by exfalso; omega) (fun c167 => ?_)
          refine lv_iconst (v := iI 1) hx hb dX0_cost_79 rfl ?_
          refine lv_goto (tgt := 84) hx hb dX0_cost_80 (by decide) ?_
          refine lv_istore (lv' := [(5, .int (iI 1)), (4, .int (iI 0)), (0, .ref o), (1, .int (iI 4)), (2, .int (iI ax)), (3, .int (iI bx))]) hx hb dX0_cost_84 hl (by decide) rfl (fun ls hl => ?_)
          refine lv_iload hx hb dX0_cost_86 (lv_at hl 1 rfl) ?_
          refine x_if_ne (tgt := 96) hx hb dX0_cost_88 (by decide) ⟨by decide, by decide⟩ (fun c168 => by exfalso; omega) (fun c168 => ?_)
          refine lv_iload hx hb dX0_cost_91 (lv_at hl 0 rfl) ?_
          refine x_if_eq (tgt := 100) hx hb dX0_cost_93 (by decide) ⟨by decide, by decide⟩ (fun c169 => by exfalso; omega) (fun c169 => ?_)
          refine lv_iconst (v := iI (-1)) hx hb dX0_cost_96 rfl ?_
          refine lv_goto (tgt := 116) hx hb dX0_cost_97 (by decide) ?_
          exact b_iret C hB hr hlocks rfl dX0_cost_116 (Nat.le_of_ble_eq_true rfl) (Nat.le_of_ble_eq_true rfl) ⟨by decide, by decide⟩ ⟨rfl, rfl, rfl, rfl, by unfold rCost; rw [if_neg (by omega), show lo 4 = 1 by decide, show ro 4 = 2 by decide, if_neg (by omega)]⟩
      · refine x_if_ne (tgt := 50) hx hb dX0_cost_43 (by decide) ⟨by decide, by decide⟩ (fun c170 => by exfalso; omega) (fun c170 => ?_)
        refine lv_iconst (v := iI 1) hx hb dX0_cost_46 rfl ?_
        refine lv_goto (tgt := 51) hx hb dX0_cost_47 (by decide) ?_
        refine lv_istore (lv' := [(4, .int (iI 1)), (0, .ref o), (1, .int (iI 4)), (2, .int (iI ax)), (3, .int (iI bx))]) hx hb dX0_cost_51 hl (by decide) rfl (fun ls hl => ?_)
        refine lv_iload_n hx hb dX0_cost_53 rfl (lv_at hl 2 rfl) ?_
        refine bs_calli (n := 1) C hB (As := [.int (iI 4)]) (kX0_rightOf l E 4 ⟨by omega, by omega⟩) (lw_S q363 q364 q68 q365) (by decide +kernel) ⟨Nat.le_of_ble_eq_true rfl, Nat.le_of_ble_eq_true rfl⟩ rfl hl.1 rfl (Nat.le_of_ble_eq_true rfl) dX0_cost_54 ⟨Nat.le_of_ble_eq_true rfl, Nat.le_of_ble_eq_true rfl⟩ (fun z171 H locs hz172 hp173 hB => ?_)
        obtain ⟨hz172a, hz172b⟩ := hz172
        obtain rfl : z171 = 2 := by omega
        refine x_if_le (tgt := 83) hx hb dX0_cost_57 (by decide) ⟨by decide, by decide⟩ (fun c174 => by exfalso; omega) (fun c174 => ?_)
        refine lv_iload_n hx hb dX0_cost_60 rfl (lv_at hl 4 rfl) ?_
        refine x_i2l hx hb dX0_cost_61 ⟨by omega, by omega⟩ ?_
        refine lv_lconst (v := lI 0) hx hb dX0_cost_62 rfl ?_
        refine lv_aload_n hx hb dX0_cost_63 rfl (lv_at hl 1 rfl) ?_
        refine b_get C hB 4 (by decide) q298 (v := .int (iI (I 6))) rfl rfl dX0_cost_64 ?_
        refine lv_iload_n hx hb dX0_cost_67 rfl (lv_at hl 2 rfl) ?_
        refine bs_calli (n := 1) C hB (As := [.int (iI 4)]) (kX0_rightOf l E 4 ⟨by omega, by omega⟩) (lw_S q363 q364 q68 q365) (by decide +kernel) ⟨Nat.le_of_ble_eq_true rfl, Nat.le_of_ble_eq_true rfl⟩ rfl hl.1 rfl (Nat.le_of_ble_eq_true rfl) dX0_cost_68 ⟨Nat.le_of_ble_eq_true rfl, Nat.le_of_ble_eq_true rfl⟩ (fun z175 H locs hz176 hp177 hB => ?_)
        obtain ⟨hz176a, hz176b⟩ := hz176
        obtain rfl : z175 = 2 := by omega
        refine x_isub (z := I 6 - 2) hx hb dX0_cost_71 (by omega) ?_
        refine x_i2l hx hb dX0_cost_72 ⟨by omega, by omega⟩ ?_
        refine bs_calli (n := 3) C hB (As := [.long (lI bx), .long (lI 0), .long (lI (I 6 - 2))]) (kX0_in l E bx 0 (I 6 - 2) ⟨by omega, by omega⟩ ⟨by omega, by omega⟩ ⟨by omega, by omega⟩) (lw_S q234 q235 q68 q236) (by decide +kernel) ⟨Nat.le_of_ble_eq_true rfl, Nat.le_of_ble_eq_true rfl⟩ rfl hl.1 rfl (Nat.le_of_ble_eq_true rfl) dX0_cost_73 ⟨Nat.le_of_ble_eq_true rfl, Nat.le_of_ble_eq_true rfl⟩ (fun z178 H locs hz179 hp180 hB => ?_)
        obtain ⟨hz179a, hz179b⟩ := hz179
        rcases hp180 with ⟨rfl, h181⟩ | ⟨rfl, h181⟩
        · refine x_if_ne (tgt := 83) hx hb dX0_cost_76 (by decide) ⟨by decide, by decide⟩ (fun c182 => ?_) (fun c182 => by exfalso; omega)
          refine lv_iconst (v := iI 0) hx hb dX0_cost_83 rfl ?_
          refine lv_istore (lv' := [(5, .int (iI 0)), (4, .int (iI 1)), (0, .ref o), (1, .int (iI 4)), (2, .int (iI ax)), (3, .int (iI bx))]) hx hb dX0_cost_84 hl (by decide) rfl (fun ls hl => ?_)
          refine lv_iload hx hb dX0_cost_86 (lv_at hl 1 rfl) ?_
          refine x_if_ne (tgt := 96) hx hb dX0_cost_88 (by decide) ⟨by decide, by decide⟩ (fun c183 => ?_) (fun c183 => by exfalso; omega)
          refine lv_iconst (v := iI (-1)) hx hb dX0_cost_96 rfl ?_
          refine lv_goto (tgt := 116) hx hb dX0_cost_97 (by decide) ?_
          exact b_iret C hB hr hlocks rfl dX0_cost_116 (Nat.le_of_ble_eq_true rfl) (Nat.le_of_ble_eq_true rfl) ⟨by decide, by decide⟩ ⟨rfl, rfl, rfl, rfl, by unfold rCost; rw [if_neg (by omega), show lo 4 = 1 by decide, show ro 4 = 2 by decide, if_neg (by omega)]⟩
        · refine x_if_ne (tgt := 83) hx hb dX0_cost_76 (by decide) ⟨by decide, by decide⟩ (fun c184 => by exfalso; omega) (fun c184 => ?_)
          refine lv_iconst (v := iI 1) hx hb dX0_cost_79 rfl ?_
          refine lv_goto (tgt := 84) hx hb dX0_cost_80 (by decide) ?_
          refine lv_istore (lv' := [(5, .int (iI 1)), (4, .int (iI 1)), (0, .ref o), (1, .int (iI 4)), (2, .int (iI ax)), (3, .int (iI bx))]) hx hb dX0_cost_84 hl (by decide) rfl (fun ls hl => ?_)
          refine lv_iload hx hb dX0_cost_86 (lv_at hl 1 rfl) ?_
          refine x_if_ne (tgt := 96) hx hb dX0_cost_88 (by decide) ⟨by decide, by decide⟩ (fun c185 => ?_) (fun c185 => by exfalso; omega)
          refine lv_iconst (v := iI (-1)) hx hb dX0_cost_96 rfl ?_
          refine lv_goto (tgt := 116) hx hb dX0_cost_97 (by decide) ?_
          exact b_iret C hB hr hlocks rfl dX0_cost_116 (Nat.le_of_ble_eq_true rfl) (Nat.le_of_ble_eq_true rfl) ⟨by decide, by decide⟩ ⟨rfl, rfl, rfl, rfl, by unfold rCost; rw [if_neg (by omega), show lo 4 = 1 by decide, show ro 4 = 2 by decide, if_neg (by omega)]⟩
  · refine x_if_ne (tgt := 15) hx hb dX0_cost_9 (by decide) ⟨by decide, by decide⟩ (fun c186 => by exfalso; omega) (fun c186 => ?_)
    refine lv_bipush (v := iI (-2)) hx hb dX0_cost_12 rfl ?_
    exact b_iret C hB hr hlocks rfl dX0_cost_14 (Nat.le_of_ble_eq_true rfl) (Nat.le_of_ble_eq_true rfl) ⟨by decide, by decide⟩ ⟨rfl, rfl, rfl, rfl, by unfold rCost; rw [if_pos (by omega)]⟩
