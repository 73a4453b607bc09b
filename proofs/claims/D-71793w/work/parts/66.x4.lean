/-! THE COMPONENT: left sentences -/
set_option maxRecDepth 100000
set_option maxHeartbeats 800000 in
set_option maxRecDepth 100000 in
theorem kX6_length (l : Launch) (E : xE) (o : Nat) (Ad : Nat → Nat) (I : Nat → Int) (F : Nat → Nat → Int) (X : xw) (i : Nat) (hi : (i : Int) < I 5) (h7 : I 5 ≤ 7) (hL : 1 ≤ F 11 i ∧ F 11 i ≤ 9) : ci_ l E yX6_length cX6_length 1 (some .int) 0 0 0 0 [.ref (Ad (100 + i))] o Ad I F X (fun z Ad' I' F' X' => Ad = Ad' ∧ I = I' ∧ F = F' ∧ X = X' ∧ z = F 11 i) := by
  intro w hI hd sz
  refine x_bodyz (by decide) (Nat.le_of_ble_eq_true rfl) ?_
  intro p e s m args below meth c ls hx hb C hr hlocks hin hsz hZ hB hl
  have C : xC E p s m args c cX6_length 1 RX6 := C
  replace hB : xBB E (xA (wU w X) sz) s o Ad I F X s.heap [] := ⟨w, hI, hd, hB⟩
  have hl : lv_has ls 1 [(0, .ref (Ad (100 + i)))] := hl
  refine lv_aload_n hx hb dX6_length_0 rfl (lv_at hl 0 rfl) ?_
  refine b_plL C hB i (show ((i : Nat) : Int) < I 5 by omega) (show I 5 ≤ 7 by omega) q780 dX6_length_1 ?_
  exact b_iret C hB hr hlocks rfl dX6_length_4 (Nat.le_of_ble_eq_true rfl) (Nat.le_of_ble_eq_true rfl) ⟨by omega, by omega⟩ ⟨rfl, rfl, rfl, rfl, rfl⟩
set_option maxHeartbeats 800000 in
set_option maxRecDepth 100000 in
theorem kX6_anchor (l : Launch) (E : xE) (o : Nat) (Ad : Nat → Nat) (I : Nat → Int) (F : Nat → Nat → Int) (X : xw) (i : Nat) (hi : (i : Int) < I 5) (h7 : I 5 ≤ 7) (hL : 0 ≤ F 12 i ∧ F 12 i ≤ 4) : ci_ l E yX6_anchor cX6_anchor 1 (some .int) 0 0 0 0 [.ref (Ad (100 + i))] o Ad I F X (fun z Ad' I' F' X' => Ad = Ad' ∧ I = I' ∧ F = F' ∧ X = X' ∧ z = F 12 i) := by
  intro w hI hd sz
  refine x_bodyz (by decide) (Nat.le_of_ble_eq_true rfl) ?_
  intro p e s m args below meth c ls hx hb C hr hlocks hin hsz hZ hB hl
  have C : xC E p s m args c cX6_anchor 1 RX6 := C
  replace hB : xBB E (xA (wU w X) sz) s o Ad I F X s.heap [] := ⟨w, hI, hd, hB⟩
  have hl : lv_has ls 1 [(0, .ref (Ad (100 + i)))] := hl
  refine lv_aload_n hx hb dX6_anchor_0 rfl (lv_at hl 0 rfl) ?_
  refine b_plA C hB i (show ((i : Nat) : Int) < I 5 by omega) (show I 5 ≤ 7 by omega) q778 dX6_anchor_1 ?_
  exact b_iret C hB hr hlocks rfl dX6_anchor_4 (Nat.le_of_ble_eq_true rfl) (Nat.le_of_ble_eq_true rfl) ⟨by omega, by omega⟩ ⟨rfl, rfl, rfl, rfl, rfl⟩
set_option maxHeartbeats 800000 in
set_option maxRecDepth 100000 in
theorem kX6_kind (l : Launch) (E : xE) (o : Nat) (Ad : Nat → Nat) (I : Nat → Int) (F : Nat → Nat → Int) (X : xw) (i : Nat) (hi : (i : Int) < I 5) (h7 : I 5 ≤ 7) : ci_ l E yX6_kind cX6_kind 1 (some .int) 0 0 0 0 [.ref (Ad (100 + i))] o Ad I F X (fun z Ad' I' F' X' => Ad = Ad' ∧ I = I' ∧ F = F' ∧ X = X' ∧ z = 0) := by
  intro w hI hd sz
  refine x_bodyz (by decide) (Nat.le_of_ble_eq_true rfl) ?_
  intro p e s m args below meth c ls hx hb C hr hlocks hin hsz hZ hB hl
  have C : xC E p s m args c cX6_kind 1 RX6 := C
  replace hB : xBB E (xA (wU w X) sz) s o Ad I F X s.heap [] := ⟨w, hI, hd, hB⟩
  have hl : lv_has ls 1 [(0, .ref (Ad (100 + i)))] := hl
  refine lv_iconst (v := iI 0) hx hb dX6_kind_0 rfl ?_
  exact b_iret C hB hr hlocks rfl dX6_kind_1 (Nat.le_of_ble_eq_true rfl) (Nat.le_of_ble_eq_true rfl) ⟨by decide, by decide⟩ ⟨rfl, rfl, rfl, rfl, rfl⟩
set_option maxHeartbeats 800000 in
set_option maxRecDepth 100000 in
theorem kX7_kind (l : Launch) (E : xE) (o : Nat) (Ad : Nat → Nat) (I : Nat → Int) (F : Nat → Nat → Int) (X : xw) (i : Nat) (hi : (i : Int) < I 5) (h7 : I 5 ≤ 7) : ci_ l E yX7_kind cX7_kind 1 (some .int) 0 0 0 0 [.ref (Ad (100 + i))] o Ad I F X (fun z Ad' I' F' X' => Ad = Ad' ∧ I = I' ∧ F = F' ∧ X = X' ∧ z = 1) := by
  intro w hI hd sz
  refine x_bodyz (by decide) (Nat.le_of_ble_eq_true rfl) ?_
  intro p e s m args below meth c ls hx hb C hr hlocks hin hsz hZ hB hl
  have C : xC E p s m args c cX7_kind 1 RX7 := C
  replace hB : xBB E (xA (wU w X) sz) s o Ad I F X s.heap [] := ⟨w, hI, hd, hB⟩
  have hl : lv_has ls 1 [(0, .ref (Ad (100 + i)))] := hl
  refine lv_iconst (v := iI 1) hx hb dX7_kind_0 rfl ?_
  exact b_iret C hB hr hlocks rfl dX7_kind_1 (Nat.le_of_ble_eq_true rfl) (Nat.le_of_ble_eq_true rfl) ⟨by decide, by decide⟩ ⟨rfl, rfl, rfl, rfl, rfl⟩
set_option maxHeartbeats 800000 in
set_option maxRecDepth 100000 in
theorem kX8_kind (l : Launch) (E : xE) (o : Nat) (Ad : Nat → Nat) (I : Nat → Int) (F : Nat → Nat → Int) (X : xw) (i : Nat) (hi : (i : Int) < I 5) (h7 : I 5 ≤ 7) : ci_ l E yX8_kind cX8_kind 1 (some .int) 0 0 0 0 [.ref (Ad (100 + i))] o Ad I F X (fun z Ad' I' F' X' => Ad = Ad' ∧ I = I' ∧ F = F' ∧ X = X' ∧ z = 2) := by
  intro w hI hd sz
  refine x_bodyz (by decide) (Nat.le_of_ble_eq_true rfl) ?_
  intro p e s m args below meth c ls hx hb C hr hlocks hin hsz hZ hB hl
  have C : xC E p s m args c cX8_kind 1 RX8 := C
  replace hB : xBB E (xA (wU w X) sz) s o Ad I F X s.heap [] := ⟨w, hI, hd, hB⟩
  have hl : lv_has ls 1 [(0, .ref (Ad (100 + i)))] := hl
  refine lv_iconst (v := iI 2) hx hb dX8_kind_0 rfl ?_
  exact b_iret C hB hr hlocks rfl dX8_kind_1 (Nat.le_of_ble_eq_true rfl) (Nat.le_of_ble_eq_true rfl) ⟨by decide, by decide⟩ ⟨rfl, rfl, rfl, rfl, rfl⟩
set_option maxHeartbeats 800000 in
set_option maxRecDepth 100000 in
theorem kX7_plainLength_1 (l : Launch) (E : xE) (o : Nat) (Ad : Nat → Nat) (I : Nat → Int) (F : Nat → Nat → Int) (X : xw) (i : Nat) (hi : (i : Int) < I 5) (h7 : I 5 ≤ 7) (hk : F 10 i = 1) (hL : 1 ≤ F 11 i ∧ F 11 i ≤ 9) : ci_ l E yX7_plainLength cX7_plainLength 1 (some .int) 1 20 0 0 [.ref (Ad (100 + i))] o Ad I F X (fun z Ad' I' F' X' => Ad = Ad' ∧ I = I' ∧ F = F' ∧ X = X' ∧ z = F 11 i) := by
  intro w hI hd sz
  refine x_bodyz (by decide) (Nat.le_of_ble_eq_true rfl) ?_
  intro p e s m args below meth c ls hx hb C hr hlocks hin hsz hZ hB hl
  have C : xC E p s m args c cX7_plainLength 1 RX7 := C
  replace hB : xBB E (xA (wU w X) sz) s o Ad I F X s.heap [] := ⟨w, hI, hd, hB⟩
  have hl : lv_has ls 1 [(0, .ref (Ad (100 + i)))] := hl
  refine lv_aload_n hx hb dX7_plainLength_0 rfl (lv_at hl 0 rfl) ?_
  refine b_calli 0 0 (Nat.le_of_ble_eq_true rfl) (Nat.le_of_ble_eq_true rfl) hB (fun w hI hd hB => rSU (As := []) (n := 0) C hZ hB (kX6_length l E o Ad I F X i (by omega) (by omega) (by omega) w hI hd _) q189 q179 q190 q177 q80 q191 (by decide +kernel) ⟨Nat.le_of_ble_eq_true rfl, Nat.le_of_ble_eq_true rfl⟩ (wU_l (pl_at1 hI (show ((i : Nat) : Int) < I 5 by omega) (show I 5 ≤ 7 by omega) (show (F 10) i = 1 from hk))) rfl rfl hl.1 rfl (Nat.le_of_ble_eq_true rfl) dX7_plainLength_1 ⟨Nat.le_of_ble_eq_true rfl, Nat.le_of_ble_eq_true rfl⟩) (fun z1 Ad2 I3 F4 X5 H locs hz6 hp7 hB => ?_)
  obtain ⟨hz6a, hz6b⟩ := hz6
  obtain ⟨rfl, rfl, rfl, rfl, rfl⟩ := hp7
  exact b_iret C hB hr hlocks rfl dX7_plainLength_4 (Nat.le_of_ble_eq_true rfl) (Nat.le_of_ble_eq_true rfl) ⟨by omega, by omega⟩ ⟨rfl, rfl, rfl, rfl, rfl⟩
set_option maxHeartbeats 800000 in
set_option maxRecDepth 100000 in
theorem kX7_plainLength_2 (l : Launch) (E : xE) (o : Nat) (Ad : Nat → Nat) (I : Nat → Int) (F : Nat → Nat → Int) (X : xw) (i : Nat) (hi : (i : Int) < I 5) (h7 : I 5 ≤ 7) (hk : F 10 i = 2) (hL : 1 ≤ F 11 i ∧ F 11 i ≤ 9) : ci_ l E yX7_plainLength cX7_plainLength 1 (some .int) 1 20 0 0 [.ref (Ad (100 + i))] o Ad I F X (fun z Ad' I' F' X' => Ad = Ad' ∧ I = I' ∧ F = F' ∧ X = X' ∧ z = F 11 i) := by
  intro w hI hd sz
  refine x_bodyz (by decide) (Nat.le_of_ble_eq_true rfl) ?_
  intro p e s m args below meth c ls hx hb C hr hlocks hin hsz hZ hB hl
  have C : xC E p s m args c cX7_plainLength 1 RX7 := C
  replace hB : xBB E (xA (wU w X) sz) s o Ad I F X s.heap [] := ⟨w, hI, hd, hB⟩
  have hl : lv_has ls 1 [(0, .ref (Ad (100 + i)))] := hl
  refine lv_aload_n hx hb dX7_plainLength_0 rfl (lv_at hl 0 rfl) ?_
  refine b_calli 0 0 (Nat.le_of_ble_eq_true rfl) (Nat.le_of_ble_eq_true rfl) hB (fun w hI hd hB => rSU (As := []) (n := 0) C hZ hB (kX6_length l E o Ad I F X i (by omega) (by omega) (by omega) w hI hd _) q189 q179 q190 q177 q80 q191 (by decide +kernel) ⟨Nat.le_of_ble_eq_true rfl, Nat.le_of_ble_eq_true rfl⟩ (wU_l (pl_at2 hI (show ((i : Nat) : Int) < I 5 by omega) (show I 5 ≤ 7 by omega) (show (F 10) i = 2 from hk))) rfl rfl hl.1 rfl (Nat.le_of_ble_eq_true rfl) dX7_plainLength_1 ⟨Nat.le_of_ble_eq_true rfl, Nat.le_of_ble_eq_true rfl⟩) (fun z1 Ad2 I3 F4 X5 H locs hz6 hp7 hB => ?_)
  obtain ⟨hz6a, hz6b⟩ := hz6
  obtain ⟨rfl, rfl, rfl, rfl, rfl⟩ := hp7
  exact b_iret C hB hr hlocks rfl dX7_plainLength_4 (Nat.le_of_ble_eq_true rfl) (Nat.le_of_ble_eq_true rfl) ⟨by omega, by omega⟩ ⟨rfl, rfl, rfl, rfl, rfl⟩
set_option maxHeartbeats 800000 in
set_option maxRecDepth 100000 in
theorem kX7_length_1 (l : Launch) (E : xE) (o : Nat) (Ad : Nat → Nat) (I : Nat → Int) (F : Nat → Nat → Int) (X : xw) (i : Nat) (hi : (i : Int) < I 5) (h7 : I 5 ≤ 7) (hk : F 10 i = 1) (hL : 1 ≤ F 11 i ∧ F 11 i ≤ 9) : ci_ l E yX7_length cX7_length 1 (some .int) 2 40 0 0 [.ref (Ad (100 + i))] o Ad I F X (fun z Ad' I' F' X' => Ad = Ad' ∧ I = I' ∧ F = F' ∧ X = X' ∧ z = F 11 i + 1) := by
  intro w hI hd sz
  refine x_bodyz (by decide) (Nat.le_of_ble_eq_true rfl) ?_
  intro p e s m args below meth c ls hx hb C hr hlocks hin hsz hZ hB hl
  have C : xC E p s m args c cX7_length 1 RX7 := C
  replace hB : xBB E (xA (wU w X) sz) s o Ad I F X s.heap [] := ⟨w, hI, hd, hB⟩
  have hl : lv_has ls 1 [(0, .ref (Ad (100 + i)))] := hl
  refine lv_aload_n hx hb dX7_length_0 rfl (lv_at hl 0 rfl) ?_
  refine b_calli 0 0 (Nat.le_of_ble_eq_true rfl) (Nat.le_of_ble_eq_true rfl) hB (fun w hI hd hB => rV (As := []) (n := 0) C hZ hB (kX7_plainLength_1 l E o Ad I F X i (by omega) (by omega) hk (by omega) w hI hd _) (lw_V q195 q187 q1739 q81 q188) (by decide +kernel) ⟨Nat.le_of_ble_eq_true rfl, Nat.le_of_ble_eq_true rfl⟩ (wU_l (pl_at1 hI (show ((i : Nat) : Int) < I 5 by omega) (show I 5 ≤ 7 by omega) (show (F 10) i = 1 from hk))) rfl rfl rfl hl.1 rfl (Nat.le_of_ble_eq_true rfl) dX7_length_1 ⟨Nat.le_of_ble_eq_true rfl, Nat.le_of_ble_eq_true rfl⟩) (fun z1 Ad2 I3 F4 X5 H locs hz6 hp7 hB => ?_)
  obtain ⟨hz6a, hz6b⟩ := hz6
  obtain ⟨rfl, rfl, rfl, rfl, rfl⟩ := hp7
  refine lv_iconst (v := iI 1) hx hb dX7_length_4 rfl ?_
  refine x_iadd (z := (F 11) i + 1) hx hb dX7_length_5 (by omega) ?_
  exact b_iret C hB hr hlocks rfl dX7_length_6 (Nat.le_of_ble_eq_true rfl) (Nat.le_of_ble_eq_true rfl) ⟨by omega, by omega⟩ ⟨rfl, rfl, rfl, rfl, rfl⟩
set_option maxHeartbeats 800000 in
set_option maxRecDepth 100000 in
theorem kX8_length_2 (l : Launch) (E : xE) (o : Nat) (Ad : Nat → Nat) (I : Nat → Int) (F : Nat → Nat → Int) (X : xw) (i : Nat) (hi : (i : Int) < I 5) (h7 : I 5 ≤ 7) (hk : F 10 i = 2) (hL : 1 ≤ F 11 i ∧ F 11 i ≤ 9) : ci_ l E yX8_length cX8_length 1 (some .int) 2 40 0 0 [.ref (Ad (100 + i))] o Ad I F X (fun z Ad' I' F' X' => Ad = Ad' ∧ I = I' ∧ F = F' ∧ X = X' ∧ z = 2 * F 11 i) := by
  intro w hI hd sz
  refine x_bodyz (by decide) (Nat.le_of_ble_eq_true rfl) ?_
  intro p e s m args below meth c ls hx hb C hr hlocks hin hsz hZ hB hl
  have C : xC E p s m args c cX8_length 1 RX8 := C
  replace hB : xBB E (xA (wU w X) sz) s o Ad I F X s.heap [] := ⟨w, hI, hd, hB⟩
  have hl : lv_has ls 1 [(0, .ref (Ad (100 + i)))] := hl
  refine lv_iconst (v := iI 2) hx hb dX8_length_0 rfl ?_
  refine lv_aload_n hx hb dX8_length_1 rfl (lv_at hl 0 rfl) ?_
  refine b_calli 0 0 (Nat.le_of_ble_eq_true rfl) (Nat.le_of_ble_eq_true rfl) hB (fun w hI hd hB => rU (As := []) (n := 0) C hZ hB ⟨"BookPairs$Doubled", "plainLength", "()I"⟩ "BookPairs$Longer" (kX7_plainLength_2 l E o Ad I F X i (by omega) (by omega) hk (by omega) w hI hd _) q183 q184 q186 q187 q81 q188 rfl (by decide +kernel) ⟨Nat.le_of_ble_eq_true rfl, Nat.le_of_ble_eq_true rfl⟩ (wU_l (pl_at2 hI (show ((i : Nat) : Int) < I 5 by omega) (show I 5 ≤ 7 by omega) (show (F 10) i = 2 from hk))) rfl rfl rfl hl.1 rfl (Nat.le_of_ble_eq_true rfl) dX8_length_2 ⟨Nat.le_of_ble_eq_true rfl, Nat.le_of_ble_eq_true rfl⟩) (fun z1 Ad2 I3 F4 X5 H locs hz6 hp7 hB => ?_)
  obtain ⟨hz6a, hz6b⟩ := hz6
  obtain ⟨rfl, rfl, rfl, rfl, rfl⟩ := hp7
  refine x_imul (z := 2 * (F 11) i) hx hb dX8_length_5 (by omega) ?_
  exact b_iret C hB hr hlocks rfl dX8_length_6 (Nat.le_of_ble_eq_true rfl) (Nat.le_of_ble_eq_true rfl) ⟨by omega, by omega⟩ ⟨rfl, rfl, rfl, rfl, rfl⟩
set_option maxHeartbeats 800000 in
set_option maxRecDepth 100000 in
theorem kX6_tracedBy (l : Launch) (E : xE) (o : Nat) (Ad : Nat → Nat) (I : Nat → Int) (F : Nat → Nat → Int) (X : xw) (i : Nat) (t : Int) (hi : (i : Int) < I 5) (h7 : I 5 ≤ 7) (ht : 0 ≤ t ∧ t ≤ 100) : ci_ l E yX6_tracedBy cX6_tracedBy 2 (some .int) 0 0 0 0 [.ref (Ad (100 + i)), .int (iI t)] o Ad I F X (fun z Ad' I' F' X' => Ad = Ad' ∧ va_up I 1 (tr (I 1) t) = I' ∧ F = F' ∧ X = X' ∧ z = 0) := by
  intro w hI hd sz
  refine x_bodyz (by decide) (Nat.le_of_ble_eq_true rfl) ?_
  intro p e s m args below meth c ls hx hb C hr hlocks hin hsz hZ hB hl
  have C : xC E p s m args c cX6_tracedBy 2 RX6 := C
  replace hB : xBB E (xA (wU w X) sz) s o Ad I F X s.heap [] := ⟨w, hI, hd, hB⟩
  have hl : lv_has ls 2 [(0, .ref (Ad (100 + i))), (1, .int (iI t))] := hl
  refine lv_aload_n hx hb dX6_tracedBy_0 rfl (lv_at hl 0 rfl) ?_
  refine b_plO C hB i (show ((i : Nat) : Int) < I 5 by omega) (show I 5 ≤ 7 by omega) q787 dX6_tracedBy_1 ?_
  refine lv_bipush (v := iI 31) hx hb dX6_tracedBy_4 rfl ?_
  refine lv_aload_n hx hb dX6_tracedBy_6 rfl (lv_at hl 0 rfl) ?_
  refine b_plO C hB i (show ((i : Nat) : Int) < I 5 by omega) (show I 5 ≤ 7 by omega) q787 dX6_tracedBy_7 ?_
  refine b_getN C hB 2 (by decide) q293 (v := .int (iI (I 1))) rfl rfl dX6_tracedBy_10 ?_
  refine x_imul (z := 31 * I 1) hx hb dX6_tracedBy_13 (by omega) ?_
  refine lv_iload_n hx hb dX6_tracedBy_14 rfl (lv_at hl 1 rfl) ?_
  refine x_iadd (z := 31 * I 1 + t) hx hb dX6_tracedBy_15 (by omega) ?_
  refine b_putN C hB 2 1 (by decide) rfl q293 rfl rfl rfl dX6_tracedBy_16 (fun H locs hB => ?_)
  refine lv_iconst (v := iI 0) hx hb dX6_tracedBy_19 rfl ?_
  exact b_iret C hB hr hlocks rfl dX6_tracedBy_20 (Nat.le_of_ble_eq_true rfl) (Nat.le_of_ble_eq_true rfl) ⟨by decide, by decide⟩ ⟨rfl, rfl, rfl, rfl, rfl⟩
set_option maxHeartbeats 800000 in
set_option maxRecDepth 100000 in
theorem kX6_said_0 (l : Launch) (E : xE) (o : Nat) (Ad : Nat → Nat) (I : Nat → Int) (F : Nat → Nat → Int) (X : xw) (i : Nat) (hi : (i : Int) < I 5) (h7 : I 5 ≤ 7) (hk : F 10 i = 0) (hL : 1 ≤ F 11 i ∧ F 11 i ≤ 9) : ci_ l E yX6_said cX6_said 1 (some .int) 1 21 0 0 [.ref (Ad (100 + i))] o Ad I F X (fun z Ad' I' F' X' => Ad = Ad' ∧ va_up I 1 (tr (I 1) 1) = I' ∧ F = F' ∧ X = X' ∧ z = F 11 i) := by
  intro w hI hd sz
  refine x_bodyz (by decide) (Nat.le_of_ble_eq_true rfl) ?_
  intro p e s m args below meth c ls hx hb C hr hlocks hin hsz hZ hB hl
  have C : xC E p s m args c cX6_said 1 RX6 := C
  replace hB : xBB E (xA (wU w X) sz) s o Ad I F X s.heap [] := ⟨w, hI, hd, hB⟩
  have hl : lv_has ls 1 [(0, .ref (Ad (100 + i)))] := hl
  refine lv_aload_n hx hb dX6_said_0 rfl (lv_at hl 0 rfl) ?_
  refine lv_iconst (v := iI 1) hx hb dX6_said_1 rfl ?_
  refine b_calli 0 0 (Nat.le_of_ble_eq_true rfl) (Nat.le_of_ble_eq_true rfl) hB (fun w hI hd hB => rV (As := [.int (iI 1)]) (n := 1) C hZ hB (kX6_tracedBy l E o Ad I F X i 1 (by omega) (by omega) (by omega) w hI hd _) (lw_V q1298 q1287 q1745 q80 q1288) (by decide +kernel) ⟨Nat.le_of_ble_eq_true rfl, Nat.le_of_ble_eq_true rfl⟩ (wU_l (pl_at0 hI (show ((i : Nat) : Int) < I 5 by omega) (show I 5 ≤ 7 by omega) (show (F 10) i = 0 from hk))) rfl rfl rfl hl.1 rfl (Nat.le_of_ble_eq_true rfl) dX6_said_2 ⟨Nat.le_of_ble_eq_true rfl, Nat.le_of_ble_eq_true rfl⟩) (fun z1 Ad2 I3 F4 X5 H locs hz6 hp7 hB => ?_)
  obtain ⟨hz6a, hz6b⟩ := hz6
  obtain ⟨rfl, rfl, rfl, rfl, rfl⟩ := hp7
  replace hB : xBB E (xA (wU w X) sz) s o Ad (va_up I 1 (tr (I 1) 1)) F X _ _ := hB
  refine lv_aload_n hx hb dX6_said_5 rfl (lv_at hl 0 rfl) ?_
  refine b_plL C hB i (show ((i : Nat) : Int) < I 5 by omega) (show I 5 ≤ 7 by omega) q780 dX6_said_6 ?_
  refine x_iadd (z := (F 11) i) hx hb dX6_said_9 (by omega) ?_
  exact b_iret C hB hr hlocks rfl dX6_said_10 (Nat.le_of_ble_eq_true rfl) (Nat.le_of_ble_eq_true rfl) ⟨by omega, by omega⟩ ⟨rfl, rfl, rfl, rfl, rfl⟩
set_option maxHeartbeats 800000 in
set_option maxRecDepth 100000 in
theorem kX6_said_1 (l : Launch) (E : xE) (o : Nat) (Ad : Nat → Nat) (I : Nat → Int) (F : Nat → Nat → Int) (X : xw) (i : Nat) (hi : (i : Int) < I 5) (h7 : I 5 ≤ 7) (hk : F 10 i = 1) (hL : 1 ≤ F 11 i ∧ F 11 i ≤ 9) : ci_ l E yX6_said cX6_said 1 (some .int) 1 21 0 0 [.ref (Ad (100 + i))] o Ad I F X (fun z Ad' I' F' X' => Ad = Ad' ∧ va_up I 1 (tr (I 1) 1) = I' ∧ F = F' ∧ X = X' ∧ z = F 11 i) := by
  intro w hI hd sz
  refine x_bodyz (by decide) (Nat.le_of_ble_eq_true rfl) ?_
  intro p e s m args below meth c ls hx hb C hr hlocks hin hsz hZ hB hl
  have C : xC E p s m args c cX6_said 1 RX6 := C
  replace hB : xBB E (xA (wU w X) sz) s o Ad I F X s.heap [] := ⟨w, hI, hd, hB⟩
  have hl : lv_has ls 1 [(0, .ref (Ad (100 + i)))] := hl
  refine lv_aload_n hx hb dX6_said_0 rfl (lv_at hl 0 rfl) ?_
  refine lv_iconst (v := iI 1) hx hb dX6_said_1 rfl ?_
  refine b_calli 0 0 (Nat.le_of_ble_eq_true rfl) (Nat.le_of_ble_eq_true rfl) hB (fun w hI hd hB => rU (As := [.int (iI 1)]) (n := 1) C hZ hB ⟨"BookPairs$Plain", "tracedBy", "(I)I"⟩ "BookPairs$Plain" (kX6_tracedBy l E o Ad I F X i 1 (by omega) (by omega) (by omega) w hI hd _) q1298 q1742 q1744 q1287 q80 q1288 rfl (by decide +kernel) ⟨Nat.le_of_ble_eq_true rfl, Nat.le_of_ble_eq_true rfl⟩ (wU_l (pl_at1 hI (show ((i : Nat) : Int) < I 5 by omega) (show I 5 ≤ 7 by omega) (show (F 10) i = 1 from hk))) rfl rfl rfl hl.1 rfl (Nat.le_of_ble_eq_true rfl) dX6_said_2 ⟨Nat.le_of_ble_eq_true rfl, Nat.le_of_ble_eq_true rfl⟩) (fun z1 Ad2 I3 F4 X5 H locs hz6 hp7 hB => ?_)
  obtain ⟨hz6a, hz6b⟩ := hz6
  obtain ⟨rfl, rfl, rfl, rfl, rfl⟩ := hp7
  replace hB : xBB E (xA (wU w X) sz) s o Ad (va_up I 1 (tr (I 1) 1)) F X _ _ := hB
  refine lv_aload_n hx hb dX6_said_5 rfl (lv_at hl 0 rfl) ?_
  refine b_plL C hB i (show ((i : Nat) : Int) < I 5 by omega) (show I 5 ≤ 7 by omega) q780 dX6_said_6 ?_
  refine x_iadd (z := (F 11) i) hx hb dX6_said_9 (by omega) ?_
  exact b_iret C hB hr hlocks rfl dX6_said_10 (Nat.le_of_ble_eq_true rfl) (Nat.le_of_ble_eq_true rfl) ⟨by omega, by omega⟩ ⟨rfl, rfl, rfl, rfl, rfl⟩
set_option maxHeartbeats 800000 in
set_option maxRecDepth 100000 in
theorem kX6_said_2 (l : Launch) (E : xE) (o : Nat) (Ad : Nat → Nat) (I : Nat → Int) (F : Nat → Nat → Int) (X : xw) (i : Nat) (hi : (i : Int) < I 5) (h7 : I 5 ≤ 7) (hk : F 10 i = 2) (hL : 1 ≤ F 11 i ∧ F 11 i ≤ 9) : ci_ l E yX6_said cX6_said 1 (some .int) 1 21 0 0 [.ref (Ad (100 + i))] o Ad I F X (fun z Ad' I' F' X' => Ad = Ad' ∧ va_up I 1 (tr (I 1) 1) = I' ∧ F = F' ∧ X = X' ∧ z = F 11 i) := by
  intro w hI hd sz
  refine x_bodyz (by decide) (Nat.le_of_ble_eq_true rfl) ?_
  intro p e s m args below meth c ls hx hb C hr hlocks hin hsz hZ hB hl
  have C : xC E p s m args c cX6_said 1 RX6 := C
  replace hB : xBB E (xA (wU w X) sz) s o Ad I F X s.heap [] := ⟨w, hI, hd, hB⟩
  have hl : lv_has ls 1 [(0, .ref (Ad (100 + i)))] := hl
  refine lv_aload_n hx hb dX6_said_0 rfl (lv_at hl 0 rfl) ?_
  refine lv_iconst (v := iI 1) hx hb dX6_said_1 rfl ?_
  refine b_calli 0 0 (Nat.le_of_ble_eq_true rfl) (Nat.le_of_ble_eq_true rfl) hB (fun w hI hd hB => rU (As := [.int (iI 1)]) (n := 1) C hZ hB ⟨"BookPairs$Plain", "tracedBy", "(I)I"⟩ "BookPairs$Plain" (kX6_tracedBy l E o Ad I F X i 1 (by omega) (by omega) (by omega) w hI hd _) q1298 q1742 q1743 q1287 q80 q1288 rfl (by decide +kernel) ⟨Nat.le_of_ble_eq_true rfl, Nat.le_of_ble_eq_true rfl⟩ (wU_l (pl_at2 hI (show ((i : Nat) : Int) < I 5 by omega) (show I 5 ≤ 7 by omega) (show (F 10) i = 2 from hk))) rfl rfl rfl hl.1 rfl (Nat.le_of_ble_eq_true rfl) dX6_said_2 ⟨Nat.le_of_ble_eq_true rfl, Nat.le_of_ble_eq_true rfl⟩) (fun z1 Ad2 I3 F4 X5 H locs hz6 hp7 hB => ?_)
  obtain ⟨hz6a, hz6b⟩ := hz6
  obtain ⟨rfl, rfl, rfl, rfl, rfl⟩ := hp7
  replace hB : xBB E (xA (wU w X) sz) s o Ad (va_up I 1 (tr (I 1) 1)) F X _ _ := hB
  refine lv_aload_n hx hb dX6_said_5 rfl (lv_at hl 0 rfl) ?_
  refine b_plL C hB i (show ((i : Nat) : Int) < I 5 by omega) (show I 5 ≤ 7 by omega) q780 dX6_said_6 ?_
  refine x_iadd (z := (F 11) i) hx hb dX6_said_9 (by omega) ?_
  exact b_iret C hB hr hlocks rfl dX6_said_10 (Nat.le_of_ble_eq_true rfl) (Nat.le_of_ble_eq_true rfl) ⟨by omega, by omega⟩ ⟨rfl, rfl, rfl, rfl, rfl⟩
set_option maxHeartbeats 800000 in
set_option maxRecDepth 100000 in
theorem kX7_said_1 (l : Launch) (E : xE) (o : Nat) (Ad : Nat → Nat) (I : Nat → Int) (F : Nat → Nat → Int) (X : xw) (i : Nat) (hi : (i : Int) < I 5) (h7 : I 5 ≤ 7) (hk : F 10 i = 1) (hL : 1 ≤ F 11 i ∧ F 11 i ≤ 9) : ci_ l E yX7_said cX7_said 1 (some .int) 2 41 0 0 [.ref (Ad (100 + i))] o Ad I F X (fun z Ad' I' F' X' => Ad = Ad' ∧ va_up I 1 (tr (tr (I 1) 2) 1) = I' ∧ F = F' ∧ X = X' ∧ z = F 11 i + 100) := by
  intro w hI hd sz
  refine x_bodyz (by decide) (Nat.le_of_ble_eq_true rfl) ?_
  intro p e s m args below meth c ls hx hb C hr hlocks hin hsz hZ hB hl
  have C : xC E p s m args c cX7_said 1 RX7 := C
  replace hB : xBB E (xA (wU w X) sz) s o Ad I F X s.heap [] := ⟨w, hI, hd, hB⟩
  have hl : lv_has ls 1 [(0, .ref (Ad (100 + i)))] := hl
  refine lv_aload_n hx hb dX7_said_0 rfl (lv_at hl 0 rfl) ?_
  refine lv_iconst (v := iI 2) hx hb dX7_said_1 rfl ?_
  refine b_calli 0 0 (Nat.le_of_ble_eq_true rfl) (Nat.le_of_ble_eq_true rfl) hB (fun w hI hd hB => rU (As := [.int (iI 2)]) (n := 1) C hZ hB ⟨"BookPairs$Longer", "tracedBy", "(I)I"⟩ "BookPairs$Plain" (kX6_tracedBy l E o Ad I F X i 2 (by omega) (by omega) (by omega) w hI hd _) q1292 q1293 q1295 q1287 q80 q1288 rfl (by decide +kernel) ⟨Nat.le_of_ble_eq_true rfl, Nat.le_of_ble_eq_true rfl⟩ (wU_l (pl_at1 hI (show ((i : Nat) : Int) < I 5 by omega) (show I 5 ≤ 7 by omega) (show (F 10) i = 1 from hk))) rfl rfl rfl hl.1 rfl (Nat.le_of_ble_eq_true rfl) dX7_said_2 ⟨Nat.le_of_ble_eq_true rfl, Nat.le_of_ble_eq_true rfl⟩) (fun z1 Ad2 I3 F4 X5 H locs hz6 hp7 hB => ?_)
  obtain ⟨hz6a, hz6b⟩ := hz6
  obtain ⟨rfl, rfl, rfl, rfl, rfl⟩ := hp7
  replace hB : xBB E (xA (wU w X) sz) s o Ad (va_up I 1 (tr (I 1) 2)) F X _ _ := hB
  refine lv_aload_n hx hb dX7_said_5 rfl (lv_at hl 0 rfl) ?_
  refine b_calli 0 0 (Nat.le_of_ble_eq_true rfl) (Nat.le_of_ble_eq_true rfl) hB (fun w hI hd hB => rSU (As := []) (n := 0) C hZ hB (kX6_said_1 l E o Ad (va_up I 1 (tr (I 1) 2)) F X i (show (i : Int) < I 5 by omega) (show I 5 ≤ 7 by omega) hk (by omega) w hI hd _) q1296 q1279 q190 q1277 q80 q1297 (by decide +kernel) ⟨Nat.le_of_ble_eq_true rfl, Nat.le_of_ble_eq_true rfl⟩ (wU_l (pl_at1 hI (show ((i : Nat) : Int) < I 5 by omega) (show I 5 ≤ 7 by omega) (show (F 10) i = 1 from hk))) rfl rfl hl.1 rfl (Nat.le_of_ble_eq_true rfl) dX7_said_6 ⟨Nat.le_of_ble_eq_true rfl, Nat.le_of_ble_eq_true rfl⟩) (fun z8 Ad9 I10 F11 X12 H locs hz13 hp14 hB => ?_)
  obtain ⟨hz13a, hz13b⟩ := hz13
  obtain ⟨rfl, rfl, rfl, rfl, rfl⟩ := hp14
  rw [bx_uu] at hB
  replace hB : xBB E (xA (wU w X) sz) s o Ad (va_up I 1 (tr (tr (I 1) 2) 1)) F X _ _ := hB
  refine x_iadd (z := (F 11) i) hx hb dX7_said_9 (by omega) ?_
  refine lv_bipush (v := iI 100) hx hb dX7_said_10 rfl ?_
  refine x_iadd (z := (F 11) i + 100) hx hb dX7_said_12 (by omega) ?_
  exact b_iret C hB hr hlocks rfl dX7_said_13 (Nat.le_of_ble_eq_true rfl) (Nat.le_of_ble_eq_true rfl) ⟨by omega, by omega⟩ ⟨rfl, rfl, rfl, rfl, rfl⟩
set_option maxHeartbeats 800000 in
set_option maxRecDepth 100000 in
theorem kX7_said_2 (l : Launch) (E : xE) (o : Nat) (Ad : Nat → Nat) (I : Nat → Int) (F : Nat → Nat → Int) (X : xw) (i : Nat) (hi : (i : Int) < I 5) (h7 : I 5 ≤ 7) (hk : F 10 i = 2) (hL : 1 ≤ F 11 i ∧ F 11 i ≤ 9) : ci_ l E yX7_said cX7_said 1 (some .int) 2 41 0 0 [.ref (Ad (100 + i))] o Ad I F X (fun z Ad' I' F' X' => Ad = Ad' ∧ va_up I 1 (tr (tr (I 1) 2) 1) = I' ∧ F = F' ∧ X = X' ∧ z = F 11 i + 100) := by
  intro w hI hd sz
  refine x_bodyz (by decide) (Nat.le_of_ble_eq_true rfl) ?_
  intro p e s m args below meth c ls hx hb C hr hlocks hin hsz hZ hB hl
  have C : xC E p s m args c cX7_said 1 RX7 := C
  replace hB : xBB E (xA (wU w X) sz) s o Ad I F X s.heap [] := ⟨w, hI, hd, hB⟩
  have hl : lv_has ls 1 [(0, .ref (Ad (100 + i)))] := hl
  refine lv_aload_n hx hb dX7_said_0 rfl (lv_at hl 0 rfl) ?_
  refine lv_iconst (v := iI 2) hx hb dX7_said_1 rfl ?_
  refine b_calli 0 0 (Nat.le_of_ble_eq_true rfl) (Nat.le_of_ble_eq_true rfl) hB (fun w hI hd hB => rU (As := [.int (iI 2)]) (n := 1) C hZ hB ⟨"BookPairs$Longer", "tracedBy", "(I)I"⟩ "BookPairs$Plain" (kX6_tracedBy l E o Ad I F X i 2 (by omega) (by omega) (by omega) w hI hd _) q1292 q1293 q1294 q1287 q80 q1288 rfl (by decide +kernel) ⟨Nat.le_of_ble_eq_true rfl, Nat.le_of_ble_eq_true rfl⟩ (wU_l (pl_at2 hI (show ((i : Nat) : Int) < I 5 by omega) (show I 5 ≤ 7 by omega) (show (F 10) i = 2 from hk))) rfl rfl rfl hl.1 rfl (Nat.le_of_ble_eq_true rfl) dX7_said_2 ⟨Nat.le_of_ble_eq_true rfl, Nat.le_of_ble_eq_true rfl⟩) (fun z1 Ad2 I3 F4 X5 H locs hz6 hp7 hB => ?_)
  obtain ⟨hz6a, hz6b⟩ := hz6
  obtain ⟨rfl, rfl, rfl, rfl, rfl⟩ := hp7
  replace hB : xBB E (xA (wU w X) sz) s o Ad (va_up I 1 (tr (I 1) 2)) F X _ _ := hB
  refine lv_aload_n hx hb dX7_said_5 rfl (lv_at hl 0 rfl) ?_
  refine b_calli 0 0 (Nat.le_of_ble_eq_true rfl) (Nat.le_of_ble_eq_true rfl) hB (fun w hI hd hB => rSU (As := []) (n := 0) C hZ hB (kX6_said_2 l E o Ad (va_up I 1 (tr (I 1) 2)) F X i (show (i : Int) < I 5 by omega) (show I 5 ≤ 7 by omega) hk (by omega) w hI hd _) q1296 q1279 q190 q1277 q80 q1297 (by decide +kernel) ⟨Nat.le_of_ble_eq_true rfl, Nat.le_of_ble_eq_true rfl⟩ (wU_l (pl_at2 hI (show ((i : Nat) : Int) < I 5 by omega) (show I 5 ≤ 7 by omega) (show (F 10) i = 2 from hk))) rfl rfl hl.1 rfl (Nat.le_of_ble_eq_true rfl) dX7_said_6 ⟨Nat.le_of_ble_eq_true rfl, Nat.le_of_ble_eq_true rfl⟩) (fun z8 Ad9 I10 F11 X12 H locs hz13 hp14 hB => ?_)
  obtain ⟨hz13a, hz13b⟩ := hz13
  obtain ⟨rfl, rfl, rfl, rfl, rfl⟩ := hp14
  rw [bx_uu] at hB
  replace hB : xBB E (xA (wU w X) sz) s o Ad (va_up I 1 (tr (tr (I 1) 2) 1)) F X _ _ := hB
  refine x_iadd (z := (F 11) i) hx hb dX7_said_9 (by omega) ?_
  refine lv_bipush (v := iI 100) hx hb dX7_said_10 rfl ?_
  refine x_iadd (z := (F 11) i + 100) hx hb dX7_said_12 (by omega) ?_
  exact b_iret C hB hr hlocks rfl dX7_said_13 (Nat.le_of_ble_eq_true rfl) (Nat.le_of_ble_eq_true rfl) ⟨by omega, by omega⟩ ⟨rfl, rfl, rfl, rfl, rfl⟩
set_option maxHeartbeats 800000 in
set_option maxRecDepth 100000 in
theorem kX7_plainly_2 (l : Launch) (E : xE) (o : Nat) (Ad : Nat → Nat) (I : Nat → Int) (F : Nat → Nat → Int) (X : xw) (i : Nat) (hi : (i : Int) < I 5) (h7 : I 5 ≤ 7) (hk : F 10 i = 2) (hL : 1 ≤ F 11 i ∧ F 11 i ≤ 9) : ci_ l E yX7_plainly cX7_plainly 1 (some .int) 2 41 0 0 [.ref (Ad (100 + i))] o Ad I F X (fun z Ad' I' F' X' => Ad = Ad' ∧ va_up I 1 (tr (I 1) 1) = I' ∧ F = F' ∧ X = X' ∧ z = F 11 i) := by
  intro w hI hd sz
  refine x_bodyz (by decide) (Nat.le_of_ble_eq_true rfl) ?_
  intro p e s m args below meth c ls hx hb C hr hlocks hin hsz hZ hB hl
  have C : xC E p s m args c cX7_plainly 1 RX7 := C
  replace hB : xBB E (xA (wU w X) sz) s o Ad I F X s.heap [] := ⟨w, hI, hd, hB⟩
  have hl : lv_has ls 1 [(0, .ref (Ad (100 + i)))] := hl
  refine lv_aload_n hx hb dX7_plainly_0 rfl (lv_at hl 0 rfl) ?_
  refine b_calli 0 0 (Nat.le_of_ble_eq_true rfl) (Nat.le_of_ble_eq_true rfl) hB (fun w hI hd hB => rSU (As := []) (n := 0) C hZ hB (kX6_said_2 l E o Ad I F X i (by omega) (by omega) hk (by omega) w hI hd _) q1296 q1279 q190 q1277 q80 q1297 (by decide +kernel) ⟨Nat.le_of_ble_eq_true rfl, Nat.le_of_ble_eq_true rfl⟩ (wU_l (pl_at2 hI (show ((i : Nat) : Int) < I 5 by omega) (show I 5 ≤ 7 by omega) (show (F 10) i = 2 from hk))) rfl rfl hl.1 rfl (Nat.le_of_ble_eq_true rfl) dX7_plainly_1 ⟨Nat.le_of_ble_eq_true rfl, Nat.le_of_ble_eq_true rfl⟩) (fun z1 Ad2 I3 F4 X5 H locs hz6 hp7 hB => ?_)
  obtain ⟨hz6a, hz6b⟩ := hz6
  obtain ⟨rfl, rfl, rfl, rfl, rfl⟩ := hp7
  replace hB : xBB E (xA (wU w X) sz) s o Ad (va_up I 1 (tr (I 1) 1)) F X _ _ := hB
  exact b_iret C hB hr hlocks rfl dX7_plainly_4 (Nat.le_of_ble_eq_true rfl) (Nat.le_of_ble_eq_true rfl) ⟨by omega, by omega⟩ ⟨rfl, rfl, rfl, rfl, rfl⟩
set_option maxHeartbeats 800000 in
set_option maxRecDepth 100000 in
theorem kX8_said_2 (l : Launch) (E : xE) (o : Nat) (Ad : Nat → Nat) (I : Nat → Int) (F : Nat → Nat → Int) (X : xw) (i : Nat) (hi : (i : Int) < I 5) (h7 : I 5 ≤ 7) (hk : F 10 i = 2) (hL : 1 ≤ F 11 i ∧ F 11 i ≤ 9) : ci_ l E yX8_said cX8_said 1 (some .int) 3 61 0 0 [.ref (Ad (100 + i))] o Ad I F X (fun z Ad' I' F' X' => Ad = Ad' ∧ va_up I 1 (tr (tr (tr (tr (I 1) 3) 2) 1) 1) = I' ∧ F = F' ∧ X = X' ∧ z = 2 * F 11 i + 100) := by
  intro w hI hd sz
  refine x_bodyz (by decide) (Nat.le_of_ble_eq_true rfl) ?_
  intro p e s m args below meth c ls hx hb C hr hlocks hin hsz hZ hB hl
  have C : xC E p s m args c cX8_said 1 RX8 := C
  replace hB : xBB E (xA (wU w X) sz) s o Ad I F X s.heap [] := ⟨w, hI, hd, hB⟩
  have hl : lv_has ls 1 [(0, .ref (Ad (100 + i)))] := hl
  refine lv_aload_n hx hb dX8_said_0 rfl (lv_at hl 0 rfl) ?_
  refine lv_iconst (v := iI 3) hx hb dX8_said_1 rfl ?_
  refine b_calli 0 0 (Nat.le_of_ble_eq_true rfl) (Nat.le_of_ble_eq_true rfl) hB (fun w hI hd hB => rU (As := [.int (iI 3)]) (n := 1) C hZ hB ⟨"BookPairs$Doubled", "tracedBy", "(I)I"⟩ "BookPairs$Plain" (kX6_tracedBy l E o Ad I F X i 3 (by omega) (by omega) (by omega) w hI hd _) q1283 q1284 q1286 q1287 q80 q1288 rfl (by decide +kernel) ⟨Nat.le_of_ble_eq_true rfl, Nat.le_of_ble_eq_true rfl⟩ (wU_l (pl_at2 hI (show ((i : Nat) : Int) < I 5 by omega) (show I 5 ≤ 7 by omega) (show (F 10) i = 2 from hk))) rfl rfl rfl hl.1 rfl (Nat.le_of_ble_eq_true rfl) dX8_said_2 ⟨Nat.le_of_ble_eq_true rfl, Nat.le_of_ble_eq_true rfl⟩) (fun z1 Ad2 I3 F4 X5 H locs hz6 hp7 hB => ?_)
  obtain ⟨hz6a, hz6b⟩ := hz6
  obtain ⟨rfl, rfl, rfl, rfl, rfl⟩ := hp7
  replace hB : xBB E (xA (wU w X) sz) s o Ad (va_up I 1 (tr (I 1) 3)) F X _ _ := hB
  refine lv_aload_n hx hb dX8_said_5 rfl (lv_at hl 0 rfl) ?_
  refine b_calli 0 0 (Nat.le_of_ble_eq_true rfl) (Nat.le_of_ble_eq_true rfl) hB (fun w hI hd hB => rSU (As := []) (n := 0) C hZ hB (kX7_said_2 l E o Ad (va_up I 1 (tr (I 1) 3)) F X i (show (i : Int) < I 5 by omega) (show I 5 ≤ 7 by omega) hk (by omega) w hI hd _) q1289 q1741 q820 q1290 q81 q1291 (by decide +kernel) ⟨Nat.le_of_ble_eq_true rfl, Nat.le_of_ble_eq_true rfl⟩ (wU_l (pl_at2 hI (show ((i : Nat) : Int) < I 5 by omega) (show I 5 ≤ 7 by omega) (show (F 10) i = 2 from hk))) rfl rfl hl.1 rfl (Nat.le_of_ble_eq_true rfl) dX8_said_6 ⟨Nat.le_of_ble_eq_true rfl, Nat.le_of_ble_eq_true rfl⟩) (fun z8 Ad9 I10 F11 X12 H locs hz13 hp14 hB => ?_)
  obtain ⟨hz13a, hz13b⟩ := hz13
  obtain ⟨rfl, rfl, rfl, rfl, rfl⟩ := hp14
  rw [bx_uu] at hB
  replace hB : xBB E (xA (wU w X) sz) s o Ad (va_up I 1 (tr (tr (tr (I 1) 3) 2) 1)) F X _ _ := hB
  refine x_iadd (z := (F 11) i + 100) hx hb dX8_said_9 (by omega) ?_
  refine lv_aload_n hx hb dX8_said_10 rfl (lv_at hl 0 rfl) ?_
  refine b_calli 0 0 (Nat.le_of_ble_eq_true rfl) (Nat.le_of_ble_eq_true rfl) hB (fun w hI hd hB => rU (As := []) (n := 0) C hZ hB ⟨"BookPairs$Doubled", "plainly", "()I"⟩ "BookPairs$Longer" (kX7_plainly_2 l E o Ad (va_up I 1 (tr (tr (tr (I 1) 3) 2) 1)) F X i (show (i : Int) < I 5 by omega) (show I 5 ≤ 7 by omega) hk (by omega) w hI hd _) q1299 q1300 q1302 q1303 q81 q1304 rfl (by decide +kernel) ⟨Nat.le_of_ble_eq_true rfl, Nat.le_of_ble_eq_true rfl⟩ (wU_l (pl_at2 hI (show ((i : Nat) : Int) < I 5 by omega) (show I 5 ≤ 7 by omega) (show (F 10) i = 2 from hk))) rfl rfl rfl hl.1 rfl (Nat.le_of_ble_eq_true rfl) dX8_said_11 ⟨Nat.le_of_ble_eq_true rfl, Nat.le_of_ble_eq_true rfl⟩) (fun z15 Ad16 I17 F18 X19 H locs hz20 hp21 hB => ?_)
  obtain ⟨hz20a, hz20b⟩ := hz20
  obtain ⟨rfl, rfl, rfl, rfl, rfl⟩ := hp21
  rw [bx_uu] at hB
  replace hB : xBB E (xA (wU w X) sz) s o Ad (va_up I 1 (tr (tr (tr (tr (I 1) 3) 2) 1) 1)) F X _ _ := hB
  refine x_iadd (z := 2 * (F 11) i + 100) hx hb dX8_said_14 (by omega) ?_
  exact b_iret C hB hr hlocks rfl dX8_said_15 (Nat.le_of_ble_eq_true rfl) (Nat.le_of_ble_eq_true rfl) ⟨by omega, by omega⟩ ⟨rfl, rfl, rfl, rfl, by omega⟩
