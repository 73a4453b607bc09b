/-! THE COMPONENT: read (the walks are printed) -/
set_option maxRecDepth 100000
set_option maxHeartbeats 800000 in
set_option maxRecDepth 100000 in
theorem kX20_readAloud_0 (l : Launch) (E : xE) (o : Nat) (Ad : Nat → Nat) (I : Nat → Int) (F : Nat → Nat → Int) (X : xw) (i : Nat) (hi : (i : Int) < I 5) (h7 : I 5 ≤ 7) (hk : F 10 i = 0) (hL : 0 ≤ F 12 i ∧ F 12 i ≤ 4) : ci_ l E yX20_readAloud cX20_readAloud 1 (some .int) 1 21 0 0 [.ref (Ad (100 + i))] o Ad I F X (fun z Ad' I' F' X' => Ad = Ad' ∧ va_up I 1 (tr (I 1) 4) = I' ∧ F = F' ∧ X = X' ∧ z = F 12 i) := by
  intro w hI hd sz
  refine x_bodyz (by decide) (Nat.le_of_ble_eq_true rfl) ?_
  intro p e s m args below meth c ls hx hb C hr hlocks hin hsz hZ hB hl
  have C : xC E p s m args c cX20_readAloud 1 RX20 := C
  replace hB : xBB E (xA (wU w X) sz) s o Ad I F X s.heap [] := ⟨w, hI, hd, hB⟩
  have hl : lv_has ls 1 [(0, .ref (Ad (100 + i)))] := hl
  refine lv_aload_n hx hb dX20_readAloud_0 rfl (lv_at hl 0 rfl) ?_
  refine lv_iconst (v := iI 4) hx hb dX20_readAloud_1 rfl ?_
  refine b_callFi 0 0 (Nat.le_of_ble_eq_true rfl) (Nat.le_of_ble_eq_true rfl) hB (fun w hI hd hB => rF (As := [.int (iI 4)]) (n := 1) C hZ hB ⟨"BookPairs$Aloud", "tracedBy", "(I)I"⟩ (kX6_tracedBy l E o Ad I F X i 4 (by omega) (by omega) (by omega) w hI hd _) (by decide) q1324 q1334 q1287 q80 q1288 (by decide +kernel) ⟨Nat.le_of_ble_eq_true rfl, Nat.le_of_ble_eq_true rfl⟩ (wU_l (pl_at0 hI (show ((i : Nat) : Int) < I 5 by omega) (show I 5 ≤ 7 by omega) (show (F 10) i = 0 from hk))) rfl rfl rfl hl.1 rfl (Nat.le_of_ble_eq_true rfl) dX20_readAloud_2 ⟨Nat.le_of_ble_eq_true rfl, Nat.le_of_ble_eq_true rfl⟩) (fun z1 Ad2 I3 F4 X5 H locs hz6 hp7 hB => ?_)
  obtain ⟨hz6a, hz6b⟩ := hz6
  obtain ⟨rfl, rfl, rfl, rfl, rfl⟩ := hp7
  replace hB : xBB E (xA (wU w X) sz) s o Ad (va_up I 1 (tr (I 1) 4)) F X _ _ := hB
  refine lv_aload_n hx hb dX20_readAloud_7 rfl (lv_at hl 0 rfl) ?_
  refine b_callFi 0 0 (Nat.le_of_ble_eq_true rfl) (Nat.le_of_ble_eq_true rfl) hB (fun w hI hd hB => rF (As := []) (n := 0) C hZ hB ⟨"BookPairs$Aloud", "anchor", "()I"⟩ (kX6_anchor l E o Ad (va_up I 1 (tr (I 1) 4)) F X i (show (i : Int) < I 5 by omega) (show I 5 ≤ 7 by omega) (by omega) w hI hd _) (by decide) q1337 q1347 q1342 q80 q1344 (by decide +kernel) ⟨Nat.le_of_ble_eq_true rfl, Nat.le_of_ble_eq_true rfl⟩ (wU_l (pl_at0 hI (show ((i : Nat) : Int) < I 5 by omega) (show I 5 ≤ 7 by omega) (show (F 10) i = 0 from hk))) rfl rfl rfl hl.1 rfl (Nat.le_of_ble_eq_true rfl) dX20_readAloud_8 ⟨Nat.le_of_ble_eq_true rfl, Nat.le_of_ble_eq_true rfl⟩) (fun z8 Ad9 I10 F11 X12 H locs hz13 hp14 hB => ?_)
  obtain ⟨hz13a, hz13b⟩ := hz13
  obtain ⟨rfl, rfl, rfl, rfl, rfl⟩ := hp14
  refine x_iadd (z := (F 12) i) hx hb dX20_readAloud_13 (by omega) ?_
  exact b_iret C hB hr hlocks rfl dX20_readAloud_14 (Nat.le_of_ble_eq_true rfl) (Nat.le_of_ble_eq_true rfl) ⟨by omega, by omega⟩ ⟨rfl, rfl, rfl, rfl, by omega⟩
set_option maxHeartbeats 800000 in
set_option maxRecDepth 100000 in
theorem kX20_readAloud_1 (l : Launch) (E : xE) (o : Nat) (Ad : Nat → Nat) (I : Nat → Int) (F : Nat → Nat → Int) (X : xw) (i : Nat) (hi : (i : Int) < I 5) (h7 : I 5 ≤ 7) (hk : F 10 i = 1) (hL : 0 ≤ F 12 i ∧ F 12 i ≤ 4) : ci_ l E yX20_readAloud cX20_readAloud 1 (some .int) 1 21 0 0 [.ref (Ad (100 + i))] o Ad I F X (fun z Ad' I' F' X' => Ad = Ad' ∧ va_up I 1 (tr (I 1) 4) = I' ∧ F = F' ∧ X = X' ∧ z = F 12 i) := by
  intro w hI hd sz
  refine x_bodyz (by decide) (Nat.le_of_ble_eq_true rfl) ?_
  intro p e s m args below meth c ls hx hb C hr hlocks hin hsz hZ hB hl
  have C : xC E p s m args c cX20_readAloud 1 RX20 := C
  replace hB : xBB E (xA (wU w X) sz) s o Ad I F X s.heap [] := ⟨w, hI, hd, hB⟩
  have hl : lv_has ls 1 [(0, .ref (Ad (100 + i)))] := hl
  refine lv_aload_n hx hb dX20_readAloud_0 rfl (lv_at hl 0 rfl) ?_
  refine lv_iconst (v := iI 4) hx hb dX20_readAloud_1 rfl ?_
  refine b_callFi 0 0 (Nat.le_of_ble_eq_true rfl) (Nat.le_of_ble_eq_true rfl) hB (fun w hI hd hB => rF (As := [.int (iI 4)]) (n := 1) C hZ hB ⟨"BookPairs$Aloud", "tracedBy", "(I)I"⟩ (kX6_tracedBy l E o Ad I F X i 4 (by omega) (by omega) (by omega) w hI hd _) (by decide) q1324 q1331 q1287 q80 q1288 (by decide +kernel) ⟨Nat.le_of_ble_eq_true rfl, Nat.le_of_ble_eq_true rfl⟩ (wU_l (pl_at1 hI (show ((i : Nat) : Int) < I 5 by omega) (show I 5 ≤ 7 by omega) (show (F 10) i = 1 from hk))) rfl rfl rfl hl.1 rfl (Nat.le_of_ble_eq_true rfl) dX20_readAloud_2 ⟨Nat.le_of_ble_eq_true rfl, Nat.le_of_ble_eq_true rfl⟩) (fun z1 Ad2 I3 F4 X5 H locs hz6 hp7 hB => ?_)
  obtain ⟨hz6a, hz6b⟩ := hz6
  obtain ⟨rfl, rfl, rfl, rfl, rfl⟩ := hp7
  replace hB : xBB E (xA (wU w X) sz) s o Ad (va_up I 1 (tr (I 1) 4)) F X _ _ := hB
  refine lv_aload_n hx hb dX20_readAloud_7 rfl (lv_at hl 0 rfl) ?_
  refine b_callFi 0 0 (Nat.le_of_ble_eq_true rfl) (Nat.le_of_ble_eq_true rfl) hB (fun w hI hd hB => rF (As := []) (n := 0) C hZ hB ⟨"BookPairs$Aloud", "anchor", "()I"⟩ (kX6_anchor l E o Ad (va_up I 1 (tr (I 1) 4)) F X i (show (i : Int) < I 5 by omega) (show I 5 ≤ 7 by omega) (by omega) w hI hd _) (by decide) q1337 q1345 q1342 q80 q1344 (by decide +kernel) ⟨Nat.le_of_ble_eq_true rfl, Nat.le_of_ble_eq_true rfl⟩ (wU_l (pl_at1 hI (show ((i : Nat) : Int) < I 5 by omega) (show I 5 ≤ 7 by omega) (show (F 10) i = 1 from hk))) rfl rfl rfl hl.1 rfl (Nat.le_of_ble_eq_true rfl) dX20_readAloud_8 ⟨Nat.le_of_ble_eq_true rfl, Nat.le_of_ble_eq_true rfl⟩) (fun z8 Ad9 I10 F11 X12 H locs hz13 hp14 hB => ?_)
  obtain ⟨hz13a, hz13b⟩ := hz13
  obtain ⟨rfl, rfl, rfl, rfl, rfl⟩ := hp14
  refine x_iadd (z := (F 12) i) hx hb dX20_readAloud_13 (by omega) ?_
  exact b_iret C hB hr hlocks rfl dX20_readAloud_14 (Nat.le_of_ble_eq_true rfl) (Nat.le_of_ble_eq_true rfl) ⟨by omega, by omega⟩ ⟨rfl, rfl, rfl, rfl, by omega⟩
set_option maxHeartbeats 800000 in
set_option maxRecDepth 100000 in
theorem kX20_readAloud_2 (l : Launch) (E : xE) (o : Nat) (Ad : Nat → Nat) (I : Nat → Int) (F : Nat → Nat → Int) (X : xw) (i : Nat) (hi : (i : Int) < I 5) (h7 : I 5 ≤ 7) (hk : F 10 i = 2) (hL : 0 ≤ F 12 i ∧ F 12 i ≤ 4) : ci_ l E yX20_readAloud cX20_readAloud 1 (some .int) 1 21 0 0 [.ref (Ad (100 + i))] o Ad I F X (fun z Ad' I' F' X' => Ad = Ad' ∧ va_up I 1 (tr (I 1) 4) = I' ∧ F = F' ∧ X = X' ∧ z = F 12 i) := by
  intro w hI hd sz
  refine x_bodyz (by decide) (Nat.le_of_ble_eq_true rfl) ?_
  intro p e s m args below meth c ls hx hb C hr hlocks hin hsz hZ hB hl
  have C : xC E p s m args c cX20_readAloud 1 RX20 := C
  replace hB : xBB E (xA (wU w X) sz) s o Ad I F X s.heap [] := ⟨w, hI, hd, hB⟩
  have hl : lv_has ls 1 [(0, .ref (Ad (100 + i)))] := hl
  refine lv_aload_n hx hb dX20_readAloud_0 rfl (lv_at hl 0 rfl) ?_
  refine lv_iconst (v := iI 4) hx hb dX20_readAloud_1 rfl ?_
  refine b_callFi 0 0 (Nat.le_of_ble_eq_true rfl) (Nat.le_of_ble_eq_true rfl) hB (fun w hI hd hB => rF (As := [.int (iI 4)]) (n := 1) C hZ hB ⟨"BookPairs$Aloud", "tracedBy", "(I)I"⟩ (kX6_tracedBy l E o Ad I F X i 4 (by omega) (by omega) (by omega) w hI hd _) (by decide) q1324 q1327 q1287 q80 q1288 (by decide +kernel) ⟨Nat.le_of_ble_eq_true rfl, Nat.le_of_ble_eq_true rfl⟩ (wU_l (pl_at2 hI (show ((i : Nat) : Int) < I 5 by omega) (show I 5 ≤ 7 by omega) (show (F 10) i = 2 from hk))) rfl rfl rfl hl.1 rfl (Nat.le_of_ble_eq_true rfl) dX20_readAloud_2 ⟨Nat.le_of_ble_eq_true rfl, Nat.le_of_ble_eq_true rfl⟩) (fun z1 Ad2 I3 F4 X5 H locs hz6 hp7 hB => ?_)
  obtain ⟨hz6a, hz6b⟩ := hz6
  obtain ⟨rfl, rfl, rfl, rfl, rfl⟩ := hp7
  replace hB : xBB E (xA (wU w X) sz) s o Ad (va_up I 1 (tr (I 1) 4)) F X _ _ := hB
  refine lv_aload_n hx hb dX20_readAloud_7 rfl (lv_at hl 0 rfl) ?_
  refine b_callFi 0 0 (Nat.le_of_ble_eq_true rfl) (Nat.le_of_ble_eq_true rfl) hB (fun w hI hd hB => rF (As := []) (n := 0) C hZ hB ⟨"BookPairs$Aloud", "anchor", "()I"⟩ (kX6_anchor l E o Ad (va_up I 1 (tr (I 1) 4)) F X i (show (i : Int) < I 5 by omega) (show I 5 ≤ 7 by omega) (by omega) w hI hd _) (by decide) q1337 q1340 q1342 q80 q1344 (by decide +kernel) ⟨Nat.le_of_ble_eq_true rfl, Nat.le_of_ble_eq_true rfl⟩ (wU_l (pl_at2 hI (show ((i : Nat) : Int) < I 5 by omega) (show I 5 ≤ 7 by omega) (show (F 10) i = 2 from hk))) rfl rfl rfl hl.1 rfl (Nat.le_of_ble_eq_true rfl) dX20_readAloud_8 ⟨Nat.le_of_ble_eq_true rfl, Nat.le_of_ble_eq_true rfl⟩) (fun z8 Ad9 I10 F11 X12 H locs hz13 hp14 hB => ?_)
  obtain ⟨hz13a, hz13b⟩ := hz13
  obtain ⟨rfl, rfl, rfl, rfl, rfl⟩ := hp14
  refine x_iadd (z := (F 12) i) hx hb dX20_readAloud_13 (by omega) ?_
  exact b_iret C hB hr hlocks rfl dX20_readAloud_14 (Nat.le_of_ble_eq_true rfl) (Nat.le_of_ble_eq_true rfl) ⟨by omega, by omega⟩ ⟨rfl, rfl, rfl, rfl, by omega⟩
set_option maxHeartbeats 800000 in
set_option maxRecDepth 100000 in
theorem kX8_readAloud_2 (l : Launch) (E : xE) (o : Nat) (Ad : Nat → Nat) (I : Nat → Int) (F : Nat → Nat → Int) (X : xw) (i : Nat) (hi : (i : Int) < I 5) (h7 : I 5 ≤ 7) (hk : F 10 i = 2) (hL : 0 ≤ F 12 i ∧ F 12 i ≤ 4) : ci_ l E yX8_readAloud cX8_readAloud 1 (some .int) 2 41 0 0 [.ref (Ad (100 + i))] o Ad I F X (fun z Ad' I' F' X' => Ad = Ad' ∧ va_up I 1 (tr (tr (I 1) 5) 4) = I' ∧ F = F' ∧ X = X' ∧ z = F 12 i + 80) := by
  intro w hI hd sz
  refine x_bodyz (by decide) (Nat.le_of_ble_eq_true rfl) ?_
  intro p e s m args below meth c ls hx hb C hr hlocks hin hsz hZ hB hl
  have C : xC E p s m args c cX8_readAloud 1 RX8 := C
  replace hB : xBB E (xA (wU w X) sz) s o Ad I F X s.heap [] := ⟨w, hI, hd, hB⟩
  have hl : lv_has ls 1 [(0, .ref (Ad (100 + i)))] := hl
  refine lv_aload_n hx hb dX8_readAloud_0 rfl (lv_at hl 0 rfl) ?_
  refine lv_iconst (v := iI 5) hx hb dX8_readAloud_1 rfl ?_
  refine b_calli 0 0 (Nat.le_of_ble_eq_true rfl) (Nat.le_of_ble_eq_true rfl) hB (fun w hI hd hB => rU (As := [.int (iI 5)]) (n := 1) C hZ hB ⟨"BookPairs$Doubled", "tracedBy", "(I)I"⟩ "BookPairs$Plain" (kX6_tracedBy l E o Ad I F X i 5 (by omega) (by omega) (by omega) w hI hd _) q1283 q1284 q1286 q1287 q80 q1288 rfl (by decide +kernel) ⟨Nat.le_of_ble_eq_true rfl, Nat.le_of_ble_eq_true rfl⟩ (wU_l (pl_at2 hI (show ((i : Nat) : Int) < I 5 by omega) (show I 5 ≤ 7 by omega) (show (F 10) i = 2 from hk))) rfl rfl rfl hl.1 rfl (Nat.le_of_ble_eq_true rfl) dX8_readAloud_2 ⟨Nat.le_of_ble_eq_true rfl, Nat.le_of_ble_eq_true rfl⟩) (fun z1 Ad2 I3 F4 X5 H locs hz6 hp7 hB => ?_)
  obtain ⟨hz6a, hz6b⟩ := hz6
  obtain ⟨rfl, rfl, rfl, rfl, rfl⟩ := hp7
  replace hB : xBB E (xA (wU w X) sz) s o Ad (va_up I 1 (tr (I 1) 5)) F X _ _ := hB
  refine lv_aload_n hx hb dX8_readAloud_5 rfl (lv_at hl 0 rfl) ?_
  refine b_calli 0 0 (Nat.le_of_ble_eq_true rfl) (Nat.le_of_ble_eq_true rfl) hB (fun w hI hd hB => rSD C hZ hB hZ.1.2.2.2.2.2.2.2.2.2.2 (kX20_readAloud_2 l E o Ad (va_up I 1 (tr (I 1) 5)) F X i (show (i : Int) < I 5 by omega) (show I 5 ≤ 7 by omega) hk (by omega) w hI hd _) q820 q1321 q1747 q1322 ⟨Nat.le_of_ble_eq_true rfl, Nat.le_of_ble_eq_true rfl⟩ (wU_l (pl_at2 hI (show ((i : Nat) : Int) < I 5 by omega) (show I 5 ≤ 7 by omega) (show (F 10) i = 2 from hk))) rfl hl.1 rfl (Nat.le_of_ble_eq_true rfl) dX8_readAloud_6 ⟨Nat.le_of_ble_eq_true rfl, Nat.le_of_ble_eq_true rfl⟩) (fun z8 Ad9 I10 F11 X12 H locs hz13 hp14 hB => ?_)
  obtain ⟨hz13a, hz13b⟩ := hz13
  obtain ⟨rfl, rfl, rfl, rfl, rfl⟩ := hp14
  rw [bx_uu] at hB
  replace hB : xBB E (xA (wU w X) sz) s o Ad (va_up I 1 (tr (tr (I 1) 5) 4)) F X _ _ := hB
  refine x_iadd (z := (F 12) i) hx hb dX8_readAloud_9 (by omega) ?_
  refine lv_bipush (v := iI 80) hx hb dX8_readAloud_10 rfl ?_
  refine x_iadd (z := (F 12) i + 80) hx hb dX8_readAloud_12 (by omega) ?_
  exact b_iret C hB hr hlocks rfl dX8_readAloud_13 (Nat.le_of_ble_eq_true rfl) (Nat.le_of_ble_eq_true rfl) ⟨by omega, by omega⟩ ⟨rfl, rfl, rfl, rfl, by omega⟩
set_option maxHeartbeats 800000 in
set_option maxRecDepth 100000 in
theorem kX0_read (l : Launch) (E : xE) (o : Nat) (Ad : Nat → Nat) (I : Nat → Int) (F : Nat → Nat → Int) (X : xw) (a : Int) (ha : rg a) (hOK : mOK I F) : ci_ l E yX0_read cX0_read 3 (some .int) 3 64 0 0 [.ref o, .int (iI a)] o Ad I F X (fun z Ad' I' F' X' => Ad = Ad' ∧ nReadA I F a = I' ∧ F = F' ∧ X = X' ∧ z = rReadA I F a) := by
  intro w hI hd sz
  refine x_bodyz (by decide) (Nat.le_of_ble_eq_true rfl) ?_
  intro p e s m args below meth c ls hx hb C hr hlocks hin hsz hZ hB hl
  have C : xC E p s m args c cX0_read 3 RX0 := C
  replace hB : xBB E (xA (wU w X) sz) s o Ad I F X s.heap [] := ⟨w, hI, hd, hB⟩
  have hl : lv_has ls 3 [(0, .ref o), (1, .int (iI a))] := hl
  have hOK0 := hOK
  obtain ⟨⟨hf1, hf2⟩, ⟨hl1, hl2⟩, ⟨hr1, hr2⟩, hlr, ⟨hs1, hs2⟩, ⟨hj1, hj2⟩, ⟨hb1, hb2⟩, ⟨hn1, hn2⟩, hL, hR, hN, hS, hC⟩ := hOK
  obtain ⟨ha1, ha2⟩ := ha
  refine lv_aload_n hx hb dX0_read_0 rfl (lv_at hl 0 rfl) ?_
  refine lv_iload_n hx hb dX0_read_1 rfl (lv_at hl 1 rfl) ?_
  refine b_calli 0 0 (Nat.le_of_ble_eq_true rfl) (Nat.le_of_ble_eq_true rfl) hB (fun w hI hd hB => rV (As := [.int (iI a)]) (n := 1) C hZ hB (kX0_noLeft l E o Ad I F X a ⟨by omega, by omega⟩ hOK0 w hI hd _) (lw_V q237 q239 qs7 q68 q240) (by decide +kernel) ⟨Nat.le_of_ble_eq_true rfl, Nat.le_of_ble_eq_true rfl⟩ (wU_l hI.x) rfl rfl rfl hl.1 rfl (Nat.le_of_ble_eq_true rfl) dX0_read_2 ⟨Nat.le_of_ble_eq_true rfl, Nat.le_of_ble_eq_true rfl⟩) (fun z1 Ad2 I3 F4 X5 H locs hz6 hp7 hB => ?_)
  obtain ⟨hz6a, hz6b⟩ := hz6
  obtain ⟨rfl, rfl, rfl, rfl, ⟨rfl, h8⟩ | ⟨rfl, h8⟩⟩ := hp7
  · refine x_if_eq (tgt := 10) hx hb dX0_read_5 (by decide) ⟨by decide, by decide⟩ (fun c9 => by exfalso; omega) (fun c9 => ?_)
    refine lv_iconst (v := iI (-1)) hx hb dX0_read_8 rfl ?_
    exact b_iret C hB hr hlocks rfl dX0_read_9 (Nat.le_of_ble_eq_true rfl) (Nat.le_of_ble_eq_true rfl) ⟨by decide, by decide⟩ ⟨rfl, by unfold nReadA; rw [if_pos (by omega)], rfl, rfl, by unfold rReadA; rw [if_pos (by omega)]⟩
  · refine x_if_eq (tgt := 10) hx hb dX0_read_5 (by decide) ⟨by decide, by decide⟩ (fun c10 => ?_) (fun c10 => by exfalso; omega)
    obtain ⟨kk, rfl⟩ : ∃ kk : Nat, a = (kk : Int) := ⟨a.toNat, by omega⟩
    refine lv_aload_n hx hb dX0_read_10 rfl (lv_at hl 0 rfl) ?_
    refine b_get C hB 3 (by decide) q296 (v := .ref (Ad 4)) rfl rfl dX0_read_11 ?_
    refine lv_iload_n hx hb dX0_read_14 rfl (lv_at hl 1 rfl) ?_
    refine b_lget C hZ hB kk rfl (show ((kk : Nat) : Int) < I 5 by omega) (show I 5 ≤ 7 by omega) q156 ⟨Nat.le_of_ble_eq_true rfl, Nat.le_of_ble_eq_true rfl⟩ hl.1 (Nat.le_of_ble_eq_true rfl) dX0_read_15 ⟨Nat.le_of_ble_eq_true rfl, Nat.le_of_ble_eq_true rfl⟩ (fun H locs hB => ?_)
    refine b_castA C hB kk (show ((kk : Nat) : Int) < I 5 by omega) (show I 5 ≤ 7 by omega) q1310 dX0_read_20 ?_
    refine lv_astore_n (lv' := [(2, .ref (Ad (100 + kk))), (0, .ref o), (1, .int (iI ((kk : Int))))]) hx hb dX0_read_23 rfl hl (by decide) rfl (fun ls hl => ?_)
    have hLk := hL kk (by omega)
    rcases (show F 10 kk = 0 ∨ F 10 kk = 1 ∨ F 10 kk = 2 by omega) with hk | hk | hk
    · refine lv_aload_n hx hb dX0_read_24 rfl (lv_at hl 0 rfl) ?_
      refine b_callFi 0 0 (Nat.le_of_ble_eq_true rfl) (Nat.le_of_ble_eq_true rfl) hB (fun w hI hd hB => rFD C hZ hB hZ.1.2.2.2.2.2.2.2.2.1 (kX20_readAloud_0 l E o Ad I F X kk (by omega) (by omega) hk (by omega) w hI hd _) q1312 q1321 q1747 q1322 ⟨Nat.le_of_ble_eq_true rfl, Nat.le_of_ble_eq_true rfl⟩ (wU_l (pl_at0 hI (show ((kk : Nat) : Int) < I 5 by omega) (show I 5 ≤ 7 by omega) (show (F 10) kk = 0 from hk))) rfl rfl hl.1 rfl (Nat.le_of_ble_eq_true rfl) dX0_read_25 ⟨Nat.le_of_ble_eq_true rfl, Nat.le_of_ble_eq_true rfl⟩) (fun z11 Ad12 I13 F14 X15 H locs hz16 hp17 hB => ?_)
      obtain ⟨hz16a, hz16b⟩ := hz16
      obtain ⟨rfl, rfl, rfl, rfl, rfl⟩ := hp17
      replace hB : xBB E (xA (wU w X) sz) s o Ad (va_up I 1 (tr (I 1) 4)) F X _ _ := hB
      exact b_iret C hB hr hlocks rfl dX0_read_30 (Nat.le_of_ble_eq_true rfl) (Nat.le_of_ble_eq_true rfl) ⟨by omega, by omega⟩ ⟨rfl, by unfold nReadA; simp only [Int.toNat_natCast]; rw [if_neg (by omega), if_neg (by omega)], rfl, rfl, by unfold rReadA; simp only [Int.toNat_natCast]; rw [if_neg (by omega), if_neg (by omega)]⟩
    · refine lv_aload_n hx hb dX0_read_24 rfl (lv_at hl 0 rfl) ?_
      refine b_callFi 0 0 (Nat.le_of_ble_eq_true rfl) (Nat.le_of_ble_eq_true rfl) hB (fun w hI hd hB => rFD C hZ hB hZ.1.2.2.2.2.2.2.2.2.2.1 (kX20_readAloud_1 l E o Ad I F X kk (by omega) (by omega) hk (by omega) w hI hd _) q1312 q1321 q1747 q1322 ⟨Nat.le_of_ble_eq_true rfl, Nat.le_of_ble_eq_true rfl⟩ (wU_l (pl_at1 hI (show ((kk : Nat) : Int) < I 5 by omega) (show I 5 ≤ 7 by omega) (show (F 10) kk = 1 from hk))) rfl rfl hl.1 rfl (Nat.le_of_ble_eq_true rfl) dX0_read_25 ⟨Nat.le_of_ble_eq_true rfl, Nat.le_of_ble_eq_true rfl⟩) (fun z18 Ad19 I20 F21 X22 H locs hz23 hp24 hB => ?_)
      obtain ⟨hz23a, hz23b⟩ := hz23
      obtain ⟨rfl, rfl, rfl, rfl, rfl⟩ := hp24
      replace hB : xBB E (xA (wU w X) sz) s o Ad (va_up I 1 (tr (I 1) 4)) F X _ _ := hB
      exact b_iret C hB hr hlocks rfl dX0_read_30 (Nat.le_of_ble_eq_true rfl) (Nat.le_of_ble_eq_true rfl) ⟨by omega, by omega⟩ ⟨rfl, by unfold nReadA; simp only [Int.toNat_natCast]; rw [if_neg (by omega), if_neg (by omega)], rfl, rfl, by unfold rReadA; simp only [Int.toNat_natCast]; rw [if_neg (by omega), if_neg (by omega)]⟩
    · refine lv_aload_n hx hb dX0_read_24 rfl (lv_at hl 0 rfl) ?_
      refine b_callFi 0 0 (Nat.le_of_ble_eq_true rfl) (Nat.le_of_ble_eq_true rfl) hB (fun w hI hd hB => rF (As := []) (n := 0) C hZ hB ⟨"BookPairs$Aloud", "readAloud", "()I"⟩ (kX8_readAloud_2 l E o Ad I F X kk (by omega) (by omega) hk (by omega) w hI hd _) (by decide) q1312 q1316 q1318 q82 q1320 (by decide +kernel) ⟨Nat.le_of_ble_eq_true rfl, Nat.le_of_ble_eq_true rfl⟩ (wU_l (pl_at2 hI (show ((kk : Nat) : Int) < I 5 by omega) (show I 5 ≤ 7 by omega) (show (F 10) kk = 2 from hk))) rfl rfl rfl hl.1 rfl (Nat.le_of_ble_eq_true rfl) dX0_read_25 ⟨Nat.le_of_ble_eq_true rfl, Nat.le_of_ble_eq_true rfl⟩) (fun z25 Ad26 I27 F28 X29 H locs hz30 hp31 hB => ?_)
      obtain ⟨hz30a, hz30b⟩ := hz30
      obtain ⟨rfl, rfl, rfl, rfl, rfl⟩ := hp31
      replace hB : xBB E (xA (wU w X) sz) s o Ad (va_up I 1 (tr (tr (I 1) 5) 4)) F X _ _ := hB
      exact b_iret C hB hr hlocks rfl dX0_read_30 (Nat.le_of_ble_eq_true rfl) (Nat.le_of_ble_eq_true rfl) ⟨by omega, by omega⟩ ⟨rfl, by unfold nReadA; simp only [Int.toNat_natCast]; rw [if_neg (by omega), if_pos hk], rfl, rfl, by unfold rReadA; simp only [Int.toNat_natCast]; rw [if_neg (by omega), if_pos hk]⟩
