/-! ArrayList over the map world, 1 -/
set_option maxRecDepth 100000
set_option maxHeartbeats 800000 in
set_option maxRecDepth 100000 in
theorem kJ4_checkIndex (l : Launch) (E : xE) (w : xw) (i : Nat) (n : Int) (hi : (i : Int) < n) (hn : n ≤ 100) : gi_ l E yJ4_checkIndex cJ4_checkIndex 3 (some .int) 0 0 0 0 [.int (iI ((i : Int))), .int (iI n), .null] w (fun z w' => w = w' ∧ z = (i : Int)) := by
  intro sz
  refine x_bodyz (by decide) (Nat.le_of_ble_eq_true rfl) ?_
  intro p e s m args below meth c ls hx hb C hr hlocks hin hsz hZ hB hl
  have C : xC E p s m args c cJ4_checkIndex 3 RJ4 := C
  have hl : lv_has ls 3 [(0, .int (iI ((i : Int)))), (1, .int (iI n)), (2, .null)] := hl
  refine lv_iload_n hx hb dJ4_checkIndex_0 rfl (lv_at hl 0 rfl) ?_
  refine x_if_lt (tgt := 9) hx hb dJ4_checkIndex_1 (by decide) ⟨by omega, by omega⟩ (fun c1 => by exfalso; omega) (fun c1 => ?_)
  refine lv_iload_n hx hb dJ4_checkIndex_4 rfl (lv_at hl 0 rfl) ?_
  refine lv_iload_n hx hb dJ4_checkIndex_5 rfl (lv_at hl 1 rfl) ?_
  refine x_icmp_lt (tgt := 16) hx hb dJ4_checkIndex_6 (by decide) ⟨by omega, by omega⟩ ⟨by omega, by omega⟩ (fun c2 => ?_) (fun c2 => by exfalso; omega)
  refine lv_iload_n hx hb dJ4_checkIndex_16 rfl (lv_at hl 0 rfl) ?_
  exact g_iret C hB hr hlocks rfl dJ4_checkIndex_17 (Nat.le_of_ble_eq_true rfl) (Nat.le_of_ble_eq_true rfl) ⟨by omega, by omega⟩ ⟨rfl, rfl⟩
set_option maxHeartbeats 800000 in
set_option maxRecDepth 100000 in
theorem kJ3_checkIndex (l : Launch) (E : xE) (w : xw) (i : Nat) (n : Int) (hi : (i : Int) < n) (hn : n ≤ 100) : gi_ l E yJ3_checkIndex cJ3_checkIndex 2 (some .int) 1 22 0 0 [.int (iI ((i : Int))), .int (iI n)] w (fun z w' => w = w' ∧ z = (i : Int)) := by
  intro sz
  refine x_bodyz (by decide) (Nat.le_of_ble_eq_true rfl) ?_
  intro p e s m args below meth c ls hx hb C hr hlocks hin hsz hZ hB hl
  have C : xC E p s m args c cJ3_checkIndex 2 RJ3 := C
  have hl : lv_has ls 2 [(0, .int (iI ((i : Int)))), (1, .int (iI n))] := hl
  refine lv_iload_n hx hb dJ3_checkIndex_0 rfl (lv_at hl 0 rfl) ?_
  refine lv_iload_n hx hb dJ3_checkIndex_1 rfl (lv_at hl 1 rfl) ?_
  refine lv_null hx hb dJ3_checkIndex_2 ?_
  refine g_calli 0 0 (Nat.le_of_ble_eq_true rfl) (Nat.le_of_ble_eq_true rfl) hB (rS (As := [.int (iI ((i : Int))), .int (iI n), .null]) (n := 3) C hZ hB (kJ4_checkIndex l E w i n (by omega) (by omega) _) (lw_S q168 q169 q74 q170) (by decide +kernel) ⟨Nat.le_of_ble_eq_true rfl, Nat.le_of_ble_eq_true rfl⟩ rfl hl.1 rfl (Nat.le_of_ble_eq_true rfl) dJ3_checkIndex_3 ⟨Nat.le_of_ble_eq_true rfl, Nat.le_of_ble_eq_true rfl⟩) (fun z1 w2 H locs hz3 hp4 hB => ?_)
  obtain ⟨hz3a, hz3b⟩ := hz3
  obtain ⟨rfl, rfl⟩ := hp4
  exact g_iret C hB hr hlocks rfl dJ3_checkIndex_6 (Nat.le_of_ble_eq_true rfl) (Nat.le_of_ble_eq_true rfl) ⟨by omega, by omega⟩ ⟨rfl, rfl⟩
set_option maxHeartbeats 800000 in
set_option maxRecDepth 100000 in
theorem kJ2_size (l : Launch) (E : xE) (w : xw) (a : Nat) (ed : Nat) (mm : Int) (n : Int) (ha : w a = some (xO 18 [.int (iI mm), .ref ed, .int (iI n)])) (hn : 0 ≤ n ∧ n ≤ 100) : gi_ l E yJ2_size cJ2_size 1 (some .int) 0 0 0 0 [.ref a] w (fun z w' => w = w' ∧ z = n) := by
  intro sz
  refine x_bodyz (by decide) (Nat.le_of_ble_eq_true rfl) ?_
  intro p e s m args below meth c ls hx hb C hr hlocks hin hsz hZ hB hl
  have C : xC E p s m args c cJ2_size 1 RJ2 := C
  have hl : lv_has ls 1 [(0, .ref a)] := hl
  refine lv_aload_n hx hb dJ2_size_0 rfl (lv_at hl 0 rfl) ?_
  refine x_get C hB ha rfl in_J2 2 (by decide) q134 (fun x h => h) (v := .int (iI n)) rfl dJ2_size_1 ?_
  exact g_iret C hB hr hlocks rfl dJ2_size_4 (Nat.le_of_ble_eq_true rfl) (Nat.le_of_ble_eq_true rfl) ⟨by omega, by omega⟩ ⟨rfl, rfl⟩
set_option maxHeartbeats 800000 in
set_option maxRecDepth 100000 in
theorem kJ2_isEmpty (l : Launch) (E : xE) (w : xw) (a : Nat) (ed : Nat) (mm : Int) (n : Int) (ha : w a = some (xO 18 [.int (iI mm), .ref ed, .int (iI n)])) (hn : 0 ≤ n ∧ n ≤ 100) : gi_ l E yJ2_isEmpty cJ2_isEmpty 1 (some .boolean) 0 0 0 0 [.ref a] w (fun z w' => w = w' ∧ ((z = 1 ∧ n = 0) ∨ (z = 0 ∧ ¬ n = 0))) := by
  intro sz
  refine x_bodyz (by decide) (Nat.le_of_ble_eq_true rfl) ?_
  intro p e s m args below meth c ls hx hb C hr hlocks hin hsz hZ hB hl
  have C : xC E p s m args c cJ2_isEmpty 1 RJ2 := C
  have hl : lv_has ls 1 [(0, .ref a)] := hl
  refine lv_aload_n hx hb dJ2_isEmpty_0 rfl (lv_at hl 0 rfl) ?_
  refine x_get C hB ha rfl in_J2 2 (by decide) q134 (fun x h => h) (v := .int (iI n)) rfl dJ2_isEmpty_1 ?_
  refine x_if_ne (tgt := 11) hx hb dJ2_isEmpty_4 (by decide) ⟨by omega, by omega⟩ (fun c1 => ?_) (fun c1 => ?_)
  · refine lv_iconst (v := iI 0) hx hb dJ2_isEmpty_11 rfl ?_
    exact g_iret C hB hr hlocks rfl dJ2_isEmpty_12 (Nat.le_of_ble_eq_true rfl) (Nat.le_of_ble_eq_true rfl) ⟨by decide, by decide⟩ ⟨rfl, by omega⟩
  · refine lv_iconst (v := iI 1) hx hb dJ2_isEmpty_7 rfl ?_
    refine lv_goto (tgt := 12) hx hb dJ2_isEmpty_8 (by decide) ?_
    exact g_iret C hB hr hlocks rfl dJ2_isEmpty_12 (Nat.le_of_ble_eq_true rfl) (Nat.le_of_ble_eq_true rfl) ⟨by decide, by decide⟩ ⟨rfl, by omega⟩
set_option maxHeartbeats 800000 in
set_option maxRecDepth 100000 in
theorem kJ2_elementData (l : Launch) (E : xE) (w : xw) (a : Nat) (ed : Nat) (mm : Int) (n : Int) (cap : Nat) (f : Nat → Option Nat) (i : Nat) (r : Nat) (ha : w a = some (xO 18 [.int (iI mm), .ref ed, .int (iI n)])) (he : w ed = some (xR E 3 cap f)) (hfr : f i = some r) (hi : i < cap) (hc : cap ≤ 100) : gq_ l E yJ2_elementData cJ2_elementData 2 (some (.object "java/lang/Object")) 0 0 0 0 [.ref a, .int (iI ((i : Int)))] w (fun z w' => w = w' ∧ z = some r) := by
  intro sz
  refine x_bodyz (by decide) (Nat.le_of_ble_eq_true rfl) ?_
  intro p e s m args below meth c ls hx hb C hr hlocks hin hsz hZ hB hl
  have C : xC E p s m args c cJ2_elementData 2 RJ2 := C
  have hl : lv_has ls 2 [(0, .ref a), (1, .int (iI ((i : Int))))] := hl
  refine lv_aload_n hx hb dJ2_elementData_0 rfl (lv_at hl 0 rfl) ?_
  refine x_get C hB ha rfl in_J2 1 (by decide) q133 (fun x h => h) (v := .ref ed) rfl dJ2_elementData_1 ?_
  refine lv_iload_n hx hb dJ2_elementData_4 rfl (lv_at hl 1 rfl) ?_
  refine x_aald C hB 3 rfl he i rfl (by omega) (by omega) (r := some r) hfr dJ2_elementData_5 ?_
  exact g_qret C hB hr (Or.inl ⟨_, rfl⟩) hlocks ((some r)) dJ2_elementData_6 (Nat.le_of_ble_eq_true rfl) (Nat.le_of_ble_eq_true rfl) ⟨rfl, rfl⟩
set_option maxHeartbeats 800000 in
set_option maxRecDepth 100000 in
theorem kJ2_get (l : Launch) (E : xE) (w : xw) (a : Nat) (ed : Nat) (mm : Int) (n : Int) (cap : Nat) (f : Nat → Option Nat) (i : Nat) (r : Nat) (ha : w a = some (xO 18 [.int (iI mm), .ref ed, .int (iI n)])) (he : w ed = some (xR E 3 cap f)) (hfr : f i = some r) (hi : (i : Int) < n) (hc : n ≤ cap ∧ cap ≤ 100) : gq_ l E yJ2_get cJ2_get 2 (some (.object "java/lang/Object")) 2 43 0 0 [.ref a, .int (iI ((i : Int)))] w (fun z w' => w = w' ∧ z = some r) := by
  intro sz
  refine x_bodyz (by decide) (Nat.le_of_ble_eq_true rfl) ?_
  intro p e s m args below meth c ls hx hb C hr hlocks hin hsz hZ hB hl
  have C : xC E p s m args c cJ2_get 2 RJ2 := C
  have hl : lv_has ls 2 [(0, .ref a), (1, .int (iI ((i : Int))))] := hl
  refine lv_iload_n hx hb dJ2_get_0 rfl (lv_at hl 1 rfl) ?_
  refine lv_aload_n hx hb dJ2_get_1 rfl (lv_at hl 0 rfl) ?_
  refine x_get C hB ha rfl in_J2 2 (by decide) q134 (fun x h => h) (v := .int (iI n)) rfl dJ2_get_2 ?_
  refine g_calli 0 0 (Nat.le_of_ble_eq_true rfl) (Nat.le_of_ble_eq_true rfl) hB (rS (As := [.int (iI ((i : Int))), .int (iI n)]) (n := 2) C hZ hB (kJ3_checkIndex l E w i n (by omega) (by omega) _) (lw_S q165 q166 q73 q167) (by decide +kernel) ⟨Nat.le_of_ble_eq_true rfl, Nat.le_of_ble_eq_true rfl⟩ rfl hl.1 rfl (Nat.le_of_ble_eq_true rfl) dJ2_get_5 ⟨Nat.le_of_ble_eq_true rfl, Nat.le_of_ble_eq_true rfl⟩) (fun z1 w2 H locs hz3 hp4 hB => ?_)
  obtain ⟨hz3a, hz3b⟩ := hz3
  obtain ⟨rfl, rfl⟩ := hp4
  refine lv_pop hx hb dJ2_get_8 rfl ?_
  refine lv_aload_n hx hb dJ2_get_9 rfl (lv_at hl 0 rfl) ?_
  refine lv_iload_n hx hb dJ2_get_10 rfl (lv_at hl 1 rfl) ?_
  refine g_callq 0 0 (Nat.le_of_ble_eq_true rfl) (Nat.le_of_ble_eq_true rfl) hB (rV (As := [.int (iI ((i : Int)))]) (n := 1) C hZ hB (kJ2_elementData l E w a ed mm n cap f i r ha he hfr (by omega) (by omega) _) (lw_V q171 q172 q173 q71 q174) (by decide +kernel) ⟨Nat.le_of_ble_eq_true rfl, Nat.le_of_ble_eq_true rfl⟩ ha rfl rfl rfl hl.1 rfl (Nat.le_of_ble_eq_true rfl) dJ2_get_11 ⟨Nat.le_of_ble_eq_true rfl, Nat.le_of_ble_eq_true rfl⟩) (fun z5 w6 H locs hp8 hB => ?_)
  obtain ⟨rfl, rfl⟩ := hp8
  exact g_qret C hB hr (Or.inl ⟨_, rfl⟩) hlocks ((some r)) dJ2_get_14 (Nat.le_of_ble_eq_true rfl) (Nat.le_of_ble_eq_true rfl) ⟨rfl, rfl⟩
set_option maxHeartbeats 800000 in
set_option maxRecDepth 100000 in
theorem kJ2_set (l : Launch) (E : xE) (w : xw) (a : Nat) (ed : Nat) (mm : Int) (n : Int) (cap : Nat) (f : Nat → Option Nat) (i : Nat) (r : Nat) (v : Nat) (ha : w a = some (xO 18 [.int (iI mm), .ref ed, .int (iI n)])) (he : w ed = some (xR E 3 cap f)) (hfr : f i = some r) (hv : xAny w v) (hi : (i : Int) < n) (hc : n ≤ cap ∧ cap ≤ 100) : gq_ l E yJ2_set cJ2_set 4 (some (.object "java/lang/Object")) 2 43 0 0 [.ref a, .int (iI ((i : Int))), .ref v] w (fun z w' => w' = va_up w ed (some (xR E 3 cap (va_up f i (some v)))) ∧ z = some r) := by
  intro sz
  refine x_bodyz (by decide) (Nat.le_of_ble_eq_true rfl) ?_
  intro p e s m args below meth c ls hx hb C hr hlocks hin hsz hZ hB hl
  have C : xC E p s m args c cJ2_set 4 RJ2 := C
  have hl : lv_has ls 4 [(0, .ref a), (1, .int (iI ((i : Int)))), (2, .ref v)] := hl
  have hne : a ≠ ed := xO_ne ha he
  refine lv_iload_n hx hb dJ2_set_0 rfl (lv_at hl 1 rfl) ?_
  refine lv_aload_n hx hb dJ2_set_1 rfl (lv_at hl 0 rfl) ?_
  refine x_get C hB ha rfl in_J2 2 (by decide) q134 (fun x h => h) (v := .int (iI n)) rfl dJ2_set_2 ?_
  refine g_calli 0 0 (Nat.le_of_ble_eq_true rfl) (Nat.le_of_ble_eq_true rfl) hB (rS (As := [.int (iI ((i : Int))), .int (iI n)]) (n := 2) C hZ hB (kJ3_checkIndex l E w i n (by omega) (by omega) _) (lw_S q165 q166 q73 q167) (by decide +kernel) ⟨Nat.le_of_ble_eq_true rfl, Nat.le_of_ble_eq_true rfl⟩ rfl hl.1 rfl (Nat.le_of_ble_eq_true rfl) dJ2_set_5 ⟨Nat.le_of_ble_eq_true rfl, Nat.le_of_ble_eq_true rfl⟩) (fun z1 w2 H locs hz3 hp4 hB => ?_)
  obtain ⟨hz3a, hz3b⟩ := hz3
  obtain ⟨rfl, rfl⟩ := hp4
  refine lv_pop hx hb dJ2_set_8 rfl ?_
  refine lv_aload_n hx hb dJ2_set_9 rfl (lv_at hl 0 rfl) ?_
  refine lv_iload_n hx hb dJ2_set_10 rfl (lv_at hl 1 rfl) ?_
  refine g_callq 0 0 (Nat.le_of_ble_eq_true rfl) (Nat.le_of_ble_eq_true rfl) hB (rV (As := [.int (iI ((i : Int)))]) (n := 1) C hZ hB (kJ2_elementData l E w a ed mm n cap f i r ha he hfr (by omega) (by omega) _) (lw_V q171 q172 q173 q71 q174) (by decide +kernel) ⟨Nat.le_of_ble_eq_true rfl, Nat.le_of_ble_eq_true rfl⟩ ha rfl rfl rfl hl.1 rfl (Nat.le_of_ble_eq_true rfl) dJ2_set_11 ⟨Nat.le_of_ble_eq_true rfl, Nat.le_of_ble_eq_true rfl⟩) (fun z5 w6 H locs hp8 hB => ?_)
  obtain ⟨rfl, rfl⟩ := hp8
  refine lv_astore_n (lv' := [(3, .ref r), (0, .ref a), (1, .int (iI ((i : Int)))), (2, .ref v)]) hx hb dJ2_set_14 rfl hl (by decide) rfl (fun ls hl => ?_)
  refine lv_aload_n hx hb dJ2_set_15 rfl (lv_at hl 1 rfl) ?_
  refine x_get C hB ha rfl in_J2 1 (by decide) q133 (fun x h => h) (v := .ref ed) rfl dJ2_set_16 ?_
  refine lv_iload_n hx hb dJ2_set_19 rfl (lv_at hl 2 rfl) ?_
  refine lv_aload_n hx hb dJ2_set_20 rfl (lv_at hl 3 rfl) ?_
  refine x_aastM C hB he hv i rfl (by omega) (by omega) dJ2_set_21 (fun H locs hB => ?_)
  replace hB : xB E (xA w sz) s (va_up w ed (some (xR E 3 cap ((va_up f i (some v)))))) _ _ := hB
  refine lv_aload_n hx hb dJ2_set_22 rfl (lv_at hl 0 rfl) ?_
  exact g_qret C hB hr (Or.inl ⟨_, rfl⟩) hlocks ((some r)) dJ2_set_23 (Nat.le_of_ble_eq_true rfl) (Nat.le_of_ble_eq_true rfl) ⟨rfl, rfl⟩
set_option maxHeartbeats 800000 in
set_option maxRecDepth 100000 in
theorem kJ2_add_2 (l : Launch) (E : xE) (w : xw) (a : Nat) (ed : Nat) (mm : Int) (n : Nat) (cap : Nat) (f : Nat → Option Nat) (v : Nat) (ha : w a = some (xO 18 [.int (iI mm), .ref ed, .int (iI (n : Int))])) (he : w ed = some (xR E 3 cap f)) (hv : xAny w v) (hn : n < cap) (hc : cap ≤ 100) : gv_ l E yJ2_add_2 cJ2_add_2 4 none 0 0 0 0 [.ref a, .ref v, .ref ed, .int (iI ((n : Int)))] w (fun w' => w' = va_up (va_up w ed (some (xR E 3 cap (va_up f n (some v))))) a (some (xO 18 [.int (iI mm), .ref ed, .int (iI ((n : Int) + 1))]))) := by
  intro sz
  refine x_bodyz (by decide) (Nat.le_of_ble_eq_true rfl) ?_
  intro p e s m args below meth c ls hx hb C hr hlocks hin hsz hZ hB hl
  have C : xC E p s m args c cJ2_add_2 4 RJ2 := C
  have hl : lv_has ls 4 [(0, .ref a), (1, .ref v), (2, .ref ed), (3, .int (iI ((n : Int))))] := hl
  have hne : a ≠ ed := xO_ne ha he
  refine lv_iload_n hx hb dJ2_add_2_0 rfl (lv_at hl 3 rfl) ?_
  refine lv_aload_n hx hb dJ2_add_2_1 rfl (lv_at hl 2 rfl) ?_
  refine x_alen C hB 3 rfl he dJ2_add_2_2 ?_
  refine x_nm (b := (cap : Int)) rfl ?_
  refine x_icmp_ne (tgt := 11) hx hb dJ2_add_2_3 (by decide) ⟨by omega, by omega⟩ ⟨by omega, by omega⟩ (fun c1 => ?_) (fun c1 => by exfalso; omega)
  refine lv_aload_n hx hb dJ2_add_2_11 rfl (lv_at hl 2 rfl) ?_
  refine lv_iload_n hx hb dJ2_add_2_12 rfl (lv_at hl 3 rfl) ?_
  refine lv_aload_n hx hb dJ2_add_2_13 rfl (lv_at hl 1 rfl) ?_
  refine x_aastM C hB he hv n rfl (by omega) (by omega) dJ2_add_2_14 (fun H locs hB => ?_)
  replace hB : xB E (xA w sz) s (va_up w ed (some (xR E 3 cap ((va_up f n (some v)))))) _ _ := hB
  refine lv_aload_n hx hb dJ2_add_2_15 rfl (lv_at hl 0 rfl) ?_
  refine lv_iload_n hx hb dJ2_add_2_16 rfl (lv_at hl 3 rfl) ?_
  refine lv_iconst (v := iI 1) hx hb dJ2_add_2_17 rfl ?_
  refine x_iadd (z := (n : Int) + 1) hx hb dJ2_add_2_18 (by omega) ?_
  refine x_put2 C hB ((va_up_n _ _ hne).trans ha) rfl in_J2 tyJ2_ok apJ2 2 (by decide) q134 (fun x h => h) rfl rfl rfl (Nat.le_of_ble_eq_true rfl) dJ2_add_2_19 (fun H locs hB => ?_)
  replace hB : xB E (xA w sz) s (va_up (va_up w ed (some (xR E 3 cap ((va_up f n (some v)))))) a (some (xO 18 [.int (iI mm), .ref ed, .int (iI ((n : Int) + 1))]))) _ _ := hB
  exact g_vret C hB hr hlocks dJ2_add_2_22 (Nat.le_of_ble_eq_true rfl) (Nat.le_of_ble_eq_true rfl) rfl
set_option maxHeartbeats 800000 in
set_option maxRecDepth 100000 in
theorem kJ2_add (l : Launch) (E : xE) (w : xw) (a : Nat) (ed : Nat) (mm : Int) (n : Nat) (cap : Nat) (f : Nat → Option Nat) (v : Nat) (ha : w a = some (xO 18 [.int (iI mm), .ref ed, .int (iI (n : Int))])) (he : w ed = some (xR E 3 cap f)) (hv : xAny w v) (hn : n < cap) (hc : cap ≤ 100) : gi_ l E yJ2_add cJ2_add 2 (some .boolean) 1 23 0 0 [.ref a, .ref v] w (fun z w' => w' = va_up (va_up w ed (some (xR E 3 cap (va_up f n (some v))))) a (some (xO 18 [.int (iI (mm + 1)), .ref ed, .int (iI ((n : Int) + 1))]))) := by
  intro sz
  refine x_bodyz (by decide) (Nat.le_of_ble_eq_true rfl) ?_
  intro p e s m args below meth c ls hx hb C hr hlocks hin hsz hZ hB hl
  have C : xC E p s m args c cJ2_add 2 RJ2 := C
  have hl : lv_has ls 2 [(0, .ref a), (1, .ref v)] := hl
  have hne : a ≠ ed := xO_ne ha he
  refine lv_aload_n hx hb dJ2_add_0 rfl (lv_at hl 0 rfl) ?_
  refine lv_dup hx hb dJ2_add_1 rfl ?_
  refine x_get C hB ha rfl in_J2 0 (by decide) q136 (fun x h => u_same (C.1.2.2.2.2 _ q137) x h) (v := .int (iI mm)) rfl dJ2_add_2 ?_
  refine lv_iconst (v := iI 1) hx hb dJ2_add_5 rfl ?_
  refine x_iadd (z := mm + 1) hx hb dJ2_add_6 (by omega) ?_
  refine x_put2 C hB ha rfl in_J2 tyJ2_ok apJ2 0 (by decide) q136 (fun x h => u_same (C.1.2.2.2.2 _ q137) x h) rfl rfl rfl (Nat.le_of_ble_eq_true rfl) dJ2_add_7 (fun H locs hB => ?_)
  replace hB : xB E (xA w sz) s (va_up w a (some (xO 18 [.int (iI (mm + 1)), .ref ed, .int (iI ((n : Int)))]))) _ _ := hB
  refine lv_aload_n hx hb dJ2_add_10 rfl (lv_at hl 0 rfl) ?_
  refine lv_aload_n hx hb dJ2_add_11 rfl (lv_at hl 1 rfl) ?_
  refine lv_aload_n hx hb dJ2_add_12 rfl (lv_at hl 0 rfl) ?_
  refine x_get C hB (va_up_s _ _ _) rfl in_J2 1 (by decide) q133 (fun x h => h) (v := .ref ed) rfl dJ2_add_13 ?_
  refine lv_aload_n hx hb dJ2_add_16 rfl (lv_at hl 0 rfl) ?_
  refine x_get C hB (va_up_s _ _ _) rfl in_J2 2 (by decide) q134 (fun x h => h) (v := .int (iI ((n : Int)))) rfl dJ2_add_17 ?_
  refine g_callv 0 0 (Nat.le_of_ble_eq_true rfl) (Nat.le_of_ble_eq_true rfl) hB (rV (As := [.ref v, .ref ed, .int (iI ((n : Int)))]) (n := 3) C hZ hB (kJ2_add_2 l E (va_up w a (some (xO 18 [.int (iI (mm + 1)), .ref ed, .int (iI ((n : Int)))]))) a ed (mm + 1) n cap f v (va_up_s _ _ _) ((va_up_n _ _ (Ne.symm hne)).trans he) (hv.upO ha) (by omega) (by omega) _) (lw_V q681 q683 qs21 q71 q684) (by decide +kernel) ⟨Nat.le_of_ble_eq_true rfl, Nat.le_of_ble_eq_true rfl⟩ (va_up_s _ _ _) rfl rfl rfl hl.1 rfl (Nat.le_of_ble_eq_true rfl) dJ2_add_20 ⟨Nat.le_of_ble_eq_true rfl, Nat.le_of_ble_eq_true rfl⟩) (fun w2 H locs hp4 hB => ?_)
  subst hp4
  rw [up_aba] at hB
  replace hB : xB E (xA w sz) s (va_up (va_up w ed (some (xR E 3 cap ((va_up f n (some v)))))) a (some (xO 18 [.int (iI (mm + 1)), .ref ed, .int (iI ((n : Int) + 1))]))) _ _ := hB
  refine lv_iconst (v := iI 1) hx hb dJ2_add_23 rfl ?_
  exact g_iret C hB hr hlocks rfl dJ2_add_24 (Nat.le_of_ble_eq_true rfl) (Nat.le_of_ble_eq_true rfl) ⟨by decide, by decide⟩ rfl
set_option maxHeartbeats 800000 in
set_option maxRecDepth 100000 in
theorem kJ2_fastRemove (l : Launch) (E : xE) (w : xw) (a : Nat) (ed : Nat) (mm : Int) (n : Nat) (cap : Nat) (f : Nat → Option Nat) (ha : w a = some (xO 18 [.int (iI mm), .ref ed, .int (iI ((n : Int) + 1))])) (he : w ed = some (xR E 3 cap f)) (hn : n < cap) (hc : cap ≤ 100) : gv_ l E yJ2_fastRemove cJ2_fastRemove 4 none 0 0 0 0 [.ref a, .ref ed, .int (iI ((n : Int)))] w (fun w' => w' = va_up (va_up w a (some (xO 18 [.int (iI (mm + 1)), .ref ed, .int (iI (n : Int))]))) ed (some (xR E 3 cap (va_up f n none)))) := by
  intro sz
  refine x_bodyz (by decide) (Nat.le_of_ble_eq_true rfl) ?_
  intro p e s m args below meth c ls hx hb C hr hlocks hin hsz hZ hB hl
  have C : xC E p s m args c cJ2_fastRemove 4 RJ2 := C
  have hl : lv_has ls 4 [(0, .ref a), (1, .ref ed), (2, .int (iI ((n : Int))))] := hl
  have hne : a ≠ ed := xO_ne ha he
  refine lv_aload_n hx hb dJ2_fastRemove_0 rfl (lv_at hl 0 rfl) ?_
  refine lv_dup hx hb dJ2_fastRemove_1 rfl ?_
  refine x_get C hB ha rfl in_J2 0 (by decide) q136 (fun x h => u_same (C.1.2.2.2.2 _ q137) x h) (v := .int (iI mm)) rfl dJ2_fastRemove_2 ?_
  refine lv_iconst (v := iI 1) hx hb dJ2_fastRemove_5 rfl ?_
  refine x_iadd (z := mm + 1) hx hb dJ2_fastRemove_6 (by omega) ?_
  refine x_put2 C hB ha rfl in_J2 tyJ2_ok apJ2 0 (by decide) q136 (fun x h => u_same (C.1.2.2.2.2 _ q137) x h) rfl rfl rfl (Nat.le_of_ble_eq_true rfl) dJ2_fastRemove_7 (fun H locs hB => ?_)
  replace hB : xB E (xA w sz) s (va_up w a (some (xO 18 [.int (iI (mm + 1)), .ref ed, .int (iI ((n : Int) + 1))]))) _ _ := hB
  refine lv_aload_n hx hb dJ2_fastRemove_10 rfl (lv_at hl 0 rfl) ?_
  refine x_get C hB (va_up_s _ _ _) rfl in_J2 2 (by decide) q134 (fun x h => h) (v := .int (iI ((n : Int) + 1))) rfl dJ2_fastRemove_11 ?_
  refine lv_iconst (v := iI 1) hx hb dJ2_fastRemove_14 rfl ?_
  refine x_isub (z := (n : Int)) hx hb dJ2_fastRemove_15 (by omega) ?_
  refine lv_dup hx hb dJ2_fastRemove_16 rfl ?_
  refine lv_istore_n (lv' := [(3, .int (iI ((n : Int)))), (0, .ref a), (1, .ref ed), (2, .int (iI ((n : Int))))]) hx hb dJ2_fastRemove_17 rfl hl (by decide) rfl (fun ls hl => ?_)
  refine lv_iload_n hx hb dJ2_fastRemove_18 rfl (lv_at hl 3 rfl) ?_
  refine x_icmp_le (tgt := 34) hx hb dJ2_fastRemove_19 (by decide) ⟨by omega, by omega⟩ ⟨by omega, by omega⟩ (fun c1 => ?_) (fun c1 => by exfalso; omega)
  refine lv_aload_n hx hb dJ2_fastRemove_34 rfl (lv_at hl 2 rfl) ?_
  refine lv_aload_n hx hb dJ2_fastRemove_35 rfl (lv_at hl 1 rfl) ?_
  refine lv_iload_n hx hb dJ2_fastRemove_36 rfl (lv_at hl 0 rfl) ?_
  refine lv_dup_x1 hx hb dJ2_fastRemove_37 rfl rfl ?_
  refine x_put2 C hB (va_up_s _ _ _) rfl in_J2 tyJ2_ok apJ2 2 (by decide) q134 (fun x h => h) rfl rfl rfl (Nat.le_of_ble_eq_true rfl) dJ2_fastRemove_38 (fun H locs hB => ?_)
  rw [bx_uu] at hB
  replace hB : xB E (xA w sz) s (va_up w a (some (xO 18 [.int (iI (mm + 1)), .ref ed, .int (iI ((n : Int)))]))) _ _ := hB
  refine lv_null hx hb dJ2_fastRemove_41 ?_
  refine x_aastN C hB 3 rfl ((va_up_n _ _ (Ne.symm hne)).trans he) n rfl (by omega) (by omega) dJ2_fastRemove_42 (fun H locs hB => ?_)
  replace hB : xB E (xA w sz) s (va_up (va_up w a (some (xO 18 [.int (iI (mm + 1)), .ref ed, .int (iI ((n : Int)))]))) ed (some (xR E 3 cap ((va_up f n none))))) _ _ := hB
  exact g_vret C hB hr hlocks dJ2_fastRemove_43 (Nat.le_of_ble_eq_true rfl) (Nat.le_of_ble_eq_true rfl) rfl
set_option maxHeartbeats 800000 in
set_option maxRecDepth 100000 in
theorem kJ2_remove (l : Launch) (E : xE) (w : xw) (a : Nat) (ed : Nat) (mm : Int) (n : Nat) (cap : Nat) (f : Nat → Option Nat) (r : Nat) (ha : w a = some (xO 18 [.int (iI mm), .ref ed, .int (iI ((n : Int) + 1))])) (he : w ed = some (xR E 3 cap f)) (hfr : f n = some r) (hn : n < cap) (hc : cap ≤ 100) : gq_ l E yJ2_remove cJ2_remove 4 (some (.object "java/lang/Object")) 2 43 0 0 [.ref a, .int (iI ((n : Int)))] w (fun z w' => w' = va_up (va_up w a (some (xO 18 [.int (iI (mm + 1)), .ref ed, .int (iI (n : Int))]))) ed (some (xR E 3 cap (va_up f n none)))) := by
  intro sz
  refine x_bodyz (by decide) (Nat.le_of_ble_eq_true rfl) ?_
  intro p e s m args below meth c ls hx hb C hr hlocks hin hsz hZ hB hl
  have C : xC E p s m args c cJ2_remove 4 RJ2 := C
  have hl : lv_has ls 4 [(0, .ref a), (1, .int (iI ((n : Int))))] := hl
  have hne : a ≠ ed := xO_ne ha he
  refine lv_iload_n hx hb dJ2_remove_0 rfl (lv_at hl 1 rfl) ?_
  refine lv_aload_n hx hb dJ2_remove_1 rfl (lv_at hl 0 rfl) ?_
  refine x_get C hB ha rfl in_J2 2 (by decide) q134 (fun x h => h) (v := .int (iI ((n : Int) + 1))) rfl dJ2_remove_2 ?_
  refine g_calli 0 0 (Nat.le_of_ble_eq_true rfl) (Nat.le_of_ble_eq_true rfl) hB (rS (As := [.int (iI ((n : Int))), .int (iI ((n : Int) + 1))]) (n := 2) C hZ hB (kJ3_checkIndex l E w n ((n : Int) + 1) (by omega) (by omega) _) (lw_S q165 q166 q73 q167) (by decide +kernel) ⟨Nat.le_of_ble_eq_true rfl, Nat.le_of_ble_eq_true rfl⟩ rfl hl.1 rfl (Nat.le_of_ble_eq_true rfl) dJ2_remove_5 ⟨Nat.le_of_ble_eq_true rfl, Nat.le_of_ble_eq_true rfl⟩) (fun z1 w2 H locs hz3 hp4 hB => ?_)
  obtain ⟨hz3a, hz3b⟩ := hz3
  obtain ⟨rfl, rfl⟩ := hp4
  refine lv_pop hx hb dJ2_remove_8 rfl ?_
  refine lv_aload_n hx hb dJ2_remove_9 rfl (lv_at hl 0 rfl) ?_
  refine x_get C hB ha rfl in_J2 1 (by decide) q133 (fun x h => h) (v := .ref ed) rfl dJ2_remove_10 ?_
  refine lv_astore_n (lv' := [(2, .ref ed), (0, .ref a), (1, .int (iI ((n : Int))))]) hx hb dJ2_remove_13 rfl hl (by decide) rfl (fun ls hl => ?_)
  refine lv_aload_n hx hb dJ2_remove_14 rfl (lv_at hl 0 rfl) ?_
  refine lv_iload_n hx hb dJ2_remove_15 rfl (lv_at hl 2 rfl) ?_
  refine x_aald C hB 3 rfl he n rfl (by omega) (by omega) (r := some r) hfr dJ2_remove_16 ?_
  refine lv_astore_n (lv' := [(3, .ref r), (2, .ref ed), (0, .ref a), (1, .int (iI ((n : Int))))]) hx hb dJ2_remove_17 rfl hl (by decide) rfl (fun ls hl => ?_)
  refine lv_aload_n hx hb dJ2_remove_18 rfl (lv_at hl 2 rfl) ?_
  refine lv_aload_n hx hb dJ2_remove_19 rfl (lv_at hl 1 rfl) ?_
  refine lv_iload_n hx hb dJ2_remove_20 rfl (lv_at hl 3 rfl) ?_
  refine g_callv 0 0 (Nat.le_of_ble_eq_true rfl) (Nat.le_of_ble_eq_true rfl) hB (rV (As := [.ref ed, .int (iI ((n : Int)))]) (n := 2) C hZ hB (kJ2_fastRemove l E w a ed mm n cap f ha he (by omega) (by omega) _) (lw_V q760 q762 qs24 q71 q763) (by decide +kernel) ⟨Nat.le_of_ble_eq_true rfl, Nat.le_of_ble_eq_true rfl⟩ ha rfl rfl rfl hl.1 rfl (Nat.le_of_ble_eq_true rfl) dJ2_remove_21 ⟨Nat.le_of_ble_eq_true rfl, Nat.le_of_ble_eq_true rfl⟩) (fun w6 H locs hp8 hB => ?_)
  subst hp8
  replace hB : xB E (xA w sz) s (va_up (va_up w a (some (xO 18 [.int (iI (mm + 1)), .ref ed, .int (iI ((n : Int)))]))) ed (some (xR E 3 cap ((va_up f n none))))) _ _ := hB
  refine lv_aload_n hx hb dJ2_remove_24 rfl (lv_at hl 0 rfl) ?_
  exact g_qret C hB hr (Or.inl ⟨_, rfl⟩) hlocks ((some r)) dJ2_remove_25 (Nat.le_of_ble_eq_true rfl) (Nat.le_of_ble_eq_true rfl) rfl
set_option maxHeartbeats 800000 in
set_option maxRecDepth 100000 in
theorem kJ2_clear0 (l : Launch) (E : xE) (w : xw) (a : Nat) (ed : Nat) (mm : Int) (ha : w a = some (xO 18 [.int (iI mm), .ref ed, .int (iI 0)])) : gv_ l E yJ2_clear cJ2_clear 4 none 0 0 0 0 [.ref a] w (fun w' => w' = va_up w a (some (xO 18 [.int (iI (mm + 1)), .ref ed, .int (iI 0)]))) := by
  intro sz
  refine x_bodyz (by decide) (Nat.le_of_ble_eq_true rfl) ?_
  intro p e s m args below meth c ls hx hb C hr hlocks hin hsz hZ hB hl
  have C : xC E p s m args c cJ2_clear 4 RJ2 := C
  have hl : lv_has ls 4 [(0, .ref a)] := hl
  refine lv_aload_n hx hb dJ2_clear_0 rfl (lv_at hl 0 rfl) ?_
  refine lv_dup hx hb dJ2_clear_1 rfl ?_
  refine x_get C hB ha rfl in_J2 0 (by decide) q136 (fun x h => u_same (C.1.2.2.2.2 _ q137) x h) (v := .int (iI mm)) rfl dJ2_clear_2 ?_
  refine lv_iconst (v := iI 1) hx hb dJ2_clear_5 rfl ?_
  refine x_iadd (z := mm + 1) hx hb dJ2_clear_6 (by omega) ?_
  refine x_put2 C hB ha rfl in_J2 tyJ2_ok apJ2 0 (by decide) q136 (fun x h => u_same (C.1.2.2.2.2 _ q137) x h) rfl rfl rfl (Nat.le_of_ble_eq_true rfl) dJ2_clear_7 (fun H locs hB => ?_)
  replace hB : xB E (xA w sz) s (va_up w a (some (xO 18 [.int (iI (mm + 1)), .ref ed, .int (iI 0)]))) _ _ := hB
  refine lv_aload_n hx hb dJ2_clear_10 rfl (lv_at hl 0 rfl) ?_
  refine x_get C hB (va_up_s _ _ _) rfl in_J2 1 (by decide) q133 (fun x h => h) (v := .ref ed) rfl dJ2_clear_11 ?_
  refine lv_astore_n (lv' := [(1, .ref ed), (0, .ref a)]) hx hb dJ2_clear_14 rfl hl (by decide) rfl (fun ls hl => ?_)
  refine lv_aload_n hx hb dJ2_clear_15 rfl (lv_at hl 1 rfl) ?_
  refine x_get C hB (va_up_s _ _ _) rfl in_J2 2 (by decide) q134 (fun x h => h) (v := .int (iI 0)) rfl dJ2_clear_16 ?_
  refine lv_istore_n (lv' := [(2, .int (iI 0)), (1, .ref ed), (0, .ref a)]) hx hb dJ2_clear_19 rfl hl (by decide) rfl (fun ls hl => ?_)
  refine lv_aload_n hx hb dJ2_clear_20 rfl (lv_at hl 2 rfl) ?_
  refine lv_iconst (v := iI 0) hx hb dJ2_clear_21 rfl ?_
  refine lv_dup_x1 hx hb dJ2_clear_22 rfl rfl ?_
  refine x_put2 C hB (va_up_s _ _ _) rfl in_J2 tyJ2_ok apJ2 2 (by decide) q134 (fun x h => h) rfl rfl rfl (Nat.le_of_ble_eq_true rfl) dJ2_clear_23 (fun H locs hB => ?_)
  rw [bx_uu] at hB
  replace hB : xB E (xA w sz) s (va_up w a (some (xO 18 [.int (iI (mm + 1)), .ref ed, .int (iI 0)]))) _ _ := hB
  refine lv_istore_n (lv' := [(3, .int (iI 0)), (2, .int (iI 0)), (1, .ref ed), (0, .ref a)]) hx hb dJ2_clear_26 rfl hl (by decide) rfl (fun ls hl => ?_)
  refine lv_iload_n hx hb dJ2_clear_27 rfl (lv_at hl 0 rfl) ?_
  refine lv_iload_n hx hb dJ2_clear_28 rfl (lv_at hl 1 rfl) ?_
  refine x_icmp_ge (tgt := 42) hx hb dJ2_clear_29 (by decide) ⟨by decide, by decide⟩ ⟨by decide, by decide⟩ (fun c1 => ?_) (fun c1 => by exfalso; omega)
  exact g_vret C hB hr hlocks dJ2_clear_42 (Nat.le_of_ble_eq_true rfl) (Nat.le_of_ble_eq_true rfl) rfl
set_option maxHeartbeats 800000 in
set_option maxRecDepth 100000 in
theorem kJ2_clear (l : Launch) (E : xE) (w : xw) (a : Nat) (ed : Nat) (mm : Int) (n : Nat) (cap : Nat) (f : Nat → Option Nat) (ha : w a = some (xO 18 [.int (iI mm), .ref ed, .int (iI (n : Int))])) (he : w ed = some (xR E 3 cap f)) (hn : n ≤ cap) (hc : cap ≤ 100) : gv_ l E yJ2_clear cJ2_clear 4 none 0 0 0 0 [.ref a] w (fun w' => w' = va_up (va_up w ed (some (xR E 3 cap (clr f n)))) a (some (xO 18 [.int (iI (mm + 1)), .ref ed, .int (iI 0)]))) := by
  intro sz
  refine x_bodyz (by decide) (Nat.le_of_ble_eq_true rfl) ?_
  intro p e s m args below meth c ls hx hb C hr hlocks hin hsz hZ hB hl
  have C : xC E p s m args c cJ2_clear 4 RJ2 := C
  have hl : lv_has ls 4 [(0, .ref a)] := hl
  have hne : a ≠ ed := xO_ne ha he
  refine lv_aload_n hx hb dJ2_clear_0 rfl (lv_at hl 0 rfl) ?_
  refine lv_dup hx hb dJ2_clear_1 rfl ?_
  refine x_get C hB ha rfl in_J2 0 (by decide) q136 (fun x h => u_same (C.1.2.2.2.2 _ q137) x h) (v := .int (iI mm)) rfl dJ2_clear_2 ?_
  refine lv_iconst (v := iI 1) hx hb dJ2_clear_5 rfl ?_
  refine x_iadd (z := mm + 1) hx hb dJ2_clear_6 (by omega) ?_
  refine x_put2 C hB ha rfl in_J2 tyJ2_ok apJ2 0 (by decide) q136 (fun x h => u_same (C.1.2.2.2.2 _ q137) x h) rfl rfl rfl (Nat.le_of_ble_eq_true rfl) dJ2_clear_7 (fun H locs hB => ?_)
  replace hB : xB E (xA w sz) s (va_up w a (some (xO 18 [.int (iI (mm + 1)), .ref ed, .int (iI ((n : Int)))]))) _ _ := hB
  refine lv_aload_n hx hb dJ2_clear_10 rfl (lv_at hl 0 rfl) ?_
  refine x_get C hB (va_up_s _ _ _) rfl in_J2 1 (by decide) q133 (fun x h => h) (v := .ref ed) rfl dJ2_clear_11 ?_
  refine lv_astore_n (lv' := [(1, .ref ed), (0, .ref a)]) hx hb dJ2_clear_14 rfl hl (by decide) rfl (fun ls hl => ?_)
  refine lv_aload_n hx hb dJ2_clear_15 rfl (lv_at hl 1 rfl) ?_
  refine x_get C hB (va_up_s _ _ _) rfl in_J2 2 (by decide) q134 (fun x h => h) (v := .int (iI ((n : Int)))) rfl dJ2_clear_16 ?_
  refine lv_istore_n (lv' := [(2, .int (iI ((n : Int)))), (1, .ref ed), (0, .ref a)]) hx hb dJ2_clear_19 rfl hl (by decide) rfl (fun ls hl => ?_)
  refine lv_aload_n hx hb dJ2_clear_20 rfl (lv_at hl 2 rfl) ?_
  refine lv_iconst (v := iI 0) hx hb dJ2_clear_21 rfl ?_
  refine lv_dup_x1 hx hb dJ2_clear_22 rfl rfl ?_
  refine x_put2 C hB (va_up_s _ _ _) rfl in_J2 tyJ2_ok apJ2 2 (by decide) q134 (fun x h => h) rfl rfl rfl (Nat.le_of_ble_eq_true rfl) dJ2_clear_23 (fun H locs hB => ?_)
  rw [bx_uu] at hB
  replace hB : xB E (xA w sz) s (va_up w a (some (xO 18 [.int (iI (mm + 1)), .ref ed, .int (iI 0)]))) _ _ := hB
  refine lv_istore_n (lv' := [(3, .int (iI 0)), (2, .int (iI ((n : Int)))), (1, .ref ed), (0, .ref a)]) hx hb dJ2_clear_26 rfl hl (by decide) rfl (fun ls hl => ?_)
  have hW0 : va_up w a (some (xO 18 [.int (iI (mm + 1)), .ref ed, .int (iI 0)])) = va_up (va_up w ed (some (xR E 3 cap (clr f 0)))) a (some (xO 18 [.int (iI (mm + 1)), .ref ed, .int (iI 0)])) := by rw [clr_0, ← he, va_up_id]
  rw [hW0] at hB
  refine w_loop (fun n4 H locs ls => ∃ (i : Nat), n4 = n - i ∧ (i ≤ n) ∧ xB E (xA w sz) s (va_up (va_up w ed (some (xR E 3 cap ((clr f i))))) a (some (xO 18 [.int (iI (mm + 1)), .ref ed, .int (iI 0)]))) H locs ∧ lv_has ls 4 [(0, .ref a), (1, .ref ed), (2, .int (iI ((n : Int)))), (3, .int (iI ((i : Int))))]) _ ⟨0, rfl, Nat.zero_le _, hB, lv_sub hl [3, 2, 1, 0] rfl⟩ ?_
  intro n4 H locs ls hI3 ih1
  obtain ⟨i, hn2, hi, hB, hl⟩ := hI3
  refine lv_iload_n hx hb dJ2_clear_27 rfl (lv_at hl 3 rfl) ?_
  refine lv_iload_n hx hb dJ2_clear_28 rfl (lv_at hl 2 rfl) ?_
  refine x_icmp_ge (tgt := 42) hx hb dJ2_clear_29 (by decide) ⟨by omega, by omega⟩ ⟨by omega, by omega⟩ (fun c5 => ?_) (fun c5 => ?_)
  · exact g_vret C hB hr hlocks dJ2_clear_42 (Nat.le_of_ble_eq_true rfl) (Nat.le_of_ble_eq_true rfl) (by rw [show n = i by omega])
  · refine lv_aload_n hx hb dJ2_clear_32 rfl (lv_at hl 1 rfl) ?_
    refine lv_iload_n hx hb dJ2_clear_33 rfl (lv_at hl 3 rfl) ?_
    refine lv_null hx hb dJ2_clear_34 ?_
    refine x_aastN C hB 3 rfl ((va_up_n _ _ (Ne.symm hne)).trans (va_up_s _ _ _)) i rfl (by omega) (by omega) dJ2_clear_35 (fun H locs hB => ?_)
    rw [up_aba] at hB
    replace hB : xB E (xA w sz) s (va_up (va_up w a (some (xO 18 [.int (iI (mm + 1)), .ref ed, .int (iI 0)]))) ed (some (xR E 3 cap ((va_up ((clr f i)) i none))))) _ _ := hB
    refine lv_iinc (v := iI ((i : Int) + 1)) (lv' := [(3, .int (iI ((i : Int) + 1))), (0, .ref a), (1, .ref ed), (2, .int (iI ((n : Int))))]) hx hb dJ2_clear_36 hl (k := 3) rfl (iI_add _ _) (by decide) rfl (fun ls hl => ?_)
    rw [va_up_comm _ _ _ hne, clr_s] at hB
    replace hB : xB E (xA w sz) s (va_up (va_up w ed (some (xR E 3 cap ((clr f (i + 1)))))) a (some (xO 18 [.int (iI (mm + 1)), .ref ed, .int (iI 0)]))) _ _ := hB
    rw [show (i : Int) + 1 = ((i + 1 : Nat) : Int) by omega] at hl
    refine lv_goto (tgt := 27) hx hb dJ2_clear_39 (by decide) ?_
    exact ih1 _ _ _ _ (by omega) ⟨i + 1, rfl, by omega, hB, lv_sub hl [1, 2, 3, 0] rfl⟩
