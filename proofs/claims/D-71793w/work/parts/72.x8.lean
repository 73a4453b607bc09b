/-! THE COMPONENT: constructors of its small classes -/
set_option maxRecDepth 100000
set_option maxHeartbeats 800000 in
set_option maxRecDepth 100000 in
theorem kX9_init_X10 (l : Launch) (E : xE) (w : xw) (a : Nat) (oo : Nat) (v1 : Int) (ha : w a = some (xO 8 [.int (iI 0), .null, .int (iI v1), .ref oo])) : gv_ l E yX9_init cX9_init 2 none 1 24 0 0 [.ref a, .ref oo] w (fun w' => va_up w a (some (xO 8 [.int (iI 0), .ref oo, .int (iI v1), .ref oo])) = w') := by
  intro sz
  refine x_bodyz (by decide) (Nat.le_of_ble_eq_true rfl) ?_
  intro p e s m args below meth c ls hx hb C hr hlocks hin hsz hZ hB hl
  have C : xC E p s m args c cX9_init 2 RX9 := C
  have hl : lv_has ls 2 [(0, .ref a), (1, .ref oo)] := hl
  refine lv_aload_n hx hb dX9_init_0 rfl (lv_at hl 0 rfl) ?_
  refine lv_aload_n hx hb dX9_init_1 rfl (lv_at hl 1 rfl) ?_
  refine x_putF2 C hB ha rfl in_X10 tyX10_ok apX10 1 (by decide) q407 (fun x h => h) rfl (hin rfl) rfl rfl rfl (Nat.le_of_ble_eq_true rfl) dX9_init_2 (fun H locs hB => ?_)
  replace hB : xB E (xA w sz) s (va_up w a (some (xO 8 [.int (iI 0), .ref oo, .int (iI v1), .ref oo]))) _ _ := hB
  refine lv_aload_n hx hb dX9_init_5 rfl (lv_at hl 0 rfl) ?_
  refine x_objInit C q397 q113 q114 hl.1 (Nat.le_of_ble_eq_true rfl) (Nat.le_of_ble_eq_true rfl) dX9_init_6 ?_
  exact g_vret C hB hr hlocks dX9_init_9 (Nat.le_of_ble_eq_true rfl) (Nat.le_of_ble_eq_true rfl) rfl
set_option maxHeartbeats 800000 in
set_option maxRecDepth 100000 in
theorem kX9_init_X14 (l : Launch) (E : xE) (w : xw) (a : Nat) (oo : Nat) (v1 : Int) (ha : w a = some (xO 12 [.int (iI 0), .null, .int (iI v1), .ref oo])) : gv_ l E yX9_init cX9_init 2 none 1 24 0 0 [.ref a, .ref oo] w (fun w' => va_up w a (some (xO 12 [.int (iI 0), .ref oo, .int (iI v1), .ref oo])) = w') := by
  intro sz
  refine x_bodyz (by decide) (Nat.le_of_ble_eq_true rfl) ?_
  intro p e s m args below meth c ls hx hb C hr hlocks hin hsz hZ hB hl
  have C : xC E p s m args c cX9_init 2 RX9 := C
  have hl : lv_has ls 2 [(0, .ref a), (1, .ref oo)] := hl
  refine lv_aload_n hx hb dX9_init_0 rfl (lv_at hl 0 rfl) ?_
  refine lv_aload_n hx hb dX9_init_1 rfl (lv_at hl 1 rfl) ?_
  refine x_putF2 C hB ha rfl in_X14 tyX14_ok apX14 1 (by decide) q407 (fun x h => h) rfl (hin rfl) rfl rfl rfl (Nat.le_of_ble_eq_true rfl) dX9_init_2 (fun H locs hB => ?_)
  replace hB : xB E (xA w sz) s (va_up w a (some (xO 12 [.int (iI 0), .ref oo, .int (iI v1), .ref oo]))) _ _ := hB
  refine lv_aload_n hx hb dX9_init_5 rfl (lv_at hl 0 rfl) ?_
  refine x_objInit C q397 q113 q114 hl.1 (Nat.le_of_ble_eq_true rfl) (Nat.le_of_ble_eq_true rfl) dX9_init_6 ?_
  exact g_vret C hB hr hlocks dX9_init_9 (Nat.le_of_ble_eq_true rfl) (Nat.le_of_ble_eq_true rfl) rfl
set_option maxHeartbeats 800000 in
set_option maxRecDepth 100000 in
theorem kX9_init_X15 (l : Launch) (E : xE) (w : xw) (a : Nat) (oo : Nat) (ha : w a = some (xO 13 [.int (iI 0), .null, .ref oo])) : gv_ l E yX9_init cX9_init 2 none 1 24 0 0 [.ref a, .ref oo] w (fun w' => va_up w a (some (xO 13 [.int (iI 0), .ref oo, .ref oo])) = w') := by
  intro sz
  refine x_bodyz (by decide) (Nat.le_of_ble_eq_true rfl) ?_
  intro p e s m args below meth c ls hx hb C hr hlocks hin hsz hZ hB hl
  have C : xC E p s m args c cX9_init 2 RX9 := C
  have hl : lv_has ls 2 [(0, .ref a), (1, .ref oo)] := hl
  refine lv_aload_n hx hb dX9_init_0 rfl (lv_at hl 0 rfl) ?_
  refine lv_aload_n hx hb dX9_init_1 rfl (lv_at hl 1 rfl) ?_
  refine x_putF2 C hB ha rfl in_X15 tyX15_ok apX15 1 (by decide) q407 (fun x h => h) rfl (hin rfl) rfl rfl rfl (Nat.le_of_ble_eq_true rfl) dX9_init_2 (fun H locs hB => ?_)
  replace hB : xB E (xA w sz) s (va_up w a (some (xO 13 [.int (iI 0), .ref oo, .ref oo]))) _ _ := hB
  refine lv_aload_n hx hb dX9_init_5 rfl (lv_at hl 0 rfl) ?_
  refine x_objInit C q397 q113 q114 hl.1 (Nat.le_of_ble_eq_true rfl) (Nat.le_of_ble_eq_true rfl) dX9_init_6 ?_
  exact g_vret C hB hr hlocks dX9_init_9 (Nat.le_of_ble_eq_true rfl) (Nat.le_of_ble_eq_true rfl) rfl
set_option maxHeartbeats 800000 in
set_option maxRecDepth 100000 in
theorem kX10_init (l : Launch) (E : xE) (w : xw) (a : Nat) (oo : Nat) (v1 : Int) (ha : w a = some (xO 8 [.int (iI 0), .null, .int (iI 0), .null])) : gv_ l E yX10_init cX10_init 3 none 2 45 0 0 [.ref a, .ref oo, .int (iI v1)] w (fun w' => va_up w a (some (xO 8 [.int (iI 0), .ref oo, .int (iI v1), .ref oo])) = w') := by
  intro sz
  refine x_bodyz (by decide) (Nat.le_of_ble_eq_true rfl) ?_
  intro p e s m args below meth c ls hx hb C hr hlocks hin hsz hZ hB hl
  have C : xC E p s m args c cX10_init 3 RX10 := C
  have hl : lv_has ls 3 [(0, .ref a), (1, .ref oo), (2, .int (iI v1))] := hl
  refine lv_aload_n hx hb dX10_init_0 rfl (lv_at hl 0 rfl) ?_
  refine lv_aload_n hx hb dX10_init_1 rfl (lv_at hl 1 rfl) ?_
  refine x_putF2 C hB ha rfl in_X10 tyX10_ok apX10 3 (by decide) q399 (fun x h => h) rfl (hin rfl) rfl rfl rfl (Nat.le_of_ble_eq_true rfl) dX10_init_2 (fun H locs hB => ?_)
  replace hB : xB E (xA w sz) s (va_up w a (some (xO 8 [.int (iI 0), .null, .int (iI 0), .ref oo]))) _ _ := hB
  refine lv_aload_n hx hb dX10_init_5 rfl (lv_at hl 0 rfl) ?_
  refine lv_iload_n hx hb dX10_init_6 rfl (lv_at hl 2 rfl) ?_
  refine x_putF2 C hB (va_up_s _ _ _) rfl in_X10 tyX10_ok apX10 2 (by decide) q398 (fun x h => h) rfl (hin rfl) rfl rfl rfl (Nat.le_of_ble_eq_true rfl) dX10_init_7 (fun H locs hB => ?_)
  rw [bx_uu] at hB
  replace hB : xB E (xA w sz) s (va_up w a (some (xO 8 [.int (iI 0), .null, .int (iI v1), .ref oo]))) _ _ := hB
  refine lv_aload_n hx hb dX10_init_10 rfl (lv_at hl 0 rfl) ?_
  refine lv_aload_n hx hb dX10_init_11 rfl (lv_at hl 1 rfl) ?_
  refine g_callv 0 0 (Nat.le_of_ble_eq_true rfl) (Nat.le_of_ble_eq_true rfl) hB (rIN (As := [.ref oo]) (n := 1) C hZ hB (kX9_init_X10 l E (va_up w a (some (xO 8 [.int (iI 0), .null, .int (iI v1), .ref oo]))) a oo v1 (va_up_s _ _ _) _) q394 q395 q96 q396 rfl (by decide +kernel) ⟨Nat.le_of_ble_eq_true rfl, Nat.le_of_ble_eq_true rfl⟩ rfl hl.1 rfl (Nat.le_of_ble_eq_true rfl) dX10_init_12 ⟨Nat.le_of_ble_eq_true rfl, Nat.le_of_ble_eq_true rfl⟩) (fun w2 H locs hp4 hB => ?_)
  subst hp4
  rw [bx_uu] at hB
  replace hB : xB E (xA w sz) s (va_up w a (some (xO 8 [.int (iI 0), .ref oo, .int (iI v1), .ref oo]))) _ _ := hB
  exact g_vret C hB hr hlocks dX10_init_15 (Nat.le_of_ble_eq_true rfl) (Nat.le_of_ble_eq_true rfl) rfl
set_option maxHeartbeats 800000 in
set_option maxRecDepth 100000 in
theorem kX14_init (l : Launch) (E : xE) (w : xw) (a : Nat) (oo : Nat) (v1 : Int) (ha : w a = some (xO 12 [.int (iI 0), .null, .int (iI 0), .null])) : gv_ l E yX14_init cX14_init 3 none 2 45 0 0 [.ref a, .ref oo, .int (iI v1)] w (fun w' => va_up w a (some (xO 12 [.int (iI 0), .ref oo, .int (iI v1), .ref oo])) = w') := by
  intro sz
  refine x_bodyz (by decide) (Nat.le_of_ble_eq_true rfl) ?_
  intro p e s m args below meth c ls hx hb C hr hlocks hin hsz hZ hB hl
  have C : xC E p s m args c cX14_init 3 RX14 := C
  have hl : lv_has ls 3 [(0, .ref a), (1, .ref oo), (2, .int (iI v1))] := hl
  refine lv_aload_n hx hb dX14_init_0 rfl (lv_at hl 0 rfl) ?_
  refine lv_aload_n hx hb dX14_init_1 rfl (lv_at hl 1 rfl) ?_
  refine x_putF2 C hB ha rfl in_X14 tyX14_ok apX14 3 (by decide) q576 (fun x h => h) rfl (hin rfl) rfl rfl rfl (Nat.le_of_ble_eq_true rfl) dX14_init_2 (fun H locs hB => ?_)
  replace hB : xB E (xA w sz) s (va_up w a (some (xO 12 [.int (iI 0), .null, .int (iI 0), .ref oo]))) _ _ := hB
  refine lv_aload_n hx hb dX14_init_5 rfl (lv_at hl 0 rfl) ?_
  refine lv_iload_n hx hb dX14_init_6 rfl (lv_at hl 2 rfl) ?_
  refine x_putF2 C hB (va_up_s _ _ _) rfl in_X14 tyX14_ok apX14 2 (by decide) q575 (fun x h => h) rfl (hin rfl) rfl rfl rfl (Nat.le_of_ble_eq_true rfl) dX14_init_7 (fun H locs hB => ?_)
  rw [bx_uu] at hB
  replace hB : xB E (xA w sz) s (va_up w a (some (xO 12 [.int (iI 0), .null, .int (iI v1), .ref oo]))) _ _ := hB
  refine lv_aload_n hx hb dX14_init_10 rfl (lv_at hl 0 rfl) ?_
  refine lv_aload_n hx hb dX14_init_11 rfl (lv_at hl 1 rfl) ?_
  refine g_callv 0 0 (Nat.le_of_ble_eq_true rfl) (Nat.le_of_ble_eq_true rfl) hB (rIN (As := [.ref oo]) (n := 1) C hZ hB (kX9_init_X14 l E (va_up w a (some (xO 12 [.int (iI 0), .null, .int (iI v1), .ref oo]))) a oo v1 (va_up_s _ _ _) _) q574 q395 q96 q396 rfl (by decide +kernel) ⟨Nat.le_of_ble_eq_true rfl, Nat.le_of_ble_eq_true rfl⟩ rfl hl.1 rfl (Nat.le_of_ble_eq_true rfl) dX14_init_12 ⟨Nat.le_of_ble_eq_true rfl, Nat.le_of_ble_eq_true rfl⟩) (fun w2 H locs hp4 hB => ?_)
  subst hp4
  rw [bx_uu] at hB
  replace hB : xB E (xA w sz) s (va_up w a (some (xO 12 [.int (iI 0), .ref oo, .int (iI v1), .ref oo]))) _ _ := hB
  exact g_vret C hB hr hlocks dX14_init_15 (Nat.le_of_ble_eq_true rfl) (Nat.le_of_ble_eq_true rfl) rfl
set_option maxHeartbeats 800000 in
set_option maxRecDepth 100000 in
theorem kX15_init (l : Launch) (E : xE) (w : xw) (a : Nat) (oo : Nat) (ha : w a = some (xO 13 [.int (iI 0), .null, .null])) : gv_ l E yX15_init cX15_init 2 none 2 45 0 0 [.ref a, .ref oo] w (fun w' => va_up w a (some (xO 13 [.int (iI 0), .ref oo, .ref oo])) = w') := by
  intro sz
  refine x_bodyz (by decide) (Nat.le_of_ble_eq_true rfl) ?_
  intro p e s m args below meth c ls hx hb C hr hlocks hin hsz hZ hB hl
  have C : xC E p s m args c cX15_init 2 RX15 := C
  have hl : lv_has ls 2 [(0, .ref a), (1, .ref oo)] := hl
  refine lv_aload_n hx hb dX15_init_0 rfl (lv_at hl 0 rfl) ?_
  refine lv_aload_n hx hb dX15_init_1 rfl (lv_at hl 1 rfl) ?_
  refine x_putF2 C hB ha rfl in_X15 tyX15_ok apX15 2 (by decide) q614 (fun x h => h) rfl (hin rfl) rfl rfl rfl (Nat.le_of_ble_eq_true rfl) dX15_init_2 (fun H locs hB => ?_)
  replace hB : xB E (xA w sz) s (va_up w a (some (xO 13 [.int (iI 0), .null, .ref oo]))) _ _ := hB
  refine lv_aload_n hx hb dX15_init_5 rfl (lv_at hl 0 rfl) ?_
  refine lv_aload_n hx hb dX15_init_6 rfl (lv_at hl 1 rfl) ?_
  refine g_callv 0 0 (Nat.le_of_ble_eq_true rfl) (Nat.le_of_ble_eq_true rfl) hB (rIN (As := [.ref oo]) (n := 1) C hZ hB (kX9_init_X15 l E (va_up w a (some (xO 13 [.int (iI 0), .null, .ref oo]))) a oo (va_up_s _ _ _) _) q613 q395 q96 q396 rfl (by decide +kernel) ⟨Nat.le_of_ble_eq_true rfl, Nat.le_of_ble_eq_true rfl⟩ rfl hl.1 rfl (Nat.le_of_ble_eq_true rfl) dX15_init_7 ⟨Nat.le_of_ble_eq_true rfl, Nat.le_of_ble_eq_true rfl⟩) (fun w2 H locs hp4 hB => ?_)
  subst hp4
  rw [bx_uu] at hB
  replace hB : xB E (xA w sz) s (va_up w a (some (xO 13 [.int (iI 0), .ref oo, .ref oo]))) _ _ := hB
  exact g_vret C hB hr hlocks dX15_init_10 (Nat.le_of_ble_eq_true rfl) (Nat.le_of_ble_eq_true rfl) rfl
set_option maxHeartbeats 800000 in
set_option maxRecDepth 100000 in
theorem kX12_init (l : Launch) (E : xE) (w : xw) (a : Nat) (oo : Nat) (ha : w a = some (xO 10 [.int (iI 0), .int (iI 0), .null])) : gv_ l E yX12_init cX12_init 2 none 1 24 0 0 [.ref a, .ref oo] w (fun w' => va_up w a (some (xO 10 [.int (iI 0), .int (iI 0), .ref oo])) = w') := by
  intro sz
  refine x_bodyz (by decide) (Nat.le_of_ble_eq_true rfl) ?_
  intro p e s m args below meth c ls hx hb C hr hlocks hin hsz hZ hB hl
  have C : xC E p s m args c cX12_init 2 RX12 := C
  have hl : lv_has ls 2 [(0, .ref a), (1, .ref oo)] := hl
  refine lv_aload_n hx hb dX12_init_0 rfl (lv_at hl 0 rfl) ?_
  refine lv_aload_n hx hb dX12_init_1 rfl (lv_at hl 1 rfl) ?_
  refine x_putF2 C hB ha rfl in_X12 tyX12_ok apX12 2 (by decide) q472 (fun x h => h) rfl (hin rfl) rfl rfl rfl (Nat.le_of_ble_eq_true rfl) dX12_init_2 (fun H locs hB => ?_)
  replace hB : xB E (xA w sz) s (va_up w a (some (xO 10 [.int (iI 0), .int (iI 0), .ref oo]))) _ _ := hB
  refine lv_aload_n hx hb dX12_init_5 rfl (lv_at hl 0 rfl) ?_
  refine x_objInit C q469 q113 q114 hl.1 (Nat.le_of_ble_eq_true rfl) (Nat.le_of_ble_eq_true rfl) dX12_init_6 ?_
  exact g_vret C hB hr hlocks dX12_init_9 (Nat.le_of_ble_eq_true rfl) (Nat.le_of_ble_eq_true rfl) rfl
set_option maxHeartbeats 800000 in
set_option maxRecDepth 100000 in
theorem kX13_init (l : Launch) (E : xE) (w : xw) (a : Nat) (oo : Nat) (v1 : Int) (v2 : Int) (v3 : Int) (ha : w a = some (xO 11 [.int (iI 0), .int (iI 0), .int (iI 0), .null])) : gv_ l E yX13_init cX13_init 5 none 1 24 0 0 [.ref a, .ref oo, .int (iI v1), .int (iI v2), .int (iI v3)] w (fun w' => va_up w a (some (xO 11 [.int (iI v1), .int (iI v2), .int (iI v3), .ref oo])) = w') := by
  intro sz
  refine x_bodyz (by decide) (Nat.le_of_ble_eq_true rfl) ?_
  intro p e s m args below meth c ls hx hb C hr hlocks hin hsz hZ hB hl
  have C : xC E p s m args c cX13_init 5 RX13 := C
  have hl : lv_has ls 5 [(0, .ref a), (1, .ref oo), (2, .int (iI v1)), (3, .int (iI v2)), (4, .int (iI v3))] := hl
  refine lv_aload_n hx hb dX13_init_0 rfl (lv_at hl 0 rfl) ?_
  refine lv_aload_n hx hb dX13_init_1 rfl (lv_at hl 1 rfl) ?_
  refine x_putF2 C hB ha rfl in_X13 tyX13_ok apX13 3 (by decide) q526 (fun x h => h) rfl (hin rfl) rfl rfl rfl (Nat.le_of_ble_eq_true rfl) dX13_init_2 (fun H locs hB => ?_)
  replace hB : xB E (xA w sz) s (va_up w a (some (xO 11 [.int (iI 0), .int (iI 0), .int (iI 0), .ref oo]))) _ _ := hB
  refine lv_aload_n hx hb dX13_init_5 rfl (lv_at hl 0 rfl) ?_
  refine x_objInit C q519 q113 q114 hl.1 (Nat.le_of_ble_eq_true rfl) (Nat.le_of_ble_eq_true rfl) dX13_init_6 ?_
  refine lv_aload_n hx hb dX13_init_9 rfl (lv_at hl 0 rfl) ?_
  refine lv_iload_n hx hb dX13_init_10 rfl (lv_at hl 2 rfl) ?_
  refine x_putF2 C hB (va_up_s _ _ _) rfl in_X13 tyX13_ok apX13 0 (by decide) q520 (fun x h => h) rfl (hin rfl) rfl rfl rfl (Nat.le_of_ble_eq_true rfl) dX13_init_11 (fun H locs hB => ?_)
  rw [bx_uu] at hB
  replace hB : xB E (xA w sz) s (va_up w a (some (xO 11 [.int (iI v1), .int (iI 0), .int (iI 0), .ref oo]))) _ _ := hB
  refine lv_aload_n hx hb dX13_init_14 rfl (lv_at hl 0 rfl) ?_
  refine lv_iload_n hx hb dX13_init_15 rfl (lv_at hl 3 rfl) ?_
  refine x_putF2 C hB (va_up_s _ _ _) rfl in_X13 tyX13_ok apX13 1 (by decide) q522 (fun x h => h) rfl (hin rfl) rfl rfl rfl (Nat.le_of_ble_eq_true rfl) dX13_init_16 (fun H locs hB => ?_)
  rw [bx_uu] at hB
  replace hB : xB E (xA w sz) s (va_up w a (some (xO 11 [.int (iI v1), .int (iI v2), .int (iI 0), .ref oo]))) _ _ := hB
  refine lv_aload_n hx hb dX13_init_19 rfl (lv_at hl 0 rfl) ?_
  refine lv_iload hx hb dX13_init_20 (lv_at hl 4 rfl) ?_
  refine x_putF2 C hB (va_up_s _ _ _) rfl in_X13 tyX13_ok apX13 2 (by decide) q524 (fun x h => h) rfl (hin rfl) rfl rfl rfl (Nat.le_of_ble_eq_true rfl) dX13_init_22 (fun H locs hB => ?_)
  rw [bx_uu] at hB
  replace hB : xB E (xA w sz) s (va_up w a (some (xO 11 [.int (iI v1), .int (iI v2), .int (iI v3), .ref oo]))) _ _ := hB
  exact g_vret C hB hr hlocks dX13_init_25 (Nat.le_of_ble_eq_true rfl) (Nat.le_of_ble_eq_true rfl) rfl
set_option maxHeartbeats 800000 in
set_option maxRecDepth 100000 in
theorem kX16_init (l : Launch) (E : xE) (w : xw) (a : Nat) (v1 : Int) (v2 : Int) (ha : w a = some (xO 14 [.int (iI 0), .int (iI 0)])) : gv_ l E yX16_init cX16_init 3 none 1 24 0 0 [.ref a, .int (iI v1), .int (iI v2)] w (fun w' => va_up w a (some (xO 14 [.int (iI v1), .int (iI v2)])) = w') := by
  intro sz
  refine x_bodyz (by decide) (Nat.le_of_ble_eq_true rfl) ?_
  intro p e s m args below meth c ls hx hb C hr hlocks hin hsz hZ hB hl
  have C : xC E p s m args c cX16_init 3 RX16 := C
  have hl : lv_has ls 3 [(0, .ref a), (1, .int (iI v1)), (2, .int (iI v2))] := hl
  refine lv_aload_n hx hb dX16_init_0 rfl (lv_at hl 0 rfl) ?_
  refine x_objInit C q662 q113 q114 hl.1 (Nat.le_of_ble_eq_true rfl) (Nat.le_of_ble_eq_true rfl) dX16_init_1 ?_
  refine lv_aload_n hx hb dX16_init_4 rfl (lv_at hl 0 rfl) ?_
  refine lv_iload_n hx hb dX16_init_5 rfl (lv_at hl 1 rfl) ?_
  refine x_putF2 C hB ha rfl in_X16 tyX16_ok apX16 0 (by decide) q663 (fun x h => h) rfl (hin rfl) rfl rfl rfl (Nat.le_of_ble_eq_true rfl) dX16_init_6 (fun H locs hB => ?_)
  replace hB : xB E (xA w sz) s (va_up w a (some (xO 14 [.int (iI v1), .int (iI 0)]))) _ _ := hB
  refine lv_aload_n hx hb dX16_init_9 rfl (lv_at hl 0 rfl) ?_
  refine lv_iload_n hx hb dX16_init_10 rfl (lv_at hl 2 rfl) ?_
  refine x_putF2 C hB (va_up_s _ _ _) rfl in_X16 tyX16_ok apX16 1 (by decide) q665 (fun x h => h) rfl (hin rfl) rfl rfl rfl (Nat.le_of_ble_eq_true rfl) dX16_init_11 (fun H locs hB => ?_)
  rw [bx_uu] at hB
  replace hB : xB E (xA w sz) s (va_up w a (some (xO 14 [.int (iI v1), .int (iI v2)]))) _ _ := hB
  exact g_vret C hB hr hlocks dX16_init_14 (Nat.le_of_ble_eq_true rfl) (Nat.le_of_ble_eq_true rfl) rfl
set_option maxHeartbeats 800000 in
set_option maxRecDepth 100000 in
theorem kX17_init (l : Launch) (E : xE) (w : xw) (a : Nat) (oo : Nat) (ha : w a = some (xO 15 [.null])) : gv_ l E yX17_init cX17_init 2 none 1 24 0 0 [.ref a, .ref oo] w (fun w' => va_up w a (some (xO 15 [.ref oo])) = w') := by
  intro sz
  refine x_bodyz (by decide) (Nat.le_of_ble_eq_true rfl) ?_
  intro p e s m args below meth c ls hx hb C hr hlocks hin hsz hZ hB hl
  have C : xC E p s m args c cX17_init 2 RX17 := C
  have hl : lv_has ls 2 [(0, .ref a), (1, .ref oo)] := hl
  refine lv_aload_n hx hb dX17_init_0 rfl (lv_at hl 0 rfl) ?_
  refine x_objInit C q951 q113 q114 hl.1 (Nat.le_of_ble_eq_true rfl) (Nat.le_of_ble_eq_true rfl) dX17_init_1 ?_
  refine lv_aload_n hx hb dX17_init_4 rfl (lv_at hl 0 rfl) ?_
  refine lv_aload_n hx hb dX17_init_5 rfl (lv_at hl 1 rfl) ?_
  refine x_putF2 C hB ha rfl in_X17 tyX17_ok apX17 0 (by decide) q952 (fun x h => h) rfl (hin rfl) rfl rfl rfl (Nat.le_of_ble_eq_true rfl) dX17_init_6 (fun H locs hB => ?_)
  replace hB : xB E (xA w sz) s (va_up w a (some (xO 15 [.ref oo]))) _ _ := hB
  exact g_vret C hB hr hlocks dX17_init_9 (Nat.le_of_ble_eq_true rfl) (Nat.le_of_ble_eq_true rfl) rfl
set_option maxHeartbeats 800000 in
set_option maxRecDepth 100000 in
theorem kX1_init (l : Launch) (E : xE) (w : xw) (a : Nat) (oo : Nat) (ha : w a = some (xO 1 [.null])) : gv_ l E yX1_init cX1_init 2 none 1 24 0 0 [.ref a, .ref oo] w (fun w' => va_up w a (some (xO 1 [.ref oo])) = w') := by
  intro sz
  refine x_bodyz (by decide) (Nat.le_of_ble_eq_true rfl) ?_
  intro p e s m args below meth c ls hx hb C hr hlocks hin hsz hZ hB hl
  have C : xC E p s m args c cX1_init 2 RX1 := C
  have hl : lv_has ls 2 [(0, .ref a), (1, .ref oo)] := hl
  refine lv_aload_n hx hb dX1_init_0 rfl (lv_at hl 0 rfl) ?_
  refine x_objInit C q205 q113 q114 hl.1 (Nat.le_of_ble_eq_true rfl) (Nat.le_of_ble_eq_true rfl) dX1_init_1 ?_
  refine lv_aload_n hx hb dX1_init_4 rfl (lv_at hl 0 rfl) ?_
  refine lv_aload_n hx hb dX1_init_5 rfl (lv_at hl 1 rfl) ?_
  refine x_putF2 C hB ha rfl in_X1 tyX1_ok apX1 0 (by decide) q206 (fun x h => h) rfl (hin rfl) rfl rfl rfl (Nat.le_of_ble_eq_true rfl) dX1_init_6 (fun H locs hB => ?_)
  replace hB : xB E (xA w sz) s (va_up w a (some (xO 1 [.ref oo]))) _ _ := hB
  exact g_vret C hB hr hlocks dX1_init_9 (Nat.le_of_ble_eq_true rfl) (Nat.le_of_ble_eq_true rfl) rfl
set_option maxHeartbeats 800000 in
set_option maxRecDepth 100000 in
theorem kX2_init (l : Launch) (E : xE) (w : xw) (a : Nat) (oo : Nat) (ha : w a = some (xO 2 [.null])) : gv_ l E yX2_init cX2_init 2 none 1 24 0 0 [.ref a, .ref oo] w (fun w' => va_up w a (some (xO 2 [.ref oo])) = w') := by
  intro sz
  refine x_bodyz (by decide) (Nat.le_of_ble_eq_true rfl) ?_
  intro p e s m args below meth c ls hx hb C hr hlocks hin hsz hZ hB hl
  have C : xC E p s m args c cX2_init 2 RX2 := C
  have hl : lv_has ls 2 [(0, .ref a), (1, .ref oo)] := hl
  refine lv_aload_n hx hb dX2_init_0 rfl (lv_at hl 0 rfl) ?_
  refine x_objInit C q258 q113 q114 hl.1 (Nat.le_of_ble_eq_true rfl) (Nat.le_of_ble_eq_true rfl) dX2_init_1 ?_
  refine lv_aload_n hx hb dX2_init_4 rfl (lv_at hl 0 rfl) ?_
  refine lv_aload_n hx hb dX2_init_5 rfl (lv_at hl 1 rfl) ?_
  refine x_putF2 C hB ha rfl in_X2 tyX2_ok apX2 0 (by decide) q259 (fun x h => h) rfl (hin rfl) rfl rfl rfl (Nat.le_of_ble_eq_true rfl) dX2_init_6 (fun H locs hB => ?_)
  replace hB : xB E (xA w sz) s (va_up w a (some (xO 2 [.ref oo]))) _ _ := hB
  exact g_vret C hB hr hlocks dX2_init_9 (Nat.le_of_ble_eq_true rfl) (Nat.le_of_ble_eq_true rfl) rfl
set_option maxHeartbeats 800000 in
set_option maxRecDepth 100000 in
theorem kX4_init_X18 (l : Launch) (E : xE) (w : xw) (a : Nat) (oo : Nat) (ha : w a = some (xO 16 [.null, .int (iI 0), .int (iI 0), .int (iI 0), .int (iI 0), .int (iI 0), .ref oo])) : gv_ l E yX4_init cX4_init 2 none 1 24 0 0 [.ref a, .ref oo] w (fun w' => va_up w a (some (xO 16 [.ref oo, .int (iI 0), .int (iI 0), .int (iI 0), .int (iI 0), .int (iI 0), .ref oo])) = w') := by
  intro sz
  refine x_bodyz (by decide) (Nat.le_of_ble_eq_true rfl) ?_
  intro p e s m args below meth c ls hx hb C hr hlocks hin hsz hZ hB hl
  have C : xC E p s m args c cX4_init 2 RX4 := C
  have hl : lv_has ls 2 [(0, .ref a), (1, .ref oo)] := hl
  refine lv_aload_n hx hb dX4_init_0 rfl (lv_at hl 0 rfl) ?_
  refine lv_aload_n hx hb dX4_init_1 rfl (lv_at hl 1 rfl) ?_
  refine x_putF2 C hB ha rfl in_X18 tyX18_ok apX18 0 (by decide) q1124 (fun x h => h) rfl (hin rfl) rfl rfl rfl (Nat.le_of_ble_eq_true rfl) dX4_init_2 (fun H locs hB => ?_)
  replace hB : xB E (xA w sz) s (va_up w a (some (xO 16 [.ref oo, .int (iI 0), .int (iI 0), .int (iI 0), .int (iI 0), .int (iI 0), .ref oo]))) _ _ := hB
  refine lv_aload_n hx hb dX4_init_5 rfl (lv_at hl 0 rfl) ?_
  refine x_objInit C q1115 q113 q114 hl.1 (Nat.le_of_ble_eq_true rfl) (Nat.le_of_ble_eq_true rfl) dX4_init_6 ?_
  exact g_vret C hB hr hlocks dX4_init_9 (Nat.le_of_ble_eq_true rfl) (Nat.le_of_ble_eq_true rfl) rfl
set_option maxHeartbeats 800000 in
set_option maxRecDepth 100000 in
theorem kX18_init (l : Launch) (E : xE) (w : xw) (a : Nat) (oo : Nat) (v1 : Int) (v2 : Int) (v3 : Int) (v4 : Int) (v5 : Int) (ha : w a = some (xO 16 [.null, .int (iI 0), .int (iI 0), .int (iI 0), .int (iI 0), .int (iI 0), .null])) : gv_ l E yX18_init cX18_init 7 none 2 45 0 0 [.ref a, .ref oo, .int (iI v1), .int (iI v2), .int (iI v3), .int (iI v4), .int (iI v5)] w (fun w' => va_up w a (some (xO 16 [.ref oo, .int (iI v1), .int (iI v2), .int (iI v3), .int (iI v4), .int (iI v5), .ref oo])) = w') := by
  intro sz
  refine x_bodyz (by decide) (Nat.le_of_ble_eq_true rfl) ?_
  intro p e s m args below meth c ls hx hb C hr hlocks hin hsz hZ hB hl
  have C : xC E p s m args c cX18_init 7 RX18 := C
  have hl : lv_has ls 7 [(0, .ref a), (1, .ref oo), (2, .int (iI v1)), (3, .int (iI v2)), (4, .int (iI v3)), (5, .int (iI v4)), (6, .int (iI v5))] := hl
  refine lv_aload_n hx hb dX18_init_0 rfl (lv_at hl 0 rfl) ?_
  refine lv_aload_n hx hb dX18_init_1 rfl (lv_at hl 1 rfl) ?_
  refine x_putF2 C hB ha rfl in_X18 tyX18_ok apX18 6 (by decide) q1254 (fun x h => h) rfl (hin rfl) rfl rfl rfl (Nat.le_of_ble_eq_true rfl) dX18_init_2 (fun H locs hB => ?_)
  replace hB : xB E (xA w sz) s (va_up w a (some (xO 16 [.null, .int (iI 0), .int (iI 0), .int (iI 0), .int (iI 0), .int (iI 0), .ref oo]))) _ _ := hB
  refine lv_aload_n hx hb dX18_init_5 rfl (lv_at hl 0 rfl) ?_
  refine lv_aload_n hx hb dX18_init_6 rfl (lv_at hl 1 rfl) ?_
  refine g_callv 0 0 (Nat.le_of_ble_eq_true rfl) (Nat.le_of_ble_eq_true rfl) hB (rIN (As := [.ref oo]) (n := 1) C hZ hB (kX4_init_X18 l E (va_up w a (some (xO 16 [.null, .int (iI 0), .int (iI 0), .int (iI 0), .int (iI 0), .int (iI 0), .ref oo]))) a oo (va_up_s _ _ _) _) q1248 q1113 q78 q1114 rfl (by decide +kernel) ⟨Nat.le_of_ble_eq_true rfl, Nat.le_of_ble_eq_true rfl⟩ rfl hl.1 rfl (Nat.le_of_ble_eq_true rfl) dX18_init_7 ⟨Nat.le_of_ble_eq_true rfl, Nat.le_of_ble_eq_true rfl⟩) (fun w2 H locs hp4 hB => ?_)
  subst hp4
  rw [bx_uu] at hB
  replace hB : xB E (xA w sz) s (va_up w a (some (xO 16 [.ref oo, .int (iI 0), .int (iI 0), .int (iI 0), .int (iI 0), .int (iI 0), .ref oo]))) _ _ := hB
  refine lv_aload_n hx hb dX18_init_10 rfl (lv_at hl 0 rfl) ?_
  refine lv_iload_n hx hb dX18_init_11 rfl (lv_at hl 2 rfl) ?_
  refine x_putF2 C hB (va_up_s _ _ _) rfl in_X18 tyX18_ok apX18 1 (by decide) q1249 (fun x h => h) rfl (hin rfl) rfl rfl rfl (Nat.le_of_ble_eq_true rfl) dX18_init_12 (fun H locs hB => ?_)
  rw [bx_uu] at hB
  replace hB : xB E (xA w sz) s (va_up w a (some (xO 16 [.ref oo, .int (iI v1), .int (iI 0), .int (iI 0), .int (iI 0), .int (iI 0), .ref oo]))) _ _ := hB
  refine lv_aload_n hx hb dX18_init_15 rfl (lv_at hl 0 rfl) ?_
  refine lv_iload_n hx hb dX18_init_16 rfl (lv_at hl 3 rfl) ?_
  refine x_putF2 C hB (va_up_s _ _ _) rfl in_X18 tyX18_ok apX18 2 (by decide) q1250 (fun x h => h) rfl (hin rfl) rfl rfl rfl (Nat.le_of_ble_eq_true rfl) dX18_init_17 (fun H locs hB => ?_)
  rw [bx_uu] at hB
  replace hB : xB E (xA w sz) s (va_up w a (some (xO 16 [.ref oo, .int (iI v1), .int (iI v2), .int (iI 0), .int (iI 0), .int (iI 0), .ref oo]))) _ _ := hB
  refine lv_aload_n hx hb dX18_init_20 rfl (lv_at hl 0 rfl) ?_
  refine lv_iload hx hb dX18_init_21 (lv_at hl 4 rfl) ?_
  refine x_putF2 C hB (va_up_s _ _ _) rfl in_X18 tyX18_ok apX18 3 (by decide) q1251 (fun x h => h) rfl (hin rfl) rfl rfl rfl (Nat.le_of_ble_eq_true rfl) dX18_init_23 (fun H locs hB => ?_)
  rw [bx_uu] at hB
  replace hB : xB E (xA w sz) s (va_up w a (some (xO 16 [.ref oo, .int (iI v1), .int (iI v2), .int (iI v3), .int (iI 0), .int (iI 0), .ref oo]))) _ _ := hB
  refine lv_aload_n hx hb dX18_init_26 rfl (lv_at hl 0 rfl) ?_
  refine lv_iload hx hb dX18_init_27 (lv_at hl 5 rfl) ?_
  refine x_putF2 C hB (va_up_s _ _ _) rfl in_X18 tyX18_ok apX18 4 (by decide) q1252 (fun x h => h) rfl (hin rfl) rfl rfl rfl (Nat.le_of_ble_eq_true rfl) dX18_init_29 (fun H locs hB => ?_)
  rw [bx_uu] at hB
  replace hB : xB E (xA w sz) s (va_up w a (some (xO 16 [.ref oo, .int (iI v1), .int (iI v2), .int (iI v3), .int (iI v4), .int (iI 0), .ref oo]))) _ _ := hB
  refine lv_aload_n hx hb dX18_init_32 rfl (lv_at hl 0 rfl) ?_
  refine lv_iload hx hb dX18_init_33 (lv_at hl 6 rfl) ?_
  refine x_putF2 C hB (va_up_s _ _ _) rfl in_X18 tyX18_ok apX18 5 (by decide) q1253 (fun x h => h) rfl (hin rfl) rfl rfl rfl (Nat.le_of_ble_eq_true rfl) dX18_init_35 (fun H locs hB => ?_)
  rw [bx_uu] at hB
  replace hB : xB E (xA w sz) s (va_up w a (some (xO 16 [.ref oo, .int (iI v1), .int (iI v2), .int (iI v3), .int (iI v4), .int (iI v5), .ref oo]))) _ _ := hB
  exact g_vret C hB hr hlocks dX18_init_38 (Nat.le_of_ble_eq_true rfl) (Nat.le_of_ble_eq_true rfl) rfl
set_option maxHeartbeats 800000 in
set_option maxRecDepth 100000 in
theorem kX4_init_X5 (l : Launch) (E : xE) (w : xw) (a : Nat) (oo : Nat) (ha : w a = some (xO 7 [.null, .int (iI 0), .int (iI 0), .int (iI 0), .int (iI 0), .null, .ref oo])) : gv_ l E yX4_init cX4_init 2 none 1 24 0 0 [.ref a, .ref oo] w (fun w' => va_up w a (some (xO 7 [.ref oo, .int (iI 0), .int (iI 0), .int (iI 0), .int (iI 0), .null, .ref oo])) = w') := by
  intro sz
  refine x_bodyz (by decide) (Nat.le_of_ble_eq_true rfl) ?_
  intro p e s m args below meth c ls hx hb C hr hlocks hin hsz hZ hB hl
  have C : xC E p s m args c cX4_init 2 RX4 := C
  have hl : lv_has ls 2 [(0, .ref a), (1, .ref oo)] := hl
  refine lv_aload_n hx hb dX4_init_0 rfl (lv_at hl 0 rfl) ?_
  refine lv_aload_n hx hb dX4_init_1 rfl (lv_at hl 1 rfl) ?_
  refine x_putF2 C hB ha rfl in_X5 tyX5_ok apX5 0 (by decide) q1124 (fun x h => h) rfl (hin rfl) rfl rfl rfl (Nat.le_of_ble_eq_true rfl) dX4_init_2 (fun H locs hB => ?_)
  replace hB : xB E (xA w sz) s (va_up w a (some (xO 7 [.ref oo, .int (iI 0), .int (iI 0), .int (iI 0), .int (iI 0), .null, .ref oo]))) _ _ := hB
  refine lv_aload_n hx hb dX4_init_5 rfl (lv_at hl 0 rfl) ?_
  refine x_objInit C q1115 q113 q114 hl.1 (Nat.le_of_ble_eq_true rfl) (Nat.le_of_ble_eq_true rfl) dX4_init_6 ?_
  exact g_vret C hB hr hlocks dX4_init_9 (Nat.le_of_ble_eq_true rfl) (Nat.le_of_ble_eq_true rfl) rfl
set_option maxHeartbeats 800000 in
set_option maxRecDepth 100000 in
theorem kX5_init (l : Launch) (E : xE) (w : xw) (a : Nat) (oo : Nat) (v1 : Int) (v2 : Int) (v3 : Int) (v4 : Int) (rd : Nat) (ha : w a = some (xO 7 [.null, .int (iI 0), .int (iI 0), .int (iI 0), .int (iI 0), .null, .null])) : gv_ l E yX5_init cX5_init 7 none 2 45 0 0 [.ref a, .ref oo, .int (iI v1), .int (iI v2), .int (iI v3), .int (iI v4), .ref rd] w (fun w' => va_up w a (some (xO 7 [.ref oo, .int (iI v1), .int (iI v2), .int (iI v3), .int (iI v4), .ref rd, .ref oo])) = w') := by
  intro sz
  refine x_bodyz (by decide) (Nat.le_of_ble_eq_true rfl) ?_
  intro p e s m args below meth c ls hx hb C hr hlocks hin hsz hZ hB hl
  have C : xC E p s m args c cX5_init 7 RX5 := C
  have hl : lv_has ls 7 [(0, .ref a), (1, .ref oo), (2, .int (iI v1)), (3, .int (iI v2)), (4, .int (iI v3)), (5, .int (iI v4)), (6, .ref rd)] := hl
  refine lv_aload_n hx hb dX5_init_0 rfl (lv_at hl 0 rfl) ?_
  refine lv_aload_n hx hb dX5_init_1 rfl (lv_at hl 1 rfl) ?_
  refine x_putF2 C hB ha rfl in_X5 tyX5_ok apX5 6 (by decide) q1123 (fun x h => h) rfl (hin rfl) rfl rfl rfl (Nat.le_of_ble_eq_true rfl) dX5_init_2 (fun H locs hB => ?_)
  replace hB : xB E (xA w sz) s (va_up w a (some (xO 7 [.null, .int (iI 0), .int (iI 0), .int (iI 0), .int (iI 0), .null, .ref oo]))) _ _ := hB
  refine lv_aload_n hx hb dX5_init_5 rfl (lv_at hl 0 rfl) ?_
  refine lv_aload_n hx hb dX5_init_6 rfl (lv_at hl 1 rfl) ?_
  refine g_callv 0 0 (Nat.le_of_ble_eq_true rfl) (Nat.le_of_ble_eq_true rfl) hB (rIN (As := [.ref oo]) (n := 1) C hZ hB (kX4_init_X5 l E (va_up w a (some (xO 7 [.null, .int (iI 0), .int (iI 0), .int (iI 0), .int (iI 0), .null, .ref oo]))) a oo (va_up_s _ _ _) _) q1112 q1113 q78 q1114 rfl (by decide +kernel) ⟨Nat.le_of_ble_eq_true rfl, Nat.le_of_ble_eq_true rfl⟩ rfl hl.1 rfl (Nat.le_of_ble_eq_true rfl) dX5_init_7 ⟨Nat.le_of_ble_eq_true rfl, Nat.le_of_ble_eq_true rfl⟩) (fun w2 H locs hp4 hB => ?_)
  subst hp4
  rw [bx_uu] at hB
  replace hB : xB E (xA w sz) s (va_up w a (some (xO 7 [.ref oo, .int (iI 0), .int (iI 0), .int (iI 0), .int (iI 0), .null, .ref oo]))) _ _ := hB
  refine lv_aload_n hx hb dX5_init_10 rfl (lv_at hl 0 rfl) ?_
  refine lv_iload_n hx hb dX5_init_11 rfl (lv_at hl 2 rfl) ?_
  refine x_putF2 C hB (va_up_s _ _ _) rfl in_X5 tyX5_ok apX5 1 (by decide) q1116 (fun x h => h) rfl (hin rfl) rfl rfl rfl (Nat.le_of_ble_eq_true rfl) dX5_init_12 (fun H locs hB => ?_)
  rw [bx_uu] at hB
  replace hB : xB E (xA w sz) s (va_up w a (some (xO 7 [.ref oo, .int (iI v1), .int (iI 0), .int (iI 0), .int (iI 0), .null, .ref oo]))) _ _ := hB
  refine lv_aload_n hx hb dX5_init_15 rfl (lv_at hl 0 rfl) ?_
  refine lv_iload_n hx hb dX5_init_16 rfl (lv_at hl 3 rfl) ?_
  refine x_putF2 C hB (va_up_s _ _ _) rfl in_X5 tyX5_ok apX5 2 (by decide) q1118 (fun x h => h) rfl (hin rfl) rfl rfl rfl (Nat.le_of_ble_eq_true rfl) dX5_init_17 (fun H locs hB => ?_)
  rw [bx_uu] at hB
  replace hB : xB E (xA w sz) s (va_up w a (some (xO 7 [.ref oo, .int (iI v1), .int (iI v2), .int (iI 0), .int (iI 0), .null, .ref oo]))) _ _ := hB
  refine lv_aload_n hx hb dX5_init_20 rfl (lv_at hl 0 rfl) ?_
  refine lv_iload hx hb dX5_init_21 (lv_at hl 4 rfl) ?_
  refine x_putF2 C hB (va_up_s _ _ _) rfl in_X5 tyX5_ok apX5 3 (by decide) q1120 (fun x h => h) rfl (hin rfl) rfl rfl rfl (Nat.le_of_ble_eq_true rfl) dX5_init_23 (fun H locs hB => ?_)
  rw [bx_uu] at hB
  replace hB : xB E (xA w sz) s (va_up w a (some (xO 7 [.ref oo, .int (iI v1), .int (iI v2), .int (iI v3), .int (iI 0), .null, .ref oo]))) _ _ := hB
  refine lv_aload_n hx hb dX5_init_26 rfl (lv_at hl 0 rfl) ?_
  refine lv_iload hx hb dX5_init_27 (lv_at hl 5 rfl) ?_
  refine x_putF2 C hB (va_up_s _ _ _) rfl in_X5 tyX5_ok apX5 4 (by decide) q1121 (fun x h => h) rfl (hin rfl) rfl rfl rfl (Nat.le_of_ble_eq_true rfl) dX5_init_29 (fun H locs hB => ?_)
  rw [bx_uu] at hB
  replace hB : xB E (xA w sz) s (va_up w a (some (xO 7 [.ref oo, .int (iI v1), .int (iI v2), .int (iI v3), .int (iI v4), .null, .ref oo]))) _ _ := hB
  refine lv_aload_n hx hb dX5_init_32 rfl (lv_at hl 0 rfl) ?_
  refine lv_aload hx hb dX5_init_33 (lv_at hl 6 rfl) ?_
  refine x_putF2 C hB (va_up_s _ _ _) rfl in_X5 tyX5_ok apX5 5 (by decide) q1122 (fun x h => h) rfl (hin rfl) rfl rfl rfl (Nat.le_of_ble_eq_true rfl) dX5_init_35 (fun H locs hB => ?_)
  rw [bx_uu] at hB
  replace hB : xB E (xA w sz) s (va_up w a (some (xO 7 [.ref oo, .int (iI v1), .int (iI v2), .int (iI v3), .int (iI v4), .ref rd, .ref oo]))) _ _ := hB
  exact g_vret C hB hr hlocks dX5_init_38 (Nat.le_of_ble_eq_true rfl) (Nat.le_of_ble_eq_true rfl) rfl
set_option maxHeartbeats 800000 in
set_option maxRecDepth 100000 in
theorem kX4_init_X19 (l : Launch) (E : xE) (w : xw) (a : Nat) (oo : Nat) (ha : w a = some (xO 17 [.null, .null, .int (iI 0), .ref oo])) : gv_ l E yX4_init cX4_init 2 none 1 24 0 0 [.ref a, .ref oo] w (fun w' => va_up w a (some (xO 17 [.ref oo, .null, .int (iI 0), .ref oo])) = w') := by
  intro sz
  refine x_bodyz (by decide) (Nat.le_of_ble_eq_true rfl) ?_
  intro p e s m args below meth c ls hx hb C hr hlocks hin hsz hZ hB hl
  have C : xC E p s m args c cX4_init 2 RX4 := C
  have hl : lv_has ls 2 [(0, .ref a), (1, .ref oo)] := hl
  refine lv_aload_n hx hb dX4_init_0 rfl (lv_at hl 0 rfl) ?_
  refine lv_aload_n hx hb dX4_init_1 rfl (lv_at hl 1 rfl) ?_
  refine x_putF2 C hB ha rfl in_X19 tyX19_ok apX19 0 (by decide) q1124 (fun x h => h) rfl (hin rfl) rfl rfl rfl (Nat.le_of_ble_eq_true rfl) dX4_init_2 (fun H locs hB => ?_)
  replace hB : xB E (xA w sz) s (va_up w a (some (xO 17 [.ref oo, .null, .int (iI 0), .ref oo]))) _ _ := hB
  refine lv_aload_n hx hb dX4_init_5 rfl (lv_at hl 0 rfl) ?_
  refine x_objInit C q1115 q113 q114 hl.1 (Nat.le_of_ble_eq_true rfl) (Nat.le_of_ble_eq_true rfl) dX4_init_6 ?_
  exact g_vret C hB hr hlocks dX4_init_9 (Nat.le_of_ble_eq_true rfl) (Nat.le_of_ble_eq_true rfl) rfl
set_option maxHeartbeats 800000 in
set_option maxRecDepth 100000 in
theorem kX19_init (l : Launch) (E : xE) (w : xw) (a : Nat) (oo : Nat) (pl : Nat) (v1 : Int) (ha : w a = some (xO 17 [.null, .null, .int (iI 0), .null])) : gv_ l E yX19_init cX19_init 4 none 2 45 0 0 [.ref a, .ref oo, .ref pl, .int (iI v1)] w (fun w' => va_up w a (some (xO 17 [.ref oo, .ref pl, .int (iI v1), .ref oo])) = w') := by
  intro sz
  refine x_bodyz (by decide) (Nat.le_of_ble_eq_true rfl) ?_
  intro p e s m args below meth c ls hx hb C hr hlocks hin hsz hZ hB hl
  have C : xC E p s m args c cX19_init 4 RX19 := C
  have hl : lv_has ls 4 [(0, .ref a), (1, .ref oo), (2, .ref pl), (3, .int (iI v1))] := hl
  refine lv_aload_n hx hb dX19_init_0 rfl (lv_at hl 0 rfl) ?_
  refine lv_aload_n hx hb dX19_init_1 rfl (lv_at hl 1 rfl) ?_
  refine x_putF2 C hB ha rfl in_X19 tyX19_ok apX19 3 (by decide) q1364 (fun x h => h) rfl (hin rfl) rfl rfl rfl (Nat.le_of_ble_eq_true rfl) dX19_init_2 (fun H locs hB => ?_)
  replace hB : xB E (xA w sz) s (va_up w a (some (xO 17 [.null, .null, .int (iI 0), .ref oo]))) _ _ := hB
  refine lv_aload_n hx hb dX19_init_5 rfl (lv_at hl 0 rfl) ?_
  refine lv_aload_n hx hb dX19_init_6 rfl (lv_at hl 1 rfl) ?_
  refine g_callv 0 0 (Nat.le_of_ble_eq_true rfl) (Nat.le_of_ble_eq_true rfl) hB (rIN (As := [.ref oo]) (n := 1) C hZ hB (kX4_init_X19 l E (va_up w a (some (xO 17 [.null, .null, .int (iI 0), .ref oo]))) a oo (va_up_s _ _ _) _) q1361 q1113 q78 q1114 rfl (by decide +kernel) ⟨Nat.le_of_ble_eq_true rfl, Nat.le_of_ble_eq_true rfl⟩ rfl hl.1 rfl (Nat.le_of_ble_eq_true rfl) dX19_init_7 ⟨Nat.le_of_ble_eq_true rfl, Nat.le_of_ble_eq_true rfl⟩) (fun w2 H locs hp4 hB => ?_)
  subst hp4
  rw [bx_uu] at hB
  replace hB : xB E (xA w sz) s (va_up w a (some (xO 17 [.ref oo, .null, .int (iI 0), .ref oo]))) _ _ := hB
  refine lv_aload_n hx hb dX19_init_10 rfl (lv_at hl 0 rfl) ?_
  refine lv_aload_n hx hb dX19_init_11 rfl (lv_at hl 2 rfl) ?_
  refine x_putF2 C hB (va_up_s _ _ _) rfl in_X19 tyX19_ok apX19 1 (by decide) q1362 (fun x h => h) rfl (hin rfl) rfl rfl rfl (Nat.le_of_ble_eq_true rfl) dX19_init_12 (fun H locs hB => ?_)
  rw [bx_uu] at hB
  replace hB : xB E (xA w sz) s (va_up w a (some (xO 17 [.ref oo, .ref pl, .int (iI 0), .ref oo]))) _ _ := hB
  refine lv_aload_n hx hb dX19_init_15 rfl (lv_at hl 0 rfl) ?_
  refine lv_iload_n hx hb dX19_init_16 rfl (lv_at hl 3 rfl) ?_
  refine x_putF2 C hB (va_up_s _ _ _) rfl in_X19 tyX19_ok apX19 2 (by decide) q1363 (fun x h => h) rfl (hin rfl) rfl rfl rfl (Nat.le_of_ble_eq_true rfl) dX19_init_17 (fun H locs hB => ?_)
  rw [bx_uu] at hB
  replace hB : xB E (xA w sz) s (va_up w a (some (xO 17 [.ref oo, .ref pl, .int (iI v1), .ref oo]))) _ _ := hB
  exact g_vret C hB hr hlocks dX19_init_20 (Nat.le_of_ble_eq_true rfl) (Nat.le_of_ble_eq_true rfl) rfl
set_option maxHeartbeats 800000 in
set_option maxRecDepth 100000 in
theorem kX6_init_X6 (l : Launch) (E : xE) (w : xw) (a : Nat) (oo : Nat) (v1 : Int) (v2 : Int) (ha : w a = some (xO 4 [.int (iI 0), .int (iI 0), .null])) : gv_ l E yX6_init cX6_init 4 none 1 24 0 0 [.ref a, .ref oo, .int (iI v1), .int (iI v2)] w (fun w' => va_up w a (some (xO 4 [.int (iI v2), .int (iI v1), .ref oo])) = w') := by
  intro sz
  refine x_bodyz (by decide) (Nat.le_of_ble_eq_true rfl) ?_
  intro p e s m args below meth c ls hx hb C hr hlocks hin hsz hZ hB hl
  have C : xC E p s m args c cX6_init 4 RX6 := C
  have hl : lv_has ls 4 [(0, .ref a), (1, .ref oo), (2, .int (iI v1)), (3, .int (iI v2))] := hl
  refine lv_aload_n hx hb dX6_init_0 rfl (lv_at hl 0 rfl) ?_
  refine lv_aload_n hx hb dX6_init_1 rfl (lv_at hl 1 rfl) ?_
  refine x_putF2 C hB ha rfl in_X6 tyX6_ok apX6 2 (by decide) q787 (fun x h => h) rfl (hin rfl) rfl rfl rfl (Nat.le_of_ble_eq_true rfl) dX6_init_2 (fun H locs hB => ?_)
  replace hB : xB E (xA w sz) s (va_up w a (some (xO 4 [.int (iI 0), .int (iI 0), .ref oo]))) _ _ := hB
  refine lv_aload_n hx hb dX6_init_5 rfl (lv_at hl 0 rfl) ?_
  refine x_objInit C q777 q113 q114 hl.1 (Nat.le_of_ble_eq_true rfl) (Nat.le_of_ble_eq_true rfl) dX6_init_6 ?_
  refine lv_aload_n hx hb dX6_init_9 rfl (lv_at hl 0 rfl) ?_
  refine lv_iload_n hx hb dX6_init_10 rfl (lv_at hl 2 rfl) ?_
  refine x_put2 C hB (va_up_s _ _ _) rfl in_X6 tyX6_ok apX6 1 (by decide) q780 (fun x h => h) rfl rfl rfl (Nat.le_of_ble_eq_true rfl) dX6_init_11 (fun H locs hB => ?_)
  rw [bx_uu] at hB
  replace hB : xB E (xA w sz) s (va_up w a (some (xO 4 [.int (iI 0), .int (iI v1), .ref oo]))) _ _ := hB
  refine lv_aload_n hx hb dX6_init_14 rfl (lv_at hl 0 rfl) ?_
  refine lv_iload_n hx hb dX6_init_15 rfl (lv_at hl 3 rfl) ?_
  refine x_putF2 C hB (va_up_s _ _ _) rfl in_X6 tyX6_ok apX6 0 (by decide) q778 (fun x h => h) rfl (hin rfl) rfl rfl rfl (Nat.le_of_ble_eq_true rfl) dX6_init_16 (fun H locs hB => ?_)
  rw [bx_uu] at hB
  replace hB : xB E (xA w sz) s (va_up w a (some (xO 4 [.int (iI v2), .int (iI v1), .ref oo]))) _ _ := hB
  exact g_vret C hB hr hlocks dX6_init_19 (Nat.le_of_ble_eq_true rfl) (Nat.le_of_ble_eq_true rfl) rfl
set_option maxHeartbeats 800000 in
set_option maxRecDepth 100000 in
theorem kX6_init_X7 (l : Launch) (E : xE) (w : xw) (a : Nat) (oo : Nat) (v1 : Int) (v2 : Int) (ha : w a = some (xO 5 [.int (iI 0), .int (iI 0), .null, .ref oo])) : gv_ l E yX6_init cX6_init 4 none 1 24 0 0 [.ref a, .ref oo, .int (iI v1), .int (iI v2)] w (fun w' => va_up w a (some (xO 5 [.int (iI v2), .int (iI v1), .ref oo, .ref oo])) = w') := by
  intro sz
  refine x_bodyz (by decide) (Nat.le_of_ble_eq_true rfl) ?_
  intro p e s m args below meth c ls hx hb C hr hlocks hin hsz hZ hB hl
  have C : xC E p s m args c cX6_init 4 RX6 := C
  have hl : lv_has ls 4 [(0, .ref a), (1, .ref oo), (2, .int (iI v1)), (3, .int (iI v2))] := hl
  refine lv_aload_n hx hb dX6_init_0 rfl (lv_at hl 0 rfl) ?_
  refine lv_aload_n hx hb dX6_init_1 rfl (lv_at hl 1 rfl) ?_
  refine x_putF2 C hB ha rfl in_X7 tyX7_ok apX7 2 (by decide) q787 (fun x h => h) rfl (hin rfl) rfl rfl rfl (Nat.le_of_ble_eq_true rfl) dX6_init_2 (fun H locs hB => ?_)
  replace hB : xB E (xA w sz) s (va_up w a (some (xO 5 [.int (iI 0), .int (iI 0), .ref oo, .ref oo]))) _ _ := hB
  refine lv_aload_n hx hb dX6_init_5 rfl (lv_at hl 0 rfl) ?_
  refine x_objInit C q777 q113 q114 hl.1 (Nat.le_of_ble_eq_true rfl) (Nat.le_of_ble_eq_true rfl) dX6_init_6 ?_
  refine lv_aload_n hx hb dX6_init_9 rfl (lv_at hl 0 rfl) ?_
  refine lv_iload_n hx hb dX6_init_10 rfl (lv_at hl 2 rfl) ?_
  refine x_put2 C hB (va_up_s _ _ _) rfl in_X7 tyX7_ok apX7 1 (by decide) q780 (fun x h => h) rfl rfl rfl (Nat.le_of_ble_eq_true rfl) dX6_init_11 (fun H locs hB => ?_)
  rw [bx_uu] at hB
  replace hB : xB E (xA w sz) s (va_up w a (some (xO 5 [.int (iI 0), .int (iI v1), .ref oo, .ref oo]))) _ _ := hB
  refine lv_aload_n hx hb dX6_init_14 rfl (lv_at hl 0 rfl) ?_
  refine lv_iload_n hx hb dX6_init_15 rfl (lv_at hl 3 rfl) ?_
  refine x_putF2 C hB (va_up_s _ _ _) rfl in_X7 tyX7_ok apX7 0 (by decide) q778 (fun x h => h) rfl (hin rfl) rfl rfl rfl (Nat.le_of_ble_eq_true rfl) dX6_init_16 (fun H locs hB => ?_)
  rw [bx_uu] at hB
  replace hB : xB E (xA w sz) s (va_up w a (some (xO 5 [.int (iI v2), .int (iI v1), .ref oo, .ref oo]))) _ _ := hB
  exact g_vret C hB hr hlocks dX6_init_19 (Nat.le_of_ble_eq_true rfl) (Nat.le_of_ble_eq_true rfl) rfl
set_option maxHeartbeats 800000 in
set_option maxRecDepth 100000 in
theorem kX6_init_X8 (l : Launch) (E : xE) (w : xw) (a : Nat) (oo : Nat) (v1 : Int) (v2 : Int) (ha : w a = some (xO 6 [.int (iI 0), .int (iI 0), .null, .ref oo, .ref oo])) : gv_ l E yX6_init cX6_init 4 none 1 24 0 0 [.ref a, .ref oo, .int (iI v1), .int (iI v2)] w (fun w' => va_up w a (some (xO 6 [.int (iI v2), .int (iI v1), .ref oo, .ref oo, .ref oo])) = w') := by
  intro sz
  refine x_bodyz (by decide) (Nat.le_of_ble_eq_true rfl) ?_
  intro p e s m args below meth c ls hx hb C hr hlocks hin hsz hZ hB hl
  have C : xC E p s m args c cX6_init 4 RX6 := C
  have hl : lv_has ls 4 [(0, .ref a), (1, .ref oo), (2, .int (iI v1)), (3, .int (iI v2))] := hl
  refine lv_aload_n hx hb dX6_init_0 rfl (lv_at hl 0 rfl) ?_
  refine lv_aload_n hx hb dX6_init_1 rfl (lv_at hl 1 rfl) ?_
  refine x_putF2 C hB ha rfl in_X8 tyX8_ok apX8 2 (by decide) q787 (fun x h => h) rfl (hin rfl) rfl rfl rfl (Nat.le_of_ble_eq_true rfl) dX6_init_2 (fun H locs hB => ?_)
  replace hB : xB E (xA w sz) s (va_up w a (some (xO 6 [.int (iI 0), .int (iI 0), .ref oo, .ref oo, .ref oo]))) _ _ := hB
  refine lv_aload_n hx hb dX6_init_5 rfl (lv_at hl 0 rfl) ?_
  refine x_objInit C q777 q113 q114 hl.1 (Nat.le_of_ble_eq_true rfl) (Nat.le_of_ble_eq_true rfl) dX6_init_6 ?_
  refine lv_aload_n hx hb dX6_init_9 rfl (lv_at hl 0 rfl) ?_
  refine lv_iload_n hx hb dX6_init_10 rfl (lv_at hl 2 rfl) ?_
  refine x_put2 C hB (va_up_s _ _ _) rfl in_X8 tyX8_ok apX8 1 (by decide) q780 (fun x h => h) rfl rfl rfl (Nat.le_of_ble_eq_true rfl) dX6_init_11 (fun H locs hB => ?_)
  rw [bx_uu] at hB
  replace hB : xB E (xA w sz) s (va_up w a (some (xO 6 [.int (iI 0), .int (iI v1), .ref oo, .ref oo, .ref oo]))) _ _ := hB
  refine lv_aload_n hx hb dX6_init_14 rfl (lv_at hl 0 rfl) ?_
  refine lv_iload_n hx hb dX6_init_15 rfl (lv_at hl 3 rfl) ?_
  refine x_putF2 C hB (va_up_s _ _ _) rfl in_X8 tyX8_ok apX8 0 (by decide) q778 (fun x h => h) rfl (hin rfl) rfl rfl rfl (Nat.le_of_ble_eq_true rfl) dX6_init_16 (fun H locs hB => ?_)
  rw [bx_uu] at hB
  replace hB : xB E (xA w sz) s (va_up w a (some (xO 6 [.int (iI v2), .int (iI v1), .ref oo, .ref oo, .ref oo]))) _ _ := hB
  exact g_vret C hB hr hlocks dX6_init_19 (Nat.le_of_ble_eq_true rfl) (Nat.le_of_ble_eq_true rfl) rfl
set_option maxHeartbeats 800000 in
set_option maxRecDepth 100000 in
theorem kX7_init_X7 (l : Launch) (E : xE) (w : xw) (a : Nat) (oo : Nat) (v1 : Int) (v2 : Int) (ha : w a = some (xO 5 [.int (iI 0), .int (iI 0), .null, .null])) : gv_ l E yX7_init cX7_init 4 none 2 47 0 0 [.ref a, .ref oo, .int (iI v1), .int (iI v2)] w (fun w' => va_up w a (some (xO 5 [.int (iI v2), .int (iI v1), .ref oo, .ref oo])) = w') := by
  intro sz
  refine x_bodyz (by decide) (Nat.le_of_ble_eq_true rfl) ?_
  intro p e s m args below meth c ls hx hb C hr hlocks hin hsz hZ hB hl
  have C : xC E p s m args c cX7_init 4 RX7 := C
  have hl : lv_has ls 4 [(0, .ref a), (1, .ref oo), (2, .int (iI v1)), (3, .int (iI v2))] := hl
  refine lv_aload_n hx hb dX7_init_0 rfl (lv_at hl 0 rfl) ?_
  refine lv_aload_n hx hb dX7_init_1 rfl (lv_at hl 1 rfl) ?_
  refine x_putF2 C hB ha rfl in_X7 tyX7_ok apX7 3 (by decide) q801 (fun x h => h) rfl (hin rfl) rfl rfl rfl (Nat.le_of_ble_eq_true rfl) dX7_init_2 (fun H locs hB => ?_)
  replace hB : xB E (xA w sz) s (va_up w a (some (xO 5 [.int (iI 0), .int (iI 0), .null, .ref oo]))) _ _ := hB
  refine lv_aload_n hx hb dX7_init_5 rfl (lv_at hl 0 rfl) ?_
  refine lv_aload_n hx hb dX7_init_6 rfl (lv_at hl 1 rfl) ?_
  refine lv_iload_n hx hb dX7_init_7 rfl (lv_at hl 2 rfl) ?_
  refine lv_iload_n hx hb dX7_init_8 rfl (lv_at hl 3 rfl) ?_
  refine g_callv 0 0 (Nat.le_of_ble_eq_true rfl) (Nat.le_of_ble_eq_true rfl) hB (rI (As := [.ref oo, .int (iI v1), .int (iI v2)]) (n := 3) C hZ hB (kX6_init_X7 l E (va_up w a (some (xO 5 [.int (iI 0), .int (iI 0), .null, .ref oo]))) a oo v1 v2 (va_up_s _ _ _) _) (lw_meth q776) q80 q800 q775 rfl (by decide +kernel) ⟨Nat.le_of_ble_eq_true rfl, Nat.le_of_ble_eq_true rfl⟩ rfl hl.1 rfl (Nat.le_of_ble_eq_true rfl) dX7_init_9 ⟨Nat.le_of_ble_eq_true rfl, Nat.le_of_ble_eq_true rfl⟩) (fun w2 H locs hp4 hB => ?_)
  subst hp4
  rw [bx_uu] at hB
  replace hB : xB E (xA w sz) s (va_up w a (some (xO 5 [.int (iI v2), .int (iI v1), .ref oo, .ref oo]))) _ _ := hB
  exact g_vret C hB hr hlocks dX7_init_12 (Nat.le_of_ble_eq_true rfl) (Nat.le_of_ble_eq_true rfl) rfl
set_option maxHeartbeats 800000 in
set_option maxRecDepth 100000 in
theorem kX7_init_X8 (l : Launch) (E : xE) (w : xw) (a : Nat) (oo : Nat) (v1 : Int) (v2 : Int) (ha : w a = some (xO 6 [.int (iI 0), .int (iI 0), .null, .null, .ref oo])) : gv_ l E yX7_init cX7_init 4 none 2 47 0 0 [.ref a, .ref oo, .int (iI v1), .int (iI v2)] w (fun w' => va_up w a (some (xO 6 [.int (iI v2), .int (iI v1), .ref oo, .ref oo, .ref oo])) = w') := by
  intro sz
  refine x_bodyz (by decide) (Nat.le_of_ble_eq_true rfl) ?_
  intro p e s m args below meth c ls hx hb C hr hlocks hin hsz hZ hB hl
  have C : xC E p s m args c cX7_init 4 RX7 := C
  have hl : lv_has ls 4 [(0, .ref a), (1, .ref oo), (2, .int (iI v1)), (3, .int (iI v2))] := hl
  refine lv_aload_n hx hb dX7_init_0 rfl (lv_at hl 0 rfl) ?_
  refine lv_aload_n hx hb dX7_init_1 rfl (lv_at hl 1 rfl) ?_
  refine x_putF2 C hB ha rfl in_X8 tyX8_ok apX8 3 (by decide) q801 (fun x h => h) rfl (hin rfl) rfl rfl rfl (Nat.le_of_ble_eq_true rfl) dX7_init_2 (fun H locs hB => ?_)
  replace hB : xB E (xA w sz) s (va_up w a (some (xO 6 [.int (iI 0), .int (iI 0), .null, .ref oo, .ref oo]))) _ _ := hB
  refine lv_aload_n hx hb dX7_init_5 rfl (lv_at hl 0 rfl) ?_
  refine lv_aload_n hx hb dX7_init_6 rfl (lv_at hl 1 rfl) ?_
  refine lv_iload_n hx hb dX7_init_7 rfl (lv_at hl 2 rfl) ?_
  refine lv_iload_n hx hb dX7_init_8 rfl (lv_at hl 3 rfl) ?_
  refine g_callv 0 0 (Nat.le_of_ble_eq_true rfl) (Nat.le_of_ble_eq_true rfl) hB (rI (As := [.ref oo, .int (iI v1), .int (iI v2)]) (n := 3) C hZ hB (kX6_init_X8 l E (va_up w a (some (xO 6 [.int (iI 0), .int (iI 0), .null, .ref oo, .ref oo]))) a oo v1 v2 (va_up_s _ _ _) _) (lw_meth q776) q80 q800 q775 rfl (by decide +kernel) ⟨Nat.le_of_ble_eq_true rfl, Nat.le_of_ble_eq_true rfl⟩ rfl hl.1 rfl (Nat.le_of_ble_eq_true rfl) dX7_init_9 ⟨Nat.le_of_ble_eq_true rfl, Nat.le_of_ble_eq_true rfl⟩) (fun w2 H locs hp4 hB => ?_)
  subst hp4
  rw [bx_uu] at hB
  replace hB : xB E (xA w sz) s (va_up w a (some (xO 6 [.int (iI v2), .int (iI v1), .ref oo, .ref oo, .ref oo]))) _ _ := hB
  exact g_vret C hB hr hlocks dX7_init_12 (Nat.le_of_ble_eq_true rfl) (Nat.le_of_ble_eq_true rfl) rfl
set_option maxHeartbeats 800000 in
set_option maxRecDepth 100000 in
theorem kX8_init (l : Launch) (E : xE) (w : xw) (a : Nat) (oo : Nat) (v1 : Int) (v2 : Int) (ha : w a = some (xO 6 [.int (iI 0), .int (iI 0), .null, .null, .null])) : gv_ l E yX8_init cX8_init 4 none 3 70 0 0 [.ref a, .ref oo, .int (iI v1), .int (iI v2)] w (fun w' => va_up w a (some (xO 6 [.int (iI v2), .int (iI v1), .ref oo, .ref oo, .ref oo])) = w') := by
  intro sz
  refine x_bodyz (by decide) (Nat.le_of_ble_eq_true rfl) ?_
  intro p e s m args below meth c ls hx hb C hr hlocks hin hsz hZ hB hl
  have C : xC E p s m args c cX8_init 4 RX8 := C
  have hl : lv_has ls 4 [(0, .ref a), (1, .ref oo), (2, .int (iI v1)), (3, .int (iI v2))] := hl
  refine lv_aload_n hx hb dX8_init_0 rfl (lv_at hl 0 rfl) ?_
  refine lv_aload_n hx hb dX8_init_1 rfl (lv_at hl 1 rfl) ?_
  refine x_putF2 C hB ha rfl in_X8 tyX8_ok apX8 4 (by decide) q813 (fun x h => h) rfl (hin rfl) rfl rfl rfl (Nat.le_of_ble_eq_true rfl) dX8_init_2 (fun H locs hB => ?_)
  replace hB : xB E (xA w sz) s (va_up w a (some (xO 6 [.int (iI 0), .int (iI 0), .null, .null, .ref oo]))) _ _ := hB
  refine lv_aload_n hx hb dX8_init_5 rfl (lv_at hl 0 rfl) ?_
  refine lv_aload_n hx hb dX8_init_6 rfl (lv_at hl 1 rfl) ?_
  refine lv_iload_n hx hb dX8_init_7 rfl (lv_at hl 2 rfl) ?_
  refine lv_iload_n hx hb dX8_init_8 rfl (lv_at hl 3 rfl) ?_
  refine g_callv 0 0 (Nat.le_of_ble_eq_true rfl) (Nat.le_of_ble_eq_true rfl) hB (rI (As := [.ref oo, .int (iI v1), .int (iI v2)]) (n := 3) C hZ hB (kX7_init_X8 l E (va_up w a (some (xO 6 [.int (iI 0), .int (iI 0), .null, .null, .ref oo]))) a oo v1 v2 (va_up_s _ _ _) _) (lw_meth q799) q81 q812 q798 rfl (by decide +kernel) ⟨Nat.le_of_ble_eq_true rfl, Nat.le_of_ble_eq_true rfl⟩ rfl hl.1 rfl (Nat.le_of_ble_eq_true rfl) dX8_init_9 ⟨Nat.le_of_ble_eq_true rfl, Nat.le_of_ble_eq_true rfl⟩) (fun w2 H locs hp4 hB => ?_)
  subst hp4
  rw [bx_uu] at hB
  replace hB : xB E (xA w sz) s (va_up w a (some (xO 6 [.int (iI v2), .int (iI v1), .ref oo, .ref oo, .ref oo]))) _ _ := hB
  exact g_vret C hB hr hlocks dX8_init_12 (Nat.le_of_ble_eq_true rfl) (Nat.le_of_ble_eq_true rfl) rfl
