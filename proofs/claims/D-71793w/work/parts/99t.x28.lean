/-! THE COMPONENT: its constructor (printed) -/
set_option maxRecDepth 100000
set_option maxHeartbeats 4000000 in
theorem kX0_init (l : Launch) (E : xE) (o : Nat) (w : xw) (sz : Nat) (ho : w o = some (xO 0 [.null, .null, .int (iI 0), .null, .int (iI 0), .null, .null, .int (iI 0), .int (iI 0), .int (iI 0), .null, .null, .null, .null, .null, .null, .null, .int (iI 0), .null])) : Met l yX0_init (ws_ yX0_init cX0_init 1 none) { frames := 9, cells := 40, slots := 600, locals := 3300 } (xPz E w sz [.ref o]) (va_Qv (fun w2 => ∃ Ad, xInv E o Ad mI0 mF0 w2) (xEnd E (xA w sz)) (xA w sz)) 40 600 (xA w sz) := by
  refine x_bodyn (by decide) (Nat.le_of_ble_eq_true rfl) ?_
  intro p e s m args below meth c ls hx hb C hr hlocks hin hnm hsz hZ hB hl
  have C : xC E p s m args c cX0_init 1 RX0 := C
  have hl : lv_has ls 1 [(0, .ref o)] := hl
  replace hB := xSt.of ho hB
  refine lv_aload_n hx hb dX0_init_0 rfl (lv_at hl 0 rfl) ?_
  refine x_objInit C q112 q113 q114 hl.1 (Nat.le_of_ble_eq_true rfl) (Nat.le_of_ble_eq_true rfl) dX0_init_1 ?_
  refine lv_aload_n hx hb dX0_init_4 rfl (lv_at hl 0 rfl) ?_
  refine lv_iconst (v := iI 5) hx hb dX0_init_5 rfl ?_
  refine st_anew C hZ hB 1 4 rfl q115 (by decide) 5 rfl (by omega) (Nat.le_of_ble_eq_true rfl) (Nat.le_of_ble_eq_true rfl) dX0_init_6 (fun q1 H hB => ?_)
  refine x_up (c2 := 1) (s2 := 5) (Nat.le_of_ble_eq_true rfl) (Nat.le_of_ble_eq_true rfl) ?_
  refine st_putF C hB 0 rfl rfl rfl in_X0 tyX0_ok apX0 0 (by decide) q290 (fun x h => h) rfl (hin rfl) rfl rfl rfl (Nat.le_of_ble_eq_true rfl) dX0_init_9 (fun H locs hB => ?_)
  refine lv_aload_n hx hb dX0_init_12 rfl (lv_at hl 0 rfl) ?_
  refine lv_iconst (v := iI 3) hx hb dX0_init_13 rfl ?_
  refine st_anew C hZ hB 2 5 rfl q117 (by decide) 3 rfl (by omega) (Nat.le_of_ble_eq_true rfl) (Nat.le_of_ble_eq_true rfl) dX0_init_14 (fun q2 H hB => ?_)
  refine x_up (c2 := 2) (s2 := 8) (Nat.le_of_ble_eq_true rfl) (Nat.le_of_ble_eq_true rfl) ?_
  refine st_putF C hB 0 rfl rfl rfl in_X0 tyX0_ok apX0 1 (by decide) q292 (fun x h => h) rfl (hin rfl) rfl rfl rfl (Nat.le_of_ble_eq_true rfl) dX0_init_17 (fun H locs hB => ?_)
  refine lv_aload_n hx hb dX0_init_20 rfl (lv_at hl 0 rfl) ?_
  refine st_new C hB 4 (ci := 18) (fs := [.int (iI 0), .null, .int (iI 0)]) rfl in_J2 tyJ2_ok q119 q120 q71 dvJ2 (Nat.le_of_ble_eq_true rfl) (Nat.le_of_ble_eq_true rfl) dX0_init_21 (fun q3 H hB => ?_)
  refine x_up (c2 := 3) (s2 := 11) (Nat.le_of_ble_eq_true rfl) (Nat.le_of_ble_eq_true rfl) ?_
  refine lv_dup hx hb dX0_init_24 rfl ?_
  refine st_call hB 4 rfl (e0 := xO 18 [.int (iI 0), .null, .int (iI 0)]) (e1 := xO 18 [.int (iI 0), .ref (E.2 20), .int (iI 0)]) rfl (fun w w1 h => h) ⟨Nat.le_of_ble_eq_true rfl, Nat.le_of_ble_eq_true rfl⟩ (fun w ha hB => rI (As := []) (n := 0) C hZ hB (kJ2_init l E w _ ha _) (lw_meth q123) q71 q121 q122 rfl (by decide +kernel) ⟨Nat.le_of_ble_eq_true rfl, Nat.le_of_ble_eq_true rfl⟩ rfl hl.1 rfl (Nat.le_of_ble_eq_true rfl) dX0_init_25 ⟨Nat.le_of_ble_eq_true rfl, Nat.le_of_ble_eq_true rfl⟩) (fun H locs hB => ?_)
  refine st_putF C hB 0 rfl rfl rfl in_X0 tyX0_ok apX0 3 (by decide) q296 (fun x h => h) rfl (hin rfl) rfl rfl rfl (Nat.le_of_ble_eq_true rfl) dX0_init_28 (fun H locs hB => ?_)
  refine lv_aload_n hx hb dX0_init_31 rfl (lv_at hl 0 rfl) ?_
  refine lv_bipush (v := iI 7) hx hb dX0_init_32 rfl ?_
  refine st_newp C hB 6 q213 7 rfl (by omega) (Nat.le_of_ble_eq_true rfl) (Nat.le_of_ble_eq_true rfl) dX0_init_34 (fun q4 H hB => ?_)
  refine x_up (c2 := 4) (s2 := 18) (Nat.le_of_ble_eq_true rfl) (Nat.le_of_ble_eq_true rfl) ?_
  refine st_put C hB 0 rfl rfl rfl in_X0 tyX0_ok apX0 5 (by decide) q299 (fun x h => h) rfl rfl rfl (Nat.le_of_ble_eq_true rfl) dX0_init_36 (fun H locs hB => ?_)
  refine lv_aload_n hx hb dX0_init_39 rfl (lv_at hl 0 rfl) ?_
  refine lv_bipush (v := iI 7) hx hb dX0_init_40 rfl ?_
  refine st_newp C hB 7 q213 7 rfl (by omega) (Nat.le_of_ble_eq_true rfl) (Nat.le_of_ble_eq_true rfl) dX0_init_42 (fun q5 H hB => ?_)
  refine x_up (c2 := 5) (s2 := 25) (Nat.le_of_ble_eq_true rfl) (Nat.le_of_ble_eq_true rfl) ?_
  refine st_put C hB 0 rfl rfl rfl in_X0 tyX0_ok apX0 6 (by decide) q300 (fun x h => h) rfl rfl rfl (Nat.le_of_ble_eq_true rfl) dX0_init_44 (fun H locs hB => ?_)
  refine lv_aload_n hx hb dX0_init_47 rfl (lv_at hl 0 rfl) ?_
  refine lv_bipush (v := iI 7) hx hb dX0_init_48 rfl ?_
  refine st_newp C hB 11 q213 7 rfl (by omega) (Nat.le_of_ble_eq_true rfl) (Nat.le_of_ble_eq_true rfl) dX0_init_50 (fun q6 H hB => ?_)
  refine x_up (c2 := 6) (s2 := 32) (Nat.le_of_ble_eq_true rfl) (Nat.le_of_ble_eq_true rfl) ?_
  refine st_putF C hB 0 rfl rfl rfl in_X0 tyX0_ok apX0 10 (by decide) q305 (fun x h => h) rfl (hin rfl) rfl rfl rfl (Nat.le_of_ble_eq_true rfl) dX0_init_52 (fun H locs hB => ?_)
  refine lv_aload_n hx hb dX0_init_55 rfl (lv_at hl 0 rfl) ?_
  refine lv_bipush (v := iI 7) hx hb dX0_init_56 rfl ?_
  refine st_newp C hB 12 q213 7 rfl (by omega) (Nat.le_of_ble_eq_true rfl) (Nat.le_of_ble_eq_true rfl) dX0_init_58 (fun q7 H hB => ?_)
  refine x_up (c2 := 7) (s2 := 39) (Nat.le_of_ble_eq_true rfl) (Nat.le_of_ble_eq_true rfl) ?_
  refine st_putF C hB 0 rfl rfl rfl in_X0 tyX0_ok apX0 11 (by decide) q306 (fun x h => h) rfl (hin rfl) rfl rfl rfl (Nat.le_of_ble_eq_true rfl) dX0_init_60 (fun H locs hB => ?_)
  refine lv_aload_n hx hb dX0_init_63 rfl (lv_at hl 0 rfl) ?_
  refine lv_bipush (v := iI 64) hx hb dX0_init_64 rfl ?_
  refine st_newp C hB 13 q213 64 rfl (by omega) (Nat.le_of_ble_eq_true rfl) (Nat.le_of_ble_eq_true rfl) dX0_init_66 (fun q8 H hB => ?_)
  refine x_up (c2 := 8) (s2 := 103) (Nat.le_of_ble_eq_true rfl) (Nat.le_of_ble_eq_true rfl) ?_
  refine st_putF C hB 0 rfl rfl rfl in_X0 tyX0_ok apX0 12 (by decide) q308 (fun x h => h) rfl (hin rfl) rfl rfl rfl (Nat.le_of_ble_eq_true rfl) dX0_init_68 (fun H locs hB => ?_)
  refine lv_aload_n hx hb dX0_init_71 rfl (lv_at hl 0 rfl) ?_
  refine lv_bipush (v := iI 64) hx hb dX0_init_72 rfl ?_
  refine st_newp C hB 14 q213 64 rfl (by omega) (Nat.le_of_ble_eq_true rfl) (Nat.le_of_ble_eq_true rfl) dX0_init_74 (fun q9 H hB => ?_)
  refine x_up (c2 := 9) (s2 := 167) (Nat.le_of_ble_eq_true rfl) (Nat.le_of_ble_eq_true rfl) ?_
  refine st_putF C hB 0 rfl rfl rfl in_X0 tyX0_ok apX0 13 (by decide) q309 (fun x h => h) rfl (hin rfl) rfl rfl rfl (Nat.le_of_ble_eq_true rfl) dX0_init_76 (fun H locs hB => ?_)
  refine lv_aload_n hx hb dX0_init_79 rfl (lv_at hl 0 rfl) ?_
  refine lv_bipush (v := iI 64) hx hb dX0_init_80 rfl ?_
  refine st_newp C hB 15 q213 64 rfl (by omega) (Nat.le_of_ble_eq_true rfl) (Nat.le_of_ble_eq_true rfl) dX0_init_82 (fun q10 H hB => ?_)
  refine x_up (c2 := 10) (s2 := 231) (Nat.le_of_ble_eq_true rfl) (Nat.le_of_ble_eq_true rfl) ?_
  refine st_putF C hB 0 rfl rfl rfl in_X0 tyX0_ok apX0 14 (by decide) q310 (fun x h => h) rfl (hin rfl) rfl rfl rfl (Nat.le_of_ble_eq_true rfl) dX0_init_84 (fun H locs hB => ?_)
  refine lv_aload_n hx hb dX0_init_87 rfl (lv_at hl 0 rfl) ?_
  refine lv_bipush (v := iI 7) hx hb dX0_init_88 rfl ?_
  refine st_newp C hB 16 q213 7 rfl (by omega) (Nat.le_of_ble_eq_true rfl) (Nat.le_of_ble_eq_true rfl) dX0_init_90 (fun q11 H hB => ?_)
  refine x_up (c2 := 11) (s2 := 238) (Nat.le_of_ble_eq_true rfl) (Nat.le_of_ble_eq_true rfl) ?_
  refine st_putF C hB 0 rfl rfl rfl in_X0 tyX0_ok apX0 15 (by decide) q311 (fun x h => h) rfl (hin rfl) rfl rfl rfl (Nat.le_of_ble_eq_true rfl) dX0_init_92 (fun H locs hB => ?_)
  refine lv_aload_n hx hb dX0_init_95 rfl (lv_at hl 0 rfl) ?_
  refine st_new C hB 17 (ci := 18) (fs := [.int (iI 0), .null, .int (iI 0)]) rfl in_J2 tyJ2_ok q119 q120 q71 dvJ2 (Nat.le_of_ble_eq_true rfl) (Nat.le_of_ble_eq_true rfl) dX0_init_96 (fun q12 H hB => ?_)
  refine x_up (c2 := 12) (s2 := 241) (Nat.le_of_ble_eq_true rfl) (Nat.le_of_ble_eq_true rfl) ?_
  refine lv_dup hx hb dX0_init_99 rfl ?_
  refine st_call hB 17 rfl (e0 := xO 18 [.int (iI 0), .null, .int (iI 0)]) (e1 := xO 18 [.int (iI 0), .ref (E.2 20), .int (iI 0)]) rfl (fun w w1 h => h) ⟨Nat.le_of_ble_eq_true rfl, Nat.le_of_ble_eq_true rfl⟩ (fun w ha hB => rI (As := []) (n := 0) C hZ hB (kJ2_init l E w _ ha _) (lw_meth q123) q71 q121 q122 rfl (by decide +kernel) ⟨Nat.le_of_ble_eq_true rfl, Nat.le_of_ble_eq_true rfl⟩ rfl hl.1 rfl (Nat.le_of_ble_eq_true rfl) dX0_init_100 ⟨Nat.le_of_ble_eq_true rfl, Nat.le_of_ble_eq_true rfl⟩) (fun H locs hB => ?_)
  refine st_putF C hB 0 rfl rfl rfl in_X0 tyX0_ok apX0 16 (by decide) q312 (fun x h => h) rfl (hin rfl) rfl rfl rfl (Nat.le_of_ble_eq_true rfl) dX0_init_103 (fun H locs hB => ?_)
  refine lv_aload_n hx hb dX0_init_106 rfl (lv_at hl 0 rfl) ?_
  refine lv_iconst (v := iI 4) hx hb dX0_init_107 rfl ?_
  refine st_anew C hZ hB 19 6 rfl q145 (by decide) 4 rfl (by omega) (Nat.le_of_ble_eq_true rfl) (Nat.le_of_ble_eq_true rfl) dX0_init_108 (fun q13 H hB => ?_)
  refine x_up (c2 := 13) (s2 := 245) (Nat.le_of_ble_eq_true rfl) (Nat.le_of_ble_eq_true rfl) ?_
  refine st_putF C hB 0 rfl rfl rfl in_X0 tyX0_ok apX0 18 (by decide) q315 (fun x h => h) rfl (hin rfl) rfl rfl rfl (Nat.le_of_ble_eq_true rfl) dX0_init_111 (fun H locs hB => ?_)
  refine lv_aload_n hx hb dX0_init_114 rfl (lv_at hl 0 rfl) ?_
  refine st_get C hB 0 rfl rfl rfl in_X0 0 (by decide) q290 (fun x h => h) rfl dX0_init_115 ?_
  refine lv_iconst (v := iI 0) hx hb dX0_init_118 rfl ?_
  refine st_new C hB 50 (ci := 1) (fs := [.null]) rfl in_X1 tyX1_ok q115 q147 q72 dvX1 (Nat.le_of_ble_eq_true rfl) (Nat.le_of_ble_eq_true rfl) dX0_init_119 (fun q14 H hB => ?_)
  refine x_up (c2 := 14) (s2 := 246) (Nat.le_of_ble_eq_true rfl) (Nat.le_of_ble_eq_true rfl) ?_
  refine lv_dup hx hb dX0_init_122 rfl ?_
  refine lv_aload_n hx hb dX0_init_123 rfl (lv_at hl 0 rfl) ?_
  refine st_lam C hZ hB 70 0 (by decide) hnm (by decide +kernel) hl.1 (Nat.le_of_ble_eq_true rfl) (Nat.le_of_ble_eq_true rfl) (Nat.le_of_ble_eq_true rfl) dX0_init_124 (fun q15 H hB => ?_)
  refine x_up (c2 := 15) (s2 := 247) (Nat.le_of_ble_eq_true rfl) (Nat.le_of_ble_eq_true rfl) ?_
  refine st_call hB 50 rfl (e0 := xO 1 [.null]) rfl (fun w w1 h => h.symm) ⟨Nat.le_of_ble_eq_true rfl, Nat.le_of_ble_eq_true rfl⟩ (fun w ha hB => rI (As := [.ref _]) (n := 1) C hZ hB (kX1_init l E w _ _ ha _) (lw_meth q204) q72 q202 q203 rfl (by decide +kernel) ⟨Nat.le_of_ble_eq_true rfl, Nat.le_of_ble_eq_true rfl⟩ rfl hl.1 rfl (Nat.le_of_ble_eq_true rfl) dX0_init_129 ⟨Nat.le_of_ble_eq_true rfl, Nat.le_of_ble_eq_true rfl⟩) (fun H locs hB => ?_)
  refine st_aast C hB 1 50 rfl rfl 4 rfl rfl rfl rfl 0 rfl (by omega) (by omega) dX0_init_132 (fun H locs hB => ?_)
  refine lv_aload_n hx hb dX0_init_133 rfl (lv_at hl 0 rfl) ?_
  refine st_get C hB 0 rfl rfl rfl in_X0 0 (by decide) q290 (fun x h => h) rfl dX0_init_134 ?_
  refine lv_iconst (v := iI 1) hx hb dX0_init_137 rfl ?_
  refine st_new C hB 51 (ci := 1) (fs := [.null]) rfl in_X1 tyX1_ok q115 q147 q72 dvX1 (Nat.le_of_ble_eq_true rfl) (Nat.le_of_ble_eq_true rfl) dX0_init_138 (fun q16 H hB => ?_)
  refine x_up (c2 := 16) (s2 := 248) (Nat.le_of_ble_eq_true rfl) (Nat.le_of_ble_eq_true rfl) ?_
  refine lv_dup hx hb dX0_init_141 rfl ?_
  refine lv_aload_n hx hb dX0_init_142 rfl (lv_at hl 0 rfl) ?_
  refine st_lam C hZ hB 71 1 (by decide) hnm (by decide +kernel) hl.1 (Nat.le_of_ble_eq_true rfl) (Nat.le_of_ble_eq_true rfl) (Nat.le_of_ble_eq_true rfl) dX0_init_143 (fun q17 H hB => ?_)
  refine x_up (c2 := 17) (s2 := 249) (Nat.le_of_ble_eq_true rfl) (Nat.le_of_ble_eq_true rfl) ?_
  refine st_call hB 51 rfl (e0 := xO 1 [.null]) rfl (fun w w1 h => h.symm) ⟨Nat.le_of_ble_eq_true rfl, Nat.le_of_ble_eq_true rfl⟩ (fun w ha hB => rI (As := [.ref _]) (n := 1) C hZ hB (kX1_init l E w _ _ ha _) (lw_meth q204) q72 q202 q203 rfl (by decide +kernel) ⟨Nat.le_of_ble_eq_true rfl, Nat.le_of_ble_eq_true rfl⟩ rfl hl.1 rfl (Nat.le_of_ble_eq_true rfl) dX0_init_148 ⟨Nat.le_of_ble_eq_true rfl, Nat.le_of_ble_eq_true rfl⟩) (fun H locs hB => ?_)
  refine st_aast C hB 1 51 rfl rfl 4 rfl rfl rfl rfl 1 rfl (by omega) (by omega) dX0_init_151 (fun H locs hB => ?_)
  refine lv_aload_n hx hb dX0_init_152 rfl (lv_at hl 0 rfl) ?_
  refine st_get C hB 0 rfl rfl rfl in_X0 0 (by decide) q290 (fun x h => h) rfl dX0_init_153 ?_
  refine lv_iconst (v := iI 2) hx hb dX0_init_156 rfl ?_
  refine st_new C hB 52 (ci := 1) (fs := [.null]) rfl in_X1 tyX1_ok q115 q147 q72 dvX1 (Nat.le_of_ble_eq_true rfl) (Nat.le_of_ble_eq_true rfl) dX0_init_157 (fun q18 H hB => ?_)
  refine x_up (c2 := 18) (s2 := 250) (Nat.le_of_ble_eq_true rfl) (Nat.le_of_ble_eq_true rfl) ?_
  refine lv_dup hx hb dX0_init_160 rfl ?_
  refine lv_aload_n hx hb dX0_init_161 rfl (lv_at hl 0 rfl) ?_
  refine st_lam C hZ hB 72 2 (by decide) hnm (by decide +kernel) hl.1 (Nat.le_of_ble_eq_true rfl) (Nat.le_of_ble_eq_true rfl) (Nat.le_of_ble_eq_true rfl) dX0_init_162 (fun q19 H hB => ?_)
  refine x_up (c2 := 19) (s2 := 251) (Nat.le_of_ble_eq_true rfl) (Nat.le_of_ble_eq_true rfl) ?_
  refine st_call hB 52 rfl (e0 := xO 1 [.null]) rfl (fun w w1 h => h.symm) ⟨Nat.le_of_ble_eq_true rfl, Nat.le_of_ble_eq_true rfl⟩ (fun w ha hB => rI (As := [.ref _]) (n := 1) C hZ hB (kX1_init l E w _ _ ha _) (lw_meth q204) q72 q202 q203 rfl (by decide +kernel) ⟨Nat.le_of_ble_eq_true rfl, Nat.le_of_ble_eq_true rfl⟩ rfl hl.1 rfl (Nat.le_of_ble_eq_true rfl) dX0_init_167 ⟨Nat.le_of_ble_eq_true rfl, Nat.le_of_ble_eq_true rfl⟩) (fun H locs hB => ?_)
  refine st_aast C hB 1 52 rfl rfl 4 rfl rfl rfl rfl 2 rfl (by omega) (by omega) dX0_init_170 (fun H locs hB => ?_)
  refine lv_aload_n hx hb dX0_init_171 rfl (lv_at hl 0 rfl) ?_
  refine st_get C hB 0 rfl rfl rfl in_X0 0 (by decide) q290 (fun x h => h) rfl dX0_init_172 ?_
  refine lv_iconst (v := iI 3) hx hb dX0_init_175 rfl ?_
  refine st_new C hB 53 (ci := 1) (fs := [.null]) rfl in_X1 tyX1_ok q115 q147 q72 dvX1 (Nat.le_of_ble_eq_true rfl) (Nat.le_of_ble_eq_true rfl) dX0_init_176 (fun q20 H hB => ?_)
  refine x_up (c2 := 20) (s2 := 252) (Nat.le_of_ble_eq_true rfl) (Nat.le_of_ble_eq_true rfl) ?_
  refine lv_dup hx hb dX0_init_179 rfl ?_
  refine lv_aload_n hx hb dX0_init_180 rfl (lv_at hl 0 rfl) ?_
  refine st_lam C hZ hB 73 3 (by decide) hnm (by decide +kernel) hl.1 (Nat.le_of_ble_eq_true rfl) (Nat.le_of_ble_eq_true rfl) (Nat.le_of_ble_eq_true rfl) dX0_init_181 (fun q21 H hB => ?_)
  refine x_up (c2 := 21) (s2 := 253) (Nat.le_of_ble_eq_true rfl) (Nat.le_of_ble_eq_true rfl) ?_
  refine st_call hB 53 rfl (e0 := xO 1 [.null]) rfl (fun w w1 h => h.symm) ⟨Nat.le_of_ble_eq_true rfl, Nat.le_of_ble_eq_true rfl⟩ (fun w ha hB => rI (As := [.ref _]) (n := 1) C hZ hB (kX1_init l E w _ _ ha _) (lw_meth q204) q72 q202 q203 rfl (by decide +kernel) ⟨Nat.le_of_ble_eq_true rfl, Nat.le_of_ble_eq_true rfl⟩ rfl hl.1 rfl (Nat.le_of_ble_eq_true rfl) dX0_init_186 ⟨Nat.le_of_ble_eq_true rfl, Nat.le_of_ble_eq_true rfl⟩) (fun H locs hB => ?_)
  refine st_aast C hB 1 53 rfl rfl 4 rfl rfl rfl rfl 3 rfl (by omega) (by omega) dX0_init_189 (fun H locs hB => ?_)
  refine lv_aload_n hx hb dX0_init_190 rfl (lv_at hl 0 rfl) ?_
  refine st_get C hB 0 rfl rfl rfl in_X0 0 (by decide) q290 (fun x h => h) rfl dX0_init_191 ?_
  refine lv_iconst (v := iI 4) hx hb dX0_init_194 rfl ?_
  refine st_new C hB 54 (ci := 1) (fs := [.null]) rfl in_X1 tyX1_ok q115 q147 q72 dvX1 (Nat.le_of_ble_eq_true rfl) (Nat.le_of_ble_eq_true rfl) dX0_init_195 (fun q22 H hB => ?_)
  refine x_up (c2 := 22) (s2 := 254) (Nat.le_of_ble_eq_true rfl) (Nat.le_of_ble_eq_true rfl) ?_
  refine lv_dup hx hb dX0_init_198 rfl ?_
  refine lv_aload_n hx hb dX0_init_199 rfl (lv_at hl 0 rfl) ?_
  refine st_lam C hZ hB 74 4 (by decide) hnm (by decide +kernel) hl.1 (Nat.le_of_ble_eq_true rfl) (Nat.le_of_ble_eq_true rfl) (Nat.le_of_ble_eq_true rfl) dX0_init_200 (fun q23 H hB => ?_)
  refine x_up (c2 := 23) (s2 := 255) (Nat.le_of_ble_eq_true rfl) (Nat.le_of_ble_eq_true rfl) ?_
  refine st_call hB 54 rfl (e0 := xO 1 [.null]) rfl (fun w w1 h => h.symm) ⟨Nat.le_of_ble_eq_true rfl, Nat.le_of_ble_eq_true rfl⟩ (fun w ha hB => rI (As := [.ref _]) (n := 1) C hZ hB (kX1_init l E w _ _ ha _) (lw_meth q204) q72 q202 q203 rfl (by decide +kernel) ⟨Nat.le_of_ble_eq_true rfl, Nat.le_of_ble_eq_true rfl⟩ rfl hl.1 rfl (Nat.le_of_ble_eq_true rfl) dX0_init_205 ⟨Nat.le_of_ble_eq_true rfl, Nat.le_of_ble_eq_true rfl⟩) (fun H locs hB => ?_)
  refine st_aast C hB 1 54 rfl rfl 4 rfl rfl rfl rfl 4 rfl (by omega) (by omega) dX0_init_208 (fun H locs hB => ?_)
  refine lv_aload_n hx hb dX0_init_209 rfl (lv_at hl 0 rfl) ?_
  refine st_get C hB 0 rfl rfl rfl in_X0 1 (by decide) q292 (fun x h => h) rfl dX0_init_210 ?_
  refine lv_iconst (v := iI 0) hx hb dX0_init_213 rfl ?_
  refine st_new C hB 60 (ci := 2) (fs := [.null]) rfl in_X2 tyX2_ok q117 q226 q76 dvX2 (Nat.le_of_ble_eq_true rfl) (Nat.le_of_ble_eq_true rfl) dX0_init_214 (fun q24 H hB => ?_)
  refine x_up (c2 := 24) (s2 := 256) (Nat.le_of_ble_eq_true rfl) (Nat.le_of_ble_eq_true rfl) ?_
  refine lv_dup hx hb dX0_init_217 rfl ?_
  refine lv_aload_n hx hb dX0_init_218 rfl (lv_at hl 0 rfl) ?_
  refine st_lam C hZ hB 80 5 (by decide) hnm (by decide +kernel) hl.1 (Nat.le_of_ble_eq_true rfl) (Nat.le_of_ble_eq_true rfl) (Nat.le_of_ble_eq_true rfl) dX0_init_219 (fun q25 H hB => ?_)
  refine x_up (c2 := 25) (s2 := 257) (Nat.le_of_ble_eq_true rfl) (Nat.le_of_ble_eq_true rfl) ?_
  refine st_call hB 60 rfl (e0 := xO 2 [.null]) rfl (fun w w1 h => h.symm) ⟨Nat.le_of_ble_eq_true rfl, Nat.le_of_ble_eq_true rfl⟩ (fun w ha hB => rI (As := [.ref _]) (n := 1) C hZ hB (kX2_init l E w _ _ ha _) (lw_meth q257) q76 q255 q256 rfl (by decide +kernel) ⟨Nat.le_of_ble_eq_true rfl, Nat.le_of_ble_eq_true rfl⟩ rfl hl.1 rfl (Nat.le_of_ble_eq_true rfl) dX0_init_224 ⟨Nat.le_of_ble_eq_true rfl, Nat.le_of_ble_eq_true rfl⟩) (fun H locs hB => ?_)
  refine st_aast C hB 2 60 rfl rfl 5 rfl rfl rfl rfl 0 rfl (by omega) (by omega) dX0_init_227 (fun H locs hB => ?_)
  refine lv_aload_n hx hb dX0_init_228 rfl (lv_at hl 0 rfl) ?_
  refine st_get C hB 0 rfl rfl rfl in_X0 1 (by decide) q292 (fun x h => h) rfl dX0_init_229 ?_
  refine lv_iconst (v := iI 1) hx hb dX0_init_232 rfl ?_
  refine st_new C hB 61 (ci := 2) (fs := [.null]) rfl in_X2 tyX2_ok q117 q226 q76 dvX2 (Nat.le_of_ble_eq_true rfl) (Nat.le_of_ble_eq_true rfl) dX0_init_233 (fun q26 H hB => ?_)
  refine x_up (c2 := 26) (s2 := 258) (Nat.le_of_ble_eq_true rfl) (Nat.le_of_ble_eq_true rfl) ?_
  refine lv_dup hx hb dX0_init_236 rfl ?_
  refine lv_aload_n hx hb dX0_init_237 rfl (lv_at hl 0 rfl) ?_
  refine st_lam C hZ hB 81 6 (by decide) hnm (by decide +kernel) hl.1 (Nat.le_of_ble_eq_true rfl) (Nat.le_of_ble_eq_true rfl) (Nat.le_of_ble_eq_true rfl) dX0_init_238 (fun q27 H hB => ?_)
  refine x_up (c2 := 27) (s2 := 259) (Nat.le_of_ble_eq_true rfl) (Nat.le_of_ble_eq_true rfl) ?_
  refine st_call hB 61 rfl (e0 := xO 2 [.null]) rfl (fun w w1 h => h.symm) ⟨Nat.le_of_ble_eq_true rfl, Nat.le_of_ble_eq_true rfl⟩ (fun w ha hB => rI (As := [.ref _]) (n := 1) C hZ hB (kX2_init l E w _ _ ha _) (lw_meth q257) q76 q255 q256 rfl (by decide +kernel) ⟨Nat.le_of_ble_eq_true rfl, Nat.le_of_ble_eq_true rfl⟩ rfl hl.1 rfl (Nat.le_of_ble_eq_true rfl) dX0_init_243 ⟨Nat.le_of_ble_eq_true rfl, Nat.le_of_ble_eq_true rfl⟩) (fun H locs hB => ?_)
  refine st_aast C hB 2 61 rfl rfl 5 rfl rfl rfl rfl 1 rfl (by omega) (by omega) dX0_init_246 (fun H locs hB => ?_)
  refine lv_aload_n hx hb dX0_init_247 rfl (lv_at hl 0 rfl) ?_
  refine st_get C hB 0 rfl rfl rfl in_X0 1 (by decide) q292 (fun x h => h) rfl dX0_init_248 ?_
  refine lv_iconst (v := iI 2) hx hb dX0_init_251 rfl ?_
  refine st_new C hB 62 (ci := 2) (fs := [.null]) rfl in_X2 tyX2_ok q117 q226 q76 dvX2 (Nat.le_of_ble_eq_true rfl) (Nat.le_of_ble_eq_true rfl) dX0_init_252 (fun q28 H hB => ?_)
  refine x_up (c2 := 28) (s2 := 260) (Nat.le_of_ble_eq_true rfl) (Nat.le_of_ble_eq_true rfl) ?_
  refine lv_dup hx hb dX0_init_255 rfl ?_
  refine lv_aload_n hx hb dX0_init_256 rfl (lv_at hl 0 rfl) ?_
  refine st_lam C hZ hB 82 7 (by decide) hnm (by decide +kernel) hl.1 (Nat.le_of_ble_eq_true rfl) (Nat.le_of_ble_eq_true rfl) (Nat.le_of_ble_eq_true rfl) dX0_init_257 (fun q29 H hB => ?_)
  refine x_up (c2 := 29) (s2 := 261) (Nat.le_of_ble_eq_true rfl) (Nat.le_of_ble_eq_true rfl) ?_
  refine st_call hB 62 rfl (e0 := xO 2 [.null]) rfl (fun w w1 h => h.symm) ⟨Nat.le_of_ble_eq_true rfl, Nat.le_of_ble_eq_true rfl⟩ (fun w ha hB => rI (As := [.ref _]) (n := 1) C hZ hB (kX2_init l E w _ _ ha _) (lw_meth q257) q76 q255 q256 rfl (by decide +kernel) ⟨Nat.le_of_ble_eq_true rfl, Nat.le_of_ble_eq_true rfl⟩ rfl hl.1 rfl (Nat.le_of_ble_eq_true rfl) dX0_init_262 ⟨Nat.le_of_ble_eq_true rfl, Nat.le_of_ble_eq_true rfl⟩) (fun H locs hB => ?_)
  refine st_aast C hB 2 62 rfl rfl 5 rfl rfl rfl rfl 2 rfl (by omega) (by omega) dX0_init_265 (fun H locs hB => ?_)
  obtain ⟨Ad9, w9, hI9, hB⟩ := st_end (o := o) hB rfl rfl rfl (fun i hi => by rcases (show i = 0 ∨ i = 1 ∨ i = 2 ∨ i = 3 ∨ i = 4 by omega) with rfl | rfl | rfl | rfl | rfl <;> rfl) rfl (fun i hi => by rcases (show i = 0 ∨ i = 1 ∨ i = 2 by omega) with rfl | rfl | rfl <;> rfl) rfl rfl (fun r hr => by rcases hr with rfl | rfl | rfl | rfl | rfl <;> rfl) (fun r hr => by rcases hr with rfl | rfl | rfl <;> rfl) rfl rfl rfl (fun i hi => by rcases (show i = 0 ∨ i = 1 ∨ i = 2 ∨ i = 3 ∨ i = 4 by omega) with rfl | rfl | rfl | rfl | rfl <;> rfl) (fun i hi => by rcases (show i = 0 ∨ i = 1 ∨ i = 2 by omega) with rfl | rfl | rfl <;> rfl) (fun i hi => by rcases (show i = 0 ∨ i = 1 ∨ i = 2 ∨ i = 3 ∨ i = 4 by omega) with rfl | rfl | rfl | rfl | rfl <;> rfl) (fun i hi => by rcases (show i = 0 ∨ i = 1 ∨ i = 2 by omega) with rfl | rfl | rfl <;> rfl)
  exact g_vret C hB hr hlocks dX0_init_266 (Nat.le_of_ble_eq_true rfl) (Nat.le_of_ble_eq_true rfl) ⟨Ad9, hI9⟩
