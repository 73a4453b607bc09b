/-! ArrayList over the map world, 2 -/
set_option maxRecDepth 100000
theorem va_up_none {w : xw} {a q : Nat} {x : xX} (h : va_up w a (some x) q = none) : w q = none ∧ q ≠ a := by
  by_cases e : q = a
  · rw [e, va_up_s] at h
    cases h
  · rw [va_up_n _ _ e] at h
    exact ⟨h, e⟩
theorem va_up_noneO {w : xw} {a q : Nat} {x : xX} (h : va_up w a (some x) q = none) : w q = none := (va_up_none h).1
theorem cpy0_get {g h : Nat → Option Nat} {n i : Nat} (hi : i < n) : va_cpy g h 0 0 n i = g i := by
  unfold va_cpy
  rw [if_pos (by omega)]
  congr 1
  omega
set_option maxHeartbeats 800000 in
set_option maxRecDepth 100000 in
theorem kJ2_grow_2 (l : Launch) (E : xE) (w : xw) (a : Nat) (mm : Int) (k : Int) (ha : w a = some (xO 18 [.int (iI mm), .ref (E.2 20), .int (iI 0)])) (hk : 1 ≤ k ∧ k ≤ 10) : gq_ l E yJ2_grow_2 cJ2_grow_2 4 (some (.array (.object "java/lang/Object"))) 1 24 1 10 [.ref a, .int (iI k)] w (fun z w' => ∃ q, z = some q ∧ w q = none ∧ w' = va_up (va_up w q (some (xR E 3 10 (fun _ => none)))) a (some (xO 18 [.int (iI mm), .ref q, .int (iI 0)]))) := by
  intro sz
  refine x_bodyz (by decide) (Nat.le_of_ble_eq_true rfl) ?_
  intro p e s m args below meth c ls hx hb C hr hlocks hin hsz hZ hB hl
  have C : xC E p s m args c cJ2_grow_2 4 RJ2 := C
  have hl : lv_has ls 4 [(0, .ref a), (1, .int (iI k))] := hl
  refine lv_aload_n hx hb dJ2_grow_2_0 rfl (lv_at hl 0 rfl) ?_
  refine x_get C hB ha rfl in_J2 1 (by decide) q133 (fun x h => h) (v := .ref (E.2 20)) rfl dJ2_grow_2_1 ?_
  refine x_dlen C hZ hB dJ2_grow_2_4 ?_
  refine lv_istore_n (lv' := [(2, .int (iI 0)), (0, .ref a), (1, .int (iI k))]) hx hb dJ2_grow_2_5 rfl hl (by decide) rfl (fun ls hl => ?_)
  refine lv_iload_n hx hb dJ2_grow_2_6 rfl (lv_at hl 0 rfl) ?_
  refine x_if_gt (tgt := 20) hx hb dJ2_grow_2_7 (by decide) ⟨by decide, by decide⟩ (fun c1 => by exfalso; omega) (fun c1 => ?_)
  refine lv_aload_n hx hb dJ2_grow_2_10 rfl (lv_at hl 1 rfl) ?_
  refine x_get C hB ha rfl in_J2 1 (by decide) q133 (fun x h => h) (v := .ref (E.2 20)) rfl dJ2_grow_2_11 ?_
  refine x_gets C hZ hB q131 dJ2_grow_2_14 ?_
  refine lv_acmp_eq (rx := some (E.2 20)) (ry := some (E.2 20)) (tgt := 45) hx hb dJ2_grow_2_17 (by decide) (fun c2 => ?_) (fun c2 => absurd rfl c2)
  refine lv_aload_n hx hb dJ2_grow_2_45 rfl (lv_at hl 1 rfl) ?_
  refine lv_bipush (v := iI 10) hx hb dJ2_grow_2_46 rfl ?_
  refine lv_iload_n hx hb dJ2_grow_2_48 rfl (lv_at hl 2 rfl) ?_
  refine x_mmax C q745 q697 q75 q698 hl.1 (Nat.le_of_ble_eq_true rfl) (Nat.le_of_ble_eq_true rfl) (Nat.le_of_ble_eq_true rfl) (Nat.le_of_ble_eq_true rfl) ⟨by decide, by decide⟩ ⟨by omega, by omega⟩ dJ2_grow_2_49 ?_
  refine x_nm (b := 10) (by unfold imax; split <;> omega) ?_
  refine x_anew C hZ hB 3 rfl q746 (by decide) 10 rfl (by omega) (Nat.le_of_ble_eq_true rfl) (Nat.le_of_ble_eq_true rfl) dJ2_grow_2_52 (fun q3 H hq4 hs5 hB => ?_)
  have hne6 : a ≠ q3 := fun e => by cases (hq4.symm.trans ((congrArg _ e.symm).trans ha))
  refine x_up (c2 := 1) (s2 := 10) (Nat.le_of_ble_eq_true rfl) (Nat.le_of_ble_eq_true rfl) ?_
  replace hB : xB E (xA w sz) s (va_up w q3 (some (xR E 3 10 ((fun _ => none))))) _ _ := hB
  refine lv_dup_x1 hx hb dJ2_grow_2_55 rfl rfl ?_
  refine x_put2 C hB ((va_up_n _ _ hne6).trans ha) rfl in_J2 tyJ2_ok apJ2 1 (by decide) q133 (fun x h => h) rfl rfl rfl (Nat.le_of_ble_eq_true rfl) dJ2_grow_2_56 (fun H locs hB => ?_)
  replace hB : xB E (xA w sz) s (va_up (va_up w q3 (some (xR E 3 10 ((fun _ => none))))) a (some (xO 18 [.int (iI mm), .ref q3, .int (iI 0)]))) _ _ := hB
  exact g_qret C hB hr (Or.inr ⟨_, rfl⟩) hlocks ((some q3)) dJ2_grow_2_59 (Nat.le_of_ble_eq_true rfl) (Nat.le_of_ble_eq_true rfl) ⟨q3, rfl, hq4, rfl⟩
set_option maxHeartbeats 800000 in
set_option maxRecDepth 100000 in
theorem kJ2_grow (l : Launch) (E : xE) (w : xw) (a : Nat) (mm : Int) (ha : w a = some (xO 18 [.int (iI mm), .ref (E.2 20), .int (iI 0)])) : gq_ l E yJ2_grow cJ2_grow 1 (some (.array (.object "java/lang/Object"))) 2 47 1 10 [.ref a] w (fun z w' => ∃ q, z = some q ∧ w q = none ∧ w' = va_up (va_up w q (some (xR E 3 10 (fun _ => none)))) a (some (xO 18 [.int (iI mm), .ref q, .int (iI 0)]))) := by
  intro sz
  refine x_bodyz (by decide) (Nat.le_of_ble_eq_true rfl) ?_
  intro p e s m args below meth c ls hx hb C hr hlocks hin hsz hZ hB hl
  have C : xC E p s m args c cJ2_grow 1 RJ2 := C
  have hl : lv_has ls 1 [(0, .ref a)] := hl
  refine lv_aload_n hx hb dJ2_grow_0 rfl (lv_at hl 0 rfl) ?_
  refine lv_aload_n hx hb dJ2_grow_1 rfl (lv_at hl 0 rfl) ?_
  refine x_get C hB ha rfl in_J2 2 (by decide) q134 (fun x h => h) (v := .int (iI 0)) rfl dJ2_grow_2 ?_
  refine lv_iconst (v := iI 1) hx hb dJ2_grow_5 rfl ?_
  refine x_iadd (z := 1) hx hb dJ2_grow_6 (by omega) ?_
  refine g_callq 1 10 (Nat.le_of_ble_eq_true rfl) (Nat.le_of_ble_eq_true rfl) hB (rV (As := [.int (iI 1)]) (n := 1) C hZ hB (kJ2_grow_2 l E w a mm 1 ha (by omega) _) (lw_V q689 q691 qs23 q71 q692) (by decide +kernel) ⟨Nat.le_of_ble_eq_true rfl, Nat.le_of_ble_eq_true rfl⟩ ha rfl rfl rfl hl.1 rfl (Nat.le_of_ble_eq_true rfl) dJ2_grow_7 ⟨Nat.le_of_ble_eq_true rfl, Nat.le_of_ble_eq_true rfl⟩) (fun z1 w2 H locs hp4 hB => ?_)
  obtain ⟨q5, rfl, hq6, rfl⟩ := hp4
  have hne7 : a ≠ q5 := fun e => by cases (hq6.symm.trans ((congrArg _ e.symm).trans ha))
  replace hB : xB E (xA w sz) s (va_up (va_up w q5 (some (xR E 3 10 ((fun _ => none))))) a (some (xO 18 [.int (iI mm), .ref q5, .int (iI 0)]))) _ _ := hB
  exact g_qret C hB hr (Or.inr ⟨_, rfl⟩) hlocks ((some q5)) dJ2_grow_10 (Nat.le_of_ble_eq_true rfl) (Nat.le_of_ble_eq_true rfl) ⟨q5, rfl, hq6, rfl⟩
set_option maxHeartbeats 800000 in
set_option maxRecDepth 100000 in
theorem kJ2_add_20 (l : Launch) (E : xE) (w : xw) (a : Nat) (mm : Int) (v : Nat) (ha : w a = some (xO 18 [.int (iI mm), .ref (E.2 20), .int (iI 0)])) (hv : xAny w v) : gv_ l E yJ2_add_2 cJ2_add_2 4 none 3 67 1 10 [.ref a, .ref v, .ref (E.2 20), .int (iI 0)] w (fun w' => ∃ q, w q = none ∧ w' = va_up (va_up w q (some (xR E 3 10 (va_up (fun _ => none) 0 (some v))))) a (some (xO 18 [.int (iI mm), .ref q, .int (iI 1)]))) := by
  intro sz
  refine x_bodyz (by decide) (Nat.le_of_ble_eq_true rfl) ?_
  intro p e s m args below meth c ls hx hb C hr hlocks hin hsz hZ hB hl
  have C : xC E p s m args c cJ2_add_2 4 RJ2 := C
  have hl : lv_has ls 4 [(0, .ref a), (1, .ref v), (2, .ref (E.2 20)), (3, .int (iI 0))] := hl
  refine lv_iload_n hx hb dJ2_add_2_0 rfl (lv_at hl 3 rfl) ?_
  refine lv_aload_n hx hb dJ2_add_2_1 rfl (lv_at hl 2 rfl) ?_
  refine x_dlen C hZ hB dJ2_add_2_2 ?_
  refine x_icmp_ne (tgt := 11) hx hb dJ2_add_2_3 (by decide) ⟨by decide, by decide⟩ ⟨by decide, by decide⟩ (fun c1 => by exfalso; omega) (fun c1 => ?_)
  refine lv_aload_n hx hb dJ2_add_2_6 rfl (lv_at hl 0 rfl) ?_
  refine g_callq 1 10 (Nat.le_of_ble_eq_true rfl) (Nat.le_of_ble_eq_true rfl) hB (rV (As := []) (n := 0) C hZ hB (kJ2_grow l E w a mm ha _) (lw_V q685 q687 qs22 q71 q688) (by decide +kernel) ⟨Nat.le_of_ble_eq_true rfl, Nat.le_of_ble_eq_true rfl⟩ ha rfl rfl rfl hl.1 rfl (Nat.le_of_ble_eq_true rfl) dJ2_add_2_7 ⟨Nat.le_of_ble_eq_true rfl, Nat.le_of_ble_eq_true rfl⟩) (fun z2 w3 H locs hp5 hB => ?_)
  obtain ⟨q6, rfl, hq7, rfl⟩ := hp5
  have hne8 : a ≠ q6 := fun e => by cases (hq7.symm.trans ((congrArg _ e.symm).trans ha))
  replace hB : xB E (xA w sz) s (va_up (va_up w q6 (some (xR E 3 10 ((fun _ => none))))) a (some (xO 18 [.int (iI mm), .ref q6, .int (iI 0)]))) _ _ := hB
  refine lv_astore_n (lv' := [(2, .ref q6), (0, .ref a), (1, .ref v), (3, .int (iI 0))]) hx hb dJ2_add_2_10 rfl hl (by decide) rfl (fun ls hl => ?_)
  refine lv_aload_n hx hb dJ2_add_2_11 rfl (lv_at hl 0 rfl) ?_
  refine lv_iload_n hx hb dJ2_add_2_12 rfl (lv_at hl 3 rfl) ?_
  refine lv_aload_n hx hb dJ2_add_2_13 rfl (lv_at hl 2 rfl) ?_
  refine x_aastM C hB ((va_up_n _ _ (Ne.symm hne8)).trans (va_up_s _ _ _)) ((hv.new hq7).upO ((va_up_n _ _ hne8).trans ha)) 0 rfl (by omega) (by omega) dJ2_add_2_14 (fun H locs hB => ?_)
  rw [up_aba] at hB
  replace hB : xB E (xA w sz) s (va_up (va_up w a (some (xO 18 [.int (iI mm), .ref q6, .int (iI 0)]))) q6 (some (xR E 3 10 ((va_up ((fun _ => none)) 0 (some v)))))) _ _ := hB
  refine lv_aload_n hx hb dJ2_add_2_15 rfl (lv_at hl 1 rfl) ?_
  refine lv_iload_n hx hb dJ2_add_2_16 rfl (lv_at hl 3 rfl) ?_
  refine lv_iconst (v := iI 1) hx hb dJ2_add_2_17 rfl ?_
  refine x_iadd (z := 1) hx hb dJ2_add_2_18 (by omega) ?_
  refine x_put2 C hB ((va_up_n _ _ hne8).trans (va_up_s _ _ _)) rfl in_J2 tyJ2_ok apJ2 2 (by decide) q134 (fun x h => h) rfl rfl rfl (Nat.le_of_ble_eq_true rfl) dJ2_add_2_19 (fun H locs hB => ?_)
  rw [up_aba] at hB
  replace hB : xB E (xA w sz) s (va_up (va_up w q6 (some (xR E 3 10 ((va_up ((fun _ => none)) 0 (some v)))))) a (some (xO 18 [.int (iI mm), .ref q6, .int (iI 1)]))) _ _ := hB
  exact g_vret C hB hr hlocks dJ2_add_2_22 (Nat.le_of_ble_eq_true rfl) (Nat.le_of_ble_eq_true rfl) ⟨_, hq7, rfl⟩
set_option maxHeartbeats 800000 in
set_option maxRecDepth 100000 in
theorem kJ2_add0 (l : Launch) (E : xE) (w : xw) (a : Nat) (mm : Int) (v : Nat) (ha : w a = some (xO 18 [.int (iI mm), .ref (E.2 20), .int (iI 0)])) (hv : xAny w v) : gi_ l E yJ2_add cJ2_add 2 (some .boolean) 4 90 1 10 [.ref a, .ref v] w (fun z w' => ∃ q, w q = none ∧ w' = va_up (va_up w q (some (xR E 3 10 (va_up (fun _ => none) 0 (some v))))) a (some (xO 18 [.int (iI (mm + 1)), .ref q, .int (iI 1)]))) := by
  intro sz
  refine x_bodyz (by decide) (Nat.le_of_ble_eq_true rfl) ?_
  intro p e s m args below meth c ls hx hb C hr hlocks hin hsz hZ hB hl
  have C : xC E p s m args c cJ2_add 2 RJ2 := C
  have hl : lv_has ls 2 [(0, .ref a), (1, .ref v)] := hl
  refine lv_aload_n hx hb dJ2_add_0 rfl (lv_at hl 0 rfl) ?_
  refine lv_dup hx hb dJ2_add_1 rfl ?_
  refine x_get C hB ha rfl in_J2 0 (by decide) q136 (fun x h => u_same (C.1.2.2.2.2 _ q137) x h) (v := .int (iI mm)) rfl dJ2_add_2 ?_
  refine lv_iconst (v := iI 1) hx hb dJ2_add_5 rfl ?_
  refine x_iadd (z := mm + 1) hx hb dJ2_add_6 (by omega) ?_
  refine x_put2 C hB ha rfl in_J2 tyJ2_ok apJ2 0 (by decide) q136 (fun x h => u_same (C.1.2.2.2.2 _ q137) x h) rfl rfl rfl (Nat.le_of_ble_eq_true rfl) dJ2_add_7 (fun H locs hB => ?_)
  replace hB : xB E (xA w sz) s (va_up w a (some (xO 18 [.int (iI (mm + 1)), .ref (E.2 20), .int (iI 0)]))) _ _ := hB
  refine lv_aload_n hx hb dJ2_add_10 rfl (lv_at hl 0 rfl) ?_
  refine lv_aload_n hx hb dJ2_add_11 rfl (lv_at hl 1 rfl) ?_
  refine lv_aload_n hx hb dJ2_add_12 rfl (lv_at hl 0 rfl) ?_
  refine x_get C hB (va_up_s _ _ _) rfl in_J2 1 (by decide) q133 (fun x h => h) (v := .ref (E.2 20)) rfl dJ2_add_13 ?_
  refine lv_aload_n hx hb dJ2_add_16 rfl (lv_at hl 0 rfl) ?_
  refine x_get C hB (va_up_s _ _ _) rfl in_J2 2 (by decide) q134 (fun x h => h) (v := .int (iI 0)) rfl dJ2_add_17 ?_
  refine g_callv 1 10 (Nat.le_of_ble_eq_true rfl) (Nat.le_of_ble_eq_true rfl) hB (rV (As := [.ref v, .ref (E.2 20), .int (iI 0)]) (n := 3) C hZ hB (kJ2_add_20 l E (va_up w a (some (xO 18 [.int (iI (mm + 1)), .ref (E.2 20), .int (iI 0)]))) a (mm + 1) v (va_up_s _ _ _) (hv.upO ha) _) (lw_V q681 q683 qs21 q71 q684) (by decide +kernel) ⟨Nat.le_of_ble_eq_true rfl, Nat.le_of_ble_eq_true rfl⟩ (va_up_s _ _ _) rfl rfl rfl hl.1 rfl (Nat.le_of_ble_eq_true rfl) dJ2_add_20 ⟨Nat.le_of_ble_eq_true rfl, Nat.le_of_ble_eq_true rfl⟩) (fun w2 H locs hp4 hB => ?_)
  obtain ⟨q5, hq6, rfl⟩ := hp4
  obtain ⟨hq6, hqa7⟩ := va_up_none hq6
  rw [up_aba] at hB
  replace hB : xB E (xA w sz) s (va_up (va_up w q5 (some (xR E 3 10 ((va_up (fun _ => none) 0 (some v)))))) a (some (xO 18 [.int (iI (mm + 1)), .ref q5, .int (iI 1)]))) _ _ := hB
  refine lv_iconst (v := iI 1) hx hb dJ2_add_23 rfl ?_
  exact g_iret C hB hr hlocks rfl dJ2_add_24 (Nat.le_of_ble_eq_true rfl) (Nat.le_of_ble_eq_true rfl) ⟨by decide, by decide⟩ ⟨_, hq6, rfl⟩
set_option maxHeartbeats 800000 in
set_option maxRecDepth 100000 in
theorem kJ7_copyOf_2 (l : Launch) (E : xE) (w : xw) (ed : Nat) (n : Nat) (cap : Nat) (f : Nat → Option Nat) (he : w ed = some (xR E 3 cap f)) (hn : n ≤ cap ∧ n ≤ 7 ∧ cap ≤ 100) (hel : ∀ i, i < n → ∀ y : Nat, f i = some y → xAny w y) : gq_ l E yJ7_copyOf_2 cJ7_copyOf_2 4 (some (.array (.object "java/lang/Object"))) 1 40 1 7 [.ref ed, .int (iI ((n : Int))), .ref (E.2 21)] w (fun z w' => ∃ q, z = some q ∧ w q = none ∧ w' = va_up w q (some (xR E 3 n (va_cpy f (fun _ => none) 0 0 n)))) := by
  intro sz
  refine x_bodyz (by decide) (Nat.le_of_ble_eq_true rfl) ?_
  intro p e s m args below meth c ls hx hb C hr hlocks hin hsz hZ hB hl
  have C : xC E p s m args c cJ7_copyOf_2 4 RJ7 := C
  have hl : lv_has ls 4 [(0, .ref ed), (1, .int (iI ((n : Int)))), (2, .ref (E.2 21))] := hl
  refine lv_aload_n hx hb dJ7_copyOf_2_0 rfl (lv_at hl 2 rfl) ?_
  refine x_ldcM C hZ q738 dJ7_copyOf_2_1 ?_
  refine lv_acmp_ne (rx := some (E.2 21)) (ry := some (E.2 21)) (tgt := 13) hx hb dJ7_copyOf_2_3 (by decide) (fun c1 => absurd rfl c1) (fun c1 => ?_)
  refine lv_iload_n hx hb dJ7_copyOf_2_6 rfl (lv_at hl 1 rfl) ?_
  refine x_anew C hZ hB 3 rfl q740 (by decide) n rfl (by omega) (show 0 + 1 ≤ 1 by omega) (show 0 + n ≤ 7 by omega) dJ7_copyOf_2_7 (fun q2 H hq3 hs4 hB => ?_)
  have hne5 : ed ≠ q2 := fun e => by cases (hq3.symm.trans ((congrArg _ e.symm).trans he))
  refine x_up (c2 := 1) (s2 := 7) (by omega) (by omega) ?_
  replace hB : xB E (xA w sz) s (va_up w q2 (some (xR E 3 n ((fun _ => none))))) _ _ := hB
  refine lv_goto (tgt := 24) hx hb dJ7_copyOf_2_10 (by decide) ?_
  refine lv_astore_n (lv' := [(3, .ref q2), (0, .ref ed), (1, .int (iI ((n : Int)))), (2, .ref (E.2 21))]) hx hb dJ7_copyOf_2_24 rfl hl (by decide) rfl (fun ls hl => ?_)
  refine lv_aload_n hx hb dJ7_copyOf_2_25 rfl (lv_at hl 1 rfl) ?_
  refine lv_iconst (v := iI 0) hx hb dJ7_copyOf_2_26 rfl ?_
  refine lv_aload_n hx hb dJ7_copyOf_2_27 rfl (lv_at hl 0 rfl) ?_
  refine lv_iconst (v := iI 0) hx hb dJ7_copyOf_2_28 rfl ?_
  refine lv_aload_n hx hb dJ7_copyOf_2_29 rfl (lv_at hl 1 rfl) ?_
  refine x_alen C hB 3 rfl ((va_up_n _ _ hne5).trans he) dJ7_copyOf_2_30 ?_
  refine x_nm (b := (cap : Int)) rfl ?_
  refine lv_iload_n hx hb dJ7_copyOf_2_31 rfl (lv_at hl 2 rfl) ?_
  refine x_mmin C q741 q448 q75 q449 hl.1 (Nat.le_of_ble_eq_true rfl) (Nat.le_of_ble_eq_true rfl) (Nat.le_of_ble_eq_true rfl) (Nat.le_of_ble_eq_true rfl) ⟨by omega, by omega⟩ ⟨by omega, by omega⟩ dJ7_copyOf_2_32 ?_
  refine x_nm (b := (n : Int)) (by unfold imin; split <;> omega) ?_
  refine x_copyM C hB q742 q744 q743 q85 ((va_up_n _ _ hne5).trans he) (va_up_s _ _ _) 0 0 n rfl rfl rfl (by omega) (by omega) (by omega) (by omega) (fun i hi y hy => (hel i hi y (by rw [Nat.zero_add] at hy; exact hy)).new hq3) hl.1 (Nat.le_of_ble_eq_true rfl) (Nat.le_of_ble_eq_true rfl) dJ7_copyOf_2_35 (fun H locs hB => ?_)
  rw [bx_uu] at hB
  replace hB : xB E (xA w sz) s (va_up w q2 (some (xR E 3 n ((va_cpy f ((fun _ => none)) 0 0 n))))) _ _ := hB
  refine lv_aload_n hx hb dJ7_copyOf_2_38 rfl (lv_at hl 0 rfl) ?_
  exact g_qret C hB hr (Or.inr ⟨_, rfl⟩) hlocks ((some q2)) dJ7_copyOf_2_39 (Nat.le_of_ble_eq_true rfl) (Nat.le_of_ble_eq_true rfl) ⟨_, rfl, hq3, rfl⟩
set_option maxHeartbeats 800000 in
set_option maxRecDepth 100000 in
theorem kJ7_copyOf (l : Launch) (E : xE) (w : xw) (ed : Nat) (n : Nat) (cap : Nat) (f : Nat → Option Nat) (he : w ed = some (xR E 3 cap f)) (hn : n ≤ cap ∧ n ≤ 7 ∧ cap ≤ 100) (hel : ∀ i, i < n → ∀ y : Nat, f i = some y → xAny w y) : gq_ l E yJ7_copyOf cJ7_copyOf 2 (some (.array (.object "java/lang/Object"))) 2 63 1 7 [.ref ed, .int (iI ((n : Int)))] w (fun z w' => ∃ q, z = some q ∧ w q = none ∧ w' = va_up w q (some (xR E 3 n (va_cpy f (fun _ => none) 0 0 n)))) := by
  intro sz
  refine x_bodyz (by decide) (Nat.le_of_ble_eq_true rfl) ?_
  intro p e s m args below meth c ls hx hb C hr hlocks hin hsz hZ hB hl
  have C : xC E p s m args c cJ7_copyOf 2 RJ7 := C
  have hl : lv_has ls 2 [(0, .ref ed), (1, .int (iI ((n : Int))))] := hl
  refine lv_aload_n hx hb dJ7_copyOf_0 rfl (lv_at hl 0 rfl) ?_
  refine lv_iload_n hx hb dJ7_copyOf_1 rfl (lv_at hl 1 rfl) ?_
  refine lv_aload_n hx hb dJ7_copyOf_2 rfl (lv_at hl 0 rfl) ?_
  refine x_getC C hZ hB he q706 q1780 q707 q734 hl.1 (Nat.le_of_ble_eq_true rfl) (Nat.le_of_ble_eq_true rfl) dJ7_copyOf_3 ?_
  refine g_callq 1 7 (Nat.le_of_ble_eq_true rfl) (Nat.le_of_ble_eq_true rfl) hB (rS (As := [.ref ed, .int (iI ((n : Int))), .ref (E.2 21)]) (n := 3) C hZ hB (kJ7_copyOf_2 l E w ed n cap f he hn hel _) (lw_S q735 q736 q84 q737) (by decide +kernel) ⟨Nat.le_of_ble_eq_true rfl, Nat.le_of_ble_eq_true rfl⟩ rfl hl.1 rfl (Nat.le_of_ble_eq_true rfl) dJ7_copyOf_6 ⟨Nat.le_of_ble_eq_true rfl, Nat.le_of_ble_eq_true rfl⟩) (fun z1 w2 H locs hp4 hB => ?_)
  obtain ⟨q5, rfl, hq6, rfl⟩ := hp4
  have hne7 : ed ≠ q5 := fun e => by cases (hq6.symm.trans ((congrArg _ e.symm).trans he))
  replace hB : xB E (xA w sz) s (va_up w q5 (some (xR E 3 n ((va_cpy f (fun _ => none) 0 0 n))))) _ _ := hB
  exact g_qret C hB hr (Or.inr ⟨_, rfl⟩) hlocks ((some q5)) dJ7_copyOf_9 (Nat.le_of_ble_eq_true rfl) (Nat.le_of_ble_eq_true rfl) ⟨_, rfl, hq6, rfl⟩
set_option maxHeartbeats 800000 in
set_option maxRecDepth 100000 in
theorem kJ2_toArray (l : Launch) (E : xE) (w : xw) (a : Nat) (mm : Int) (ed : Nat) (n : Nat) (cap : Nat) (f : Nat → Option Nat) (ha : w a = some (xO 18 [.int (iI mm), .ref ed, .int (iI (n : Int))])) (he : w ed = some (xR E 3 cap f)) (hn : n ≤ cap ∧ n ≤ 7 ∧ cap ≤ 100) (hel : ∀ i, i < n → ∀ y : Nat, f i = some y → xAny w y) : gq_ l E yJ2_toArray cJ2_toArray 1 (some (.array (.object "java/lang/Object"))) 3 84 1 7 [.ref a] w (fun z w' => ∃ q, z = some q ∧ w q = none ∧ w' = va_up w q (some (xR E 3 n (va_cpy f (fun _ => none) 0 0 n)))) := by
  intro sz
  refine x_bodyz (by decide) (Nat.le_of_ble_eq_true rfl) ?_
  intro p e s m args below meth c ls hx hb C hr hlocks hin hsz hZ hB hl
  have C : xC E p s m args c cJ2_toArray 1 RJ2 := C
  have hl : lv_has ls 1 [(0, .ref a)] := hl
  refine lv_aload_n hx hb dJ2_toArray_0 rfl (lv_at hl 0 rfl) ?_
  refine x_get C hB ha rfl in_J2 1 (by decide) q133 (fun x h => h) (v := .ref ed) rfl dJ2_toArray_1 ?_
  refine lv_aload_n hx hb dJ2_toArray_4 rfl (lv_at hl 0 rfl) ?_
  refine x_get C hB ha rfl in_J2 2 (by decide) q134 (fun x h => h) (v := .int (iI ((n : Int)))) rfl dJ2_toArray_5 ?_
  refine g_callq 1 7 (Nat.le_of_ble_eq_true rfl) (Nat.le_of_ble_eq_true rfl) hB (rS (As := [.ref ed, .int (iI ((n : Int)))]) (n := 2) C hZ hB (kJ7_copyOf l E w ed n cap f he hn hel _) (lw_S q703 q704 q84 q705) (by decide +kernel) ⟨Nat.le_of_ble_eq_true rfl, Nat.le_of_ble_eq_true rfl⟩ rfl hl.1 rfl (Nat.le_of_ble_eq_true rfl) dJ2_toArray_8 ⟨Nat.le_of_ble_eq_true rfl, Nat.le_of_ble_eq_true rfl⟩) (fun z1 w2 H locs hp4 hB => ?_)
  obtain ⟨q5, rfl, hq6, rfl⟩ := hp4
  have hne7 : a ≠ q5 := fun e => by cases (hq6.symm.trans ((congrArg _ e.symm).trans ha))
  have hne8 : ed ≠ q5 := fun e => by cases (hq6.symm.trans ((congrArg _ e.symm).trans he))
  replace hB : xB E (xA w sz) s (va_up w q5 (some (xR E 3 n ((va_cpy f (fun _ => none) 0 0 n))))) _ _ := hB
  exact g_qret C hB hr (Or.inr ⟨_, rfl⟩) hlocks ((some q5)) dJ2_toArray_11 (Nat.le_of_ble_eq_true rfl) (Nat.le_of_ble_eq_true rfl) ⟨_, rfl, hq6, rfl⟩
set_option maxHeartbeats 800000 in
set_option maxRecDepth 100000 in
theorem kJ2_addAll (l : Launch) (E : xE) (w : xw) (a : Nat) (mm : Int) (b : Nat) (mb : Int) (eb : Nat) (n : Nat) (capb : Nat) (g : Nat → Option Nat) (ed : Nat) (cap : Nat) (f : Nat → Option Nat) (ha : w a = some (xO 18 [.int (iI mm), .ref ed, .int (iI 0)])) (he : w ed = some (xR E 3 cap f)) (hlb : w b = some (xO 18 [.int (iI mb), .ref eb, .int (iI (n : Int))])) (heb : w eb = some (xR E 3 capb g)) (hn : n ≤ capb ∧ n ≤ 7 ∧ capb ≤ 100) (hn1 : 1 ≤ n) (hel : ∀ i, i < n → ∀ y : Nat, g i = some y → xAny w y) (hc : n ≤ cap ∧ cap ≤ 100) : gi_ l E yJ2_addAll cJ2_addAll 6 (some .boolean) 4 104 1 7 [.ref a, .ref b] w (fun z w' => ∃ q, w q = none ∧ w' = va_up (va_up (va_up w q (some (xR E 3 n (va_cpy g (fun _ => none) 0 0 n)))) ed (some (xR E 3 cap (va_cpy (va_cpy g (fun _ => none) 0 0 n) f 0 0 n)))) a (some (xO 18 [.int (iI (mm + 1)), .ref ed, .int (iI (n : Int))]))) := by
  intro sz
  refine x_bodyz (by decide) (Nat.le_of_ble_eq_true rfl) ?_
  intro p e s m args below meth c ls hx hb C hr hlocks hin hsz hZ hB hl
  have C : xC E p s m args c cJ2_addAll 6 RJ2 := C
  have hl : lv_has ls 6 [(0, .ref a), (1, .ref b)] := hl
  have hne : a ≠ ed := xO_ne ha he
  refine lv_aload_n hx hb dJ2_addAll_0 rfl (lv_at hl 1 rfl) ?_
  refine g_callFq 1 7 (Nat.le_of_ble_eq_true rfl) (Nat.le_of_ble_eq_true rfl) hB (rF (As := []) (n := 0) C hZ hB ⟨"java/util/Collection", "toArray", "()[Ljava/lang/Object;"⟩ (kJ2_toArray l E w b mb eb n capb g hlb heb hn hel _) (by decide) q1099 q1103 q1105 q71 q1107 (by decide +kernel) ⟨Nat.le_of_ble_eq_true rfl, Nat.le_of_ble_eq_true rfl⟩ hlb rfl rfl rfl hl.1 rfl (Nat.le_of_ble_eq_true rfl) dJ2_addAll_1 ⟨Nat.le_of_ble_eq_true rfl, Nat.le_of_ble_eq_true rfl⟩) (fun z1 w2 H locs hp4 hB => ?_)
  obtain ⟨q5, rfl, hq6, rfl⟩ := hp4
  have hne7 : b ≠ q5 := fun e => by cases (hq6.symm.trans ((congrArg _ e.symm).trans hlb))
  have hne8 : eb ≠ q5 := fun e => by cases (hq6.symm.trans ((congrArg _ e.symm).trans heb))
  have hne9 : a ≠ q5 := fun e => by cases (hq6.symm.trans ((congrArg _ e.symm).trans ha))
  have hne10 : ed ≠ q5 := fun e => by cases (hq6.symm.trans ((congrArg _ e.symm).trans he))
  replace hB : xB E (xA w sz) s (va_up w q5 (some (xR E 3 n ((va_cpy g (fun _ => none) 0 0 n))))) _ _ := hB
  refine lv_astore_n (lv' := [(2, .ref q5), (0, .ref a), (1, .ref b)]) hx hb dJ2_addAll_6 rfl hl (by decide) rfl (fun ls hl => ?_)
  refine lv_aload_n hx hb dJ2_addAll_7 rfl (lv_at hl 1 rfl) ?_
  refine lv_dup hx hb dJ2_addAll_8 rfl ?_
  refine x_get C hB ((va_up_n _ _ hne9).trans ha) rfl in_J2 0 (by decide) q136 (fun x h => u_same (C.1.2.2.2.2 _ q137) x h) (v := .int (iI mm)) rfl dJ2_addAll_9 ?_
  refine lv_iconst (v := iI 1) hx hb dJ2_addAll_12 rfl ?_
  refine x_iadd (z := mm + 1) hx hb dJ2_addAll_13 (by omega) ?_
  refine x_put2 C hB ((va_up_n _ _ hne9).trans ha) rfl in_J2 tyJ2_ok apJ2 0 (by decide) q136 (fun x h => u_same (C.1.2.2.2.2 _ q137) x h) rfl rfl rfl (Nat.le_of_ble_eq_true rfl) dJ2_addAll_14 (fun H locs hB => ?_)
  replace hB : xB E (xA w sz) s (va_up (va_up w q5 (some (xR E 3 n ((va_cpy g (fun _ => none) 0 0 n))))) a (some (xO 18 [.int (iI (mm + 1)), .ref ed, .int (iI 0)]))) _ _ := hB
  refine lv_aload_n hx hb dJ2_addAll_17 rfl (lv_at hl 0 rfl) ?_
  refine x_alen C hB 3 rfl ((va_up_n _ _ (Ne.symm hne9)).trans (va_up_s _ _ _)) dJ2_addAll_18 ?_
  refine x_nm (b := (n : Int)) rfl ?_
  refine lv_istore_n (lv' := [(3, .int (iI ((n : Int)))), (2, .ref q5), (0, .ref a), (1, .ref b)]) hx hb dJ2_addAll_19 rfl hl (by decide) rfl (fun ls hl => ?_)
  refine lv_iload_n hx hb dJ2_addAll_20 rfl (lv_at hl 0 rfl) ?_
  refine x_if_ne (tgt := 26) hx hb dJ2_addAll_21 (by decide) ⟨by omega, by omega⟩ (fun c11 => ?_) (fun c11 => by exfalso; omega)
  refine lv_iload_n hx hb dJ2_addAll_26 rfl (lv_at hl 0 rfl) ?_
  refine lv_aload_n hx hb dJ2_addAll_27 rfl (lv_at hl 2 rfl) ?_
  refine x_get C hB (va_up_s _ _ _) rfl in_J2 1 (by decide) q133 (fun x h => h) (v := .ref ed) rfl dJ2_addAll_28 ?_
  refine lv_dup hx hb dJ2_addAll_31 rfl ?_
  refine lv_astore (lv' := [(4, .ref ed), (3, .int (iI ((n : Int)))), (2, .ref q5), (0, .ref a), (1, .ref b)]) hx hb dJ2_addAll_32 hl (by decide) rfl (fun ls hl => ?_)
  refine x_alen C hB 3 rfl ((va_up_n _ _ (Ne.symm hne)).trans ((va_up_n _ _ hne10).trans he)) dJ2_addAll_34 ?_
  refine x_nm (b := (cap : Int)) rfl ?_
  refine lv_aload_n hx hb dJ2_addAll_35 rfl (lv_at hl 3 rfl) ?_
  refine x_get C hB (va_up_s _ _ _) rfl in_J2 2 (by decide) q134 (fun x h => h) (v := .int (iI 0)) rfl dJ2_addAll_36 ?_
  refine lv_dup hx hb dJ2_addAll_39 rfl ?_
  refine lv_istore (lv' := [(5, .int (iI 0)), (4, .ref ed), (3, .int (iI ((n : Int)))), (2, .ref q5), (0, .ref a), (1, .ref b)]) hx hb dJ2_addAll_40 hl (by decide) rfl (fun ls hl => ?_)
  refine x_isub (z := (cap : Int)) hx hb dJ2_addAll_42 (by omega) ?_
  refine x_icmp_le (tgt := 56) hx hb dJ2_addAll_43 (by decide) ⟨by omega, by omega⟩ ⟨by omega, by omega⟩ (fun c12 => ?_) (fun c12 => by exfalso; omega)
  refine lv_aload_n hx hb dJ2_addAll_56 rfl (lv_at hl 3 rfl) ?_
  refine lv_iconst (v := iI 0) hx hb dJ2_addAll_57 rfl ?_
  refine lv_aload hx hb dJ2_addAll_58 (lv_at hl 1 rfl) ?_
  refine lv_iload hx hb dJ2_addAll_60 (lv_at hl 0 rfl) ?_
  refine lv_iload_n hx hb dJ2_addAll_62 rfl (lv_at hl 2 rfl) ?_
  refine x_copyM C hB q764 q744 q743 q85 ((va_up_n _ _ (Ne.symm hne9)).trans (va_up_s _ _ _)) ((va_up_n _ _ (Ne.symm hne)).trans ((va_up_n _ _ hne10).trans he)) 0 0 n rfl rfl rfl (by omega) (by omega) (by omega) (by omega) (fun i hi y hy => ((hel i hi y (by rw [Nat.zero_add] at hy; exact (cpy0_get hi).symm.trans hy)).new hq6).upO ((va_up_n _ _ hne9).trans ha)) hl.1 (Nat.le_of_ble_eq_true rfl) (Nat.le_of_ble_eq_true rfl) dJ2_addAll_63 (fun H locs hB => ?_)
  replace hB : xB E (xA w sz) s (va_up (va_up (va_up w q5 (some (xR E 3 n ((va_cpy g (fun _ => none) 0 0 n))))) a (some (xO 18 [.int (iI (mm + 1)), .ref ed, .int (iI 0)]))) ed (some (xR E 3 cap ((va_cpy ((va_cpy g (fun _ => none) 0 0 n)) f 0 0 n))))) _ _ := hB
  refine lv_aload_n hx hb dJ2_addAll_66 rfl (lv_at hl 4 rfl) ?_
  refine lv_iload hx hb dJ2_addAll_67 (lv_at hl 0 rfl) ?_
  refine lv_iload_n hx hb dJ2_addAll_69 rfl (lv_at hl 2 rfl) ?_
  refine x_iadd (z := (n : Int)) hx hb dJ2_addAll_70 (by omega) ?_
  refine x_put2 C hB ((va_up_n _ _ hne).trans (va_up_s _ _ _)) rfl in_J2 tyJ2_ok apJ2 2 (by decide) q134 (fun x h => h) rfl rfl rfl (Nat.le_of_ble_eq_true rfl) dJ2_addAll_71 (fun H locs hB => ?_)
  rw [up_aba] at hB
  replace hB : xB E (xA w sz) s (va_up (va_up (va_up w q5 (some (xR E 3 n ((va_cpy g (fun _ => none) 0 0 n))))) ed (some (xR E 3 cap ((va_cpy ((va_cpy g (fun _ => none) 0 0 n)) f 0 0 n))))) a (some (xO 18 [.int (iI (mm + 1)), .ref ed, .int (iI ((n : Int)))]))) _ _ := hB
  refine lv_iconst (v := iI 1) hx hb dJ2_addAll_74 rfl ?_
  exact g_iret C hB hr hlocks rfl dJ2_addAll_75 (Nat.le_of_ble_eq_true rfl) (Nat.le_of_ble_eq_true rfl) ⟨by decide, by decide⟩ ⟨_, hq6, rfl⟩
set_option maxHeartbeats 800000 in
set_option maxRecDepth 100000 in
theorem kJ2_addAll0 (l : Launch) (E : xE) (w : xw) (a : Nat) (mm : Int) (b : Nat) (mb : Int) (eb : Nat) (n : Nat) (capb : Nat) (g : Nat → Option Nat) (ha : w a = some (xO 18 [.int (iI mm), .ref (E.2 20), .int (iI 0)])) (hlb : w b = some (xO 18 [.int (iI mb), .ref eb, .int (iI (n : Int))])) (heb : w eb = some (xR E 3 capb g)) (hn : n ≤ capb ∧ n ≤ 7 ∧ capb ≤ 100) (hn1 : 1 ≤ n) (hel : ∀ i, i < n → ∀ y : Nat, g i = some y → xAny w y) : gi_ l E yJ2_addAll cJ2_addAll 6 (some .boolean) 4 104 2 17 [.ref a, .ref b] w (fun z w' => ∃ q q2, w q = none ∧ w q2 = none ∧ q2 ≠ q ∧ w' = va_up (va_up (va_up w q (some (xR E 3 n (va_cpy g (fun _ => none) 0 0 n)))) q2 (some (xR E 3 10 (va_cpy (va_cpy g (fun _ => none) 0 0 n) (fun _ => none) 0 0 n)))) a (some (xO 18 [.int (iI (mm + 1)), .ref q2, .int (iI (n : Int))]))) := by
  intro sz
  refine x_bodyz (by decide) (Nat.le_of_ble_eq_true rfl) ?_
  intro p e s m args below meth c ls hx hb C hr hlocks hin hsz hZ hB hl
  have C : xC E p s m args c cJ2_addAll 6 RJ2 := C
  have hl : lv_has ls 6 [(0, .ref a), (1, .ref b)] := hl
  refine lv_aload_n hx hb dJ2_addAll_0 rfl (lv_at hl 1 rfl) ?_
  refine g_callFq 1 7 (Nat.le_of_ble_eq_true rfl) (Nat.le_of_ble_eq_true rfl) hB (rF (As := []) (n := 0) C hZ hB ⟨"java/util/Collection", "toArray", "()[Ljava/lang/Object;"⟩ (kJ2_toArray l E w b mb eb n capb g hlb heb hn hel _) (by decide) q1099 q1103 q1105 q71 q1107 (by decide +kernel) ⟨Nat.le_of_ble_eq_true rfl, Nat.le_of_ble_eq_true rfl⟩ hlb rfl rfl rfl hl.1 rfl (Nat.le_of_ble_eq_true rfl) dJ2_addAll_1 ⟨Nat.le_of_ble_eq_true rfl, Nat.le_of_ble_eq_true rfl⟩) (fun z1 w2 H locs hp4 hB => ?_)
  obtain ⟨q5, rfl, hq6, rfl⟩ := hp4
  have hne7 : b ≠ q5 := fun e => by cases (hq6.symm.trans ((congrArg _ e.symm).trans hlb))
  have hne8 : eb ≠ q5 := fun e => by cases (hq6.symm.trans ((congrArg _ e.symm).trans heb))
  have hne9 : a ≠ q5 := fun e => by cases (hq6.symm.trans ((congrArg _ e.symm).trans ha))
  replace hB : xB E (xA w sz) s (va_up w q5 (some (xR E 3 n ((va_cpy g (fun _ => none) 0 0 n))))) _ _ := hB
  refine lv_astore_n (lv' := [(2, .ref q5), (0, .ref a), (1, .ref b)]) hx hb dJ2_addAll_6 rfl hl (by decide) rfl (fun ls hl => ?_)
  refine lv_aload_n hx hb dJ2_addAll_7 rfl (lv_at hl 1 rfl) ?_
  refine lv_dup hx hb dJ2_addAll_8 rfl ?_
  refine x_get C hB ((va_up_n _ _ hne9).trans ha) rfl in_J2 0 (by decide) q136 (fun x h => u_same (C.1.2.2.2.2 _ q137) x h) (v := .int (iI mm)) rfl dJ2_addAll_9 ?_
  refine lv_iconst (v := iI 1) hx hb dJ2_addAll_12 rfl ?_
  refine x_iadd (z := mm + 1) hx hb dJ2_addAll_13 (by omega) ?_
  refine x_put2 C hB ((va_up_n _ _ hne9).trans ha) rfl in_J2 tyJ2_ok apJ2 0 (by decide) q136 (fun x h => u_same (C.1.2.2.2.2 _ q137) x h) rfl rfl rfl (Nat.le_of_ble_eq_true rfl) dJ2_addAll_14 (fun H locs hB => ?_)
  replace hB : xB E (xA w sz) s (va_up (va_up w q5 (some (xR E 3 n ((va_cpy g (fun _ => none) 0 0 n))))) a (some (xO 18 [.int (iI (mm + 1)), .ref (E.2 20), .int (iI 0)]))) _ _ := hB
  refine lv_aload_n hx hb dJ2_addAll_17 rfl (lv_at hl 0 rfl) ?_
  refine x_alen C hB 3 rfl ((va_up_n _ _ (Ne.symm hne9)).trans (va_up_s _ _ _)) dJ2_addAll_18 ?_
  refine x_nm (b := (n : Int)) rfl ?_
  refine lv_istore_n (lv' := [(3, .int (iI ((n : Int)))), (2, .ref q5), (0, .ref a), (1, .ref b)]) hx hb dJ2_addAll_19 rfl hl (by decide) rfl (fun ls hl => ?_)
  refine lv_iload_n hx hb dJ2_addAll_20 rfl (lv_at hl 0 rfl) ?_
  refine x_if_ne (tgt := 26) hx hb dJ2_addAll_21 (by decide) ⟨by omega, by omega⟩ (fun c10 => ?_) (fun c10 => by exfalso; omega)
  refine lv_iload_n hx hb dJ2_addAll_26 rfl (lv_at hl 0 rfl) ?_
  refine lv_aload_n hx hb dJ2_addAll_27 rfl (lv_at hl 2 rfl) ?_
  refine x_get C hB (va_up_s _ _ _) rfl in_J2 1 (by decide) q133 (fun x h => h) (v := .ref (E.2 20)) rfl dJ2_addAll_28 ?_
  refine lv_dup hx hb dJ2_addAll_31 rfl ?_
  refine lv_astore (lv' := [(4, .ref (E.2 20)), (3, .int (iI ((n : Int)))), (2, .ref q5), (0, .ref a), (1, .ref b)]) hx hb dJ2_addAll_32 hl (by decide) rfl (fun ls hl => ?_)
  refine x_dlen C hZ hB dJ2_addAll_34 ?_
  refine lv_aload_n hx hb dJ2_addAll_35 rfl (lv_at hl 3 rfl) ?_
  refine x_get C hB (va_up_s _ _ _) rfl in_J2 2 (by decide) q134 (fun x h => h) (v := .int (iI 0)) rfl dJ2_addAll_36 ?_
  refine lv_dup hx hb dJ2_addAll_39 rfl ?_
  refine lv_istore (lv' := [(5, .int (iI 0)), (4, .ref (E.2 20)), (3, .int (iI ((n : Int)))), (2, .ref q5), (0, .ref a), (1, .ref b)]) hx hb dJ2_addAll_40 hl (by decide) rfl (fun ls hl => ?_)
  refine x_isub (z := 0) hx hb dJ2_addAll_42 (by omega) ?_
  refine x_icmp_le (tgt := 56) hx hb dJ2_addAll_43 (by decide) ⟨by omega, by omega⟩ ⟨by decide, by decide⟩ (fun c11 => by exfalso; omega) (fun c11 => ?_)
  refine lv_aload_n hx hb dJ2_addAll_46 rfl (lv_at hl 4 rfl) ?_
  refine lv_iload hx hb dJ2_addAll_47 (lv_at hl 0 rfl) ?_
  refine lv_iload_n hx hb dJ2_addAll_49 rfl (lv_at hl 2 rfl) ?_
  refine x_iadd (z := (n : Int)) hx hb dJ2_addAll_50 (by omega) ?_
  refine g_callq 2 17 (Nat.le_of_ble_eq_true rfl) (Nat.le_of_ble_eq_true rfl) hB (rV (As := [.int (iI ((n : Int)))]) (n := 1) C hZ hB (kJ2_grow_2 l E (va_up (va_up w q5 (some (xR E 3 n ((va_cpy g (fun _ => none) 0 0 n))))) a (some (xO 18 [.int (iI (mm + 1)), .ref (E.2 20), .int (iI 0)]))) a (mm + 1) (n : Int) (va_up_s _ _ _) (by omega) _) (lw_V q689 q691 qs23 q71 q692) (by decide +kernel) ⟨Nat.le_of_ble_eq_true rfl, Nat.le_of_ble_eq_true rfl⟩ (va_up_s _ _ _) rfl rfl rfl hl.1 rfl (Nat.le_of_ble_eq_true rfl) dJ2_addAll_51 ⟨Nat.le_of_ble_eq_true rfl, Nat.le_of_ble_eq_true rfl⟩) (fun z12 w13 H locs hp15 hB => ?_)
  obtain ⟨q16, rfl, hq17, rfl⟩ := hp15
  have hne18 : a ≠ q16 := fun e => by cases (hq17.symm.trans ((congrArg _ e.symm).trans (va_up_s _ _ _)))
  have hne19 : q5 ≠ q16 := fun e => by cases (hq17.symm.trans ((congrArg _ e.symm).trans ((va_up_n _ _ (Ne.symm hne9)).trans (va_up_s _ _ _))))
  rw [up_aba] at hB
  replace hB : xB E (xA w sz) s (va_up (va_up (va_up w q5 (some (xR E 3 n ((va_cpy g (fun _ => none) 0 0 n))))) q16 (some (xR E 3 10 ((fun _ => none))))) a (some (xO 18 [.int (iI (mm + 1)), .ref q16, .int (iI 0)]))) _ _ := hB
  refine lv_astore (lv' := [(4, .ref q16), (5, .int (iI 0)), (3, .int (iI ((n : Int)))), (2, .ref q5), (0, .ref a), (1, .ref b)]) hx hb dJ2_addAll_54 hl (by decide) rfl (fun ls hl => ?_)
  refine lv_aload_n hx hb dJ2_addAll_56 rfl (lv_at hl 3 rfl) ?_
  refine lv_iconst (v := iI 0) hx hb dJ2_addAll_57 rfl ?_
  refine lv_aload hx hb dJ2_addAll_58 (lv_at hl 0 rfl) ?_
  refine lv_iload hx hb dJ2_addAll_60 (lv_at hl 1 rfl) ?_
  refine lv_iload_n hx hb dJ2_addAll_62 rfl (lv_at hl 2 rfl) ?_
  refine x_copyM C hB q764 q744 q743 q85 ((va_up_n _ _ (Ne.symm hne9)).trans ((va_up_n _ _ hne19).trans (va_up_s _ _ _))) ((va_up_n _ _ (Ne.symm hne18)).trans (va_up_s _ _ _)) 0 0 n rfl rfl rfl (by omega) (by omega) (by omega) (by omega) (fun i hi y hy => ((((hel i hi y (by rw [Nat.zero_add] at hy; exact (cpy0_get hi).symm.trans hy)).new hq6).new (va_up_noneO hq17)).upO ((va_up_n _ _ hne18).trans ((va_up_n _ _ hne9).trans ha)))) hl.1 (Nat.le_of_ble_eq_true rfl) (Nat.le_of_ble_eq_true rfl) dJ2_addAll_63 (fun H locs hB => ?_)
  rw [up_aba] at hB
  replace hB : xB E (xA w sz) s (va_up (va_up (va_up w q5 (some (xR E 3 n ((va_cpy g (fun _ => none) 0 0 n))))) a (some (xO 18 [.int (iI (mm + 1)), .ref q16, .int (iI 0)]))) q16 (some (xR E 3 10 ((va_cpy ((va_cpy g (fun _ => none) 0 0 n)) ((fun _ => none)) 0 0 n))))) _ _ := hB
  refine lv_aload_n hx hb dJ2_addAll_66 rfl (lv_at hl 4 rfl) ?_
  refine lv_iload hx hb dJ2_addAll_67 (lv_at hl 1 rfl) ?_
  refine lv_iload_n hx hb dJ2_addAll_69 rfl (lv_at hl 2 rfl) ?_
  refine x_iadd (z := (n : Int)) hx hb dJ2_addAll_70 (by omega) ?_
  refine x_put2 C hB ((va_up_n _ _ hne18).trans (va_up_s _ _ _)) rfl in_J2 tyJ2_ok apJ2 2 (by decide) q134 (fun x h => h) rfl rfl rfl (Nat.le_of_ble_eq_true rfl) dJ2_addAll_71 (fun H locs hB => ?_)
  rw [up_aba] at hB
  replace hB : xB E (xA w sz) s (va_up (va_up (va_up w q5 (some (xR E 3 n ((va_cpy g (fun _ => none) 0 0 n))))) q16 (some (xR E 3 10 ((va_cpy ((va_cpy g (fun _ => none) 0 0 n)) ((fun _ => none)) 0 0 n))))) a (some (xO 18 [.int (iI (mm + 1)), .ref q16, .int (iI ((n : Int)))]))) _ _ := hB
  refine lv_iconst (v := iI 1) hx hb dJ2_addAll_74 rfl ?_
  exact g_iret C hB hr hlocks rfl dJ2_addAll_75 (Nat.le_of_ble_eq_true rfl) (Nat.le_of_ble_eq_true rfl) ⟨by decide, by decide⟩ ⟨_, _, hq6, (va_up_none (va_up_none hq17).1).1, (va_up_none (va_up_none hq17).1).2, rfl⟩
set_option maxHeartbeats 800000 in
set_option maxRecDepth 100000 in
theorem kJ0_init (l : Launch) (E : xE) (w : xw) (a : Nat) : gv_ l E yJ0_init cJ0_init 1 none 1 24 0 0 [.ref a] w (fun w' => w = w') := by
  intro sz
  refine x_bodyz (by decide) (Nat.le_of_ble_eq_true rfl) ?_
  intro p e s m args below meth c ls hx hb C hr hlocks hin hsz hZ hB hl
  have C : xC E p s m args c cJ0_init 1 RJ0 := C
  have hl : lv_has ls 1 [(0, .ref a)] := hl
  refine lv_aload_n hx hb dJ0_init_0 rfl (lv_at hl 0 rfl) ?_
  refine x_objInit C q130 q113 q114 hl.1 (Nat.le_of_ble_eq_true rfl) (Nat.le_of_ble_eq_true rfl) dJ0_init_1 ?_
  exact g_vret C hB hr hlocks dJ0_init_4 (Nat.le_of_ble_eq_true rfl) (Nat.le_of_ble_eq_true rfl) rfl
set_option maxHeartbeats 800000 in
set_option maxRecDepth 100000 in
theorem kJ1_init (l : Launch) (E : xE) (w : xw) (a : Nat) (ha : w a = some (xO 18 [.int (iI 0), .null, .int (iI 0)])) : gv_ l E yJ1_init cJ1_init 1 none 2 44 0 0 [.ref a] w (fun w' => w = w') := by
  intro sz
  refine x_bodyz (by decide) (Nat.le_of_ble_eq_true rfl) ?_
  intro p e s m args below meth c ls hx hb C hr hlocks hin hsz hZ hB hl
  have C : xC E p s m args c cJ1_init 1 RJ1 := C
  have hl : lv_has ls 1 [(0, .ref a)] := hl
  refine lv_aload_n hx hb dJ1_init_0 rfl (lv_at hl 0 rfl) ?_
  refine g_callv 0 0 (Nat.le_of_ble_eq_true rfl) (Nat.le_of_ble_eq_true rfl) hB (rI (As := []) (n := 0) C hZ hB (kJ0_init l E w a _) (lw_meth q129) q69 q127 q128 rfl (by decide +kernel) ⟨Nat.le_of_ble_eq_true rfl, Nat.le_of_ble_eq_true rfl⟩ rfl hl.1 rfl (Nat.le_of_ble_eq_true rfl) dJ1_init_1 ⟨Nat.le_of_ble_eq_true rfl, Nat.le_of_ble_eq_true rfl⟩) (fun w2 H locs hp4 hB => ?_)
  subst hp4
  refine lv_aload_n hx hb dJ1_init_4 rfl (lv_at hl 0 rfl) ?_
  refine lv_iconst (v := iI 0) hx hb dJ1_init_5 rfl ?_
  refine x_put2 C hB ha rfl in_J2 tyJ2_ok apJ2 0 (by decide) q135 (fun x h => h) rfl rfl rfl (Nat.le_of_ble_eq_true rfl) dJ1_init_6 (fun H locs hB => ?_)
  replace hB : xB E (xA w sz) s (va_up w a (some (xO 18 [.int (iI 0), .null, .int (iI 0)]))) _ _ := hB
  exact g_vret C hB hr hlocks dJ1_init_9 (Nat.le_of_ble_eq_true rfl) (Nat.le_of_ble_eq_true rfl) (by rw [← ha, va_up_id])
set_option maxHeartbeats 800000 in
set_option maxRecDepth 100000 in
theorem kJ2_init (l : Launch) (E : xE) (w : xw) (a : Nat) (ha : w a = some (xO 18 [.int (iI 0), .null, .int (iI 0)])) : gv_ l E yJ2_init cJ2_init 1 none 3 64 0 0 [.ref a] w (fun w' => w' = va_up w a (some (xO 18 [.int (iI 0), .ref (E.2 20), .int (iI 0)]))) := by
  intro sz
  refine x_bodyz (by decide) (Nat.le_of_ble_eq_true rfl) ?_
  intro p e s m args below meth c ls hx hb C hr hlocks hin hsz hZ hB hl
  have C : xC E p s m args c cJ2_init 1 RJ2 := C
  have hl : lv_has ls 1 [(0, .ref a)] := hl
  refine lv_aload_n hx hb dJ2_init_0 rfl (lv_at hl 0 rfl) ?_
  refine g_callv 0 0 (Nat.le_of_ble_eq_true rfl) (Nat.le_of_ble_eq_true rfl) hB (rI (As := []) (n := 0) C hZ hB (kJ1_init l E w a ha _) (lw_meth q126) q70 q124 q125 rfl (by decide +kernel) ⟨Nat.le_of_ble_eq_true rfl, Nat.le_of_ble_eq_true rfl⟩ rfl hl.1 rfl (Nat.le_of_ble_eq_true rfl) dJ2_init_1 ⟨Nat.le_of_ble_eq_true rfl, Nat.le_of_ble_eq_true rfl⟩) (fun w2 H locs hp4 hB => ?_)
  subst hp4
  refine lv_aload_n hx hb dJ2_init_4 rfl (lv_at hl 0 rfl) ?_
  refine x_gets C hZ hB q131 dJ2_init_5 ?_
  refine x_put2 C hB ha rfl in_J2 tyJ2_ok apJ2 1 (by decide) q133 (fun x h => h) rfl rfl rfl (Nat.le_of_ble_eq_true rfl) dJ2_init_8 (fun H locs hB => ?_)
  replace hB : xB E (xA w sz) s (va_up w a (some (xO 18 [.int (iI 0), .ref (E.2 20), .int (iI 0)]))) _ _ := hB
  exact g_vret C hB hr hlocks dJ2_init_11 (Nat.le_of_ble_eq_true rfl) (Nat.le_of_ble_eq_true rfl) rfl
set_option maxHeartbeats 800000 in
set_option maxRecDepth 100000 in
theorem kJ2_init_2 (l : Launch) (E : xE) (w : xw) (a : Nat) (ha : w a = some (xO 18 [.int (iI 0), .null, .int (iI 0)])) : gv_ l E yJ2_init_2 cJ2_init_2 2 none 3 64 1 7 [.ref a, .int (iI 7)] w (fun w' => ∃ q, w q = none ∧ w' = va_up (va_up w q (some (xR E 3 7 (fun _ => none)))) a (some (xO 18 [.int (iI 0), .ref q, .int (iI 0)]))) := by
  intro sz
  refine x_bodyz (by decide) (Nat.le_of_ble_eq_true rfl) ?_
  intro p e s m args below meth c ls hx hb C hr hlocks hin hsz hZ hB hl
  have C : xC E p s m args c cJ2_init_2 2 RJ2 := C
  have hl : lv_has ls 2 [(0, .ref a), (1, .int (iI 7))] := hl
  refine lv_aload_n hx hb dJ2_init_2_0 rfl (lv_at hl 0 rfl) ?_
  refine g_callv 0 0 (Nat.le_of_ble_eq_true rfl) (Nat.le_of_ble_eq_true rfl) hB (rI (As := []) (n := 0) C hZ hB (kJ1_init l E w a ha _) (lw_meth q126) q70 q124 q125 rfl (by decide +kernel) ⟨Nat.le_of_ble_eq_true rfl, Nat.le_of_ble_eq_true rfl⟩ rfl hl.1 rfl (Nat.le_of_ble_eq_true rfl) dJ2_init_2_1 ⟨Nat.le_of_ble_eq_true rfl, Nat.le_of_ble_eq_true rfl⟩) (fun w2 H locs hp4 hB => ?_)
  subst hp4
  refine lv_iload_n hx hb dJ2_init_2_4 rfl (lv_at hl 1 rfl) ?_
  refine x_if_le (tgt := 19) hx hb dJ2_init_2_5 (by decide) ⟨by decide, by decide⟩ (fun c5 => by exfalso; omega) (fun c5 => ?_)
  refine lv_aload_n hx hb dJ2_init_2_8 rfl (lv_at hl 0 rfl) ?_
  refine lv_iload_n hx hb dJ2_init_2_9 rfl (lv_at hl 1 rfl) ?_
  refine x_anew C hZ hB 3 rfl q746 (by decide) 7 rfl (by omega) (Nat.le_of_ble_eq_true rfl) (Nat.le_of_ble_eq_true rfl) dJ2_init_2_10 (fun q6 H hq7 hs8 hB => ?_)
  have hne9 : a ≠ q6 := fun e => by cases (hq7.symm.trans ((congrArg _ e.symm).trans ha))
  refine x_up (c2 := 1) (s2 := 7) (Nat.le_of_ble_eq_true rfl) (Nat.le_of_ble_eq_true rfl) ?_
  replace hB : xB E (xA w sz) s (va_up w q6 (some (xR E 3 7 ((fun _ => none))))) _ _ := hB
  refine x_put2 C hB ((va_up_n _ _ hne9).trans ha) rfl in_J2 tyJ2_ok apJ2 1 (by decide) q133 (fun x h => h) rfl rfl rfl (Nat.le_of_ble_eq_true rfl) dJ2_init_2_13 (fun H locs hB => ?_)
  replace hB : xB E (xA w sz) s (va_up (va_up w q6 (some (xR E 3 7 ((fun _ => none))))) a (some (xO 18 [.int (iI 0), .ref q6, .int (iI 0)]))) _ _ := hB
  refine lv_goto (tgt := 60) hx hb dJ2_init_2_16 (by decide) ?_
  exact g_vret C hB hr hlocks dJ2_init_2_60 (Nat.le_of_ble_eq_true rfl) (Nat.le_of_ble_eq_true rfl) ⟨_, hq7, rfl⟩
