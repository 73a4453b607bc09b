/-! THE COMPONENT: sums over the best alignment -/
set_option maxRecDepth 100000
section WLC
variable {p : Program} {l : Launch} {e : Env} {R : Room} {s : State} {m : MethodId} {args : Array Value} {below : List Frame} {meth : Method} {c : Code} {H : Heap} {locs : List Loc} {Q : State → Prop} {pc : Nat} {ls : Array Slot}
theorem w_loopC {st : List Value} (C S a b : Nat) (Inv : Nat → Heap → List Loc → Array Slot → Prop) (n0 : Nat) (h0 : Inv n0 H locs ls) (step : ∀ (n : Nat) (H : Heap) (locs : List Loc) (ls : Array Slot), Inv n H locs ls → (∀ (n' : Nat) (H' : Heap) (locs' : List Loc) (ls' : Array Slot), n' < n → Inv n' H' locs' ls' → W p l e R s m args below meth c H' locs' (C - a * n') (S - b * n') Q (F0 m pc ls' st)) → W p l e R s m args below meth c H locs (C - a * n) (S - b * n) Q (F0 m pc ls st)) : W p l e R s m args below meth c H locs (C - a * n0) (S - b * n0) Q (F0 m pc ls st) := by
  have key : ∀ (k n : Nat), n < k → ∀ (H : Heap) (locs : List Loc) (ls : Array Slot), Inv n H locs ls → W p l e R s m args below meth c H locs (C - a * n) (S - b * n) Q (F0 m pc ls st) := by
    intro k
    induction k with
    | zero => intro n h; exact absurd h (Nat.not_lt_zero n)
    | succ k ih =>
      intro n hn H locs ls hI
      exact step n H locs ls hI (fun n' H' locs' ls' h' hI' => ih n' (by omega) H' locs' ls' hI')
  exact key (n0 + 1) n0 (Nat.lt_succ_self _) H locs ls h0
end WLC
theorem ns_up3 (I : Nat → Int) (F : Nat → Nat → Int) (f1 f2 f3 : Nat → Int) (w : Int) (i j : Nat) : ns I (up3 F f1 f2 f3) w i j = ns I F w i j := by
  have h : ∀ k, onB I (up3 F f1 f2 f3) w i j k = onB I F w i j k := fun k => rfl
  unfold ns
  rw [h, h, h, h]
theorem pth_s {I : Nat → Int} {F : Nat → Nat → Int} {w : Int} {n i j : Nat} (h : ¬ (i = (I 5).toNat ∧ j = (I 6).toNat)) : pth I F w (n + 1) i j = (ns I F w i j, i, j) :: pth I F w n (i + loN (ns I F w i j)) (j + roN (ns I F w i j)) := if_neg h
theorem pth_e {I : Nat → Int} {F : Nat → Nat → Int} {w : Int} {n : Nat} : pth I F w n (I 5).toNat (I 6).toNat = [] := by
  cases n with
  | zero => rfl
  | succ n => exact if_pos ⟨rfl, rfl⟩
set_option maxHeartbeats 800000 in
set_option maxRecDepth 100000 in
theorem kX11_init (l : Launch) (E : xE) (o : Nat) (Ad : Nat → Nat) (I : Nat → Int) (F : Nat → Nat → Int) (X : xw) (u : Nat) (hu : X u = some (xO 9 [.int (iI 0), .null])) (hOK : mOK I F) : cv_ l E yX11_init cX11_init 2 none 8 186 0 0 [.ref u, .ref o] o Ad I F X (fun _ Ad' I' F' X' => Ad = Ad' ∧ I = I' ∧ ∃ g1 g2 g3, up3 F g1 g2 g3 = F' ∧ (∀ i j : Nat, (i : Int) ≤ I 5 → (j : Int) ≤ I 6 → (g1 (8 * i + j), g2 (8 * i + j), g3 (8 * i + j)) = DT I F (I 9) i j) ∧ va_up X u (some (xO 9 [.int (iI (if (DT I F (I 9) 0 0).1 = 100000 then (0 : Int) else 1)), .ref o])) = X') := by
  intro w hI hd sz
  refine x_bodyz (by decide) (Nat.le_of_ble_eq_true rfl) ?_
  intro p e s m args below meth c ls hx hb C hr hlocks hin hsz hZ hB hl
  have C : xC E p s m args c cX11_init 2 RX11 := C
  replace hB : xBB E (xA (wU w X) sz) s o Ad I F X s.heap [] := ⟨w, hI, hd, hB⟩
  have hl : lv_has ls 2 [(0, .ref u), (1, .ref o)] := hl
  have hOK0 := hOK
  obtain ⟨⟨hf1, hf2⟩, ⟨hl1, hl2⟩, ⟨hr1, hr2⟩, hlr, ⟨hs1, hs2⟩, ⟨hj1, hj2⟩, ⟨hb1, hb2⟩, ⟨hn1, hn2⟩, hL, hR, hN, hS, hC⟩ := hOK
  
  refine lv_aload_n hx hb dX11_init_0 rfl (lv_at hl 0 rfl) ?_
  refine lv_aload_n hx hb dX11_init_1 rfl (lv_at hl 1 rfl) ?_
  refine t_putF C hB hu rfl in_X11 tyX11_ok apX11 1 (by decide) q453 (fun x h => h) rfl (hin rfl) rfl rfl rfl (Nat.le_of_ble_eq_true rfl) dX11_init_2 (fun H locs hB => ?_)
  replace hB : xBB E (xA (wU w X) sz) s o Ad I F (va_up X u (some (xO 9 [.int (iI 0), .ref o]))) _ _ := hB
  refine lv_aload_n hx hb dX11_init_5 rfl (lv_at hl 0 rfl) ?_
  refine x_objInit C q429 q113 q114 hl.1 (Nat.le_of_ble_eq_true rfl) (Nat.le_of_ble_eq_true rfl) dX11_init_6 ?_
  refine lv_aload_n hx hb dX11_init_9 rfl (lv_at hl 0 rfl) ?_
  refine lv_aload_n hx hb dX11_init_10 rfl (lv_at hl 0 rfl) ?_
  refine t_get C hB (va_up_s _ _ _) rfl in_X11 1 (by decide) q453 (fun x h => h) (v := .ref o) rfl dX11_init_11 ?_
  refine lv_aload_n hx hb dX11_init_14 rfl (lv_at hl 0 rfl) ?_
  refine t_get C hB (va_up_s _ _ _) rfl in_X11 1 (by decide) q453 (fun x h => h) (v := .ref o) rfl dX11_init_15 ?_
  refine b_getN C hB 9 (by decide) q303 (v := .int (iI (I 9))) rfl rfl dX11_init_18 ?_
  rw [← up3_id F] at hB
  refine b_calli 0 0 (Nat.le_of_ble_eq_true rfl) (Nat.le_of_ble_eq_true rfl) hB (fun w hI hd hB => rVN (As := [.int (iI (I 9))]) (n := 1) C hZ hB (kX0_aligns l E o Ad I F (F 21) (F 22) (F 23) (va_up X u (some (xO 9 [.int (iI 0), .ref o]))) (I 9) (by omega) hOK0 w hI hd _) q430 qs13 q432 q68 q433 (by decide +kernel) ⟨Nat.le_of_ble_eq_true rfl, Nat.le_of_ble_eq_true rfl⟩ (wU_l hI.x) rfl rfl rfl hl.1 rfl (Nat.le_of_ble_eq_true rfl) dX11_init_21 ⟨Nat.le_of_ble_eq_true rfl, Nat.le_of_ble_eq_true rfl⟩) (fun z1 Ad2 I3 F4 X5 H locs hz6 hp7 hB => ?_)
  obtain ⟨hz6a, hz6b⟩ := hz6
  obtain ⟨rfl, rfl, rfl, g8, g9, g10, rfl, ht11, rfl⟩ := hp7
  have hVht11 : VB 840 (DT I F (I 9) 0 0) := VBD (by omega) (by omega) (csM60 hOK0) (by omega) (by omega)
  have hbht11 : 0 ≤ (DT I F (I 9) 0 0).1 ∧ (DT I F (I 9) 0 0).1 ≤ 100000 := by unfold VB at hVht11; omega
  refine lv_ldc hx hb C.1.2.2.2.1 (C.1.2.2.2.2 _ q450) dX11_init_24 ?_
  refine x_rw (y := iI 100000) (by decide) ?_
  refine x_icmp_ge (tgt := 33) hx hb dX11_init_26 (by decide) ⟨by omega, by omega⟩ ⟨by decide, by decide⟩ (fun c12 => ?_) (fun c12 => ?_)
  · refine lv_iconst (v := iI 0) hx hb dX11_init_33 rfl ?_
    refine t_putF C hB (va_up_s _ _ _) rfl in_X11 tyX11_ok apX11 0 (by decide) q451 (fun x h => h) rfl (hin rfl) rfl rfl rfl (Nat.le_of_ble_eq_true rfl) dX11_init_34 (fun H locs hB => ?_)
    rw [bx_uu] at hB
    replace hB : xBB E (xA (wU w X) sz) s o Ad I (up3 F g8 g9 g10) (va_up X u (some (xO 9 [.int (iI 0), .ref o]))) _ _ := hB
    exact b_vret C hB hr hlocks dX11_init_37 (Nat.le_of_ble_eq_true rfl) (Nat.le_of_ble_eq_true rfl) ⟨rfl, rfl, _, _, _, rfl, ht11, by rw [if_pos (by omega)]⟩
  · refine lv_iconst (v := iI 1) hx hb dX11_init_29 rfl ?_
    refine lv_goto (tgt := 34) hx hb dX11_init_30 (by decide) ?_
    refine t_putF C hB (va_up_s _ _ _) rfl in_X11 tyX11_ok apX11 0 (by decide) q451 (fun x h => h) rfl (hin rfl) rfl rfl rfl (Nat.le_of_ble_eq_true rfl) dX11_init_34 (fun H locs hB => ?_)
    rw [bx_uu] at hB
    replace hB : xBB E (xA (wU w X) sz) s o Ad I (up3 F g8 g9 g10) (va_up X u (some (xO 9 [.int (iI 1), .ref o]))) _ _ := hB
    exact b_vret C hB hr hlocks dX11_init_37 (Nat.le_of_ble_eq_true rfl) (Nat.le_of_ble_eq_true rfl) ⟨rfl, rfl, _, _, _, rfl, ht11, by rw [if_neg (by omega)]⟩
set_option maxHeartbeats 800000 in
set_option maxRecDepth 100000 in
theorem kX11_iterator (l : Launch) (E : xE) (o : Nat) (Ad : Nat → Nat) (I : Nat → Int) (F : Nat → Nat → Int) (X : xw) (u : Nat) (iz : Int) (hu : X u = some (xO 9 [.int (iI iz), .ref o])) : cq_ l E yX11_iterator cX11_iterator 1 (some (.object "java/util/Iterator")) 2 45 1 3 [.ref u] o Ad I F X (fun z Ad' I' F' X' => Ad = Ad' ∧ I = I' ∧ F = F' ∧ ∃ q, z = some q ∧ X q = none ∧ va_up X q (some (xO 10 [.int (iI 0), .int (iI 0), .ref u])) = X') := by
  intro w hI hd sz
  refine x_bodyz (by decide) (Nat.le_of_ble_eq_true rfl) ?_
  intro p e s m args below meth c ls hx hb C hr hlocks hin hsz hZ hB hl
  have C : xC E p s m args c cX11_iterator 1 RX11 := C
  replace hB : xBB E (xA (wU w X) sz) s o Ad I F X s.heap [] := ⟨w, hI, hd, hB⟩
  have hl : lv_has ls 1 [(0, .ref u)] := hl
  refine t_new C hB (ci := 10) (fs := [.int (iI 0), .int (iI 0), .null]) rfl in_X12 tyX12_ok q464 q465 q99 dvX12 (Nat.le_of_ble_eq_true rfl) (Nat.le_of_ble_eq_true rfl) dX11_iterator_0 (fun q1 H hq2 hs3 hB => ?_)
  have hne4 : u ≠ q1 := fun e => by cases (hq2.symm.trans ((congrArg _ e.symm).trans hu))
  refine x_up (c2 := 1) (s2 := 3) (Nat.le_of_ble_eq_true rfl) (Nat.le_of_ble_eq_true rfl) ?_
  replace hB : xBB E (xA (wU w X) sz) s o Ad I F (va_up X q1 (some (xO 10 [.int (iI 0), .int (iI 0), .null]))) _ _ := hB
  refine lv_dup hx hb dX11_iterator_3 rfl ?_
  refine lv_aload_n hx hb dX11_iterator_4 rfl (lv_at hl 0 rfl) ?_
  obtain ⟨wq, hIq, hdq, hB⟩ := hB
  refine g_callv 1 3 (Nat.le_of_ble_eq_true rfl) (Nat.le_of_ble_eq_true rfl) hB (rIN (As := [.ref u]) (n := 1) C hZ hB (kX12_init l E (wU wq (va_up X q1 (some (xO 10 [.int (iI 0), .int (iI 0), .null])))) q1 u (wU_r hdq (va_up_s _ _ _)) _) q466 q467 q99 q468 rfl (by decide +kernel) ⟨Nat.le_of_ble_eq_true rfl, Nat.le_of_ble_eq_true rfl⟩ rfl hl.1 rfl (Nat.le_of_ble_eq_true rfl) dX11_iterator_5 ⟨Nat.le_of_ble_eq_true rfl, Nat.le_of_ble_eq_true rfl⟩) (fun w6 H locs hp8 hB => ?_)
  subst hp8
  rw [(hdq.put_t (xO 10 [.int (iI 0), .int (iI 0), .ref u]) (va_up_s _ _ _)).2] at hB
  replace hB : xBB E (xA (wU w X) sz) s o Ad I F (va_up (va_up X q1 (some (xO 10 [.int (iI 0), .int (iI 0), .null]))) q1 (some (xO 10 [.int (iI 0), .int (iI 0), .ref u]))) _ _ := ⟨wq, hIq, (hdq.put_t _ (va_up_s _ _ _)).1, hB⟩
  rw [bx_uu] at hB
  replace hB : xBB E (xA (wU w X) sz) s o Ad I F (va_up X q1 (some (xO 10 [.int (iI 0), .int (iI 0), .ref u]))) _ _ := hB
  exact b_qret C hB hr (Or.inl ⟨_, rfl⟩) hlocks ((some q1)) dX11_iterator_8 (Nat.le_of_ble_eq_true rfl) (Nat.le_of_ble_eq_true rfl) ⟨rfl, rfl, rfl, _, rfl, hq2, rfl⟩
set_option maxHeartbeats 800000 in
set_option maxRecDepth 100000 in
theorem kX9_all_X15 (l : Launch) (E : xE) (o : Nat) (Ad : Nat → Nat) (I : Nat → Int) (F : Nat → Nat → Int) (X : xw) (t : Nat) (ht : X t = some (xO 13 [.int (iI 0), .ref o, .ref o])) (hOK : mOK I F) : ci_ l E yX9_all cX9_all 3 (some .int) 9 207 16 61 [.ref t] o Ad I F X (fun z Ad' I' F' X' => Ad = Ad' ∧ I = I' ∧ (∃ g1 g2 g3, up3 F g1 g2 g3 = F') ∧ (∀ a e, a ≠ t → X a = some e → X' a = some e) ∧ z = ((bpath I F (I 9)).length : Int)) := by
  intro w hI hd sz
  refine x_bodyz (by decide) (Nat.le_of_ble_eq_true rfl) ?_
  intro p e s m args below meth c ls hx hb C hr hlocks hin hsz hZ hB hl
  have C : xC E p s m args c cX9_all 3 RX9 := C
  replace hB : xBB E (xA (wU w X) sz) s o Ad I F X s.heap [] := ⟨w, hI, hd, hB⟩
  have hl : lv_has ls 3 [(0, .ref t)] := hl
  have hOK0 := hOK
  obtain ⟨⟨hf1, hf2⟩, ⟨hl1, hl2⟩, ⟨hr1, hr2⟩, hlr, ⟨hs1, hs2⟩, ⟨hj1, hj2⟩, ⟨hb1, hb2⟩, ⟨hn1, hn2⟩, hL, hR, hN, hS, hC⟩ := hOK
  refine t_new C hB (ci := 9) (fs := [.int (iI 0), .null]) rfl in_X11 tyX11_ok q424 q425 q98 dvX11 (Nat.le_of_ble_eq_true rfl) (Nat.le_of_ble_eq_true rfl) dX9_all_0 (fun q1 H hq2 hs3 hB => ?_)
  have hne4 : t ≠ q1 := fun e => by cases (hq2.symm.trans ((congrArg _ e.symm).trans ht))
  refine x_up (c2 := 1) (s2 := 2) (Nat.le_of_ble_eq_true rfl) (Nat.le_of_ble_eq_true rfl) ?_
  replace hB : xBB E (xA (wU w X) sz) s o Ad I F (va_up X q1 (some (xO 9 [.int (iI 0), .null]))) _ _ := hB
  refine lv_dup hx hb dX9_all_3 rfl ?_
  refine lv_aload_n hx hb dX9_all_4 rfl (lv_at hl 0 rfl) ?_
  refine t_get C hB ((va_up_n _ _ hne4).trans ht) rfl in_X15 1 (by decide) q407 (fun x h => h) (v := .ref o) rfl dX9_all_5 ?_
  refine b_callv 1 2 (Nat.le_of_ble_eq_true rfl) (Nat.le_of_ble_eq_true rfl) hB (fun w hI hd hB => rIN (As := [.ref o]) (n := 1) C hZ hB (kX11_init l E o Ad I F (va_up X q1 (some (xO 9 [.int (iI 0), .null]))) q1 (va_up_s _ _ _) hOK0 w hI hd _) q426 q427 q98 q428 rfl (by decide +kernel) ⟨Nat.le_of_ble_eq_true rfl, Nat.le_of_ble_eq_true rfl⟩ rfl hl.1 rfl (Nat.le_of_ble_eq_true rfl) dX9_all_8 ⟨Nat.le_of_ble_eq_true rfl, Nat.le_of_ble_eq_true rfl⟩) (fun Ad6 I7 F8 X9 H locs hp11 hB => ?_)
  obtain ⟨rfl, rfl, g12, g13, g14, rfl, hall15, rfl⟩ := hp11
  rw [bx_uu] at hB
  replace hB : xBB E (xA (wU w X) sz) s o Ad I (up3 F g12 g13 g14) (va_up X q1 (some (xO 9 [.int (iI ((if (DT I F (I 9) 0 0).1 = 100000 then (0 : Int) else 1))), .ref o]))) _ _ := hB
  refine b_callq 2 5 (Nat.le_of_ble_eq_true rfl) (Nat.le_of_ble_eq_true rfl) hB (fun w hI hd hB => rV (As := []) (n := 0) C hZ hB (kX11_iterator l E o Ad I (up3 F g12 g13 g14) (va_up X q1 (some (xO 9 [.int (iI ((if (DT I F (I 9) 0 0).1 = 100000 then (0 : Int) else 1))), .ref o]))) q1 ((if (DT I F (I 9) 0 0).1 = 100000 then (0 : Int) else 1)) (va_up_s _ _ _) w hI hd _) (lw_V q460 q461 q462 q98 q463) (by decide +kernel) ⟨Nat.le_of_ble_eq_true rfl, Nat.le_of_ble_eq_true rfl⟩ (wU_r hd (va_up_s _ _ _)) rfl rfl rfl hl.1 rfl (Nat.le_of_ble_eq_true rfl) dX9_all_11 ⟨Nat.le_of_ble_eq_true rfl, Nat.le_of_ble_eq_true rfl⟩) (fun z16 Ad17 I18 F19 X20 H locs hp22 hB => ?_)
  obtain ⟨rfl, rfl, rfl, q23, rfl, hq24, rfl⟩ := hp22
  have hne25 : t ≠ q23 := fun e => by cases (hq24.symm.trans ((congrArg _ e.symm).trans ((va_up_n _ _ hne4).trans ht)))
  have hne26 : q1 ≠ q23 := fun e => by cases (hq24.symm.trans ((congrArg _ e.symm).trans (va_up_s _ _ _)))
  replace hB : xBB E (xA (wU w X) sz) s o Ad I (up3 F g12 g13 g14) (va_up (va_up X q1 (some (xO 9 [.int (iI ((if (DT I F (I 9) 0 0).1 = 100000 then (0 : Int) else 1))), .ref o]))) q23 (some (xO 10 [.int (iI 0), .int (iI 0), .ref q1]))) _ _ := hB
  refine lv_astore_n (lv' := [(1, .ref q23), (0, .ref t)]) hx hb dX9_all_14 rfl hl (by decide) rfl (fun ls hl => ?_)
  by_cases hD : (DT I F (I 9) 0 0).1 = 100000
  · rw [if_pos hD] at hB
    replace hB : xBB E (xA (wU w X) sz) s o Ad I (up3 F g12 g13 g14) (va_up (va_up X q1 (some (xO 9 [.int (iI 0), .ref o]))) q23 (some (xO 10 [.int (iI 0), .int (iI 0), .ref q1]))) _ _ := hB
    have hbp : bpath I F (I 9) = [] := if_pos hD
    refine lv_aload_n hx hb dX9_all_15 rfl (lv_at hl 0 rfl) ?_
    refine b_callFi 2 5 (Nat.le_of_ble_eq_true rfl) (Nat.le_of_ble_eq_true rfl) hB (fun w hI hd hB => rF (As := []) (n := 0) C hZ hB ⟨"java/util/Iterator", "hasNext", "()Z"⟩ (kX12_hasNext l E o Ad I (up3 F g12 g13 g14) (va_up (va_up X q1 (some (xO 9 [.int (iI 0), .ref o]))) q23 (some (xO 10 [.int (iI 0), .int (iI 0), .ref q1]))) q23 0 0 q1 0 (va_up_s _ _ _) ((va_up_n _ _ hne26).trans (va_up_s _ _ _)) (by omega) (by omega) hOK0 w hI hd _) (by decide) q481 q485 q487 q99 q489 (by decide +kernel) ⟨Nat.le_of_ble_eq_true rfl, Nat.le_of_ble_eq_true rfl⟩ (wU_r hd (va_up_s _ _ _)) rfl rfl rfl hl.1 rfl (Nat.le_of_ble_eq_true rfl) dX9_all_16 ⟨Nat.le_of_ble_eq_true rfl, Nat.le_of_ble_eq_true rfl⟩) (fun z27 Ad28 I29 F30 X31 H locs hz32 hp33 hB => ?_)
    obtain ⟨hz32a, hz32b⟩ := hz32
    obtain ⟨rfl, rfl, rfl, rfl, ⟨rfl, h34⟩ | ⟨rfl, h34⟩⟩ := hp33
    · exact absurd h34.1 (by decide)
    · refine x_if_eq (tgt := 42) hx hb dX9_all_21 (by decide) ⟨by decide, by decide⟩ (fun c35 => ?_) (fun c35 => by exfalso; omega)
      refine lv_aload_n hx hb dX9_all_42 rfl (lv_at hl 1 rfl) ?_
      refine t_get C hB ((va_up_n _ _ hne25).trans ((va_up_n _ _ hne4).trans ht)) rfl in_X15 0 (by decide) q406 (fun x h => h) (v := .int (iI 0)) rfl dX9_all_43 ?_
      exact b_iret C hB hr hlocks rfl dX9_all_46 (Nat.le_of_ble_eq_true rfl) (Nat.le_of_ble_eq_true rfl) ⟨by decide, by decide⟩ ⟨rfl, rfl, ⟨_, _, _, rfl⟩, fun a e g0 h2 => by rw [va_up_n _ _ (fun z => by rw [z, (va_up_none hq24).1] at h2; cases h2), va_up_n _ _ (fun z => by rw [z, hq2] at h2; cases h2)]; exact h2, by rw [hbp]; rfl⟩
  · rw [if_neg hD] at hB
    replace hB : xBB E (xA (wU w X) sz) s o Ad I (up3 F g12 g13 g14) (va_up (va_up X q1 (some (xO 9 [.int (iI 1), .ref o]))) q23 (some (xO 10 [.int (iI 0), .int (iI 0), .ref q1]))) _ _ := hB
    have hXw := (va_up_none hq24).1
    refine x_up (c2 := 16 - 1 * 14) (s2 := 61 - 4 * 14) (by omega) (by omega) ?_
    refine w_loopC 16 61 1 4 (fun n39 H locs ls => ∃ (n : Nat) (i : Nat) (j : Nat) (X1 : xw) (v : Int), n39 = n ∧ (n ≤ 14) ∧ (i ≤ (I 5).toNat) ∧ (j ≤ (I 6).toNat) ∧ (((I 5).toNat - i) + ((I 6).toNat - j) ≤ n) ∧ ((DT I F (I 9) i j).1 ≠ 100000) ∧ (X1 t = some (xO 13 [.int (iI v), .ref o, .ref o])) ∧ (X1 q1 = some (xO 9 [.int (iI 1), .ref o])) ∧ (X1 q23 = some (xO 10 [.int (iI ((i : Int))), .int (iI ((j : Int))), .ref q1])) ∧ (∀ a e, a ≠ t → X a = some e → X1 a = some e) ∧ (rg v ∧ 0 ≤ v) ∧ (v + ((pth I F (I 9) n i j).length : Int) = ((bpath I F (I 9)).length : Int)) ∧ xBB E (xA (wU w X) sz) s o Ad I (up3 F g12 g13 g14) X1 H locs ∧ lv_has ls 3 [(0, .ref t), (1, .ref q23)]) 14 ⟨14, 0, 0, _, 0, rfl, by omega, by omega, by omega, by omega, hD, ((va_up_n _ _ hne25).trans ((va_up_n _ _ hne4).trans ht)), ((va_up_n _ _ hne26).trans (va_up_s _ _ _)), (va_up_s _ _ _), (fun a e g0 h2 => by rw [va_up_n _ _ (fun z => by rw [z, hXw] at h2; cases h2), va_up_n _ _ (fun z => by rw [z, hq2] at h2; cases h2)]; exact h2), ⟨⟨by omega, by omega⟩, by omega⟩, by show 0 + ((pth I F (I 9) 14 0 0).length : Int) = _; rw [show bpath I F (I 9) = pth I F (I 9) 14 0 0 from if_neg hD]; omega, hB, lv_sub hl [1, 0] rfl⟩ ?_
    intro n39 H locs ls hI38 ih36
    obtain ⟨n, i, j, X1, v, hn37, hn14, hiI, hjI, hfu, hnf, hx0, hx1, hx2, hxs, hv, hfold, hB, hl⟩ := hI38
    refine lv_aload_n hx hb dX9_all_15 rfl (lv_at hl 1 rfl) ?_
    refine b_callFi ((16 - 1 * n39)) ((61 - 4 * n39)) (by omega) (by omega) hB (fun w hI hd hB => rF (As := []) (n := 0) C hZ hB ⟨"java/util/Iterator", "hasNext", "()Z"⟩ (kX12_hasNext l E o Ad I (up3 F g12 g13 g14) X1 q23 i j q1 1 hx2 hx1 (by omega) (by omega) hOK0 w hI hd _) (by decide) q481 q485 q487 q99 q489 (by decide +kernel) ⟨Nat.le_of_ble_eq_true rfl, Nat.le_of_ble_eq_true rfl⟩ (wU_r hd hx2) rfl rfl rfl hl.1 rfl (Nat.le_of_ble_eq_true rfl) dX9_all_16 ⟨(show (16 - 1 * n39) + 0 ≤ 16 by omega), (show (61 - 4 * n39) + 0 ≤ 61 by omega)⟩) (fun z40 Ad41 I42 F43 X44 H locs hz45 hp46 hB => ?_)
    obtain ⟨hz45a, hz45b⟩ := hz45
    obtain ⟨rfl, rfl, rfl, rfl, ⟨rfl, h47⟩ | ⟨rfl, h47⟩⟩ := hp46
    · refine x_if_eq (tgt := 42) hx hb dX9_all_21 (by decide) ⟨by decide, by decide⟩ (fun c48 => by exfalso; omega) (fun c48 => ?_)
      refine lv_aload_n hx hb dX9_all_24 rfl (lv_at hl 1 rfl) ?_
      obtain ⟨n, rfl⟩ : ∃ m_, n = m_ + 1 := ⟨n - 1, by omega⟩
      have hnee : ¬ (i = (I 5).toNat ∧ j = (I 6).toNat) := by omega
      have hns := ns_spec (onB_ex hOK0 (by omega) (by omega) hnf hnee)
      have hns5 := hns.2.1
      obtain ⟨hob1, hob2, hob3⟩ := onB_iff.mp hns.1
      have hnf2 := onB_fin hOK0 (by omega) (by omega) hns5 hnf hns.1
      have hpt := pth_s (F := F) (w := I 9) (n := n) hnee
      have hlrn := lr_pos (ns I F (I 9) i j)
      refine b_callFq ((16 - 1 * n39) + 1) ((61 - 4 * n39) + 4) (by omega) (by omega) hB (fun w hI hd hB => rF (As := []) (n := 0) C hZ hB ⟨"java/util/Iterator", "next", "()Ljava/lang/Object;"⟩ (kX12_next l E o Ad I (up3 F g12 g13 g14) X1 q23 i j q1 1 (I 9) hx2 hx1 (by omega) (by omega) (by omega) (fun i j h1 h2 => congrArg Prod.fst (hall15 i j h1 h2)) hnf hnee hOK0 w hI hd _) (by decide) q493 q496 q498 q99 q500 (by decide +kernel) ⟨Nat.le_of_ble_eq_true rfl, Nat.le_of_ble_eq_true rfl⟩ (wU_r hd hx2) rfl rfl rfl hl.1 rfl (Nat.le_of_ble_eq_true rfl) dX9_all_25 ⟨(show (16 - 1 * n39) + 1 ≤ 16 by omega), (show (61 - 4 * n39) + 4 ≤ 61 by omega)⟩) (fun z49 Ad50 I51 F52 X53 H locs hp55 hB => ?_)
      obtain ⟨rfl, rfl, rfl, q56, rfl, hq57, rfl⟩ := hp55
      rw [ns_up3] at hB
      have hne58 : t ≠ q56 := fun e => by cases (hq57.symm.trans ((congrArg _ e.symm).trans hx0))
      have hne59 : q1 ≠ q56 := fun e => by cases (hq57.symm.trans ((congrArg _ e.symm).trans hx1))
      have hne60 : q23 ≠ q56 := fun e => by cases (hq57.symm.trans ((congrArg _ e.symm).trans hx2))
      replace hB : xBB E (xA (wU w X) sz) s o Ad I (up3 F g12 g13 g14) (va_up (va_up X1 q56 (some (xO 11 [.int (iI (((ns I F (I 9) i j : Nat) : Int))), .int (iI ((i : Int))), .int (iI ((j : Int))), .ref o]))) q23 (some (xO 10 [.int (iI ((i : Int) + (loN (ns I F (I 9) i j) : Int))), .int (iI ((j : Int) + (roN (ns I F (I 9) i j) : Int))), .ref q1]))) _ _ := hB
      refine t_castS C hB q536 ((va_up_n _ _ (Ne.symm hne60)).trans (va_up_s _ _ _)) rfl rfl dX9_all_30 ?_
      refine lv_astore_n (lv' := [(2, .ref q56), (0, .ref t), (1, .ref q23)]) hx hb dX9_all_33 rfl hl (by decide) rfl (fun ls hl => ?_)
      refine lv_aload_n hx hb dX9_all_34 rfl (lv_at hl 1 rfl) ?_
      refine lv_aload_n hx hb dX9_all_35 rfl (lv_at hl 0 rfl) ?_
      refine b_callv ((16 - 1 * n39) + 1) ((61 - 4 * n39) + 4) (by omega) (by omega) hB (fun w hI hd hB => rA (As := [.ref q56]) (n := 1) C hZ hB ⟨"BookPairs$Sum", "takes", "(LBookPairs$Bead;)V"⟩ "BookPairs$Sum" (kX15_takes l E o Ad I (up3 F g12 g13 g14) (va_up (va_up X1 q56 (some (xO 11 [.int (iI (((ns I F (I 9) i j : Nat) : Int))), .int (iI ((i : Int))), .int (iI ((j : Int))), .ref o]))) q23 (some (xO 10 [.int (iI ((i : Int) + (loN (ns I F (I 9) i j) : Int))), .int (iI ((j : Int) + (roN (ns I F (I 9) i j) : Int))), .ref q1]))) t v q56 ((va_up_n _ _ hne25).trans ((va_up_n _ _ hne58).trans hx0)) w hI hd _) q537 q539 q540 q541 q102 q542 q538 (by decide +kernel) ⟨Nat.le_of_ble_eq_true rfl, Nat.le_of_ble_eq_true rfl⟩ (wU_r hd ((va_up_n _ _ hne25).trans ((va_up_n _ _ hne58).trans hx0))) rfl rfl rfl hl.1 rfl (Nat.le_of_ble_eq_true rfl) dX9_all_36 ⟨(show (16 - 1 * n39) + 1 + 0 ≤ 16 by omega), (show (61 - 4 * n39) + 4 + 0 ≤ 61 by omega)⟩) (fun Ad62 I63 F64 X65 H locs hp67 hB => ?_)
      obtain ⟨rfl, rfl, rfl, rfl⟩ := hp67
      replace hB : xBB E (xA (wU w X) sz) s o Ad I (up3 F g12 g13 g14) (va_up (va_up (va_up X1 q56 (some (xO 11 [.int (iI (((ns I F (I 9) i j : Nat) : Int))), .int (iI ((i : Int))), .int (iI ((j : Int))), .ref o]))) q23 (some (xO 10 [.int (iI ((i : Int) + (loN (ns I F (I 9) i j) : Int))), .int (iI ((j : Int) + (roN (ns I F (I 9) i j) : Int))), .ref q1]))) t (some (xO 13 [.int (iI (v + 1)), .ref o, .ref o]))) _ _ := hB
      refine lv_goto (tgt := 15) hx hb dX9_all_39 (by decide) ?_
      refine x_up (c2 := 16 - 1 * (n)) (s2 := 61 - 4 * (n)) (by omega) (by omega) ?_
      exact ih36 _ _ _ _ (by omega) ⟨n, i + loN (ns I F (I 9) i j), j + roN (ns I F (I 9) i j), _, v + 1, rfl, by omega, by omega, by omega, by omega, hnf2, (va_up_s _ _ _), ((va_up_n _ _ (Ne.symm hne4)).trans ((va_up_n _ _ hne26).trans ((va_up_n _ _ hne59).trans hx1))), (by simp only [Int.natCast_add]; exact ((va_up_n _ _ (Ne.symm hne25)).trans (va_up_s _ _ _))), (fun a e g0 h2 => by have h3 := hxs a e g0 h2; rw [va_up_n _ _ g0, va_up_n _ _ (fun z => by rw [z, hXw] at h2; cases h2), va_up_n _ _ (fun z => by rw [z, hq57] at h3; cases h3)]; exact h3), ⟨⟨by have := bpath_len I F (I 9); rw [hpt] at hfold; simp only [List.length_cons] at hfold; omega, by have := bpath_len I F (I 9); rw [hpt] at hfold; simp only [List.length_cons] at hfold; omega⟩, by omega⟩, by rw [← hfold, hpt]; simp only [List.length_cons]; omega, hB, lv_sub hl [1, 2] rfl⟩
    · refine x_if_eq (tgt := 42) hx hb dX9_all_21 (by decide) ⟨by decide, by decide⟩ (fun c68 => ?_) (fun c68 => by exfalso; omega)
      refine lv_aload_n hx hb dX9_all_42 rfl (lv_at hl 0 rfl) ?_
      refine t_get C hB hx0 rfl in_X15 0 (by decide) q406 (fun x h => h) (v := .int (iI v)) rfl dX9_all_43 ?_
      exact b_iret C hB hr hlocks rfl dX9_all_46 (by omega) (by omega) ⟨by omega, by omega⟩ ⟨rfl, rfl, ⟨_, _, _, rfl⟩, hxs, by rw [← hfold, show i = (I 5).toNat by omega, show j = (I 6).toNat by omega, pth_e]; simp⟩
set_option maxHeartbeats 800000 in
set_option maxRecDepth 100000 in
theorem kX9_all_X10 (l : Launch) (E : xE) (o : Nat) (Ad : Nat → Nat) (I : Nat → Int) (F : Nat → Nat → Int) (X : xw) (t : Nat) (av : Nat) (ht : X t = some (xO 8 [.int (iI 0), .ref o, .int (iI ((av : Int))), .ref o])) (hav : av ≤ 7) (hOK : mOK I F) : ci_ l E yX9_all cX9_all 3 (some .int) 9 207 16 61 [.ref t] o Ad I F X (fun z Ad' I' F' X' => Ad = Ad' ∧ I = I' ∧ (∃ g1 g2 g3, up3 F g1 g2 g3 = F') ∧ (∀ a e, a ≠ t → X a = some e → X' a = some e) ∧ z = pwL av (bpath I F (I 9)) 0) := by
  intro w hI hd sz
  refine x_bodyz (by decide) (Nat.le_of_ble_eq_true rfl) ?_
  intro p e s m args below meth c ls hx hb C hr hlocks hin hsz hZ hB hl
  have C : xC E p s m args c cX9_all 3 RX9 := C
  replace hB : xBB E (xA (wU w X) sz) s o Ad I F X s.heap [] := ⟨w, hI, hd, hB⟩
  have hl : lv_has ls 3 [(0, .ref t)] := hl
  have hOK0 := hOK
  obtain ⟨⟨hf1, hf2⟩, ⟨hl1, hl2⟩, ⟨hr1, hr2⟩, hlr, ⟨hs1, hs2⟩, ⟨hj1, hj2⟩, ⟨hb1, hb2⟩, ⟨hn1, hn2⟩, hL, hR, hN, hS, hC⟩ := hOK
  refine t_new C hB (ci := 9) (fs := [.int (iI 0), .null]) rfl in_X11 tyX11_ok q424 q425 q98 dvX11 (Nat.le_of_ble_eq_true rfl) (Nat.le_of_ble_eq_true rfl) dX9_all_0 (fun q1 H hq2 hs3 hB => ?_)
  have hne4 : t ≠ q1 := fun e => by cases (hq2.symm.trans ((congrArg _ e.symm).trans ht))
  refine x_up (c2 := 1) (s2 := 2) (Nat.le_of_ble_eq_true rfl) (Nat.le_of_ble_eq_true rfl) ?_
  replace hB : xBB E (xA (wU w X) sz) s o Ad I F (va_up X q1 (some (xO 9 [.int (iI 0), .null]))) _ _ := hB
  refine lv_dup hx hb dX9_all_3 rfl ?_
  refine lv_aload_n hx hb dX9_all_4 rfl (lv_at hl 0 rfl) ?_
  refine t_get C hB ((va_up_n _ _ hne4).trans ht) rfl in_X10 1 (by decide) q407 (fun x h => h) (v := .ref o) rfl dX9_all_5 ?_
  refine b_callv 1 2 (Nat.le_of_ble_eq_true rfl) (Nat.le_of_ble_eq_true rfl) hB (fun w hI hd hB => rIN (As := [.ref o]) (n := 1) C hZ hB (kX11_init l E o Ad I F (va_up X q1 (some (xO 9 [.int (iI 0), .null]))) q1 (va_up_s _ _ _) hOK0 w hI hd _) q426 q427 q98 q428 rfl (by decide +kernel) ⟨Nat.le_of_ble_eq_true rfl, Nat.le_of_ble_eq_true rfl⟩ rfl hl.1 rfl (Nat.le_of_ble_eq_true rfl) dX9_all_8 ⟨Nat.le_of_ble_eq_true rfl, Nat.le_of_ble_eq_true rfl⟩) (fun Ad6 I7 F8 X9 H locs hp11 hB => ?_)
  obtain ⟨rfl, rfl, g12, g13, g14, rfl, hall15, rfl⟩ := hp11
  rw [bx_uu] at hB
  replace hB : xBB E (xA (wU w X) sz) s o Ad I (up3 F g12 g13 g14) (va_up X q1 (some (xO 9 [.int (iI ((if (DT I F (I 9) 0 0).1 = 100000 then (0 : Int) else 1))), .ref o]))) _ _ := hB
  refine b_callq 2 5 (Nat.le_of_ble_eq_true rfl) (Nat.le_of_ble_eq_true rfl) hB (fun w hI hd hB => rV (As := []) (n := 0) C hZ hB (kX11_iterator l E o Ad I (up3 F g12 g13 g14) (va_up X q1 (some (xO 9 [.int (iI ((if (DT I F (I 9) 0 0).1 = 100000 then (0 : Int) else 1))), .ref o]))) q1 ((if (DT I F (I 9) 0 0).1 = 100000 then (0 : Int) else 1)) (va_up_s _ _ _) w hI hd _) (lw_V q460 q461 q462 q98 q463) (by decide +kernel) ⟨Nat.le_of_ble_eq_true rfl, Nat.le_of_ble_eq_true rfl⟩ (wU_r hd (va_up_s _ _ _)) rfl rfl rfl hl.1 rfl (Nat.le_of_ble_eq_true rfl) dX9_all_11 ⟨Nat.le_of_ble_eq_true rfl, Nat.le_of_ble_eq_true rfl⟩) (fun z16 Ad17 I18 F19 X20 H locs hp22 hB => ?_)
  obtain ⟨rfl, rfl, rfl, q23, rfl, hq24, rfl⟩ := hp22
  have hne25 : t ≠ q23 := fun e => by cases (hq24.symm.trans ((congrArg _ e.symm).trans ((va_up_n _ _ hne4).trans ht)))
  have hne26 : q1 ≠ q23 := fun e => by cases (hq24.symm.trans ((congrArg _ e.symm).trans (va_up_s _ _ _)))
  replace hB : xBB E (xA (wU w X) sz) s o Ad I (up3 F g12 g13 g14) (va_up (va_up X q1 (some (xO 9 [.int (iI ((if (DT I F (I 9) 0 0).1 = 100000 then (0 : Int) else 1))), .ref o]))) q23 (some (xO 10 [.int (iI 0), .int (iI 0), .ref q1]))) _ _ := hB
  refine lv_astore_n (lv' := [(1, .ref q23), (0, .ref t)]) hx hb dX9_all_14 rfl hl (by decide) rfl (fun ls hl => ?_)
  by_cases hD : (DT I F (I 9) 0 0).1 = 100000
  · rw [if_pos hD] at hB
    replace hB : xBB E (xA (wU w X) sz) s o Ad I (up3 F g12 g13 g14) (va_up (va_up X q1 (some (xO 9 [.int (iI 0), .ref o]))) q23 (some (xO 10 [.int (iI 0), .int (iI 0), .ref q1]))) _ _ := hB
    have hbp : bpath I F (I 9) = [] := if_pos hD
    refine lv_aload_n hx hb dX9_all_15 rfl (lv_at hl 0 rfl) ?_
    refine b_callFi 2 5 (Nat.le_of_ble_eq_true rfl) (Nat.le_of_ble_eq_true rfl) hB (fun w hI hd hB => rF (As := []) (n := 0) C hZ hB ⟨"java/util/Iterator", "hasNext", "()Z"⟩ (kX12_hasNext l E o Ad I (up3 F g12 g13 g14) (va_up (va_up X q1 (some (xO 9 [.int (iI 0), .ref o]))) q23 (some (xO 10 [.int (iI 0), .int (iI 0), .ref q1]))) q23 0 0 q1 0 (va_up_s _ _ _) ((va_up_n _ _ hne26).trans (va_up_s _ _ _)) (by omega) (by omega) hOK0 w hI hd _) (by decide) q481 q485 q487 q99 q489 (by decide +kernel) ⟨Nat.le_of_ble_eq_true rfl, Nat.le_of_ble_eq_true rfl⟩ (wU_r hd (va_up_s _ _ _)) rfl rfl rfl hl.1 rfl (Nat.le_of_ble_eq_true rfl) dX9_all_16 ⟨Nat.le_of_ble_eq_true rfl, Nat.le_of_ble_eq_true rfl⟩) (fun z27 Ad28 I29 F30 X31 H locs hz32 hp33 hB => ?_)
    obtain ⟨hz32a, hz32b⟩ := hz32
    obtain ⟨rfl, rfl, rfl, rfl, ⟨rfl, h34⟩ | ⟨rfl, h34⟩⟩ := hp33
    · exact absurd h34.1 (by decide)
    · refine x_if_eq (tgt := 42) hx hb dX9_all_21 (by decide) ⟨by decide, by decide⟩ (fun c35 => ?_) (fun c35 => by exfalso; omega)
      refine lv_aload_n hx hb dX9_all_42 rfl (lv_at hl 1 rfl) ?_
      refine t_get C hB ((va_up_n _ _ hne25).trans ((va_up_n _ _ hne4).trans ht)) rfl in_X10 0 (by decide) q406 (fun x h => h) (v := .int (iI 0)) rfl dX9_all_43 ?_
      exact b_iret C hB hr hlocks rfl dX9_all_46 (Nat.le_of_ble_eq_true rfl) (Nat.le_of_ble_eq_true rfl) ⟨by decide, by decide⟩ ⟨rfl, rfl, ⟨_, _, _, rfl⟩, fun a e g0 h2 => by rw [va_up_n _ _ (fun z => by rw [z, (va_up_none hq24).1] at h2; cases h2), va_up_n _ _ (fun z => by rw [z, hq2] at h2; cases h2)]; exact h2, by rw [hbp]; rfl⟩
  · rw [if_neg hD] at hB
    replace hB : xBB E (xA (wU w X) sz) s o Ad I (up3 F g12 g13 g14) (va_up (va_up X q1 (some (xO 9 [.int (iI 1), .ref o]))) q23 (some (xO 10 [.int (iI 0), .int (iI 0), .ref q1]))) _ _ := hB
    have hXw := (va_up_none hq24).1
    refine x_up (c2 := 16 - 1 * 14) (s2 := 61 - 4 * 14) (by omega) (by omega) ?_
    refine w_loopC 16 61 1 4 (fun n39 H locs ls => ∃ (n : Nat) (i : Nat) (j : Nat) (X1 : xw) (v : Int), n39 = n ∧ (n ≤ 14) ∧ (i ≤ (I 5).toNat) ∧ (j ≤ (I 6).toNat) ∧ (((I 5).toNat - i) + ((I 6).toNat - j) ≤ n) ∧ ((DT I F (I 9) i j).1 ≠ 100000) ∧ (X1 t = some (xO 8 [.int (iI v), .ref o, .int (iI ((av : Int))), .ref o])) ∧ (X1 q1 = some (xO 9 [.int (iI 1), .ref o])) ∧ (X1 q23 = some (xO 10 [.int (iI ((i : Int))), .int (iI ((j : Int))), .ref q1])) ∧ (∀ a e, a ≠ t → X a = some e → X1 a = some e) ∧ (rg v) ∧ (pwL av (pth I F (I 9) n i j) v = pwL av (bpath I F (I 9)) 0) ∧ xBB E (xA (wU w X) sz) s o Ad I (up3 F g12 g13 g14) X1 H locs ∧ lv_has ls 3 [(0, .ref t), (1, .ref q23)]) 14 ⟨14, 0, 0, _, 0, rfl, by omega, by omega, by omega, by omega, hD, ((va_up_n _ _ hne25).trans ((va_up_n _ _ hne4).trans ht)), ((va_up_n _ _ hne26).trans (va_up_s _ _ _)), (va_up_s _ _ _), (fun a e g0 h2 => by rw [va_up_n _ _ (fun z => by rw [z, hXw] at h2; cases h2), va_up_n _ _ (fun z => by rw [z, hq2] at h2; cases h2)]; exact h2), ⟨by omega, by omega⟩, by show pwL av (pth I F (I 9) 14 0 0) 0 = _; rw [show bpath I F (I 9) = pth I F (I 9) 14 0 0 from if_neg hD], hB, lv_sub hl [1, 0] rfl⟩ ?_
    intro n39 H locs ls hI38 ih36
    obtain ⟨n, i, j, X1, v, hn37, hn14, hiI, hjI, hfu, hnf, hx0, hx1, hx2, hxs, hv, hfold, hB, hl⟩ := hI38
    refine lv_aload_n hx hb dX9_all_15 rfl (lv_at hl 1 rfl) ?_
    refine b_callFi ((16 - 1 * n39)) ((61 - 4 * n39)) (by omega) (by omega) hB (fun w hI hd hB => rF (As := []) (n := 0) C hZ hB ⟨"java/util/Iterator", "hasNext", "()Z"⟩ (kX12_hasNext l E o Ad I (up3 F g12 g13 g14) X1 q23 i j q1 1 hx2 hx1 (by omega) (by omega) hOK0 w hI hd _) (by decide) q481 q485 q487 q99 q489 (by decide +kernel) ⟨Nat.le_of_ble_eq_true rfl, Nat.le_of_ble_eq_true rfl⟩ (wU_r hd hx2) rfl rfl rfl hl.1 rfl (Nat.le_of_ble_eq_true rfl) dX9_all_16 ⟨(show (16 - 1 * n39) + 0 ≤ 16 by omega), (show (61 - 4 * n39) + 0 ≤ 61 by omega)⟩) (fun z40 Ad41 I42 F43 X44 H locs hz45 hp46 hB => ?_)
    obtain ⟨hz45a, hz45b⟩ := hz45
    obtain ⟨rfl, rfl, rfl, rfl, ⟨rfl, h47⟩ | ⟨rfl, h47⟩⟩ := hp46
    · refine x_if_eq (tgt := 42) hx hb dX9_all_21 (by decide) ⟨by decide, by decide⟩ (fun c48 => by exfalso; omega) (fun c48 => ?_)
      refine lv_aload_n hx hb dX9_all_24 rfl (lv_at hl 1 rfl) ?_
      obtain ⟨n, rfl⟩ : ∃ m_, n = m_ + 1 := ⟨n - 1, by omega⟩
      have hnee : ¬ (i = (I 5).toNat ∧ j = (I 6).toNat) := by omega
      have hns := ns_spec (onB_ex hOK0 (by omega) (by omega) hnf hnee)
      have hns5 := hns.2.1
      obtain ⟨hob1, hob2, hob3⟩ := onB_iff.mp hns.1
      have hnf2 := onB_fin hOK0 (by omega) (by omega) hns5 hnf hns.1
      have hpt := pth_s (F := F) (w := I 9) (n := n) hnee
      have hlrn := lr_pos (ns I F (I 9) i j)
      refine b_callFq ((16 - 1 * n39) + 1) ((61 - 4 * n39) + 4) (by omega) (by omega) hB (fun w hI hd hB => rF (As := []) (n := 0) C hZ hB ⟨"java/util/Iterator", "next", "()Ljava/lang/Object;"⟩ (kX12_next l E o Ad I (up3 F g12 g13 g14) X1 q23 i j q1 1 (I 9) hx2 hx1 (by omega) (by omega) (by omega) (fun i j h1 h2 => congrArg Prod.fst (hall15 i j h1 h2)) hnf hnee hOK0 w hI hd _) (by decide) q493 q496 q498 q99 q500 (by decide +kernel) ⟨Nat.le_of_ble_eq_true rfl, Nat.le_of_ble_eq_true rfl⟩ (wU_r hd hx2) rfl rfl rfl hl.1 rfl (Nat.le_of_ble_eq_true rfl) dX9_all_25 ⟨(show (16 - 1 * n39) + 1 ≤ 16 by omega), (show (61 - 4 * n39) + 4 ≤ 61 by omega)⟩) (fun z49 Ad50 I51 F52 X53 H locs hp55 hB => ?_)
      obtain ⟨rfl, rfl, rfl, q56, rfl, hq57, rfl⟩ := hp55
      rw [ns_up3] at hB
      have hne58 : t ≠ q56 := fun e => by cases (hq57.symm.trans ((congrArg _ e.symm).trans hx0))
      have hne59 : q1 ≠ q56 := fun e => by cases (hq57.symm.trans ((congrArg _ e.symm).trans hx1))
      have hne60 : q23 ≠ q56 := fun e => by cases (hq57.symm.trans ((congrArg _ e.symm).trans hx2))
      replace hB : xBB E (xA (wU w X) sz) s o Ad I (up3 F g12 g13 g14) (va_up (va_up X1 q56 (some (xO 11 [.int (iI (((ns I F (I 9) i j : Nat) : Int))), .int (iI ((i : Int))), .int (iI ((j : Int))), .ref o]))) q23 (some (xO 10 [.int (iI ((i : Int) + (loN (ns I F (I 9) i j) : Int))), .int (iI ((j : Int) + (roN (ns I F (I 9) i j) : Int))), .ref q1]))) _ _ := hB
      refine t_castS C hB q536 ((va_up_n _ _ (Ne.symm hne60)).trans (va_up_s _ _ _)) rfl rfl dX9_all_30 ?_
      refine lv_astore_n (lv' := [(2, .ref q56), (0, .ref t), (1, .ref q23)]) hx hb dX9_all_33 rfl hl (by decide) rfl (fun ls hl => ?_)
      refine lv_aload_n hx hb dX9_all_34 rfl (lv_at hl 1 rfl) ?_
      refine lv_aload_n hx hb dX9_all_35 rfl (lv_at hl 0 rfl) ?_
      refine b_callv ((16 - 1 * n39) + 1) ((61 - 4 * n39) + 4) (by omega) (by omega) hB (fun w hI hd hB => rA (As := [.ref q56]) (n := 1) C hZ hB ⟨"BookPairs$Sum", "takes", "(LBookPairs$Bead;)V"⟩ "BookPairs$Sum" (kX10_takes l E o Ad I (up3 F g12 g13 g14) (va_up (va_up X1 q56 (some (xO 11 [.int (iI (((ns I F (I 9) i j : Nat) : Int))), .int (iI ((i : Int))), .int (iI ((j : Int))), .ref o]))) q23 (some (xO 10 [.int (iI ((i : Int) + (loN (ns I F (I 9) i j) : Int))), .int (iI ((j : Int) + (roN (ns I F (I 9) i j) : Int))), .ref q1]))) t v av q56 (ns I F (I 9) i j) i j ((va_up_n _ _ hne25).trans ((va_up_n _ _ hne58).trans hx0)) ((va_up_n _ _ (Ne.symm hne60)).trans (va_up_s _ _ _)) (by omega) hne58 (by omega) w hI hd _) q537 q539 q556 q557 q97 q558 q538 (by decide +kernel) ⟨Nat.le_of_ble_eq_true rfl, Nat.le_of_ble_eq_true rfl⟩ (wU_r hd ((va_up_n _ _ hne25).trans ((va_up_n _ _ hne58).trans hx0))) rfl rfl rfl hl.1 rfl (Nat.le_of_ble_eq_true rfl) dX9_all_36 ⟨(show (16 - 1 * n39) + 1 + 0 ≤ 16 by omega), (show (61 - 4 * n39) + 4 + 0 ≤ 61 by omega)⟩) (fun Ad62 I63 F64 X65 H locs hp67 hB => ?_)
      obtain ⟨rfl, rfl, rfl, rfl⟩ := hp67
      replace hB : xBB E (xA (wU w X) sz) s o Ad I (up3 F g12 g13 g14) (va_up (va_up (va_up X1 q56 (some (xO 11 [.int (iI (((ns I F (I 9) i j : Nat) : Int))), .int (iI ((i : Int))), .int (iI ((j : Int))), .ref o]))) q23 (some (xO 10 [.int (iI ((i : Int) + (loN (ns I F (I 9) i j) : Int))), .int (iI ((j : Int) + (roN (ns I F (I 9) i j) : Int))), .ref q1]))) t (some (xO 8 [.int (iI (bOr v (if i ≤ av ∧ av < i + loN (ns I F (I 9) i j) then bShl (bShl 1 (roN (ns I F (I 9) i j) : Int) - 1) (j : Int) else 0))), .ref o, .int (iI ((av : Int))), .ref o]))) _ _ := hB
      refine lv_goto (tgt := 15) hx hb dX9_all_39 (by decide) ?_
      refine x_up (c2 := 16 - 1 * (n)) (s2 := 61 - 4 * (n)) (by omega) (by omega) ?_
      exact ih36 _ _ _ _ (by omega) ⟨n, i + loN (ns I F (I 9) i j), j + roN (ns I F (I 9) i j), _, _, rfl, by omega, by omega, by omega, by omega, hnf2, (va_up_s _ _ _), ((va_up_n _ _ (Ne.symm hne4)).trans ((va_up_n _ _ hne26).trans ((va_up_n _ _ hne59).trans hx1))), (by simp only [Int.natCast_add]; exact ((va_up_n _ _ (Ne.symm hne25)).trans (va_up_s _ _ _))), (fun a e g0 h2 => by have h3 := hxs a e g0 h2; rw [va_up_n _ _ g0, va_up_n _ _ (fun z => by rw [z, hXw] at h2; cases h2), va_up_n _ _ (fun z => by rw [z, hq57] at h3; cases h3)]; exact h3), rg_or _ _, by rw [← hfold, hpt]; rfl, hB, lv_sub hl [1, 2] rfl⟩
    · refine x_if_eq (tgt := 42) hx hb dX9_all_21 (by decide) ⟨by decide, by decide⟩ (fun c68 => ?_) (fun c68 => by exfalso; omega)
      refine lv_aload_n hx hb dX9_all_42 rfl (lv_at hl 0 rfl) ?_
      refine t_get C hB hx0 rfl in_X10 0 (by decide) q406 (fun x h => h) (v := .int (iI v)) rfl dX9_all_43 ?_
      exact b_iret C hB hr hlocks rfl dX9_all_46 (by omega) (by omega) ⟨by omega, by omega⟩ ⟨rfl, rfl, ⟨_, _, _, rfl⟩, hxs, by rw [← hfold, show i = (I 5).toNat by omega, show j = (I 6).toNat by omega, pth_e]; rfl⟩
set_option maxHeartbeats 800000 in
set_option maxRecDepth 100000 in
theorem kX9_all_X14 (l : Launch) (E : xE) (o : Nat) (Ad : Nat → Nat) (I : Nat → Int) (F : Nat → Nat → Int) (X : xw) (t : Nat) (av : Nat) (ht : X t = some (xO 12 [.int (iI 0), .ref o, .int (iI ((av : Int))), .ref o])) (hav : av ≤ 7) (hOK : mOK I F) : ci_ l E yX9_all cX9_all 3 (some .int) 9 207 16 61 [.ref t] o Ad I F X (fun z Ad' I' F' X' => Ad = Ad' ∧ I = I' ∧ (∃ g1 g2 g3, up3 F g1 g2 g3 = F') ∧ (∀ a e, a ≠ t → X a = some e → X' a = some e) ∧ z = pwR av (bpath I F (I 9)) 0) := by
  intro w hI hd sz
  refine x_bodyz (by decide) (Nat.le_of_ble_eq_true rfl) ?_
  intro p e s m args below meth c ls hx hb C hr hlocks hin hsz hZ hB hl
  have C : xC E p s m args c cX9_all 3 RX9 := C
  replace hB : xBB E (xA (wU w X) sz) s o Ad I F X s.heap [] := ⟨w, hI, hd, hB⟩
  have hl : lv_has ls 3 [(0, .ref t)] := hl
  have hOK0 := hOK
  obtain ⟨⟨hf1, hf2⟩, ⟨hl1, hl2⟩, ⟨hr1, hr2⟩, hlr, ⟨hs1, hs2⟩, ⟨hj1, hj2⟩, ⟨hb1, hb2⟩, ⟨hn1, hn2⟩, hL, hR, hN, hS, hC⟩ := hOK
  refine t_new C hB (ci := 9) (fs := [.int (iI 0), .null]) rfl in_X11 tyX11_ok q424 q425 q98 dvX11 (Nat.le_of_ble_eq_true rfl) (Nat.le_of_ble_eq_true rfl) dX9_all_0 (fun q1 H hq2 hs3 hB => ?_)
  have hne4 : t ≠ q1 := fun e => by cases (hq2.symm.trans ((congrArg _ e.symm).trans ht))
  refine x_up (c2 := 1) (s2 := 2) (Nat.le_of_ble_eq_true rfl) (Nat.le_of_ble_eq_true rfl) ?_
  replace hB : xBB E (xA (wU w X) sz) s o Ad I F (va_up X q1 (some (xO 9 [.int (iI 0), .null]))) _ _ := hB
  refine lv_dup hx hb dX9_all_3 rfl ?_
  refine lv_aload_n hx hb dX9_all_4 rfl (lv_at hl 0 rfl) ?_
  refine t_get C hB ((va_up_n _ _ hne4).trans ht) rfl in_X14 1 (by decide) q407 (fun x h => h) (v := .ref o) rfl dX9_all_5 ?_
  refine b_callv 1 2 (Nat.le_of_ble_eq_true rfl) (Nat.le_of_ble_eq_true rfl) hB (fun w hI hd hB => rIN (As := [.ref o]) (n := 1) C hZ hB (kX11_init l E o Ad I F (va_up X q1 (some (xO 9 [.int (iI 0), .null]))) q1 (va_up_s _ _ _) hOK0 w hI hd _) q426 q427 q98 q428 rfl (by decide +kernel) ⟨Nat.le_of_ble_eq_true rfl, Nat.le_of_ble_eq_true rfl⟩ rfl hl.1 rfl (Nat.le_of_ble_eq_true rfl) dX9_all_8 ⟨Nat.le_of_ble_eq_true rfl, Nat.le_of_ble_eq_true rfl⟩) (fun Ad6 I7 F8 X9 H locs hp11 hB => ?_)
  obtain ⟨rfl, rfl, g12, g13, g14, rfl, hall15, rfl⟩ := hp11
  rw [bx_uu] at hB
  replace hB : xBB E (xA (wU w X) sz) s o Ad I (up3 F g12 g13 g14) (va_up X q1 (some (xO 9 [.int (iI ((if (DT I F (I 9) 0 0).1 = 100000 then (0 : Int) else 1))), .ref o]))) _ _ := hB
  refine b_callq 2 5 (Nat.le_of_ble_eq_true rfl) (Nat.le_of_ble_eq_true rfl) hB (fun w hI hd hB => rV (As := []) (n := 0) C hZ hB (kX11_iterator l E o Ad I (up3 F g12 g13 g14) (va_up X q1 (some (xO 9 [.int (iI ((if (DT I F (I 9) 0 0).1 = 100000 then (0 : Int) else 1))), .ref o]))) q1 ((if (DT I F (I 9) 0 0).1 = 100000 then (0 : Int) else 1)) (va_up_s _ _ _) w hI hd _) (lw_V q460 q461 q462 q98 q463) (by decide +kernel) ⟨Nat.le_of_ble_eq_true rfl, Nat.le_of_ble_eq_true rfl⟩ (wU_r hd (va_up_s _ _ _)) rfl rfl rfl hl.1 rfl (Nat.le_of_ble_eq_true rfl) dX9_all_11 ⟨Nat.le_of_ble_eq_true rfl, Nat.le_of_ble_eq_true rfl⟩) (fun z16 Ad17 I18 F19 X20 H locs hp22 hB => ?_)
  obtain ⟨rfl, rfl, rfl, q23, rfl, hq24, rfl⟩ := hp22
  have hne25 : t ≠ q23 := fun e => by cases (hq24.symm.trans ((congrArg _ e.symm).trans ((va_up_n _ _ hne4).trans ht)))
  have hne26 : q1 ≠ q23 := fun e => by cases (hq24.symm.trans ((congrArg _ e.symm).trans (va_up_s _ _ _)))
  replace hB : xBB E (xA (wU w X) sz) s o Ad I (up3 F g12 g13 g14) (va_up (va_up X q1 (some (xO 9 [.int (iI ((if (DT I F (I 9) 0 0).1 = 100000 then (0 : Int) else 1))), .ref o]))) q23 (some (xO 10 [.int (iI 0), .int (iI 0), .ref q1]))) _ _ := hB
  refine lv_astore_n (lv' := [(1, .ref q23), (0, .ref t)]) hx hb dX9_all_14 rfl hl (by decide) rfl (fun ls hl => ?_)
  by_cases hD : (DT I F (I 9) 0 0).1 = 100000
  · rw [if_pos hD] at hB
    replace hB : xBB E (xA (wU w X) sz) s o Ad I (up3 F g12 g13 g14) (va_up (va_up X q1 (some (xO 9 [.int (iI 0), .ref o]))) q23 (some (xO 10 [.int (iI 0), .int (iI 0), .ref q1]))) _ _ := hB
    have hbp : bpath I F (I 9) = [] := if_pos hD
    refine lv_aload_n hx hb dX9_all_15 rfl (lv_at hl 0 rfl) ?_
    refine b_callFi 2 5 (Nat.le_of_ble_eq_true rfl) (Nat.le_of_ble_eq_true rfl) hB (fun w hI hd hB => rF (As := []) (n := 0) C hZ hB ⟨"java/util/Iterator", "hasNext", "()Z"⟩ (kX12_hasNext l E o Ad I (up3 F g12 g13 g14) (va_up (va_up X q1 (some (xO 9 [.int (iI 0), .ref o]))) q23 (some (xO 10 [.int (iI 0), .int (iI 0), .ref q1]))) q23 0 0 q1 0 (va_up_s _ _ _) ((va_up_n _ _ hne26).trans (va_up_s _ _ _)) (by omega) (by omega) hOK0 w hI hd _) (by decide) q481 q485 q487 q99 q489 (by decide +kernel) ⟨Nat.le_of_ble_eq_true rfl, Nat.le_of_ble_eq_true rfl⟩ (wU_r hd (va_up_s _ _ _)) rfl rfl rfl hl.1 rfl (Nat.le_of_ble_eq_true rfl) dX9_all_16 ⟨Nat.le_of_ble_eq_true rfl, Nat.le_of_ble_eq_true rfl⟩) (fun z27 Ad28 I29 F30 X31 H locs hz32 hp33 hB => ?_)
    obtain ⟨hz32a, hz32b⟩ := hz32
    obtain ⟨rfl, rfl, rfl, rfl, ⟨rfl, h34⟩ | ⟨rfl, h34⟩⟩ := hp33
    · exact absurd h34.1 (by decide)
    · refine x_if_eq (tgt := 42) hx hb dX9_all_21 (by decide) ⟨by decide, by decide⟩ (fun c35 => ?_) (fun c35 => by exfalso; omega)
      refine lv_aload_n hx hb dX9_all_42 rfl (lv_at hl 1 rfl) ?_
      refine t_get C hB ((va_up_n _ _ hne25).trans ((va_up_n _ _ hne4).trans ht)) rfl in_X14 0 (by decide) q406 (fun x h => h) (v := .int (iI 0)) rfl dX9_all_43 ?_
      exact b_iret C hB hr hlocks rfl dX9_all_46 (Nat.le_of_ble_eq_true rfl) (Nat.le_of_ble_eq_true rfl) ⟨by decide, by decide⟩ ⟨rfl, rfl, ⟨_, _, _, rfl⟩, fun a e g0 h2 => by rw [va_up_n _ _ (fun z => by rw [z, (va_up_none hq24).1] at h2; cases h2), va_up_n _ _ (fun z => by rw [z, hq2] at h2; cases h2)]; exact h2, by rw [hbp]; rfl⟩
  · rw [if_neg hD] at hB
    replace hB : xBB E (xA (wU w X) sz) s o Ad I (up3 F g12 g13 g14) (va_up (va_up X q1 (some (xO 9 [.int (iI 1), .ref o]))) q23 (some (xO 10 [.int (iI 0), .int (iI 0), .ref q1]))) _ _ := hB
    have hXw := (va_up_none hq24).1
    refine x_up (c2 := 16 - 1 * 14) (s2 := 61 - 4 * 14) (by omega) (by omega) ?_
    refine w_loopC 16 61 1 4 (fun n39 H locs ls => ∃ (n : Nat) (i : Nat) (j : Nat) (X1 : xw) (v : Int), n39 = n ∧ (n ≤ 14) ∧ (i ≤ (I 5).toNat) ∧ (j ≤ (I 6).toNat) ∧ (((I 5).toNat - i) + ((I 6).toNat - j) ≤ n) ∧ ((DT I F (I 9) i j).1 ≠ 100000) ∧ (X1 t = some (xO 12 [.int (iI v), .ref o, .int (iI ((av : Int))), .ref o])) ∧ (X1 q1 = some (xO 9 [.int (iI 1), .ref o])) ∧ (X1 q23 = some (xO 10 [.int (iI ((i : Int))), .int (iI ((j : Int))), .ref q1])) ∧ (∀ a e, a ≠ t → X a = some e → X1 a = some e) ∧ (rg v) ∧ (pwR av (pth I F (I 9) n i j) v = pwR av (bpath I F (I 9)) 0) ∧ xBB E (xA (wU w X) sz) s o Ad I (up3 F g12 g13 g14) X1 H locs ∧ lv_has ls 3 [(0, .ref t), (1, .ref q23)]) 14 ⟨14, 0, 0, _, 0, rfl, by omega, by omega, by omega, by omega, hD, ((va_up_n _ _ hne25).trans ((va_up_n _ _ hne4).trans ht)), ((va_up_n _ _ hne26).trans (va_up_s _ _ _)), (va_up_s _ _ _), (fun a e g0 h2 => by rw [va_up_n _ _ (fun z => by rw [z, hXw] at h2; cases h2), va_up_n _ _ (fun z => by rw [z, hq2] at h2; cases h2)]; exact h2), ⟨by omega, by omega⟩, by show pwR av (pth I F (I 9) 14 0 0) 0 = _; rw [show bpath I F (I 9) = pth I F (I 9) 14 0 0 from if_neg hD], hB, lv_sub hl [1, 0] rfl⟩ ?_
    intro n39 H locs ls hI38 ih36
    obtain ⟨n, i, j, X1, v, hn37, hn14, hiI, hjI, hfu, hnf, hx0, hx1, hx2, hxs, hv, hfold, hB, hl⟩ := hI38
    refine lv_aload_n hx hb dX9_all_15 rfl (lv_at hl 1 rfl) ?_
    refine b_callFi ((16 - 1 * n39)) ((61 - 4 * n39)) (by omega) (by omega) hB (fun w hI hd hB => rF (As := []) (n := 0) C hZ hB ⟨"java/util/Iterator", "hasNext", "()Z"⟩ (kX12_hasNext l E o Ad I (up3 F g12 g13 g14) X1 q23 i j q1 1 hx2 hx1 (by omega) (by omega) hOK0 w hI hd _) (by decide) q481 q485 q487 q99 q489 (by decide +kernel) ⟨Nat.le_of_ble_eq_true rfl, Nat.le_of_ble_eq_true rfl⟩ (wU_r hd hx2) rfl rfl rfl hl.1 rfl (Nat.le_of_ble_eq_true rfl) dX9_all_16 ⟨(show (16 - 1 * n39) + 0 ≤ 16 by omega), (show (61 - 4 * n39) + 0 ≤ 61 by omega)⟩) (fun z40 Ad41 I42 F43 X44 H locs hz45 hp46 hB => ?_)
    obtain ⟨hz45a, hz45b⟩ := hz45
    obtain ⟨rfl, rfl, rfl, rfl, ⟨rfl, h47⟩ | ⟨rfl, h47⟩⟩ := hp46
    · refine x_if_eq (tgt := 42) hx hb dX9_all_21 (by decide) ⟨by decide, by decide⟩ (fun c48 => by exfalso; omega) (fun c48 => ?_)
      refine lv_aload_n hx hb dX9_all_24 rfl (lv_at hl 1 rfl) ?_
      obtain ⟨n, rfl⟩ : ∃ m_, n = m_ + 1 := ⟨n - 1, by omega⟩
      have hnee : ¬ (i = (I 5).toNat ∧ j = (I 6).toNat) := by omega
      have hns := ns_spec (onB_ex hOK0 (by omega) (by omega) hnf hnee)
      have hns5 := hns.2.1
      obtain ⟨hob1, hob2, hob3⟩ := onB_iff.mp hns.1
      have hnf2 := onB_fin hOK0 (by omega) (by omega) hns5 hnf hns.1
      have hpt := pth_s (F := F) (w := I 9) (n := n) hnee
      have hlrn := lr_pos (ns I F (I 9) i j)
      refine b_callFq ((16 - 1 * n39) + 1) ((61 - 4 * n39) + 4) (by omega) (by omega) hB (fun w hI hd hB => rF (As := []) (n := 0) C hZ hB ⟨"java/util/Iterator", "next", "()Ljava/lang/Object;"⟩ (kX12_next l E o Ad I (up3 F g12 g13 g14) X1 q23 i j q1 1 (I 9) hx2 hx1 (by omega) (by omega) (by omega) (fun i j h1 h2 => congrArg Prod.fst (hall15 i j h1 h2)) hnf hnee hOK0 w hI hd _) (by decide) q493 q496 q498 q99 q500 (by decide +kernel) ⟨Nat.le_of_ble_eq_true rfl, Nat.le_of_ble_eq_true rfl⟩ (wU_r hd hx2) rfl rfl rfl hl.1 rfl (Nat.le_of_ble_eq_true rfl) dX9_all_25 ⟨(show (16 - 1 * n39) + 1 ≤ 16 by omega), (show (61 - 4 * n39) + 4 ≤ 61 by omega)⟩) (fun z49 Ad50 I51 F52 X53 H locs hp55 hB => ?_)
      obtain ⟨rfl, rfl, rfl, q56, rfl, hq57, rfl⟩ := hp55
      rw [ns_up3] at hB
      have hne58 : t ≠ q56 := fun e => by cases (hq57.symm.trans ((congrArg _ e.symm).trans hx0))
      have hne59 : q1 ≠ q56 := fun e => by cases (hq57.symm.trans ((congrArg _ e.symm).trans hx1))
      have hne60 : q23 ≠ q56 := fun e => by cases (hq57.symm.trans ((congrArg _ e.symm).trans hx2))
      replace hB : xBB E (xA (wU w X) sz) s o Ad I (up3 F g12 g13 g14) (va_up (va_up X1 q56 (some (xO 11 [.int (iI (((ns I F (I 9) i j : Nat) : Int))), .int (iI ((i : Int))), .int (iI ((j : Int))), .ref o]))) q23 (some (xO 10 [.int (iI ((i : Int) + (loN (ns I F (I 9) i j) : Int))), .int (iI ((j : Int) + (roN (ns I F (I 9) i j) : Int))), .ref q1]))) _ _ := hB
      refine t_castS C hB q536 ((va_up_n _ _ (Ne.symm hne60)).trans (va_up_s _ _ _)) rfl rfl dX9_all_30 ?_
      refine lv_astore_n (lv' := [(2, .ref q56), (0, .ref t), (1, .ref q23)]) hx hb dX9_all_33 rfl hl (by decide) rfl (fun ls hl => ?_)
      refine lv_aload_n hx hb dX9_all_34 rfl (lv_at hl 1 rfl) ?_
      refine lv_aload_n hx hb dX9_all_35 rfl (lv_at hl 0 rfl) ?_
      refine b_callv ((16 - 1 * n39) + 1) ((61 - 4 * n39) + 4) (by omega) (by omega) hB (fun w hI hd hB => rA (As := [.ref q56]) (n := 1) C hZ hB ⟨"BookPairs$Sum", "takes", "(LBookPairs$Bead;)V"⟩ "BookPairs$Sum" (kX14_takes l E o Ad I (up3 F g12 g13 g14) (va_up (va_up X1 q56 (some (xO 11 [.int (iI (((ns I F (I 9) i j : Nat) : Int))), .int (iI ((i : Int))), .int (iI ((j : Int))), .ref o]))) q23 (some (xO 10 [.int (iI ((i : Int) + (loN (ns I F (I 9) i j) : Int))), .int (iI ((j : Int) + (roN (ns I F (I 9) i j) : Int))), .ref q1]))) t v av q56 (ns I F (I 9) i j) i j ((va_up_n _ _ hne25).trans ((va_up_n _ _ hne58).trans hx0)) ((va_up_n _ _ (Ne.symm hne60)).trans (va_up_s _ _ _)) (by omega) hne58 (by omega) w hI hd _) q537 q539 q543 q544 q101 q545 q538 (by decide +kernel) ⟨Nat.le_of_ble_eq_true rfl, Nat.le_of_ble_eq_true rfl⟩ (wU_r hd ((va_up_n _ _ hne25).trans ((va_up_n _ _ hne58).trans hx0))) rfl rfl rfl hl.1 rfl (Nat.le_of_ble_eq_true rfl) dX9_all_36 ⟨(show (16 - 1 * n39) + 1 + 0 ≤ 16 by omega), (show (61 - 4 * n39) + 4 + 0 ≤ 61 by omega)⟩) (fun Ad62 I63 F64 X65 H locs hp67 hB => ?_)
      obtain ⟨rfl, rfl, rfl, rfl⟩ := hp67
      replace hB : xBB E (xA (wU w X) sz) s o Ad I (up3 F g12 g13 g14) (va_up (va_up (va_up X1 q56 (some (xO 11 [.int (iI (((ns I F (I 9) i j : Nat) : Int))), .int (iI ((i : Int))), .int (iI ((j : Int))), .ref o]))) q23 (some (xO 10 [.int (iI ((i : Int) + (loN (ns I F (I 9) i j) : Int))), .int (iI ((j : Int) + (roN (ns I F (I 9) i j) : Int))), .ref q1]))) t (some (xO 12 [.int (iI (bOr v (if j ≤ av ∧ av < j + roN (ns I F (I 9) i j) then bShl (bShl 1 (loN (ns I F (I 9) i j) : Int) - 1) (i : Int) else 0))), .ref o, .int (iI ((av : Int))), .ref o]))) _ _ := hB
      refine lv_goto (tgt := 15) hx hb dX9_all_39 (by decide) ?_
      refine x_up (c2 := 16 - 1 * (n)) (s2 := 61 - 4 * (n)) (by omega) (by omega) ?_
      exact ih36 _ _ _ _ (by omega) ⟨n, i + loN (ns I F (I 9) i j), j + roN (ns I F (I 9) i j), _, _, rfl, by omega, by omega, by omega, by omega, hnf2, (va_up_s _ _ _), ((va_up_n _ _ (Ne.symm hne4)).trans ((va_up_n _ _ hne26).trans ((va_up_n _ _ hne59).trans hx1))), (by simp only [Int.natCast_add]; exact ((va_up_n _ _ (Ne.symm hne25)).trans (va_up_s _ _ _))), (fun a e g0 h2 => by have h3 := hxs a e g0 h2; rw [va_up_n _ _ g0, va_up_n _ _ (fun z => by rw [z, hXw] at h2; cases h2), va_up_n _ _ (fun z => by rw [z, hq57] at h3; cases h3)]; exact h3), rg_or _ _, by rw [← hfold, hpt]; rfl, hB, lv_sub hl [1, 2] rfl⟩
    · refine x_if_eq (tgt := 42) hx hb dX9_all_21 (by decide) ⟨by decide, by decide⟩ (fun c68 => ?_) (fun c68 => by exfalso; omega)
      refine lv_aload_n hx hb dX9_all_42 rfl (lv_at hl 0 rfl) ?_
      refine t_get C hB hx0 rfl in_X14 0 (by decide) q406 (fun x h => h) (v := .int (iI v)) rfl dX9_all_43 ?_
      exact b_iret C hB hr hlocks rfl dX9_all_46 (by omega) (by omega) ⟨by omega, by omega⟩ ⟨rfl, rfl, ⟨_, _, _, rfl⟩, hxs, by rw [← hfold, show i = (I 5).toNat by omega, show j = (I 6).toNat by omega, pth_e]; rfl⟩
