/-! THE COMPONENT: operations over the best alignment -/
set_option maxRecDepth 100000
abbrev xS (X X' : xw) : Prop := ∀ a e, X a = some e → X' a = some e
theorem pth_up3 (I : Nat → Int) (F : Nat → Nat → Int) (f1 f2 f3 : Nat → Int) (w : Int) : ∀ n i j, pth I (up3 F f1 f2 f3) w n i j = pth I F w n i j := by
  intro n
  induction n with
  | zero => intro i j; rfl
  | succ n ih =>
    intro i j
    unfold pth
    rw [ns_up3, ih]
theorem bpath_up3 (I : Nat → Int) (F : Nat → Nat → Int) (f1 f2 f3 : Nat → Int) (w : Int) : bpath I (up3 F f1 f2 f3) w = bpath I F w := by
  unfold bpath
  rw [DT_up3, pth_up3]
theorem rB0 {I : Nat → Int} {F : Nat → Nat → Int} (h : ¬ I 5 = 0) : rBest I F 0 = rTell I F 0 := by
  unfold rBest
  rw [if_neg (by omega), if_neg h]
  simp only [show ((0 : Int) = 1) = False by simp, show ((0 : Int) = 2) = False by simp, show ((0 : Int) = 3) = False by simp, if_false]
theorem rB1 {I : Nat → Int} {F : Nat → Nat → Int} (h : ¬ I 5 = 0) : rBest I F 1 = rTell I F 2 := by
  unfold rBest
  rw [if_neg (by omega), if_neg h]
  simp only [if_true]
theorem rB2 {I : Nat → Int} {F : Nat → Nat → Int} (h : ¬ I 5 = 0) : rBest I F 2 = rTell I F 3 := by
  unfold rBest
  rw [if_neg (by omega), if_neg h]
  simp only [show ((2 : Int) = 1) = False by simp, if_false, if_true]
theorem rB3 {I : Nat → Int} {F : Nat → Nat → Int} (h : ¬ I 5 = 0) : rBest I F 3 = rTell I F 4 := by
  unfold rBest
  rw [if_neg (by omega), if_neg h]
  simp only [show ((3 : Int) = 1) = False by simp, show ((3 : Int) = 2) = False by simp, if_false, if_true]
theorem rT0 (I : Nat → Int) (F : Nat → Nat → Int) : rTell I F 0 = if (DT I F (I 9) 0 0).1 = 100000 then -9 else (DT I F (I 9) 0 0).1 := by simp [rTell]
theorem rT2 (I : Nat → Int) (F : Nat → Nat → Int) : rTell I F 2 = if (DT I F (I 9) 0 0).1 = 100000 then -9 else ((bpath I F (I 9)).length : Int) := by simp [rTell]
theorem rT3 (I : Nat → Int) (F : Nat → Nat → Int) : rTell I F 3 = if (DT I F (I 9) 0 0).1 = 100000 then -9 else if (DT I F (I 9) 0 0).2.1 = 100000 then -9 else (DT I F (I 9) 0 0).2.1 := by simp [rTell]
theorem rT4 (I : Nat → Int) (F : Nat → Nat → Int) : rTell I F 4 = (DT I F (I 9) 0 0).2.2 := by simp [rTell]
set_option maxHeartbeats 800000 in
set_option maxRecDepth 100000 in
theorem kX0_pairs (l : Launch) (E : xE) (o : Nat) (Ad : Nat → Nat) (I : Nat → Int) (F : Nat → Nat → Int) (X : xw) (hOK : mOK I F) : ci_ l E yX0_pairs cX0_pairs 1 (some .int) 10 229 17 64 [.ref o] o Ad I F X (fun z Ad' I' F' X' => Ad = Ad' ∧ I = I' ∧ (∃ g1 g2 g3, up3 F g1 g2 g3 = F') ∧ xS X X' ∧ z = ((bpath I F (I 9)).length : Int)) := by
  intro w hI hd sz
  refine x_bodyz (by decide) (Nat.le_of_ble_eq_true rfl) ?_
  intro p e s m args below meth c ls hx hb C hr hlocks hin hsz hZ hB hl
  have C : xC E p s m args c cX0_pairs 1 RX0 := C
  replace hB : xBB E (xA (wU w X) sz) s o Ad I F X s.heap [] := ⟨w, hI, hd, hB⟩
  have hl : lv_has ls 1 [(0, .ref o)] := hl
  have hOK0 := hOK
  obtain ⟨⟨hf1, hf2⟩, ⟨hl1, hl2⟩, ⟨hr1, hr2⟩, hlr, ⟨hs1, hs2⟩, ⟨hj1, hj2⟩, ⟨hb1, hb2⟩, ⟨hn1, hn2⟩, hL, hR, hN, hS, hC⟩ := hOK
  
  refine t_new C hB (ci := 13) (fs := [.int (iI 0), .null, .null]) rfl in_X15 tyX15_ok q608 q609 q102 dvX15 (Nat.le_of_ble_eq_true rfl) (Nat.le_of_ble_eq_true rfl) dX0_pairs_0 (fun q1 H hq2 hs3 hB => ?_)
  refine x_up (c2 := 1) (s2 := 3) (Nat.le_of_ble_eq_true rfl) (Nat.le_of_ble_eq_true rfl) ?_
  replace hB : xBB E (xA (wU w X) sz) s o Ad I F (va_up X q1 (some (xO 13 [.int (iI 0), .null, .null]))) _ _ := hB
  refine lv_dup hx hb dX0_pairs_3 rfl ?_
  refine lv_aload_n hx hb dX0_pairs_4 rfl (lv_at hl 0 rfl) ?_
  obtain ⟨wq, hIq, hdq, hB⟩ := hB
  refine g_callv 1 3 (Nat.le_of_ble_eq_true rfl) (Nat.le_of_ble_eq_true rfl) hB (rI (As := [.ref o]) (n := 1) C hZ hB (kX15_init l E (wU wq (va_up X q1 (some (xO 13 [.int (iI 0), .null, .null])))) q1 o (wU_r hdq (va_up_s _ _ _)) _) (lw_meth q612) q102 q610 q611 rfl (by decide +kernel) ⟨Nat.le_of_ble_eq_true rfl, Nat.le_of_ble_eq_true rfl⟩ rfl hl.1 rfl (Nat.le_of_ble_eq_true rfl) dX0_pairs_5 ⟨Nat.le_of_ble_eq_true rfl, Nat.le_of_ble_eq_true rfl⟩) (fun w5 H locs hp7 hB => ?_)
  subst hp7
  rw [(hdq.put_t (xO 13 [.int (iI 0), .ref o, .ref o]) (va_up_s _ _ _)).2] at hB
  replace hB : xBB E (xA (wU w X) sz) s o Ad I F (va_up (va_up X q1 (some (xO 13 [.int (iI 0), .null, .null]))) q1 (some (xO 13 [.int (iI 0), .ref o, .ref o]))) _ _ := ⟨wq, hIq, (hdq.put_t _ (va_up_s _ _ _)).1, hB⟩
  rw [bx_uu] at hB
  replace hB : xBB E (xA (wU w X) sz) s o Ad I F (va_up X q1 (some (xO 13 [.int (iI 0), .ref o, .ref o]))) _ _ := hB
  refine b_calli 17 64 (Nat.le_of_ble_eq_true rfl) (Nat.le_of_ble_eq_true rfl) hB (fun w hI hd hB => rU (As := []) (n := 0) C hZ hB ⟨"BookPairs$1", "all", "()I"⟩ "BookPairs$Sum" (kX9_all_X15 l E o Ad I F (va_up X q1 (some (xO 13 [.int (iI 0), .ref o, .ref o]))) q1 (va_up_s _ _ _) hOK0 w hI hd _) q620 q621 q622 q418 q96 q423 rfl (by decide +kernel) ⟨Nat.le_of_ble_eq_true rfl, Nat.le_of_ble_eq_true rfl⟩ (wU_r hd (va_up_s _ _ _)) rfl rfl rfl hl.1 rfl (Nat.le_of_ble_eq_true rfl) dX0_pairs_8 ⟨Nat.le_of_ble_eq_true rfl, Nat.le_of_ble_eq_true rfl⟩) (fun z8 Ad9 I10 F11 X12 H locs hz13 hp14 hB => ?_)
  obtain ⟨hz13a, hz13b⟩ := hz13
  obtain ⟨rfl, rfl, ⟨g15, g16, g17, rfl⟩, hs18, rfl⟩ := hp14
  replace hB : xBB E (xA (wU w X) sz) s o Ad I (up3 F g15 g16 g17) X12 _ _ := hB
  exact b_iret C hB hr hlocks rfl dX0_pairs_11 (Nat.le_of_ble_eq_true rfl) (Nat.le_of_ble_eq_true rfl) ⟨by omega, by omega⟩ ⟨rfl, rfl, ⟨_, _, _, rfl⟩, fun a e h => hs18 a e (fun z => by rw [z, hq2] at h; cases h) ((va_up_n _ _ (fun z => by rw [z, hq2] at h; cases h)).trans h), rfl⟩
set_option maxHeartbeats 800000 in
set_option maxRecDepth 100000 in
theorem kX0_partnersOfLeft (l : Launch) (E : xE) (o : Nat) (Ad : Nat → Nat) (I : Nat → Int) (F : Nat → Nat → Int) (X : xw) (av : Nat) (hav : av ≤ 7) (hOK : mOK I F) : ci_ l E yX0_partnersOfLeft cX0_partnersOfLeft 3 (some .int) 10 229 17 65 [.ref o, .int (iI ((av : Int)))] o Ad I F X (fun z Ad' I' F' X' => Ad = Ad' ∧ I = I' ∧ (∃ g1 g2 g3, up3 F g1 g2 g3 = F') ∧ xS X X' ∧ z = pwL av (bpath I F (I 9)) 0) := by
  intro w hI hd sz
  refine x_bodyz (by decide) (Nat.le_of_ble_eq_true rfl) ?_
  intro p e s m args below meth c ls hx hb C hr hlocks hin hsz hZ hB hl
  have C : xC E p s m args c cX0_partnersOfLeft 3 RX0 := C
  replace hB : xBB E (xA (wU w X) sz) s o Ad I F X s.heap [] := ⟨w, hI, hd, hB⟩
  have hl : lv_has ls 3 [(0, .ref o), (1, .int (iI ((av : Int))))] := hl
  have hOK0 := hOK
  obtain ⟨⟨hf1, hf2⟩, ⟨hl1, hl2⟩, ⟨hr1, hr2⟩, hlr, ⟨hs1, hs2⟩, ⟨hj1, hj2⟩, ⟨hb1, hb2⟩, ⟨hn1, hn2⟩, hL, hR, hN, hS, hC⟩ := hOK
  
  refine t_new C hB (ci := 8) (fs := [.int (iI 0), .null, .int (iI 0), .null]) rfl in_X10 tyX10_ok q389 q390 q97 dvX10 (Nat.le_of_ble_eq_true rfl) (Nat.le_of_ble_eq_true rfl) dX0_partnersOfLeft_0 (fun q1 H hq2 hs3 hB => ?_)
  refine x_up (c2 := 1) (s2 := 4) (Nat.le_of_ble_eq_true rfl) (Nat.le_of_ble_eq_true rfl) ?_
  replace hB : xBB E (xA (wU w X) sz) s o Ad I F (va_up X q1 (some (xO 8 [.int (iI 0), .null, .int (iI 0), .null]))) _ _ := hB
  refine lv_dup hx hb dX0_partnersOfLeft_3 rfl ?_
  refine lv_aload_n hx hb dX0_partnersOfLeft_4 rfl (lv_at hl 0 rfl) ?_
  refine lv_iload_n hx hb dX0_partnersOfLeft_5 rfl (lv_at hl 1 rfl) ?_
  obtain ⟨wq, hIq, hdq, hB⟩ := hB
  refine g_callv 1 4 (Nat.le_of_ble_eq_true rfl) (Nat.le_of_ble_eq_true rfl) hB (rI (As := [.ref o, .int (iI ((av : Int)))]) (n := 2) C hZ hB (kX10_init l E (wU wq (va_up X q1 (some (xO 8 [.int (iI 0), .null, .int (iI 0), .null])))) q1 o ((av : Int)) (wU_r hdq (va_up_s _ _ _)) _) (lw_meth q393) q97 q391 q392 rfl (by decide +kernel) ⟨Nat.le_of_ble_eq_true rfl, Nat.le_of_ble_eq_true rfl⟩ rfl hl.1 rfl (Nat.le_of_ble_eq_true rfl) dX0_partnersOfLeft_6 ⟨Nat.le_of_ble_eq_true rfl, Nat.le_of_ble_eq_true rfl⟩) (fun w5 H locs hp7 hB => ?_)
  subst hp7
  rw [(hdq.put_t (xO 8 [.int (iI 0), .ref o, .int (iI ((av : Int))), .ref o]) (va_up_s _ _ _)).2] at hB
  replace hB : xBB E (xA (wU w X) sz) s o Ad I F (va_up (va_up X q1 (some (xO 8 [.int (iI 0), .null, .int (iI 0), .null]))) q1 (some (xO 8 [.int (iI 0), .ref o, .int (iI ((av : Int))), .ref o]))) _ _ := ⟨wq, hIq, (hdq.put_t _ (va_up_s _ _ _)).1, hB⟩
  rw [bx_uu] at hB
  replace hB : xBB E (xA (wU w X) sz) s o Ad I F (va_up X q1 (some (xO 8 [.int (iI 0), .ref o, .int (iI ((av : Int))), .ref o]))) _ _ := hB
  refine lv_astore_n (lv' := [(2, .ref q1), (0, .ref o), (1, .int (iI ((av : Int))))]) hx hb dX0_partnersOfLeft_9 rfl hl (by decide) rfl (fun ls hl => ?_)
  refine lv_aload_n hx hb dX0_partnersOfLeft_10 rfl (lv_at hl 0 rfl) ?_
  refine b_calli 17 65 (Nat.le_of_ble_eq_true rfl) (Nat.le_of_ble_eq_true rfl) hB (fun w hI hd hB => rU (As := []) (n := 0) C hZ hB ⟨"BookPairs$Sum", "all", "()I"⟩ "BookPairs$Sum" (kX9_all_X10 l E o Ad I F (va_up X q1 (some (xO 8 [.int (iI 0), .ref o, .int (iI ((av : Int))), .ref o]))) q1 av (va_up_s _ _ _) (by omega) hOK0 w hI hd _) q417 q419 q422 q418 q96 q423 rfl (by decide +kernel) ⟨Nat.le_of_ble_eq_true rfl, Nat.le_of_ble_eq_true rfl⟩ (wU_r hd (va_up_s _ _ _)) rfl rfl rfl hl.1 rfl (Nat.le_of_ble_eq_true rfl) dX0_partnersOfLeft_11 ⟨Nat.le_of_ble_eq_true rfl, Nat.le_of_ble_eq_true rfl⟩) (fun z8 Ad9 I10 F11 X12 H locs hz13 hp14 hB => ?_)
  obtain ⟨hz13a, hz13b⟩ := hz13
  obtain ⟨rfl, rfl, ⟨g15, g16, g17, rfl⟩, hs18, rfl⟩ := hp14
  replace hB : xBB E (xA (wU w X) sz) s o Ad I (up3 F g15 g16 g17) X12 _ _ := hB
  exact b_iret C hB hr hlocks rfl dX0_partnersOfLeft_14 (Nat.le_of_ble_eq_true rfl) (Nat.le_of_ble_eq_true rfl) ⟨by omega, by omega⟩ ⟨rfl, rfl, ⟨_, _, _, rfl⟩, fun a e h => hs18 a e (fun z => by rw [z, hq2] at h; cases h) ((va_up_n _ _ (fun z => by rw [z, hq2] at h; cases h)).trans h), rfl⟩
set_option maxHeartbeats 800000 in
set_option maxRecDepth 100000 in
theorem kX0_partnersOfRight (l : Launch) (E : xE) (o : Nat) (Ad : Nat → Nat) (I : Nat → Int) (F : Nat → Nat → Int) (X : xw) (av : Nat) (hav : av ≤ 7) (hOK : mOK I F) : ci_ l E yX0_partnersOfRight cX0_partnersOfRight 2 (some .int) 10 229 17 65 [.ref o, .int (iI ((av : Int)))] o Ad I F X (fun z Ad' I' F' X' => Ad = Ad' ∧ I = I' ∧ (∃ g1 g2 g3, up3 F g1 g2 g3 = F') ∧ xS X X' ∧ z = pwR av (bpath I F (I 9)) 0) := by
  intro w hI hd sz
  refine x_bodyz (by decide) (Nat.le_of_ble_eq_true rfl) ?_
  intro p e s m args below meth c ls hx hb C hr hlocks hin hsz hZ hB hl
  have C : xC E p s m args c cX0_partnersOfRight 2 RX0 := C
  replace hB : xBB E (xA (wU w X) sz) s o Ad I F X s.heap [] := ⟨w, hI, hd, hB⟩
  have hl : lv_has ls 2 [(0, .ref o), (1, .int (iI ((av : Int))))] := hl
  have hOK0 := hOK
  obtain ⟨⟨hf1, hf2⟩, ⟨hl1, hl2⟩, ⟨hr1, hr2⟩, hlr, ⟨hs1, hs2⟩, ⟨hj1, hj2⟩, ⟨hb1, hb2⟩, ⟨hn1, hn2⟩, hL, hR, hN, hS, hC⟩ := hOK
  
  refine t_new C hB (ci := 12) (fs := [.int (iI 0), .null, .int (iI 0), .null]) rfl in_X14 tyX14_ok q569 q570 q101 dvX14 (Nat.le_of_ble_eq_true rfl) (Nat.le_of_ble_eq_true rfl) dX0_partnersOfRight_0 (fun q1 H hq2 hs3 hB => ?_)
  refine x_up (c2 := 1) (s2 := 4) (Nat.le_of_ble_eq_true rfl) (Nat.le_of_ble_eq_true rfl) ?_
  replace hB : xBB E (xA (wU w X) sz) s o Ad I F (va_up X q1 (some (xO 12 [.int (iI 0), .null, .int (iI 0), .null]))) _ _ := hB
  refine lv_dup hx hb dX0_partnersOfRight_3 rfl ?_
  refine lv_aload_n hx hb dX0_partnersOfRight_4 rfl (lv_at hl 0 rfl) ?_
  refine lv_iload_n hx hb dX0_partnersOfRight_5 rfl (lv_at hl 1 rfl) ?_
  obtain ⟨wq, hIq, hdq, hB⟩ := hB
  refine g_callv 1 4 (Nat.le_of_ble_eq_true rfl) (Nat.le_of_ble_eq_true rfl) hB (rI (As := [.ref o, .int (iI ((av : Int)))]) (n := 2) C hZ hB (kX14_init l E (wU wq (va_up X q1 (some (xO 12 [.int (iI 0), .null, .int (iI 0), .null])))) q1 o ((av : Int)) (wU_r hdq (va_up_s _ _ _)) _) (lw_meth q573) q101 q571 q572 rfl (by decide +kernel) ⟨Nat.le_of_ble_eq_true rfl, Nat.le_of_ble_eq_true rfl⟩ rfl hl.1 rfl (Nat.le_of_ble_eq_true rfl) dX0_partnersOfRight_6 ⟨Nat.le_of_ble_eq_true rfl, Nat.le_of_ble_eq_true rfl⟩) (fun w5 H locs hp7 hB => ?_)
  subst hp7
  rw [(hdq.put_t (xO 12 [.int (iI 0), .ref o, .int (iI ((av : Int))), .ref o]) (va_up_s _ _ _)).2] at hB
  replace hB : xBB E (xA (wU w X) sz) s o Ad I F (va_up (va_up X q1 (some (xO 12 [.int (iI 0), .null, .int (iI 0), .null]))) q1 (some (xO 12 [.int (iI 0), .ref o, .int (iI ((av : Int))), .ref o]))) _ _ := ⟨wq, hIq, (hdq.put_t _ (va_up_s _ _ _)).1, hB⟩
  rw [bx_uu] at hB
  replace hB : xBB E (xA (wU w X) sz) s o Ad I F (va_up X q1 (some (xO 12 [.int (iI 0), .ref o, .int (iI ((av : Int))), .ref o]))) _ _ := hB
  refine b_calli 17 65 (Nat.le_of_ble_eq_true rfl) (Nat.le_of_ble_eq_true rfl) hB (fun w hI hd hB => rU (As := []) (n := 0) C hZ hB ⟨"BookPairs$1Partners", "all", "()I"⟩ "BookPairs$Sum" (kX9_all_X14 l E o Ad I F (va_up X q1 (some (xO 12 [.int (iI 0), .ref o, .int (iI ((av : Int))), .ref o]))) q1 av (va_up_s _ _ _) (by omega) hOK0 w hI hd _) q584 q585 q587 q418 q96 q423 rfl (by decide +kernel) ⟨Nat.le_of_ble_eq_true rfl, Nat.le_of_ble_eq_true rfl⟩ (wU_r hd (va_up_s _ _ _)) rfl rfl rfl hl.1 rfl (Nat.le_of_ble_eq_true rfl) dX0_partnersOfRight_9 ⟨Nat.le_of_ble_eq_true rfl, Nat.le_of_ble_eq_true rfl⟩) (fun z8 Ad9 I10 F11 X12 H locs hz13 hp14 hB => ?_)
  obtain ⟨hz13a, hz13b⟩ := hz13
  obtain ⟨rfl, rfl, ⟨g15, g16, g17, rfl⟩, hs18, rfl⟩ := hp14
  replace hB : xBB E (xA (wU w X) sz) s o Ad I (up3 F g15 g16 g17) X12 _ _ := hB
  exact b_iret C hB hr hlocks rfl dX0_partnersOfRight_12 (Nat.le_of_ble_eq_true rfl) (Nat.le_of_ble_eq_true rfl) ⟨by omega, by omega⟩ ⟨rfl, rfl, ⟨_, _, _, rfl⟩, fun a e h => hs18 a e (fun z => by rw [z, hq2] at h; cases h) ((va_up_n _ _ (fun z => by rw [z, hq2] at h; cases h)).trans h), rfl⟩
set_option maxHeartbeats 800000 in
set_option maxRecDepth 100000 in
theorem kX0_best (l : Launch) (E : xE) (o : Nat) (Ad : Nat → Nat) (I : Nat → Int) (F : Nat → Nat → Int) (X : xw) (wh : Int) (hwh : rg wh) (hOK : mOK I F) : ci_ l E yX0_best cX0_best 3 (some .int) 11 249 17 64 [.ref o, .int (iI wh)] o Ad I F X (fun z Ad' I' F' X' => Ad = Ad' ∧ I = I' ∧ (∃ g1 g2 g3, up3 F g1 g2 g3 = F') ∧ xS X X' ∧ z = rBest I F wh) := by
  intro w hI hd sz
  refine x_bodyz (by decide) (Nat.le_of_ble_eq_true rfl) ?_
  intro p e s m args below meth c ls hx hb C hr hlocks hin hsz hZ hB hl
  have C : xC E p s m args c cX0_best 3 RX0 := C
  replace hB : xBB E (xA (wU w X) sz) s o Ad I F X s.heap [] := ⟨w, hI, hd, hB⟩
  have hl : lv_has ls 3 [(0, .ref o), (1, .int (iI wh))] := hl
  have hOK0 := hOK
  obtain ⟨⟨hf1, hf2⟩, ⟨hl1, hl2⟩, ⟨hr1, hr2⟩, hlr, ⟨hs1, hs2⟩, ⟨hj1, hj2⟩, ⟨hb1, hb2⟩, ⟨hn1, hn2⟩, hL, hR, hN, hS, hC⟩ := hOK
  obtain ⟨hwh1, hwh2⟩ := hwh
  refine lv_iload_n hx hb dX0_best_0 rfl (lv_at hl 1 rfl) ?_
  refine x_i2l hx hb dX0_best_1 ⟨by omega, by omega⟩ ?_
  refine lv_lconst (v := lI 0) hx hb dX0_best_2 rfl ?_
  refine lv_ldc2 hx hb C.1.2.2.2.1 (C.1.2.2.2.2 _ q602) dX0_best_3 ?_
  refine x_rwl (y := lI 3) (by decide) ?_
  refine bs_calli (n := 3) C hB (As := [.long (lI wh), .long (lI 0), .long (lI 3)]) (kX0_in l E wh 0 3 ⟨by omega, by omega⟩ ⟨by omega, by omega⟩ ⟨by omega, by omega⟩) (lw_S q234 q235 q68 q236) (by decide +kernel) ⟨Nat.le_of_ble_eq_true rfl, Nat.le_of_ble_eq_true rfl⟩ rfl hl.1 rfl (Nat.le_of_ble_eq_true rfl) dX0_best_6 ⟨Nat.le_of_ble_eq_true rfl, Nat.le_of_ble_eq_true rfl⟩ (fun z1 H locs hz2 hp3 hB => ?_)
  obtain ⟨hz2a, hz2b⟩ := hz2
  rcases hp3 with ⟨rfl, h4⟩ | ⟨rfl, h4⟩
  · refine x_if_ne (tgt := 15) hx hb dX0_best_9 (by decide) ⟨by decide, by decide⟩ (fun c5 => ?_) (fun c5 => by exfalso; omega)
    refine lv_aload_n hx hb dX0_best_15 rfl (lv_at hl 0 rfl) ?_
    refine b_calli 0 0 (Nat.le_of_ble_eq_true rfl) (Nat.le_of_ble_eq_true rfl) hB (fun w hI hd hB => rV (As := []) (n := 0) C hZ hB (kX0_noBooks l E o Ad I F X hOK0 w hI hd _) (lw_V q275 q277 qs11 q68 q278) (by decide +kernel) ⟨Nat.le_of_ble_eq_true rfl, Nat.le_of_ble_eq_true rfl⟩ (wU_l hI.x) rfl rfl rfl hl.1 rfl (Nat.le_of_ble_eq_true rfl) dX0_best_16 ⟨Nat.le_of_ble_eq_true rfl, Nat.le_of_ble_eq_true rfl⟩) (fun z6 Ad7 I8 F9 X10 H locs hz11 hp12 hB => ?_)
    obtain ⟨hz11a, hz11b⟩ := hz11
    obtain ⟨rfl, rfl, rfl, rfl, ⟨rfl, h13⟩ | ⟨rfl, h13⟩⟩ := hp12
    · refine x_if_eq (tgt := 25) hx hb dX0_best_19 (by decide) ⟨by decide, by decide⟩ (fun c14 => by exfalso; omega) (fun c14 => ?_)
      refine lv_bipush (v := iI (-3)) hx hb dX0_best_22 rfl ?_
      exact b_iret C hB hr hlocks rfl dX0_best_24 (Nat.le_of_ble_eq_true rfl) (Nat.le_of_ble_eq_true rfl) ⟨by decide, by decide⟩ ⟨rfl, rfl, ⟨_, _, _, up3_id F⟩, fun a e h => h, by unfold rBest; (repeat' split) <;> omega⟩
    · refine x_if_eq (tgt := 25) hx hb dX0_best_19 (by decide) ⟨by decide, by decide⟩ (fun c15 => ?_) (fun c15 => by exfalso; omega)
      rcases (show wh = 0 ∨ wh = 1 ∨ wh = 2 ∨ wh = 3 by omega) with rfl | rfl | rfl | rfl
      · refine lv_aload_n hx hb dX0_best_25 rfl (lv_at hl 0 rfl) ?_
        refine lv_aload_n hx hb dX0_best_26 rfl (lv_at hl 0 rfl) ?_
        refine b_get C hB 9 (by decide) q304 (v := .int (iI (I 9))) rfl rfl dX0_best_27 ?_
        rw [← up3_id F] at hB
        refine b_calli 0 0 (Nat.le_of_ble_eq_true rfl) (Nat.le_of_ble_eq_true rfl) hB (fun w hI hd hB => rV (As := [.int (iI (I 9))]) (n := 1) C hZ hB (kX0_aligns l E o Ad I F (F 21) (F 22) (F 23) X (I 9) (by omega) hOK0 w hI hd _) (lw_V q603 q432 qs13 q68 q433) (by decide +kernel) ⟨Nat.le_of_ble_eq_true rfl, Nat.le_of_ble_eq_true rfl⟩ (wU_l hI.x) rfl rfl rfl hl.1 rfl (Nat.le_of_ble_eq_true rfl) dX0_best_30 ⟨Nat.le_of_ble_eq_true rfl, Nat.le_of_ble_eq_true rfl⟩) (fun z16 Ad17 I18 F19 X20 H locs hz21 hp22 hB => ?_)
        obtain ⟨hz21a, hz21b⟩ := hz21
        obtain ⟨rfl, rfl, rfl, g23, g24, g25, rfl, ht26, rfl⟩ := hp22
        have hVht26 : VB 840 (DT I F (I 9) 0 0) := VBD (by omega) (by omega) (csM60 hOK0) (by omega) (by omega)
        have hbht26 : 0 ≤ (DT I F (I 9) 0 0).1 ∧ (DT I F (I 9) 0 0).1 ≤ 100000 := by unfold VB at hVht26; omega
        have h00 := ht26 0 0 (by omega) (by omega)
        have hg2 : g24 0 = (DT I F (I 9) 0 0).2.1 := congrArg (fun q => q.2.1) h00
        have hg3 : g25 0 = (DT I F (I 9) 0 0).2.2 := congrArg (fun q => q.2.2) h00
        have hAl : (DT I F (I 9) 0 0).2.2 ≤ 4782969 := D_alM (w := I 9) (i := 0) (j := 0) (by omega) (by omega) (csM60 hOK0) (by omega) (by omega)
        have hV0 := hVht26
        unfold VB at hV0
        refine lv_istore_n (lv' := [(2, .int (iI ((DT I F (I 9) 0 0).1))), (0, .ref o), (1, .int (iI 0))]) hx hb dX0_best_33 rfl hl (by decide) rfl (fun ls hl => ?_)
        refine lv_iload_n hx hb dX0_best_34 rfl (lv_at hl 0 rfl) ?_
        refine lv_ldc hx hb C.1.2.2.2.1 (C.1.2.2.2.2 _ q438) dX0_best_35 ?_
        refine x_rw (y := iI 100000) (by decide) ?_
        refine x_icmp_lt (tgt := 52) hx hb dX0_best_37 (by decide) ⟨by omega, by omega⟩ ⟨by decide, by decide⟩ (fun c27 => ?_) (fun c27 => ?_)
        · refine lv_iload_n hx hb dX0_best_52 rfl (lv_at hl 2 rfl) ?_
          refine x_if_ne (tgt := 60) hx hb dX0_best_53 (by decide) ⟨by decide, by decide⟩ (fun c28 => by exfalso; omega) (fun c28 => ?_)
          refine lv_iload_n hx hb dX0_best_56 rfl (lv_at hl 0 rfl) ?_
          refine lv_goto (tgt := 95) hx hb dX0_best_57 (by decide) ?_
          exact b_iret C hB hr hlocks rfl dX0_best_95 (Nat.le_of_ble_eq_true rfl) (Nat.le_of_ble_eq_true rfl) ⟨by omega, by omega⟩ ⟨rfl, rfl, ⟨_, _, _, rfl⟩, fun a e h => h, by rw [rB0 (by omega), rT0]; (repeat' split) <;> omega⟩
        · refine lv_iload_n hx hb dX0_best_40 rfl (lv_at hl 2 rfl) ?_
          refine lv_iconst (v := iI 3) hx hb dX0_best_41 rfl ?_
          refine x_icmp_ne (tgt := 49) hx hb dX0_best_42 (by decide) ⟨by decide, by decide⟩ ⟨by decide, by decide⟩ (fun c29 => ?_) (fun c29 => by exfalso; omega)
          refine lv_bipush (v := iI (-9)) hx hb dX0_best_49 rfl ?_
          exact b_iret C hB hr hlocks rfl dX0_best_51 (Nat.le_of_ble_eq_true rfl) (Nat.le_of_ble_eq_true rfl) ⟨by decide, by decide⟩ ⟨rfl, rfl, ⟨_, _, _, rfl⟩, fun a e h => h, by rw [rB0 (by omega), rT0]; (repeat' split) <;> omega⟩
      · refine lv_aload_n hx hb dX0_best_25 rfl (lv_at hl 0 rfl) ?_
        refine lv_aload_n hx hb dX0_best_26 rfl (lv_at hl 0 rfl) ?_
        refine b_get C hB 9 (by decide) q304 (v := .int (iI (I 9))) rfl rfl dX0_best_27 ?_
        rw [← up3_id F] at hB
        refine b_calli 0 0 (Nat.le_of_ble_eq_true rfl) (Nat.le_of_ble_eq_true rfl) hB (fun w hI hd hB => rV (As := [.int (iI (I 9))]) (n := 1) C hZ hB (kX0_aligns l E o Ad I F (F 21) (F 22) (F 23) X (I 9) (by omega) hOK0 w hI hd _) (lw_V q603 q432 qs13 q68 q433) (by decide +kernel) ⟨Nat.le_of_ble_eq_true rfl, Nat.le_of_ble_eq_true rfl⟩ (wU_l hI.x) rfl rfl rfl hl.1 rfl (Nat.le_of_ble_eq_true rfl) dX0_best_30 ⟨Nat.le_of_ble_eq_true rfl, Nat.le_of_ble_eq_true rfl⟩) (fun z30 Ad31 I32 F33 X34 H locs hz35 hp36 hB => ?_)
        obtain ⟨hz35a, hz35b⟩ := hz35
        obtain ⟨rfl, rfl, rfl, g37, g38, g39, rfl, ht40, rfl⟩ := hp36
        have hVht40 : VB 840 (DT I F (I 9) 0 0) := VBD (by omega) (by omega) (csM60 hOK0) (by omega) (by omega)
        have hbht40 : 0 ≤ (DT I F (I 9) 0 0).1 ∧ (DT I F (I 9) 0 0).1 ≤ 100000 := by unfold VB at hVht40; omega
        have h00 := ht40 0 0 (by omega) (by omega)
        have hg2 : g38 0 = (DT I F (I 9) 0 0).2.1 := congrArg (fun q => q.2.1) h00
        have hg3 : g39 0 = (DT I F (I 9) 0 0).2.2 := congrArg (fun q => q.2.2) h00
        have hAl : (DT I F (I 9) 0 0).2.2 ≤ 4782969 := D_alM (w := I 9) (i := 0) (j := 0) (by omega) (by omega) (csM60 hOK0) (by omega) (by omega)
        have hV0 := hVht40
        unfold VB at hV0
        refine lv_istore_n (lv' := [(2, .int (iI ((DT I F (I 9) 0 0).1))), (0, .ref o), (1, .int (iI 1))]) hx hb dX0_best_33 rfl hl (by decide) rfl (fun ls hl => ?_)
        refine lv_iload_n hx hb dX0_best_34 rfl (lv_at hl 0 rfl) ?_
        refine lv_ldc hx hb C.1.2.2.2.1 (C.1.2.2.2.2 _ q438) dX0_best_35 ?_
        refine x_rw (y := iI 100000) (by decide) ?_
        refine x_icmp_lt (tgt := 52) hx hb dX0_best_37 (by decide) ⟨by omega, by omega⟩ ⟨by decide, by decide⟩ (fun c41 => ?_) (fun c41 => ?_)
        · refine lv_iload_n hx hb dX0_best_52 rfl (lv_at hl 2 rfl) ?_
          refine x_if_ne (tgt := 60) hx hb dX0_best_53 (by decide) ⟨by decide, by decide⟩ (fun c42 => ?_) (fun c42 => by exfalso; omega)
          refine lv_iload_n hx hb dX0_best_60 rfl (lv_at hl 2 rfl) ?_
          refine lv_iconst (v := iI 1) hx hb dX0_best_61 rfl ?_
          refine x_icmp_ne (tgt := 72) hx hb dX0_best_62 (by decide) ⟨by decide, by decide⟩ ⟨by decide, by decide⟩ (fun c43 => by exfalso; omega) (fun c43 => ?_)
          refine lv_aload_n hx hb dX0_best_65 rfl (lv_at hl 1 rfl) ?_
          have hbl := bpath_len I F (I 9)
          refine b_calli 17 64 (Nat.le_of_ble_eq_true rfl) (Nat.le_of_ble_eq_true rfl) hB (fun w hI hd hB => rV (As := []) (n := 0) C hZ hB (kX0_pairs l E o Ad I (up3 F g37 g38 g39) X hOK0 w hI hd _) (lw_V q604 q606 qs20 q68 q607) (by decide +kernel) ⟨Nat.le_of_ble_eq_true rfl, Nat.le_of_ble_eq_true rfl⟩ (wU_l hI.x) rfl rfl rfl hl.1 rfl (Nat.le_of_ble_eq_true rfl) dX0_best_66 ⟨Nat.le_of_ble_eq_true rfl, Nat.le_of_ble_eq_true rfl⟩) (fun z44 Ad45 I46 F47 X48 H locs hz49 hp50 hB => ?_)
          obtain ⟨hz49a, hz49b⟩ := hz49
          obtain ⟨rfl, rfl, ⟨g51, g52, g53, rfl⟩, hs54, rfl⟩ := hp50
          replace hB : xBB E (xA (wU w X) sz) s o Ad I (up3 F g51 g52 g53) X48 _ _ := hB
          rw [bpath_up3]
          refine lv_goto (tgt := 95) hx hb dX0_best_69 (by decide) ?_
          exact b_iret C hB hr hlocks rfl dX0_best_95 (Nat.le_of_ble_eq_true rfl) (Nat.le_of_ble_eq_true rfl) ⟨by omega, by omega⟩ ⟨rfl, rfl, ⟨_, _, _, rfl⟩, fun a e h => (hs54 _ _ h), by rw [rB1 (by omega), rT2]; (repeat' split) <;> omega⟩
        · refine lv_iload_n hx hb dX0_best_40 rfl (lv_at hl 2 rfl) ?_
          refine lv_iconst (v := iI 3) hx hb dX0_best_41 rfl ?_
          refine x_icmp_ne (tgt := 49) hx hb dX0_best_42 (by decide) ⟨by decide, by decide⟩ ⟨by decide, by decide⟩ (fun c55 => ?_) (fun c55 => by exfalso; omega)
          refine lv_bipush (v := iI (-9)) hx hb dX0_best_49 rfl ?_
          exact b_iret C hB hr hlocks rfl dX0_best_51 (Nat.le_of_ble_eq_true rfl) (Nat.le_of_ble_eq_true rfl) ⟨by decide, by decide⟩ ⟨rfl, rfl, ⟨_, _, _, rfl⟩, fun a e h => h, by rw [rB1 (by omega), rT2]; (repeat' split) <;> omega⟩
      · refine lv_aload_n hx hb dX0_best_25 rfl (lv_at hl 0 rfl) ?_
        refine lv_aload_n hx hb dX0_best_26 rfl (lv_at hl 0 rfl) ?_
        refine b_get C hB 9 (by decide) q304 (v := .int (iI (I 9))) rfl rfl dX0_best_27 ?_
        rw [← up3_id F] at hB
        refine b_calli 0 0 (Nat.le_of_ble_eq_true rfl) (Nat.le_of_ble_eq_true rfl) hB (fun w hI hd hB => rV (As := [.int (iI (I 9))]) (n := 1) C hZ hB (kX0_aligns l E o Ad I F (F 21) (F 22) (F 23) X (I 9) (by omega) hOK0 w hI hd _) (lw_V q603 q432 qs13 q68 q433) (by decide +kernel) ⟨Nat.le_of_ble_eq_true rfl, Nat.le_of_ble_eq_true rfl⟩ (wU_l hI.x) rfl rfl rfl hl.1 rfl (Nat.le_of_ble_eq_true rfl) dX0_best_30 ⟨Nat.le_of_ble_eq_true rfl, Nat.le_of_ble_eq_true rfl⟩) (fun z56 Ad57 I58 F59 X60 H locs hz61 hp62 hB => ?_)
        obtain ⟨hz61a, hz61b⟩ := hz61
        obtain ⟨rfl, rfl, rfl, g63, g64, g65, rfl, ht66, rfl⟩ := hp62
        have hVht66 : VB 840 (DT I F (I 9) 0 0) := VBD (by omega) (by omega) (csM60 hOK0) (by omega) (by omega)
        have hbht66 : 0 ≤ (DT I F (I 9) 0 0).1 ∧ (DT I F (I 9) 0 0).1 ≤ 100000 := by unfold VB at hVht66; omega
        have h00 := ht66 0 0 (by omega) (by omega)
        have hg2 : g64 0 = (DT I F (I 9) 0 0).2.1 := congrArg (fun q => q.2.1) h00
        have hg3 : g65 0 = (DT I F (I 9) 0 0).2.2 := congrArg (fun q => q.2.2) h00
        have hAl : (DT I F (I 9) 0 0).2.2 ≤ 4782969 := D_alM (w := I 9) (i := 0) (j := 0) (by omega) (by omega) (csM60 hOK0) (by omega) (by omega)
        have hV0 := hVht66
        unfold VB at hV0
        refine lv_istore_n (lv' := [(2, .int (iI ((DT I F (I 9) 0 0).1))), (0, .ref o), (1, .int (iI 2))]) hx hb dX0_best_33 rfl hl (by decide) rfl (fun ls hl => ?_)
        refine lv_iload_n hx hb dX0_best_34 rfl (lv_at hl 0 rfl) ?_
        refine lv_ldc hx hb C.1.2.2.2.1 (C.1.2.2.2.2 _ q438) dX0_best_35 ?_
        refine x_rw (y := iI 100000) (by decide) ?_
        refine x_icmp_lt (tgt := 52) hx hb dX0_best_37 (by decide) ⟨by omega, by omega⟩ ⟨by decide, by decide⟩ (fun c67 => ?_) (fun c67 => ?_)
        · refine lv_iload_n hx hb dX0_best_52 rfl (lv_at hl 2 rfl) ?_
          refine x_if_ne (tgt := 60) hx hb dX0_best_53 (by decide) ⟨by decide, by decide⟩ (fun c68 => ?_) (fun c68 => by exfalso; omega)
          refine lv_iload_n hx hb dX0_best_60 rfl (lv_at hl 2 rfl) ?_
          refine lv_iconst (v := iI 1) hx hb dX0_best_61 rfl ?_
          refine x_icmp_ne (tgt := 72) hx hb dX0_best_62 (by decide) ⟨by decide, by decide⟩ ⟨by decide, by decide⟩ (fun c69 => ?_) (fun c69 => by exfalso; omega)
          refine lv_iload_n hx hb dX0_best_72 rfl (lv_at hl 2 rfl) ?_
          refine lv_iconst (v := iI 2) hx hb dX0_best_73 rfl ?_
          refine x_icmp_ne (tgt := 89) hx hb dX0_best_74 (by decide) ⟨by decide, by decide⟩ ⟨by decide, by decide⟩ (fun c70 => by exfalso; omega) (fun c70 => ?_)
          refine lv_aload_n hx hb dX0_best_77 rfl (lv_at hl 1 rfl) ?_
          refine b_get C hB 13 (by decide) q309 (v := .ref (Ad 14)) rfl rfl dX0_best_78 ?_
          refine lv_iconst (v := iI 0) hx hb dX0_best_81 rfl ?_
          refine b_ald C hB 14 22 64 rfl (v := g64 0) 0 rfl (by omega) (by omega) rfl dX0_best_82 ?_
          refine bs_calli (n := 1) C hB (As := [.int (iI (g64 0))]) (kX0_orNone l E (g64 0) ⟨by omega, by omega⟩) (lw_S q623 q624 q68 q625) (by decide +kernel) ⟨Nat.le_of_ble_eq_true rfl, Nat.le_of_ble_eq_true rfl⟩ rfl hl.1 rfl (Nat.le_of_ble_eq_true rfl) dX0_best_83 ⟨Nat.le_of_ble_eq_true rfl, Nat.le_of_ble_eq_true rfl⟩ (fun z71 H locs hz72 hp73 hB => ?_)
          obtain ⟨hz72a, hz72b⟩ := hz72
          subst hp73
          refine lv_goto (tgt := 95) hx hb dX0_best_86 (by decide) ?_
          exact b_iret C hB hr hlocks rfl dX0_best_95 (Nat.le_of_ble_eq_true rfl) (Nat.le_of_ble_eq_true rfl) ⟨by omega, by omega⟩ ⟨rfl, rfl, ⟨_, _, _, rfl⟩, fun a e h => h, by rw [rB2 (by omega), rT3]; (repeat' split) <;> omega⟩
        · refine lv_iload_n hx hb dX0_best_40 rfl (lv_at hl 2 rfl) ?_
          refine lv_iconst (v := iI 3) hx hb dX0_best_41 rfl ?_
          refine x_icmp_ne (tgt := 49) hx hb dX0_best_42 (by decide) ⟨by decide, by decide⟩ ⟨by decide, by decide⟩ (fun c74 => ?_) (fun c74 => by exfalso; omega)
          refine lv_bipush (v := iI (-9)) hx hb dX0_best_49 rfl ?_
          exact b_iret C hB hr hlocks rfl dX0_best_51 (Nat.le_of_ble_eq_true rfl) (Nat.le_of_ble_eq_true rfl) ⟨by decide, by decide⟩ ⟨rfl, rfl, ⟨_, _, _, rfl⟩, fun a e h => h, by rw [rB2 (by omega), rT3]; (repeat' split) <;> omega⟩
      · refine lv_aload_n hx hb dX0_best_25 rfl (lv_at hl 0 rfl) ?_
        refine lv_aload_n hx hb dX0_best_26 rfl (lv_at hl 0 rfl) ?_
        refine b_get C hB 9 (by decide) q304 (v := .int (iI (I 9))) rfl rfl dX0_best_27 ?_
        rw [← up3_id F] at hB
        refine b_calli 0 0 (Nat.le_of_ble_eq_true rfl) (Nat.le_of_ble_eq_true rfl) hB (fun w hI hd hB => rV (As := [.int (iI (I 9))]) (n := 1) C hZ hB (kX0_aligns l E o Ad I F (F 21) (F 22) (F 23) X (I 9) (by omega) hOK0 w hI hd _) (lw_V q603 q432 qs13 q68 q433) (by decide +kernel) ⟨Nat.le_of_ble_eq_true rfl, Nat.le_of_ble_eq_true rfl⟩ (wU_l hI.x) rfl rfl rfl hl.1 rfl (Nat.le_of_ble_eq_true rfl) dX0_best_30 ⟨Nat.le_of_ble_eq_true rfl, Nat.le_of_ble_eq_true rfl⟩) (fun z75 Ad76 I77 F78 X79 H locs hz80 hp81 hB => ?_)
        obtain ⟨hz80a, hz80b⟩ := hz80
        obtain ⟨rfl, rfl, rfl, g82, g83, g84, rfl, ht85, rfl⟩ := hp81
        have hVht85 : VB 840 (DT I F (I 9) 0 0) := VBD (by omega) (by omega) (csM60 hOK0) (by omega) (by omega)
        have hbht85 : 0 ≤ (DT I F (I 9) 0 0).1 ∧ (DT I F (I 9) 0 0).1 ≤ 100000 := by unfold VB at hVht85; omega
        have h00 := ht85 0 0 (by omega) (by omega)
        have hg2 : g83 0 = (DT I F (I 9) 0 0).2.1 := congrArg (fun q => q.2.1) h00
        have hg3 : g84 0 = (DT I F (I 9) 0 0).2.2 := congrArg (fun q => q.2.2) h00
        have hAl : (DT I F (I 9) 0 0).2.2 ≤ 4782969 := D_alM (w := I 9) (i := 0) (j := 0) (by omega) (by omega) (csM60 hOK0) (by omega) (by omega)
        have hV0 := hVht85
        unfold VB at hV0
        refine lv_istore_n (lv' := [(2, .int (iI ((DT I F (I 9) 0 0).1))), (0, .ref o), (1, .int (iI 3))]) hx hb dX0_best_33 rfl hl (by decide) rfl (fun ls hl => ?_)
        refine lv_iload_n hx hb dX0_best_34 rfl (lv_at hl 0 rfl) ?_
        refine lv_ldc hx hb C.1.2.2.2.1 (C.1.2.2.2.2 _ q438) dX0_best_35 ?_
        refine x_rw (y := iI 100000) (by decide) ?_
        refine x_icmp_lt (tgt := 52) hx hb dX0_best_37 (by decide) ⟨by omega, by omega⟩ ⟨by decide, by decide⟩ (fun c86 => ?_) (fun c86 => ?_)
        · refine lv_iload_n hx hb dX0_best_52 rfl (lv_at hl 2 rfl) ?_
          refine x_if_ne (tgt := 60) hx hb dX0_best_53 (by decide) ⟨by decide, by decide⟩ (fun c87 => ?_) (fun c87 => by exfalso; omega)
          refine lv_iload_n hx hb dX0_best_60 rfl (lv_at hl 2 rfl) ?_
          refine lv_iconst (v := iI 1) hx hb dX0_best_61 rfl ?_
          refine x_icmp_ne (tgt := 72) hx hb dX0_best_62 (by decide) ⟨by decide, by decide⟩ ⟨by decide, by decide⟩ (fun c88 => ?_) (fun c88 => by exfalso; omega)
          refine lv_iload_n hx hb dX0_best_72 rfl (lv_at hl 2 rfl) ?_
          refine lv_iconst (v := iI 2) hx hb dX0_best_73 rfl ?_
          refine x_icmp_ne (tgt := 89) hx hb dX0_best_74 (by decide) ⟨by decide, by decide⟩ ⟨by decide, by decide⟩ (fun c89 => ?_) (fun c89 => by exfalso; omega)
          refine lv_aload_n hx hb dX0_best_89 rfl (lv_at hl 1 rfl) ?_
          refine b_get C hB 14 (by decide) q310 (v := .ref (Ad 15)) rfl rfl dX0_best_90 ?_
          refine lv_iconst (v := iI 0) hx hb dX0_best_93 rfl ?_
          refine b_ald C hB 15 23 64 rfl (v := g84 0) 0 rfl (by omega) (by omega) rfl dX0_best_94 ?_
          exact b_iret C hB hr hlocks rfl dX0_best_95 (Nat.le_of_ble_eq_true rfl) (Nat.le_of_ble_eq_true rfl) ⟨by omega, by omega⟩ ⟨rfl, rfl, ⟨_, _, _, rfl⟩, fun a e h => h, by rw [rB3 (by omega), rT4]; (repeat' split) <;> omega⟩
        · refine lv_iload_n hx hb dX0_best_40 rfl (lv_at hl 2 rfl) ?_
          refine lv_iconst (v := iI 3) hx hb dX0_best_41 rfl ?_
          refine x_icmp_ne (tgt := 49) hx hb dX0_best_42 (by decide) ⟨by decide, by decide⟩ ⟨by decide, by decide⟩ (fun c90 => by exfalso; omega) (fun c90 => ?_)
          refine lv_iconst (v := iI 0) hx hb dX0_best_45 rfl ?_
          refine lv_goto (tgt := 51) hx hb dX0_best_46 (by decide) ?_
          exact b_iret C hB hr hlocks rfl dX0_best_51 (Nat.le_of_ble_eq_true rfl) (Nat.le_of_ble_eq_true rfl) ⟨by decide, by decide⟩ ⟨rfl, rfl, ⟨_, _, _, rfl⟩, fun a e h => h, by rw [rB3 (by omega), rT4]; (repeat' split) <;> omega⟩
  · refine x_if_ne (tgt := 15) hx hb dX0_best_9 (by decide) ⟨by decide, by decide⟩ (fun c91 => by exfalso; omega) (fun c91 => ?_)
    refine lv_bipush (v := iI (-2)) hx hb dX0_best_12 rfl ?_
    exact b_iret C hB hr hlocks rfl dX0_best_14 (Nat.le_of_ble_eq_true rfl) (Nat.le_of_ble_eq_true rfl) ⟨by decide, by decide⟩ ⟨rfl, rfl, ⟨_, _, _, up3_id F⟩, fun a e h => h, by unfold rBest; (repeat' split) <;> omega⟩
set_option maxHeartbeats 800000 in
set_option maxRecDepth 100000 in
theorem kX0_ofLeft (l : Launch) (E : xE) (o : Nat) (Ad : Nat → Nat) (I : Nat → Int) (F : Nat → Nat → Int) (X : xw) (ax : Int) (wh : Int) (hax : rg ax) (hwh : rg wh) (hOK : mOK I F) : ci_ l E yX0_ofLeft cX0_ofLeft 4 (some .int) 11 251 17 65 [.ref o, .int (iI ax), .int (iI wh)] o Ad I F X (fun z Ad' I' F' X' => Ad = Ad' ∧ I = I' ∧ (∃ g1 g2 g3, up3 F g1 g2 g3 = F') ∧ xS X X' ∧ z = rLeft I F ax wh) := by
  intro w hI hd sz
  refine x_bodyz (by decide) (Nat.le_of_ble_eq_true rfl) ?_
  intro p e s m args below meth c ls hx hb C hr hlocks hin hsz hZ hB hl
  have C : xC E p s m args c cX0_ofLeft 4 RX0 := C
  replace hB : xBB E (xA (wU w X) sz) s o Ad I F X s.heap [] := ⟨w, hI, hd, hB⟩
  have hl : lv_has ls 4 [(0, .ref o), (1, .int (iI ax)), (2, .int (iI wh))] := hl
  have hOK0 := hOK
  obtain ⟨⟨hf1, hf2⟩, ⟨hl1, hl2⟩, ⟨hr1, hr2⟩, hlr, ⟨hs1, hs2⟩, ⟨hj1, hj2⟩, ⟨hb1, hb2⟩, ⟨hn1, hn2⟩, hL, hR, hN, hS, hC⟩ := hOK
  obtain ⟨hax1, hax2⟩ := hax
  obtain ⟨hwh1, hwh2⟩ := hwh
  refine lv_aload_n hx hb dX0_ofLeft_0 rfl (lv_at hl 0 rfl) ?_
  refine lv_iload_n hx hb dX0_ofLeft_1 rfl (lv_at hl 1 rfl) ?_
  refine b_calli 0 0 (Nat.le_of_ble_eq_true rfl) (Nat.le_of_ble_eq_true rfl) hB (fun w hI hd hB => rV (As := [.int (iI ax)]) (n := 1) C hZ hB (kX0_noLeft l E o Ad I F X ax ⟨by omega, by omega⟩ hOK0 w hI hd _) (lw_V q237 q239 qs7 q68 q240) (by decide +kernel) ⟨Nat.le_of_ble_eq_true rfl, Nat.le_of_ble_eq_true rfl⟩ (wU_l hI.x) rfl rfl rfl hl.1 rfl (Nat.le_of_ble_eq_true rfl) dX0_ofLeft_2 ⟨Nat.le_of_ble_eq_true rfl, Nat.le_of_ble_eq_true rfl⟩) (fun z1 Ad2 I3 F4 X5 H locs hz6 hp7 hB => ?_)
  obtain ⟨hz6a, hz6b⟩ := hz6
  obtain ⟨rfl, rfl, rfl, rfl, ⟨rfl, h8⟩ | ⟨rfl, h8⟩⟩ := hp7
  · refine x_if_eq (tgt := 10) hx hb dX0_ofLeft_5 (by decide) ⟨by decide, by decide⟩ (fun c9 => by exfalso; omega) (fun c9 => ?_)
    refine lv_iconst (v := iI (-1)) hx hb dX0_ofLeft_8 rfl ?_
    exact b_iret C hB hr hlocks rfl dX0_ofLeft_9 (Nat.le_of_ble_eq_true rfl) (Nat.le_of_ble_eq_true rfl) ⟨by decide, by decide⟩ ⟨rfl, rfl, ⟨_, _, _, up3_id F⟩, fun a e h => h, by unfold rLeft; rw [if_pos (by omega)]⟩
  · refine x_if_eq (tgt := 10) hx hb dX0_ofLeft_5 (by decide) ⟨by decide, by decide⟩ (fun c10 => ?_) (fun c10 => by exfalso; omega)
    obtain ⟨kk, rfl⟩ : ∃ kk : Nat, ax = (kk : Int) := ⟨ax.toNat, by omega⟩
    refine lv_aload_n hx hb dX0_ofLeft_10 rfl (lv_at hl 0 rfl) ?_
    refine b_get C hB 3 (by decide) q296 (v := .ref (Ad 4)) rfl rfl dX0_ofLeft_11 ?_
    refine lv_iload_n hx hb dX0_ofLeft_14 rfl (lv_at hl 1 rfl) ?_
    refine b_lget C hZ hB kk rfl (show ((kk : Nat) : Int) < I 5 by omega) (show I 5 ≤ 7 by omega) q156 ⟨Nat.le_of_ble_eq_true rfl, Nat.le_of_ble_eq_true rfl⟩ hl.1 (Nat.le_of_ble_eq_true rfl) dX0_ofLeft_15 ⟨Nat.le_of_ble_eq_true rfl, Nat.le_of_ble_eq_true rfl⟩ (fun H locs hB => ?_)
    refine b_castP C hB kk (show ((kk : Nat) : Int) < I 5 by omega) (show I 5 ≤ 7 by omega) q175 dX0_ofLeft_20 ?_
    refine lv_astore_n (lv' := [(3, .ref (Ad (100 + kk))), (0, .ref o), (1, .int (iI ((kk : Int)))), (2, .int (iI wh))]) hx hb dX0_ofLeft_23 rfl hl (by decide) rfl (fun ls hl => ?_)
    refine lv_iload_n hx hb dX0_ofLeft_24 rfl (lv_at hl 3 rfl) ?_
    rcases (show wh = 0 ∨ wh = 1 ∨ wh = 2 ∨ wh = 3 ∨ wh = 4 ∨ (wh < 0 ∨ 4 < wh) by omega) with c11 | c11 | c11 | c11 | c11 | c11
    · refine x_tsIn (tgt := 60) hx hb 0 dX0_ofLeft_25 (by omega) ⟨by decide, by decide⟩ (by decide) (by decide) rfl (by decide) ?_
      refine lv_aload_n hx hb dX0_ofLeft_60 rfl (lv_at hl 0 rfl) ?_
      have hLi := hL kk (by omega)
      refine b_pkind l C hZ hB kk (show ((kk : Nat) : Int) < I 5 by omega) (show I 5 ≤ 7 by omega) (show 0 ≤ (F 10) kk ∧ (F 10) kk ≤ 2 by omega) q374 ⟨Nat.le_of_ble_eq_true rfl, Nat.le_of_ble_eq_true rfl⟩ hl.1 (Nat.le_of_ble_eq_true rfl) dX0_ofLeft_61 ⟨Nat.le_of_ble_eq_true rfl, Nat.le_of_ble_eq_true rfl⟩ (fun H locs hB => ?_)
      exact b_iret C hB hr hlocks rfl dX0_ofLeft_64 (Nat.le_of_ble_eq_true rfl) (Nat.le_of_ble_eq_true rfl) ⟨by omega, by omega⟩ ⟨rfl, rfl, ⟨_, _, _, up3_id F⟩, fun a e h => h, by unfold rLeft; rw [if_neg (by omega), if_pos (by omega)]; rfl⟩
    · refine x_tsIn (tgt := 65) hx hb 1 dX0_ofLeft_25 (by omega) ⟨by decide, by decide⟩ (by decide) (by decide) rfl (by decide) ?_
      refine lv_aload_n hx hb dX0_ofLeft_65 rfl (lv_at hl 0 rfl) ?_
      refine b_plL C hB kk (show ((kk : Nat) : Int) < I 5 by omega) (show I 5 ≤ 7 by omega) q786 dX0_ofLeft_66 ?_
      have := hL kk (by omega)
      exact b_iret C hB hr hlocks rfl dX0_ofLeft_69 (Nat.le_of_ble_eq_true rfl) (Nat.le_of_ble_eq_true rfl) ⟨by omega, by omega⟩ ⟨rfl, rfl, ⟨_, _, _, up3_id F⟩, fun a e h => h, by unfold rLeft; rw [if_neg (by omega), if_neg (by omega), if_pos (by omega)]; rfl⟩
    · refine x_tsIn (tgt := 70) hx hb 2 dX0_ofLeft_25 (by omega) ⟨by decide, by decide⟩ (by decide) (by decide) rfl (by decide) ?_
      refine lv_aload_n hx hb dX0_ofLeft_70 rfl (lv_at hl 0 rfl) ?_
      have hLi := hL kk (by omega)
      refine b_plen l C hZ hB kk (show ((kk : Nat) : Int) < I 5 by omega) (show I 5 ≤ 7 by omega) (show 0 ≤ (F 10) kk ∧ (F 10) kk ≤ 2 by omega) (show 1 ≤ (F 11) kk ∧ (F 11) kk ≤ 9 by omega) q176 ⟨Nat.le_of_ble_eq_true rfl, Nat.le_of_ble_eq_true rfl⟩ hl.1 (Nat.le_of_ble_eq_true rfl) dX0_ofLeft_71 ⟨Nat.le_of_ble_eq_true rfl, Nat.le_of_ble_eq_true rfl⟩ (fun H locs h13a h13b hB => ?_)
      exact b_iret C hB hr hlocks rfl dX0_ofLeft_74 (Nat.le_of_ble_eq_true rfl) (Nat.le_of_ble_eq_true rfl) ⟨by omega, by omega⟩ ⟨rfl, rfl, ⟨_, _, _, up3_id F⟩, fun a e h => h, by unfold rLeft; rw [if_neg (by omega), if_neg (by omega), if_neg (by omega), if_pos (by omega)]; rfl⟩
    · refine x_tsIn (tgt := 75) hx hb 3 dX0_ofLeft_25 (by omega) ⟨by decide, by decide⟩ (by decide) (by decide) rfl (by decide) ?_
      refine lv_aload_n hx hb dX0_ofLeft_75 rfl (lv_at hl 0 rfl) ?_
      refine b_plA C hB kk (show ((kk : Nat) : Int) < I 5 by omega) (show I 5 ≤ 7 by omega) q779 dX0_ofLeft_76 ?_
      have := hL kk (by omega)
      exact b_iret C hB hr hlocks rfl dX0_ofLeft_79 (Nat.le_of_ble_eq_true rfl) (Nat.le_of_ble_eq_true rfl) ⟨by omega, by omega⟩ ⟨rfl, rfl, ⟨_, _, _, up3_id F⟩, fun a e h => h, by unfold rLeft; rw [if_neg (by omega), if_neg (by omega), if_neg (by omega), if_neg (by omega), if_pos (by omega)]; rfl⟩
    · refine x_tsIn (tgt := 80) hx hb 4 dX0_ofLeft_25 (by omega) ⟨by decide, by decide⟩ (by decide) (by decide) rfl (by decide) ?_
      refine lv_aload_n hx hb dX0_ofLeft_80 rfl (lv_at hl 1 rfl) ?_
      refine lv_iload_n hx hb dX0_ofLeft_81 rfl (lv_at hl 2 rfl) ?_
      have hrp := rg_pwL kk (bpath I F (I 9)) 0 rg_0
      refine b_calli 17 65 (Nat.le_of_ble_eq_true rfl) (Nat.le_of_ble_eq_true rfl) hB (fun w hI hd hB => rV (As := [.int (iI ((kk : Int)))]) (n := 1) C hZ hB (kX0_partnersOfLeft l E o Ad I F X kk (by omega) hOK0 w hI hd _) (lw_V q385 q387 qs12 q68 q388) (by decide +kernel) ⟨Nat.le_of_ble_eq_true rfl, Nat.le_of_ble_eq_true rfl⟩ (wU_l hI.x) rfl rfl rfl hl.1 rfl (Nat.le_of_ble_eq_true rfl) dX0_ofLeft_82 ⟨Nat.le_of_ble_eq_true rfl, Nat.le_of_ble_eq_true rfl⟩) (fun z14 Ad15 I16 F17 X18 H locs hz19 hp20 hB => ?_)
      obtain ⟨hz19a, hz19b⟩ := hz19
      obtain ⟨rfl, rfl, ⟨g21, g22, g23, rfl⟩, hs24, rfl⟩ := hp20
      replace hB : xBB E (xA (wU w X) sz) s o Ad I (up3 F g21 g22 g23) X18 _ _ := hB
      exact b_iret C hB hr hlocks rfl dX0_ofLeft_85 (Nat.le_of_ble_eq_true rfl) (Nat.le_of_ble_eq_true rfl) ⟨by omega, by omega⟩ ⟨rfl, rfl, ⟨_, _, _, rfl⟩, fun a e h => (hs24 _ _ h), by unfold rLeft; rw [if_neg (by omega), if_neg (by omega), if_neg (by omega), if_neg (by omega), if_neg (by omega), if_pos (by omega)]; rfl⟩
    · refine x_tsOut (tgt := 86) hx hb dX0_ofLeft_25 ⟨by omega, by omega⟩ c11 (by decide) ?_
      refine lv_bipush (v := iI (-2)) hx hb dX0_ofLeft_86 rfl ?_
      exact b_iret C hB hr hlocks rfl dX0_ofLeft_88 (Nat.le_of_ble_eq_true rfl) (Nat.le_of_ble_eq_true rfl) ⟨by decide, by decide⟩ ⟨rfl, rfl, ⟨_, _, _, up3_id F⟩, fun a e h => h, by unfold rLeft; rw [if_neg (by omega), if_neg (by omega), if_neg (by omega), if_neg (by omega), if_neg (by omega), if_neg (by omega)]⟩
set_option maxHeartbeats 800000 in
set_option maxRecDepth 100000 in
theorem kX0_ofRight (l : Launch) (E : xE) (o : Nat) (Ad : Nat → Nat) (I : Nat → Int) (F : Nat → Nat → Int) (X : xw) (bx : Int) (wh : Int) (hbx : rg bx) (hwh : rg wh) (hOK : mOK I F) : ci_ l E yX0_ofRight cX0_ofRight 3 (some .int) 11 250 17 65 [.ref o, .int (iI bx), .int (iI wh)] o Ad I F X (fun z Ad' I' F' X' => Ad = Ad' ∧ I = I' ∧ (∃ g1 g2 g3, up3 F g1 g2 g3 = F') ∧ xS X X' ∧ z = rRight I F bx wh) := by
  intro w hI hd sz
  refine x_bodyz (by decide) (Nat.le_of_ble_eq_true rfl) ?_
  intro p e s m args below meth c ls hx hb C hr hlocks hin hsz hZ hB hl
  have C : xC E p s m args c cX0_ofRight 3 RX0 := C
  replace hB : xBB E (xA (wU w X) sz) s o Ad I F X s.heap [] := ⟨w, hI, hd, hB⟩
  have hl : lv_has ls 3 [(0, .ref o), (1, .int (iI bx)), (2, .int (iI wh))] := hl
  have hOK0 := hOK
  obtain ⟨⟨hf1, hf2⟩, ⟨hl1, hl2⟩, ⟨hr1, hr2⟩, hlr, ⟨hs1, hs2⟩, ⟨hj1, hj2⟩, ⟨hb1, hb2⟩, ⟨hn1, hn2⟩, hL, hR, hN, hS, hC⟩ := hOK
  obtain ⟨hbx1, hbx2⟩ := hbx
  obtain ⟨hwh1, hwh2⟩ := hwh
  refine lv_aload_n hx hb dX0_ofRight_0 rfl (lv_at hl 0 rfl) ?_
  refine lv_iload_n hx hb dX0_ofRight_1 rfl (lv_at hl 1 rfl) ?_
  refine b_calli 0 0 (Nat.le_of_ble_eq_true rfl) (Nat.le_of_ble_eq_true rfl) hB (fun w hI hd hB => rV (As := [.int (iI bx)]) (n := 1) C hZ hB (kX0_noRight l E o Ad I F X bx ⟨by omega, by omega⟩ hOK0 w hI hd _) (lw_V q250 q252 qs8 q68 q253) (by decide +kernel) ⟨Nat.le_of_ble_eq_true rfl, Nat.le_of_ble_eq_true rfl⟩ (wU_l hI.x) rfl rfl rfl hl.1 rfl (Nat.le_of_ble_eq_true rfl) dX0_ofRight_2 ⟨Nat.le_of_ble_eq_true rfl, Nat.le_of_ble_eq_true rfl⟩) (fun z1 Ad2 I3 F4 X5 H locs hz6 hp7 hB => ?_)
  obtain ⟨hz6a, hz6b⟩ := hz6
  obtain ⟨rfl, rfl, rfl, rfl, ⟨rfl, h8⟩ | ⟨rfl, h8⟩⟩ := hp7
  · refine x_if_eq (tgt := 10) hx hb dX0_ofRight_5 (by decide) ⟨by decide, by decide⟩ (fun c9 => by exfalso; omega) (fun c9 => ?_)
    refine lv_iconst (v := iI (-1)) hx hb dX0_ofRight_8 rfl ?_
    exact b_iret C hB hr hlocks rfl dX0_ofRight_9 (Nat.le_of_ble_eq_true rfl) (Nat.le_of_ble_eq_true rfl) ⟨by decide, by decide⟩ ⟨rfl, rfl, ⟨_, _, _, up3_id F⟩, fun a e h => h, by unfold rRight; rw [if_pos (by omega)]⟩
  · refine x_if_eq (tgt := 10) hx hb dX0_ofRight_5 (by decide) ⟨by decide, by decide⟩ (fun c10 => ?_) (fun c10 => by exfalso; omega)
    obtain ⟨kk, rfl⟩ : ∃ kk : Nat, bx = (kk : Int) := ⟨bx.toNat, by omega⟩
    refine lv_iload_n hx hb dX0_ofRight_10 rfl (lv_at hl 2 rfl) ?_
    refine x_if_ne (tgt := 23) hx hb dX0_ofRight_11 (by decide) ⟨by omega, by omega⟩ (fun c11 => ?_) (fun c11 => ?_)
    · refine lv_iload_n hx hb dX0_ofRight_23 rfl (lv_at hl 2 rfl) ?_
      refine lv_iconst (v := iI 1) hx hb dX0_ofRight_24 rfl ?_
      refine x_icmp_ne (tgt := 37) hx hb dX0_ofRight_25 (by decide) ⟨by omega, by omega⟩ ⟨by decide, by decide⟩ (fun c12 => ?_) (fun c12 => ?_)
      · refine lv_iload_n hx hb dX0_ofRight_37 rfl (lv_at hl 2 rfl) ?_
        refine lv_iconst (v := iI 2) hx hb dX0_ofRight_38 rfl ?_
        refine x_icmp_ne (tgt := 50) hx hb dX0_ofRight_39 (by decide) ⟨by omega, by omega⟩ ⟨by decide, by decide⟩ (fun c13 => ?_) (fun c13 => ?_)
        · refine lv_bipush (v := iI (-2)) hx hb dX0_ofRight_50 rfl ?_
          exact b_iret C hB hr hlocks rfl dX0_ofRight_52 (Nat.le_of_ble_eq_true rfl) (Nat.le_of_ble_eq_true rfl) ⟨by decide, by decide⟩ ⟨rfl, rfl, ⟨_, _, _, up3_id F⟩, fun a e h => h, by unfold rRight; rw [if_neg (by omega), if_neg (by omega), if_neg (by omega), if_neg (by omega)]⟩
        · refine lv_aload_n hx hb dX0_ofRight_42 rfl (lv_at hl 0 rfl) ?_
          refine lv_iload_n hx hb dX0_ofRight_43 rfl (lv_at hl 1 rfl) ?_
          have hrp := rg_pwR kk (bpath I F (I 9)) 0 rg_0
          refine b_calli 17 65 (Nat.le_of_ble_eq_true rfl) (Nat.le_of_ble_eq_true rfl) hB (fun w hI hd hB => rV (As := [.int (iI ((kk : Int)))]) (n := 1) C hZ hB (kX0_partnersOfRight l E o Ad I F X kk (by omega) hOK0 w hI hd _) (lw_V q565 q567 qs18 q68 q568) (by decide +kernel) ⟨Nat.le_of_ble_eq_true rfl, Nat.le_of_ble_eq_true rfl⟩ (wU_l hI.x) rfl rfl rfl hl.1 rfl (Nat.le_of_ble_eq_true rfl) dX0_ofRight_44 ⟨Nat.le_of_ble_eq_true rfl, Nat.le_of_ble_eq_true rfl⟩) (fun z14 Ad15 I16 F17 X18 H locs hz19 hp20 hB => ?_)
          obtain ⟨hz19a, hz19b⟩ := hz19
          obtain ⟨rfl, rfl, ⟨g21, g22, g23, rfl⟩, hs24, rfl⟩ := hp20
          replace hB : xBB E (xA (wU w X) sz) s o Ad I (up3 F g21 g22 g23) X18 _ _ := hB
          refine lv_goto (tgt := 52) hx hb dX0_ofRight_47 (by decide) ?_
          exact b_iret C hB hr hlocks rfl dX0_ofRight_52 (Nat.le_of_ble_eq_true rfl) (Nat.le_of_ble_eq_true rfl) ⟨by omega, by omega⟩ ⟨rfl, rfl, ⟨_, _, _, rfl⟩, fun a e h => (hs24 _ _ h), by unfold rRight; rw [if_neg (by omega), if_neg (by omega), if_neg (by omega), if_pos (by omega)]; rfl⟩
      · refine lv_aload_n hx hb dX0_ofRight_28 rfl (lv_at hl 0 rfl) ?_
        refine b_get C hB 6 (by decide) q300 (v := .ref (Ad 7)) rfl rfl dX0_ofRight_29 ?_
        refine lv_iload_n hx hb dX0_ofRight_32 rfl (lv_at hl 1 rfl) ?_
        refine b_ald C hB 7 14 7 rfl (v := (F 14) kk) kk rfl (by omega) (by omega) rfl dX0_ofRight_33 ?_
        have := hR kk (by omega)
        refine lv_goto (tgt := 52) hx hb dX0_ofRight_34 (by decide) ?_
        exact b_iret C hB hr hlocks rfl dX0_ofRight_52 (Nat.le_of_ble_eq_true rfl) (Nat.le_of_ble_eq_true rfl) ⟨by omega, by omega⟩ ⟨rfl, rfl, ⟨_, _, _, up3_id F⟩, fun a e h => h, by unfold rRight; rw [if_neg (by omega), if_neg (by omega), if_pos (by omega)]; rfl⟩
    · refine lv_aload_n hx hb dX0_ofRight_14 rfl (lv_at hl 0 rfl) ?_
      refine b_get C hB 5 (by decide) q299 (v := .ref (Ad 6)) rfl rfl dX0_ofRight_15 ?_
      refine lv_iload_n hx hb dX0_ofRight_18 rfl (lv_at hl 1 rfl) ?_
      refine b_ald C hB 6 13 7 rfl (v := (F 13) kk) kk rfl (by omega) (by omega) rfl dX0_ofRight_19 ?_
      have := hR kk (by omega)
      refine lv_goto (tgt := 52) hx hb dX0_ofRight_20 (by decide) ?_
      exact b_iret C hB hr hlocks rfl dX0_ofRight_52 (Nat.le_of_ble_eq_true rfl) (Nat.le_of_ble_eq_true rfl) ⟨by omega, by omega⟩ ⟨rfl, rfl, ⟨_, _, _, up3_id F⟩, fun a e h => h, by unfold rRight; rw [if_neg (by omega), if_pos (by omega)]; rfl⟩
set_option maxHeartbeats 800000 in
set_option maxRecDepth 100000 in
theorem kX0_tell (l : Launch) (E : xE) (o : Nat) (Ad : Nat → Nat) (I : Nat → Int) (F : Nat → Nat → Int) (X : xw) (ax : Int) (hax : rg ax) (hOK : mOK I F) : ci_ l E yX0_tell cX0_tell 2 (some .int) 4 81 0 0 [.ref o, .int (iI ax)] o Ad I F X (fun z Ad' I' F' X' => Ad = Ad' ∧ nTellA I F ax = I' ∧ F = F' ∧ X = X' ∧ z = rTellA I F ax) := by
  intro w hI hd sz
  refine x_bodyz (by decide) (Nat.le_of_ble_eq_true rfl) ?_
  intro p e s m args below meth c ls hx hb C hr hlocks hin hsz hZ hB hl
  have C : xC E p s m args c cX0_tell 2 RX0 := C
  replace hB : xBB E (xA (wU w X) sz) s o Ad I F X s.heap [] := ⟨w, hI, hd, hB⟩
  have hl : lv_has ls 2 [(0, .ref o), (1, .int (iI ax))] := hl
  have hOK0 := hOK
  obtain ⟨⟨hf1, hf2⟩, ⟨hl1, hl2⟩, ⟨hr1, hr2⟩, hlr, ⟨hs1, hs2⟩, ⟨hj1, hj2⟩, ⟨hb1, hb2⟩, ⟨hn1, hn2⟩, hL, hR, hN, hS, hC⟩ := hOK
  obtain ⟨hax1, hax2⟩ := hax
  refine lv_aload_n hx hb dX0_tell_0 rfl (lv_at hl 0 rfl) ?_
  refine lv_iload_n hx hb dX0_tell_1 rfl (lv_at hl 1 rfl) ?_
  refine b_calli 0 0 (Nat.le_of_ble_eq_true rfl) (Nat.le_of_ble_eq_true rfl) hB (fun w hI hd hB => rV (As := [.int (iI ax)]) (n := 1) C hZ hB (kX0_noLeft l E o Ad I F X ax ⟨by omega, by omega⟩ hOK0 w hI hd _) (lw_V q237 q239 qs7 q68 q240) (by decide +kernel) ⟨Nat.le_of_ble_eq_true rfl, Nat.le_of_ble_eq_true rfl⟩ (wU_l hI.x) rfl rfl rfl hl.1 rfl (Nat.le_of_ble_eq_true rfl) dX0_tell_2 ⟨Nat.le_of_ble_eq_true rfl, Nat.le_of_ble_eq_true rfl⟩) (fun z1 Ad2 I3 F4 X5 H locs hz6 hp7 hB => ?_)
  obtain ⟨hz6a, hz6b⟩ := hz6
  obtain ⟨rfl, rfl, rfl, rfl, ⟨rfl, h8⟩ | ⟨rfl, h8⟩⟩ := hp7
  · refine x_if_eq (tgt := 12) hx hb dX0_tell_5 (by decide) ⟨by decide, by decide⟩ (fun c9 => by exfalso; omega) (fun c9 => ?_)
    refine lv_iconst (v := iI (-1)) hx hb dX0_tell_8 rfl ?_
    refine lv_goto (tgt := 28) hx hb dX0_tell_9 (by decide) ?_
    exact b_iret C hB hr hlocks rfl dX0_tell_28 (Nat.le_of_ble_eq_true rfl) (Nat.le_of_ble_eq_true rfl) ⟨by decide, by decide⟩ ⟨rfl, by unfold nTellA; rw [if_pos (by omega)], rfl, rfl, by unfold rTellA; rw [if_pos (by omega)]⟩
  · refine x_if_eq (tgt := 12) hx hb dX0_tell_5 (by decide) ⟨by decide, by decide⟩ (fun c10 => ?_) (fun c10 => by exfalso; omega)
    obtain ⟨kk, rfl⟩ : ∃ kk : Nat, ax = (kk : Int) := ⟨ax.toNat, by omega⟩
    refine lv_aload_n hx hb dX0_tell_12 rfl (lv_at hl 0 rfl) ?_
    refine b_get C hB 3 (by decide) q296 (v := .ref (Ad 4)) rfl rfl dX0_tell_13 ?_
    refine lv_iload_n hx hb dX0_tell_16 rfl (lv_at hl 1 rfl) ?_
    refine b_lget C hZ hB kk rfl (show ((kk : Nat) : Int) < I 5 by omega) (show I 5 ≤ 7 by omega) q156 ⟨Nat.le_of_ble_eq_true rfl, Nat.le_of_ble_eq_true rfl⟩ hl.1 (Nat.le_of_ble_eq_true rfl) dX0_tell_17 ⟨Nat.le_of_ble_eq_true rfl, Nat.le_of_ble_eq_true rfl⟩ (fun H locs hB => ?_)
    refine b_castP C hB kk (show ((kk : Nat) : Int) < I 5 by omega) (show I 5 ≤ 7 by omega) q175 dX0_tell_22 ?_
    have hLi := hL kk (by omega)
    refine b_psaid l C hZ hB kk (show ((kk : Nat) : Int) < I 5 by omega) (show I 5 ≤ 7 by omega) (show 0 ≤ (F 10) kk ∧ (F 10) kk ≤ 2 by omega) (show 1 ≤ (F 11) kk ∧ (F 11) kk ≤ 9 by omega) q1276 ⟨Nat.le_of_ble_eq_true rfl, Nat.le_of_ble_eq_true rfl⟩ hl.1 (Nat.le_of_ble_eq_true rfl) dX0_tell_25 ⟨Nat.le_of_ble_eq_true rfl, Nat.le_of_ble_eq_true rfl⟩ (fun H locs h11a h11b hB => ?_)
    exact b_iret C hB hr hlocks rfl dX0_tell_28 (Nat.le_of_ble_eq_true rfl) (Nat.le_of_ble_eq_true rfl) ⟨by omega, by omega⟩ ⟨rfl, by unfold nTellA; rw [if_neg (by omega)]; rfl, rfl, rfl, by unfold rTellA; rw [if_neg (by omega)]; rfl⟩
