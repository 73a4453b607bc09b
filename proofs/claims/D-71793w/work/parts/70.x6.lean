/-! THE COMPONENT: the table -/
set_option maxRecDepth 100000
theorem imin_b (a b : Int) : (imin a b = a ∧ a ≤ b) ∨ (imin a b = b ∧ b < a) := by
  unfold imin
  split <;> omega
theorem wy_m (c : Int) : (if c ≤ 100000 then c else 100000 : Int) = imin c 100000 := by
  unfold imin
  split <;> split <;> omega
theorem wy_1 {l n a c al : Int} (h : imin c 100000 < l) : wy (l, n, a) c al = (imin c 100000, l, al) := by
  unfold wy
  rw [wy_m]
  exact if_pos h
theorem wy_2 {l n a c al : Int} (h : ¬ imin c 100000 < l) : wy (l, n, a) c al = (l, imin n (imin c 100000), a + (if imin c 100000 = l ∧ imin c 100000 < 100000 then al else 0)) := by
  unfold wy
  rw [wy_m]
  rw [if_neg h]
  show (l, (if n ≤ imin c 100000 then n else imin c 100000), _) = _
  have e : (if n ≤ imin c 100000 then n else imin c 100000) = imin n (imin c 100000) := by
    rcases imin_b n (imin c 100000) with q | q
    · rw [q.1, if_pos q.2]
    · rw [q.1, if_neg (by omega)]
  rw [e]
theorem wy_b {l n a c al : Int} (h1 : 0 ≤ l) (h2 : l ≤ 100000) (h3 : 0 ≤ n) (h4 : n ≤ 100000) (hc : 0 ≤ c) : 0 ≤ (wy (l, n, a) c al).1 ∧ (wy (l, n, a) c al).1 ≤ 100000 ∧ 0 ≤ (wy (l, n, a) c al).2.1 ∧ (wy (l, n, a) c al).2.1 ≤ 100000 := by
  have hm := imin_b c 100000
  by_cases h : imin c 100000 < l
  · rw [wy_1 h]
    dsimp only
    omega
  · rw [wy_2 h]
    have hm2 := imin_b n (imin c 100000)
    dsimp only
    omega
set_option maxHeartbeats 800000 in
set_option maxRecDepth 100000 in
theorem kX0_areThere (l : Launch) (E : xE) (o : Nat) (Ad : Nat → Nat) (I : Nat → Int) (F : Nat → Nat → Int) (X : xw) (k : Nat) (a : Nat) (b : Nat) (hk : k < 5) (ha : (a : Int) ≤ 100) (hbb : (b : Int) ≤ 100) (hOK : mOK I F) : ci_ l E yX0_areThere cX0_areThere 4 (some .boolean) 1 20 0 0 [.ref o, .int (iI ((k : Int))), .int (iI ((a : Int))), .int (iI ((b : Int)))] o Ad I F X (fun z Ad' I' F' X' => Ad = Ad' ∧ I = I' ∧ F = F' ∧ X = X' ∧ ((z = 1 ∧ (a : Int) + (loN k : Int) ≤ I 5 ∧ (b : Int) + (roN k : Int) ≤ I 6) ∨ (z = 0 ∧ ¬ ((a : Int) + (loN k : Int) ≤ I 5 ∧ (b : Int) + (roN k : Int) ≤ I 6)))) := by
  intro w hI hd sz
  refine x_bodyz (by decide) (Nat.le_of_ble_eq_true rfl) ?_
  intro p e s m args below meth c ls hx hb C hr hlocks hin hsz hZ hB hl
  have C : xC E p s m args c cX0_areThere 4 RX0 := C
  replace hB : xBB E (xA (wU w X) sz) s o Ad I F X s.heap [] := ⟨w, hI, hd, hB⟩
  have hl : lv_has ls 4 [(0, .ref o), (1, .int (iI ((k : Int)))), (2, .int (iI ((a : Int)))), (3, .int (iI ((b : Int))))] := hl
  have hOK0 := hOK
  obtain ⟨⟨hf1, hf2⟩, ⟨hl1, hl2⟩, ⟨hr1, hr2⟩, hlr, ⟨hs1, hs2⟩, ⟨hj1, hj2⟩, ⟨hb1, hb2⟩, ⟨hn1, hn2⟩, hL, hR, hN, hS, hC⟩ := hOK
  
  refine lv_iload_n hx hb dX0_areThere_0 rfl (lv_at hl 2 rfl) ?_
  refine lv_iload_n hx hb dX0_areThere_1 rfl (lv_at hl 1 rfl) ?_
  refine bs_calli (n := 1) C hB (As := [.int (iI ((k : Int)))]) (kX0_leftOf l E ((k : Int)) ⟨by omega, by omega⟩) (lw_S q360 q361 q68 q362) (by decide +kernel) ⟨Nat.le_of_ble_eq_true rfl, Nat.le_of_ble_eq_true rfl⟩ rfl hl.1 rfl (Nat.le_of_ble_eq_true rfl) dX0_areThere_2 ⟨Nat.le_of_ble_eq_true rfl, Nat.le_of_ble_eq_true rfl⟩ (fun z1 H locs hz2 hp3 hB => ?_)
  obtain ⟨hz2a, hz2b⟩ := hz2
  have h4 : z1 = (loN k : Int) := by unfold loN; (repeat' split) <;> omega
  subst h4
  have hlr := lr_pos k
  refine x_iadd (z := (a : Int) + (loN k : Int)) hx hb dX0_areThere_5 (by omega) ?_
  refine lv_aload_n hx hb dX0_areThere_6 rfl (lv_at hl 0 rfl) ?_
  refine b_get C hB 3 (by decide) q296 (v := .ref (Ad 4)) rfl rfl dX0_areThere_7 ?_
  refine b_size C hZ hB (n := I 5) (ed := Ad 30) (fun w hI _ => wU_l (hI.at (r := 4) rfl)) (by omega) q242 ⟨Nat.le_of_ble_eq_true rfl, Nat.le_of_ble_eq_true rfl⟩ hl.1 (Nat.le_of_ble_eq_true rfl) dX0_areThere_10 ⟨Nat.le_of_ble_eq_true rfl, Nat.le_of_ble_eq_true rfl⟩ (fun H locs hB => ?_)
  refine x_icmp_gt (tgt := 35) hx hb dX0_areThere_15 (by decide) ⟨by omega, by omega⟩ ⟨by omega, by omega⟩ (fun c5 => ?_) (fun c5 => ?_)
  · refine lv_iconst (v := iI 0) hx hb dX0_areThere_35 rfl ?_
    exact b_iret C hB hr hlocks rfl dX0_areThere_36 (Nat.le_of_ble_eq_true rfl) (Nat.le_of_ble_eq_true rfl) ⟨by decide, by decide⟩ ⟨rfl, rfl, rfl, rfl, by omega⟩
  · refine lv_iload_n hx hb dX0_areThere_18 rfl (lv_at hl 3 rfl) ?_
    refine lv_iload_n hx hb dX0_areThere_19 rfl (lv_at hl 1 rfl) ?_
    refine bs_calli (n := 1) C hB (As := [.int (iI ((k : Int)))]) (kX0_rightOf l E ((k : Int)) ⟨by omega, by omega⟩) (lw_S q363 q364 q68 q365) (by decide +kernel) ⟨Nat.le_of_ble_eq_true rfl, Nat.le_of_ble_eq_true rfl⟩ rfl hl.1 rfl (Nat.le_of_ble_eq_true rfl) dX0_areThere_20 ⟨Nat.le_of_ble_eq_true rfl, Nat.le_of_ble_eq_true rfl⟩ (fun z6 H locs hz7 hp8 hB => ?_)
    obtain ⟨hz7a, hz7b⟩ := hz7
    have h9 : z6 = (roN k : Int) := by unfold roN; (repeat' split) <;> omega
    subst h9
    have hlr := lr_pos k
    refine x_iadd (z := (b : Int) + (roN k : Int)) hx hb dX0_areThere_23 (by omega) ?_
    refine lv_aload_n hx hb dX0_areThere_24 rfl (lv_at hl 0 rfl) ?_
    refine b_get C hB 4 (by decide) q298 (v := .int (iI (I 6))) rfl rfl dX0_areThere_25 ?_
    refine x_icmp_gt (tgt := 35) hx hb dX0_areThere_28 (by decide) ⟨by omega, by omega⟩ ⟨by omega, by omega⟩ (fun c10 => ?_) (fun c10 => ?_)
    · refine lv_iconst (v := iI 0) hx hb dX0_areThere_35 rfl ?_
      exact b_iret C hB hr hlocks rfl dX0_areThere_36 (Nat.le_of_ble_eq_true rfl) (Nat.le_of_ble_eq_true rfl) ⟨by decide, by decide⟩ ⟨rfl, rfl, rfl, rfl, by omega⟩
    · refine lv_iconst (v := iI 1) hx hb dX0_areThere_31 rfl ?_
      refine lv_goto (tgt := 36) hx hb dX0_areThere_32 (by decide) ?_
      exact b_iret C hB hr hlocks rfl dX0_areThere_36 (Nat.le_of_ble_eq_true rfl) (Nat.le_of_ble_eq_true rfl) ⟨by decide, by decide⟩ ⟨rfl, rfl, rfl, rfl, by omega⟩
set_option maxHeartbeats 800000 in
set_option maxRecDepth 100000 in
theorem kX0_weighs (l : Launch) (E : xE) (o : Nat) (Ad : Nat → Nat) (I : Nat → Int) (F : Nat → Nat → Int) (f1 f2 f3 : Nat → Int) (X : xw) (k : Nat) (cc : Int) (al : Int) (hk : k < 64) (hcr : 0 ≤ cc ∧ cc ≤ 300000) (h1r : 0 ≤ f1 k ∧ f1 k ≤ 100000) (h2r : 0 ≤ f2 k ∧ f2 k ≤ 100000) : cv_ l E yX0_weighs cX0_weighs 5 none 1 24 0 0 [.ref o, .int (iI ((k : Int))), .int (iI cc), .int (iI al)] o Ad I (up3 F f1 f2 f3) X (fun _ Ad' I' F' X' => Ad = Ad' ∧ I = I' ∧ X = X' ∧ ∃ g1 g2 g3, up3 F g1 g2 g3 = F' ∧ (∀ q, q ≠ k → g1 q = f1 q ∧ g2 q = f2 q ∧ g3 q = f3 q) ∧ (g1 k, g2 k, g3 k) = wy (f1 k, f2 k, f3 k) cc al) := by
  intro w hI hd sz
  refine x_bodyz (by decide) (Nat.le_of_ble_eq_true rfl) ?_
  intro p e s m args below meth c ls hx hb C hr hlocks hin hsz hZ hB hl
  have C : xC E p s m args c cX0_weighs 5 RX0 := C
  replace hB : xBB E (xA (wU w X) sz) s o Ad I (up3 F f1 f2 f3) X s.heap [] := ⟨w, hI, hd, hB⟩
  have hl : lv_has ls 5 [(0, .ref o), (1, .int (iI ((k : Int)))), (2, .int (iI cc)), (3, .int (iI al))] := hl
  refine lv_iload_n hx hb dX0_weighs_0 rfl (lv_at hl 2 rfl) ?_
  refine lv_ldc hx hb C.1.2.2.2.1 (C.1.2.2.2.2 _ q438) dX0_weighs_1 ?_
  refine x_rw (y := iI 100000) (by decide) ?_
  refine x_mmin C q447 q448 q75 q449 hl.1 (Nat.le_of_ble_eq_true rfl) (Nat.le_of_ble_eq_true rfl) (Nat.le_of_ble_eq_true rfl) (Nat.le_of_ble_eq_true rfl) ⟨by omega, by omega⟩ ⟨by decide, by decide⟩ dX0_weighs_3 ?_
  have him := imin_b cc 100000
  refine lv_istore (lv' := [(4, .int (iI (imin cc 100000))), (0, .ref o), (1, .int (iI ((k : Int)))), (2, .int (iI cc)), (3, .int (iI al))]) hx hb dX0_weighs_6 hl (by decide) rfl (fun ls hl => ?_)
  refine lv_iload hx hb dX0_weighs_8 (lv_at hl 0 rfl) ?_
  refine lv_aload_n hx hb dX0_weighs_10 rfl (lv_at hl 1 rfl) ?_
  refine b_get C hB 12 (by decide) q308 (v := .ref (Ad 13)) rfl rfl dX0_weighs_11 ?_
  refine lv_iload_n hx hb dX0_weighs_14 rfl (lv_at hl 2 rfl) ?_
  refine b_ald C hB 13 21 64 rfl (v := f1 k) k rfl (by omega) (by omega) rfl dX0_weighs_15 ?_
  refine x_icmp_ge (tgt := 49) hx hb dX0_weighs_16 (by decide) ⟨by omega, by omega⟩ ⟨by omega, by omega⟩ (fun c1 => ?_) (fun c1 => ?_)
  · refine lv_aload_n hx hb dX0_weighs_49 rfl (lv_at hl 1 rfl) ?_
    refine b_get C hB 13 (by decide) q309 (v := .ref (Ad 14)) rfl rfl dX0_weighs_50 ?_
    refine lv_iload_n hx hb dX0_weighs_53 rfl (lv_at hl 2 rfl) ?_
    refine lv_aload_n hx hb dX0_weighs_54 rfl (lv_at hl 1 rfl) ?_
    refine b_get C hB 13 (by decide) q309 (v := .ref (Ad 14)) rfl rfl dX0_weighs_55 ?_
    refine lv_iload_n hx hb dX0_weighs_58 rfl (lv_at hl 2 rfl) ?_
    refine b_ald C hB 14 22 64 rfl (v := f2 k) k rfl (by omega) (by omega) rfl dX0_weighs_59 ?_
    refine lv_iload hx hb dX0_weighs_60 (lv_at hl 0 rfl) ?_
    refine x_mmin C q447 q448 q75 q449 hl.1 (Nat.le_of_ble_eq_true rfl) (Nat.le_of_ble_eq_true rfl) (Nat.le_of_ble_eq_true rfl) (Nat.le_of_ble_eq_true rfl) ⟨by omega, by omega⟩ ⟨by omega, by omega⟩ dX0_weighs_62 ?_
    have him2 := imin_b (f2 k) (imin cc 100000)
    refine b_ast C hB 14 22 64 rfl (f := f2) k rfl (by omega) (by omega) rfl dX0_weighs_65 (fun H locs hB => ?_)
    rw [up3_22] at hB
    replace hB : xBB E (xA (wU w X) sz) s o Ad I (up3 F f1 ((va_up f2 k (imin (f2 k) (imin cc 100000)))) f3) X _ _ := hB
    refine lv_aload_n hx hb dX0_weighs_66 rfl (lv_at hl 1 rfl) ?_
    refine b_get C hB 14 (by decide) q310 (v := .ref (Ad 15)) rfl rfl dX0_weighs_67 ?_
    refine lv_iload_n hx hb dX0_weighs_70 rfl (lv_at hl 2 rfl) ?_
    refine lv_dup2_11 hx hb dX0_weighs_71 rfl rfl ?_
    refine b_ald C hB 15 23 64 rfl (v := f3 k) k rfl (by omega) (by omega) rfl dX0_weighs_72 ?_
    refine lv_iload hx hb dX0_weighs_73 (lv_at hl 0 rfl) ?_
    refine lv_aload_n hx hb dX0_weighs_75 rfl (lv_at hl 1 rfl) ?_
    refine b_get C hB 12 (by decide) q308 (v := .ref (Ad 13)) rfl rfl dX0_weighs_76 ?_
    refine lv_iload_n hx hb dX0_weighs_79 rfl (lv_at hl 2 rfl) ?_
    refine b_ald C hB 13 21 64 rfl (v := f1 k) k rfl (by omega) (by omega) rfl dX0_weighs_80 ?_
    refine x_icmp_ne (tgt := 95) hx hb dX0_weighs_81 (by decide) ⟨by omega, by omega⟩ ⟨by omega, by omega⟩ (fun c2 => ?_) (fun c2 => ?_)
    · refine lv_iconst (v := iI 0) hx hb dX0_weighs_95 rfl ?_
      refine x_iadd (z := f3 k) hx hb dX0_weighs_96 (by omega) ?_
      refine b_ast C hB 15 23 64 rfl (f := f3) k rfl (by omega) (by omega) rfl dX0_weighs_97 (fun H locs hB => ?_)
      rw [up3_23] at hB
      replace hB : xBB E (xA (wU w X) sz) s o Ad I (up3 F f1 ((va_up f2 k (imin (f2 k) (imin cc 100000)))) ((va_up f3 k (f3 k)))) X _ _ := hB
      exact b_vret C hB hr hlocks dX0_weighs_98 (Nat.le_of_ble_eq_true rfl) (Nat.le_of_ble_eq_true rfl) ⟨rfl, rfl, rfl, _, _, _, rfl, fun q hq => ⟨by simp [va_up, hq], by simp [va_up, hq], by simp [va_up, hq]⟩, by rw [wy_2 (by omega), if_neg (by omega)]; simp only [va_up_s]; try rw [Int.add_zero]⟩
    · refine lv_iload hx hb dX0_weighs_84 (lv_at hl 0 rfl) ?_
      refine lv_ldc hx hb C.1.2.2.2.1 (C.1.2.2.2.2 _ q438) dX0_weighs_86 ?_
      refine x_rw (y := iI 100000) (by decide) ?_
      refine x_icmp_ge (tgt := 95) hx hb dX0_weighs_88 (by decide) ⟨by omega, by omega⟩ ⟨by decide, by decide⟩ (fun c3 => ?_) (fun c3 => ?_)
      · refine lv_iconst (v := iI 0) hx hb dX0_weighs_95 rfl ?_
        refine x_iadd (z := f3 k) hx hb dX0_weighs_96 (by omega) ?_
        refine b_ast C hB 15 23 64 rfl (f := f3) k rfl (by omega) (by omega) rfl dX0_weighs_97 (fun H locs hB => ?_)
        rw [up3_23] at hB
        replace hB : xBB E (xA (wU w X) sz) s o Ad I (up3 F f1 ((va_up f2 k (imin (f2 k) (imin cc 100000)))) ((va_up f3 k (f3 k)))) X _ _ := hB
        exact b_vret C hB hr hlocks dX0_weighs_98 (Nat.le_of_ble_eq_true rfl) (Nat.le_of_ble_eq_true rfl) ⟨rfl, rfl, rfl, _, _, _, rfl, fun q hq => ⟨by simp [va_up, hq], by simp [va_up, hq], by simp [va_up, hq]⟩, by rw [wy_2 (by omega), if_neg (by omega)]; simp only [va_up_s]; try rw [Int.add_zero]⟩
      · refine lv_iload_n hx hb dX0_weighs_91 rfl (lv_at hl 4 rfl) ?_
        refine lv_goto (tgt := 96) hx hb dX0_weighs_92 (by decide) ?_
        refine x_iadd (z := f3 k + al) hx hb dX0_weighs_96 (by omega) ?_
        refine b_ast C hB 15 23 64 rfl (f := f3) k rfl (by omega) (by omega) rfl dX0_weighs_97 (fun H locs hB => ?_)
        rw [up3_23] at hB
        replace hB : xBB E (xA (wU w X) sz) s o Ad I (up3 F f1 ((va_up f2 k (imin (f2 k) (imin cc 100000)))) ((va_up f3 k (f3 k + al)))) X _ _ := hB
        exact b_vret C hB hr hlocks dX0_weighs_98 (Nat.le_of_ble_eq_true rfl) (Nat.le_of_ble_eq_true rfl) ⟨rfl, rfl, rfl, _, _, _, rfl, fun q hq => ⟨by simp [va_up, hq], by simp [va_up, hq], by simp [va_up, hq]⟩, by rw [wy_2 (by omega), if_pos (by omega)]; simp only [va_up_s]; try rw [Int.add_zero]⟩
  · refine lv_aload_n hx hb dX0_weighs_19 rfl (lv_at hl 1 rfl) ?_
    refine b_get C hB 13 (by decide) q309 (v := .ref (Ad 14)) rfl rfl dX0_weighs_20 ?_
    refine lv_iload_n hx hb dX0_weighs_23 rfl (lv_at hl 2 rfl) ?_
    refine lv_aload_n hx hb dX0_weighs_24 rfl (lv_at hl 1 rfl) ?_
    refine b_get C hB 12 (by decide) q308 (v := .ref (Ad 13)) rfl rfl dX0_weighs_25 ?_
    refine lv_iload_n hx hb dX0_weighs_28 rfl (lv_at hl 2 rfl) ?_
    refine b_ald C hB 13 21 64 rfl (v := f1 k) k rfl (by omega) (by omega) rfl dX0_weighs_29 ?_
    refine b_ast C hB 14 22 64 rfl (f := f2) k rfl (by omega) (by omega) rfl dX0_weighs_30 (fun H locs hB => ?_)
    rw [up3_22] at hB
    replace hB : xBB E (xA (wU w X) sz) s o Ad I (up3 F f1 ((va_up f2 k (f1 k))) f3) X _ _ := hB
    refine lv_aload_n hx hb dX0_weighs_31 rfl (lv_at hl 1 rfl) ?_
    refine b_get C hB 12 (by decide) q308 (v := .ref (Ad 13)) rfl rfl dX0_weighs_32 ?_
    refine lv_iload_n hx hb dX0_weighs_35 rfl (lv_at hl 2 rfl) ?_
    refine lv_iload hx hb dX0_weighs_36 (lv_at hl 0 rfl) ?_
    refine b_ast C hB 13 21 64 rfl (f := f1) k rfl (by omega) (by omega) rfl dX0_weighs_38 (fun H locs hB => ?_)
    rw [up3_21] at hB
    replace hB : xBB E (xA (wU w X) sz) s o Ad I (up3 F ((va_up f1 k (imin cc 100000))) ((va_up f2 k (f1 k))) f3) X _ _ := hB
    refine lv_aload_n hx hb dX0_weighs_39 rfl (lv_at hl 1 rfl) ?_
    refine b_get C hB 14 (by decide) q310 (v := .ref (Ad 15)) rfl rfl dX0_weighs_40 ?_
    refine lv_iload_n hx hb dX0_weighs_43 rfl (lv_at hl 2 rfl) ?_
    refine lv_iload_n hx hb dX0_weighs_44 rfl (lv_at hl 4 rfl) ?_
    refine b_ast C hB 15 23 64 rfl (f := f3) k rfl (by omega) (by omega) rfl dX0_weighs_45 (fun H locs hB => ?_)
    rw [up3_23] at hB
    replace hB : xBB E (xA (wU w X) sz) s o Ad I (up3 F ((va_up f1 k (imin cc 100000))) ((va_up f2 k (f1 k))) ((va_up f3 k al))) X _ _ := hB
    refine lv_goto (tgt := 98) hx hb dX0_weighs_46 (by decide) ?_
    exact b_vret C hB hr hlocks dX0_weighs_98 (Nat.le_of_ble_eq_true rfl) (Nat.le_of_ble_eq_true rfl) ⟨rfl, rfl, rfl, _, _, _, rfl, fun q hq => ⟨by simp [va_up, hq], by simp [va_up, hq], by simp [va_up, hq]⟩, by rw [wy_1 (by omega)]; simp only [va_up_s]⟩
set_option maxHeartbeats 800000 in
set_option maxRecDepth 100000 in
theorem kX0_looksFrom (l : Launch) (E : xE) (o : Nat) (Ad : Nat → Nat) (I : Nat → Int) (F : Nat → Nat → Int) (f1 f2 f3 : Nat → Int) (X : xw) (a : Nat) (b : Nat) (wd : Int) (ha : (a : Int) ≤ I 5) (hbb : (b : Int) ≤ I 6) (hw : 0 ≤ wd ∧ wd ≤ 7) (hlat : ∀ i j : Nat, (i : Int) ≤ I 5 → (j : Int) ≤ I 6 → (a < i ∨ (a = i ∧ b < j)) → (f1 (8 * i + j), f2 (8 * i + j), f3 (8 * i + j)) = DT I F wd i j) (hOK : mOK I F) : cv_ l E yX0_looksFrom cX0_looksFrom 8 none 6 136 0 0 [.ref o, .int (iI ((a : Int))), .int (iI ((b : Int))), .int (iI wd)] o Ad I (up3 F f1 f2 f3) X (fun _ Ad' I' F' X' => Ad = Ad' ∧ I = I' ∧ X = X' ∧ ∃ g1 g2 g3, up3 F g1 g2 g3 = F' ∧ (∀ q, q ≠ 8 * a + b → g1 q = f1 q ∧ g2 q = f2 q ∧ g3 q = f3 q) ∧ (g1 (8 * a + b), g2 (8 * a + b), g3 (8 * a + b)) = DT I F wd a b) := by
  intro w hI hd sz
  refine x_bodyz (by decide) (Nat.le_of_ble_eq_true rfl) ?_
  intro p e s m args below meth c ls hx hb C hr hlocks hin hsz hZ hB hl
  have C : xC E p s m args c cX0_looksFrom 8 RX0 := C
  replace hB : xBB E (xA (wU w X) sz) s o Ad I (up3 F f1 f2 f3) X s.heap [] := ⟨w, hI, hd, hB⟩
  have hl : lv_has ls 8 [(0, .ref o), (1, .int (iI ((a : Int)))), (2, .int (iI ((b : Int)))), (3, .int (iI wd))] := hl
  have hOK0 := hOK
  obtain ⟨⟨hf1, hf2⟩, ⟨hl1, hl2⟩, ⟨hr1, hr2⟩, hlr, ⟨hs1, hs2⟩, ⟨hj1, hj2⟩, ⟨hb1, hb2⟩, ⟨hn1, hn2⟩, hL, hR, hN, hS, hC⟩ := hOK
  
  refine lv_bipush (v := iI 8) hx hb dX0_looksFrom_0 rfl ?_
  refine lv_iload_n hx hb dX0_looksFrom_2 rfl (lv_at hl 1 rfl) ?_
  refine x_imul (z := 8 * (a : Int)) hx hb dX0_looksFrom_3 (by omega) ?_
  refine lv_iload_n hx hb dX0_looksFrom_4 rfl (lv_at hl 2 rfl) ?_
  refine x_iadd (z := 8 * (a : Int) + (b : Int)) hx hb dX0_looksFrom_5 (by omega) ?_
  refine lv_istore (lv' := [(4, .int (iI (8 * (a : Int) + (b : Int)))), (0, .ref o), (1, .int (iI ((a : Int)))), (2, .int (iI ((b : Int)))), (3, .int (iI wd))]) hx hb dX0_looksFrom_6 hl (by decide) rfl (fun ls hl => ?_)
  refine lv_aload_n hx hb dX0_looksFrom_8 rfl (lv_at hl 1 rfl) ?_
  refine b_get C hB 12 (by decide) q308 (v := .ref (Ad 13)) rfl rfl dX0_looksFrom_9 ?_
  refine lv_iload hx hb dX0_looksFrom_12 (lv_at hl 0 rfl) ?_
  refine lv_ldc hx hb C.1.2.2.2.1 (C.1.2.2.2.2 _ q438) dX0_looksFrom_14 ?_
  refine x_rw (y := iI 100000) (by decide) ?_
  refine b_ast C hB 13 21 64 rfl (f := f1) (8 * a + b) (by omega) (by omega) (by omega) rfl dX0_looksFrom_16 (fun H locs hB => ?_)
  rw [up3_21] at hB
  replace hB : xBB E (xA (wU w X) sz) s o Ad I (up3 F ((va_up f1 (8 * a + b) 100000)) f2 f3) X _ _ := hB
  refine lv_aload_n hx hb dX0_looksFrom_17 rfl (lv_at hl 1 rfl) ?_
  refine b_get C hB 13 (by decide) q309 (v := .ref (Ad 14)) rfl rfl dX0_looksFrom_18 ?_
  refine lv_iload hx hb dX0_looksFrom_21 (lv_at hl 0 rfl) ?_
  refine lv_ldc hx hb C.1.2.2.2.1 (C.1.2.2.2.2 _ q438) dX0_looksFrom_23 ?_
  refine x_rw (y := iI 100000) (by decide) ?_
  refine b_ast C hB 14 22 64 rfl (f := f2) (8 * a + b) (by omega) (by omega) (by omega) rfl dX0_looksFrom_25 (fun H locs hB => ?_)
  rw [up3_22] at hB
  replace hB : xBB E (xA (wU w X) sz) s o Ad I (up3 F ((va_up f1 (8 * a + b) 100000)) ((va_up f2 (8 * a + b) 100000)) f3) X _ _ := hB
  refine lv_aload_n hx hb dX0_looksFrom_26 rfl (lv_at hl 1 rfl) ?_
  refine b_get C hB 14 (by decide) q310 (v := .ref (Ad 15)) rfl rfl dX0_looksFrom_27 ?_
  refine lv_iload hx hb dX0_looksFrom_30 (lv_at hl 0 rfl) ?_
  refine lv_iconst (v := iI 0) hx hb dX0_looksFrom_32 rfl ?_
  refine b_ast C hB 15 23 64 rfl (f := f3) (8 * a + b) (by omega) (by omega) (by omega) rfl dX0_looksFrom_33 (fun H locs hB => ?_)
  rw [up3_23] at hB
  replace hB : xBB E (xA (wU w X) sz) s o Ad I (up3 F ((va_up f1 (8 * a + b) 100000)) ((va_up f2 (8 * a + b) 100000)) ((va_up f3 (8 * a + b) 0))) X _ _ := hB
  refine lv_iload_n hx hb dX0_looksFrom_34 rfl (lv_at hl 2 rfl) ?_
  refine lv_iload_n hx hb dX0_looksFrom_35 rfl (lv_at hl 3 rfl) ?_
  refine x_isub (z := (a : Int) - (b : Int)) hx hb dX0_looksFrom_36 (by omega) ?_
  refine x_mabs C q199 q200 q75 q201 hl.1 (Nat.le_of_ble_eq_true rfl) (Nat.le_of_ble_eq_true rfl) (Nat.le_of_ble_eq_true rfl) (Nat.le_of_ble_eq_true rfl) ⟨by omega, by omega⟩ dX0_looksFrom_37 ?_
  have hab := aabs_b ((a : Int) - (b : Int))
  refine lv_iload_n hx hb dX0_looksFrom_40 rfl (lv_at hl 4 rfl) ?_
  refine x_icmp_le (tgt := 45) hx hb dX0_looksFrom_41 (by decide) ⟨by omega, by omega⟩ ⟨by omega, by omega⟩ (fun c1 => ?_) (fun c1 => ?_)
  · refine lv_iload_n hx hb dX0_looksFrom_45 rfl (lv_at hl 2 rfl) ?_
    refine lv_aload_n hx hb dX0_looksFrom_46 rfl (lv_at hl 1 rfl) ?_
    refine b_get C hB 3 (by decide) q296 (v := .ref (Ad 4)) rfl rfl dX0_looksFrom_47 ?_
    refine b_size C hZ hB (n := I 5) (ed := Ad 30) (fun w hI _ => wU_l (hI.at (r := 4) rfl)) (by omega) q242 ⟨Nat.le_of_ble_eq_true rfl, Nat.le_of_ble_eq_true rfl⟩ hl.1 (Nat.le_of_ble_eq_true rfl) dX0_looksFrom_50 ⟨Nat.le_of_ble_eq_true rfl, Nat.le_of_ble_eq_true rfl⟩ (fun H locs hB => ?_)
    refine x_icmp_ne (tgt := 83) hx hb dX0_looksFrom_55 (by decide) ⟨by omega, by omega⟩ ⟨by omega, by omega⟩ (fun c2 => ?_) (fun c2 => ?_)
    · refine lv_iconst (v := iI 0) hx hb dX0_looksFrom_83 rfl ?_
      refine lv_istore (lv' := [(5, .int (iI 0)), (4, .int (iI (8 * (a : Int) + (b : Int)))), (0, .ref o), (1, .int (iI ((a : Int)))), (2, .int (iI ((b : Int)))), (3, .int (iI wd))]) hx hb dX0_looksFrom_84 hl (by decide) rfl (fun ls hl => ?_)
      refine w_loop (fun n6 H locs ls => ∃ (k : Nat) (g1 : Nat → Int) (g2 : Nat → Int) (g3 : Nat → Int), n6 = 5 - k ∧ (k ≤ 5) ∧ (∀ q, q ≠ 8 * a + b → g1 q = f1 q ∧ g2 q = f2 q ∧ g3 q = f3 q) ∧ ((g1 (8 * a + b), g2 (8 * a + b), g3 (8 * a + b)) = accT (I 5).toNat (I 6).toNat (csM I F) (DT I F wd) a b k) ∧ xBB E (xA (wU w X) sz) s o Ad I (up3 F g1 g2 g3) X H locs ∧ lv_has ls 8 [(0, .ref o), (1, .int (iI ((a : Int)))), (2, .int (iI ((b : Int)))), (3, .int (iI wd)), (4, .int (iI (8 * (a : Int) + (b : Int)))), (5, .int (iI ((k : Int))))]) _ ⟨0, _, _, _, rfl, Nat.zero_le _, fun q hq => ⟨by simp [va_up, hq], by simp [va_up, hq], by simp [va_up, hq]⟩, by simp only [va_up_s]; rfl, hB, lv_sub hl [2, 3, 4, 5, 1, 0] rfl⟩ ?_
      intro n6 H locs ls hI5 ih3
      obtain ⟨k, g1, g2, g3, hn4, hk, hoth, hR, hB, hl⟩ := hI5
      refine lv_iload hx hb dX0_looksFrom_86 (lv_at hl 5 rfl) ?_
      refine lv_iconst (v := iI 5) hx hb dX0_looksFrom_88 rfl ?_
      refine x_icmp_ge (tgt := 188) hx hb dX0_looksFrom_89 (by decide) ⟨by omega, by omega⟩ ⟨by decide, by decide⟩ (fun c7 => ?_) (fun c7 => ?_)
      · exact b_vret C hB hr hlocks dX0_looksFrom_188 (Nat.le_of_ble_eq_true rfl) (Nat.le_of_ble_eq_true rfl) ⟨rfl, rfl, rfl, _, _, _, rfl, hoth, by rw [hR, show k = 5 by omega]; unfold DT; rw [D_eq (by omega) (by omega), if_neg (by omega), if_neg (by omega)]⟩
      · refine lv_aload_n hx hb dX0_looksFrom_92 rfl (lv_at hl 0 rfl) ?_
        refine lv_iload hx hb dX0_looksFrom_93 (lv_at hl 5 rfl) ?_
        refine lv_iload_n hx hb dX0_looksFrom_95 rfl (lv_at hl 1 rfl) ?_
        refine lv_iload_n hx hb dX0_looksFrom_96 rfl (lv_at hl 2 rfl) ?_
        refine b_calli 0 0 (Nat.le_of_ble_eq_true rfl) (Nat.le_of_ble_eq_true rfl) hB (fun w hI hd hB => rV (As := [.int (iI ((k : Int))), .int (iI ((a : Int))), .int (iI ((b : Int)))]) (n := 3) C hZ hB (kX0_areThere l E o Ad I (up3 F g1 g2 g3) X k a b (by omega) (by omega) (by omega) hOK0 w hI hd _) (lw_V q439 q441 qs15 q68 q442) (by decide +kernel) ⟨Nat.le_of_ble_eq_true rfl, Nat.le_of_ble_eq_true rfl⟩ (wU_l hI.x) rfl rfl rfl hl.1 rfl (Nat.le_of_ble_eq_true rfl) dX0_looksFrom_97 ⟨Nat.le_of_ble_eq_true rfl, Nat.le_of_ble_eq_true rfl⟩) (fun z8 Ad9 I10 F11 X12 H locs hz13 hp14 hB => ?_)
        obtain ⟨hz13a, hz13b⟩ := hz13
        obtain ⟨rfl, rfl, rfl, rfl, ⟨rfl, h15⟩ | ⟨rfl, h15⟩⟩ := hp14
        · have hA : VB 900 (accT (I 5).toNat (I 6).toNat (csM I F) (DT I F wd) a b k) := VB_acc (by omega) (fun q hq h1 h2 => csM60 hOK0 q a b hq h1 h2) (fun q hq h1 h2 => VB_le (VBD (by omega) (by omega) (csM60 hOK0) h1 h2) (by omega)) k (by omega)
          have hlrk := lr_pos k
          have hT := hlat (a + loN k) (b + roN k) (by omega) (by omega) (by omega)
          have hne : 8 * a + 8 * loN k + b + roN k ≠ 8 * a + b := by omega
          have hto := hoth _ hne
          rw [show 8 * (a + loN k) + (b + roN k) = 8 * a + 8 * loN k + b + roN k by omega, ← hto.1, ← hto.2.1, ← hto.2.2] at hT
          have hV : VB 840 (DT I F wd (a + loN k) (b + roN k)) := VBD (by omega) (by omega) (csM60 hOK0) (by omega) (by omega)
          have hcs := csM60 hOK0 k a b (by omega) (by omega) (by omega)
          rw [← hT] at hV
          rw [← hR] at hA
          have hTb : 0 ≤ g1 (8 * a + 8 * loN k + b + roN k) ∧ g1 (8 * a + 8 * loN k + b + roN k) ≤ 100000 ∧ 0 ≤ g2 (8 * a + 8 * loN k + b + roN k) ∧ g2 (8 * a + 8 * loN k + b + roN k) ≤ 100000 := by unfold VB at hV; dsimp only at hV; omega
          have hRb : 0 ≤ g1 (8 * a + b) ∧ g1 (8 * a + b) ≤ 100000 ∧ 0 ≤ g2 (8 * a + b) ∧ g2 (8 * a + b) ≤ 100000 := by unfold VB at hA; dsimp only at hA; omega
          refine x_if_eq (tgt := 182) hx hb dX0_looksFrom_100 (by decide) ⟨by decide, by decide⟩ (fun c16 => by exfalso; omega) (fun c16 => ?_)
          refine lv_bipush (v := iI 8) hx hb dX0_looksFrom_103 rfl ?_
          refine lv_iload_n hx hb dX0_looksFrom_105 rfl (lv_at hl 1 rfl) ?_
          refine lv_iload hx hb dX0_looksFrom_106 (lv_at hl 5 rfl) ?_
          refine bs_calli (n := 1) C hB (As := [.int (iI ((k : Int)))]) (kX0_leftOf l E ((k : Int)) ⟨by omega, by omega⟩) (lw_S q360 q361 q68 q362) (by decide +kernel) ⟨Nat.le_of_ble_eq_true rfl, Nat.le_of_ble_eq_true rfl⟩ rfl hl.1 rfl (Nat.le_of_ble_eq_true rfl) dX0_looksFrom_108 ⟨Nat.le_of_ble_eq_true rfl, Nat.le_of_ble_eq_true rfl⟩ (fun z17 H locs hz18 hp19 hB => ?_)
          obtain ⟨hz18a, hz18b⟩ := hz18
          have h20 : z17 = (loN k : Int) := by unfold loN; (repeat' split) <;> omega
          subst h20
          have hlr := lr_pos k
          refine x_iadd (z := (a : Int) + (loN k : Int)) hx hb dX0_looksFrom_111 (by omega) ?_
          refine x_imul (z := 8 * (a : Int) + 8 * (loN k : Int)) hx hb dX0_looksFrom_112 (by omega) ?_
          refine lv_iload_n hx hb dX0_looksFrom_113 rfl (lv_at hl 2 rfl) ?_
          refine x_iadd (z := 8 * (a : Int) + 8 * (loN k : Int) + (b : Int)) hx hb dX0_looksFrom_114 (by omega) ?_
          refine lv_iload hx hb dX0_looksFrom_115 (lv_at hl 5 rfl) ?_
          refine bs_calli (n := 1) C hB (As := [.int (iI ((k : Int)))]) (kX0_rightOf l E ((k : Int)) ⟨by omega, by omega⟩) (lw_S q363 q364 q68 q365) (by decide +kernel) ⟨Nat.le_of_ble_eq_true rfl, Nat.le_of_ble_eq_true rfl⟩ rfl hl.1 rfl (Nat.le_of_ble_eq_true rfl) dX0_looksFrom_117 ⟨Nat.le_of_ble_eq_true rfl, Nat.le_of_ble_eq_true rfl⟩ (fun z21 H locs hz22 hp23 hB => ?_)
          obtain ⟨hz22a, hz22b⟩ := hz22
          have h24 : z21 = (roN k : Int) := by unfold roN; (repeat' split) <;> omega
          subst h24
          have hlr := lr_pos k
          refine x_iadd (z := 8 * (a : Int) + 8 * (loN k : Int) + (b : Int) + (roN k : Int)) hx hb dX0_looksFrom_120 (by omega) ?_
          refine lv_istore (lv' := [(6, .int (iI (8 * (a : Int) + 8 * (loN k : Int) + (b : Int) + (roN k : Int)))), (0, .ref o), (1, .int (iI ((a : Int)))), (2, .int (iI ((b : Int)))), (3, .int (iI wd)), (4, .int (iI (8 * (a : Int) + (b : Int)))), (5, .int (iI ((k : Int))))]) hx hb dX0_looksFrom_121 hl (by decide) rfl (fun ls hl => ?_)
          refine lv_aload_n hx hb dX0_looksFrom_123 rfl (lv_at hl 1 rfl) ?_
          refine b_get C hB 0 (by decide) q290 (v := .ref (Ad 1)) rfl rfl dX0_looksFrom_124 ?_
          refine lv_iload hx hb dX0_looksFrom_127 (lv_at hl 6 rfl) ?_
          refine r_aald C hB 1 4 rfl rfl k rfl (by omega) (by omega) (v := some (Ad (50 + k))) (if_pos (by omega)) dX0_looksFrom_129 ?_
          refine r_getN C hB (50 + k) (C0_so (by omega)) rfl in_X1 0 (by decide) q209 (fun x h => h) rfl dX0_looksFrom_130 ?_
          refine lv_iload_n hx hb dX0_looksFrom_133 rfl (lv_at hl 2 rfl) ?_
          refine lv_iload_n hx hb dX0_looksFrom_134 rfl (lv_at hl 3 rfl) ?_
          refine b_cost l C hZ hB k (by omega) a b (fun _ => by have : lo (k : Int) = loN k := by { unfold lo loN; (repeat' split) <;> omega }; omega) (fun _ => by have : ro (k : Int) = roN k := by { unfold ro roN; (repeat' split) <;> omega }; omega) hOK0 q367 ⟨Nat.le_of_ble_eq_true rfl, Nat.le_of_ble_eq_true rfl⟩ hl.1 (Nat.le_of_ble_eq_true rfl) dX0_looksFrom_135 ⟨Nat.le_of_ble_eq_true rfl, Nat.le_of_ble_eq_true rfl⟩ (fun H locs hcra hcrb hB => ?_)
          refine x_nm (show cst I (up3 F g1 g2 g3) (k : Int) a b = csM I F k a b from rfl) ?_
          refine lv_istore (lv' := [(7, .int (iI (csM I F k a b))), (6, .int (iI (8 * (a : Int) + 8 * (loN k : Int) + (b : Int) + (roN k : Int)))), (0, .ref o), (1, .int (iI ((a : Int)))), (2, .int (iI ((b : Int)))), (3, .int (iI wd)), (4, .int (iI (8 * (a : Int) + (b : Int)))), (5, .int (iI ((k : Int))))]) hx hb dX0_looksFrom_140 hl (by decide) rfl (fun ls hl => ?_)
          refine lv_aload_n hx hb dX0_looksFrom_142 rfl (lv_at hl 2 rfl) ?_
          refine lv_iload hx hb dX0_looksFrom_143 (lv_at hl 6 rfl) ?_
          refine lv_iload hx hb dX0_looksFrom_145 (lv_at hl 0 rfl) ?_
          refine lv_aload_n hx hb dX0_looksFrom_147 rfl (lv_at hl 2 rfl) ?_
          refine b_get C hB 12 (by decide) q308 (v := .ref (Ad 13)) rfl rfl dX0_looksFrom_148 ?_
          refine lv_iload hx hb dX0_looksFrom_151 (lv_at hl 1 rfl) ?_
          refine b_ald C hB 13 21 64 rfl (v := g1 (8 * a + 8 * loN k + b + roN k)) (8 * a + 8 * loN k + b + roN k) (by omega) (by omega) (by omega) rfl dX0_looksFrom_153 ?_
          refine x_iadd (z := csM I F k a b + g1 (8 * a + 8 * loN k + b + roN k)) hx hb dX0_looksFrom_154 (by omega) ?_
          refine lv_aload_n hx hb dX0_looksFrom_155 rfl (lv_at hl 2 rfl) ?_
          refine b_get C hB 14 (by decide) q310 (v := .ref (Ad 15)) rfl rfl dX0_looksFrom_156 ?_
          refine lv_iload hx hb dX0_looksFrom_159 (lv_at hl 1 rfl) ?_
          refine b_ald C hB 15 23 64 rfl (v := g3 (8 * a + 8 * loN k + b + roN k)) (8 * a + 8 * loN k + b + roN k) (by omega) (by omega) (by omega) rfl dX0_looksFrom_161 ?_
          refine b_callv 0 0 (Nat.le_of_ble_eq_true rfl) (Nat.le_of_ble_eq_true rfl) hB (fun w hI hd hB => rV (As := [.int (iI (8 * (a : Int) + (b : Int))), .int (iI (csM I F k a b + g1 (8 * a + 8 * loN k + b + roN k))), .int (iI (g3 (8 * a + 8 * loN k + b + roN k)))]) (n := 3) C hZ hB (kX0_weighs l E o Ad I F g1 g2 g3 X (8 * a + b) (csM I F k a b + g1 (8 * a + 8 * loN k + b + roN k)) (g3 (8 * a + 8 * loN k + b + roN k)) (by omega) (by omega) (by omega) (by omega) w hI hd _) (lw_V q443 q445 qs16 q68 q446) (by decide +kernel) ⟨Nat.le_of_ble_eq_true rfl, Nat.le_of_ble_eq_true rfl⟩ (wU_l hI.x) rfl rfl rfl hl.1 rfl (Nat.le_of_ble_eq_true rfl) dX0_looksFrom_162 ⟨Nat.le_of_ble_eq_true rfl, Nat.le_of_ble_eq_true rfl⟩) (fun Ad26 I27 F28 X29 H locs hp31 hB => ?_)
          obtain ⟨rfl, rfl, rfl, g32, g33, g34, rfl, ho35, hc36⟩ := hp31
          have e1 := ho35 _ hne
          have hb1 := wy_b (al := g3 (8 * a + 8 * loN k + b + roN k)) (a := g3 (8 * a + b)) hRb.1 hRb.2.1 hRb.2.2.1 hRb.2.2.2 (show 0 ≤ csM I F k a b + g1 (8 * a + 8 * loN k + b + roN k) by omega)
          rw [← hc36] at hb1
          dsimp only at hb1
          rw [← e1.2.1] at hTb
          refine lv_aload_n hx hb dX0_looksFrom_165 rfl (lv_at hl 2 rfl) ?_
          refine lv_iload hx hb dX0_looksFrom_166 (lv_at hl 6 rfl) ?_
          refine lv_iload hx hb dX0_looksFrom_168 (lv_at hl 0 rfl) ?_
          refine lv_aload_n hx hb dX0_looksFrom_170 rfl (lv_at hl 2 rfl) ?_
          refine b_get C hB 13 (by decide) q309 (v := .ref (Ad 14)) rfl rfl dX0_looksFrom_171 ?_
          refine lv_iload hx hb dX0_looksFrom_174 (lv_at hl 1 rfl) ?_
          refine b_ald C hB 14 22 64 rfl (v := g33 (8 * a + 8 * loN k + b + roN k)) (8 * a + 8 * loN k + b + roN k) (by omega) (by omega) (by omega) rfl dX0_looksFrom_176 ?_
          refine x_iadd (z := csM I F k a b + g33 (8 * a + 8 * loN k + b + roN k)) hx hb dX0_looksFrom_177 (by omega) ?_
          refine lv_iconst (v := iI 0) hx hb dX0_looksFrom_178 rfl ?_
          refine b_callv 0 0 (Nat.le_of_ble_eq_true rfl) (Nat.le_of_ble_eq_true rfl) hB (fun w hI hd hB => rV (As := [.int (iI (8 * (a : Int) + (b : Int))), .int (iI (csM I F k a b + g33 (8 * a + 8 * loN k + b + roN k))), .int (iI 0)]) (n := 3) C hZ hB (kX0_weighs l E o Ad I F g32 g33 g34 X (8 * a + b) (csM I F k a b + g33 (8 * a + 8 * loN k + b + roN k)) 0 (by omega) (by omega) (by omega) (by omega) w hI hd _) (lw_V q443 q445 qs16 q68 q446) (by decide +kernel) ⟨Nat.le_of_ble_eq_true rfl, Nat.le_of_ble_eq_true rfl⟩ (wU_l hI.x) rfl rfl rfl hl.1 rfl (Nat.le_of_ble_eq_true rfl) dX0_looksFrom_179 ⟨Nat.le_of_ble_eq_true rfl, Nat.le_of_ble_eq_true rfl⟩) (fun Ad38 I39 F40 X41 H locs hp43 hB => ?_)
          obtain ⟨rfl, rfl, rfl, g44, g45, g46, rfl, ho47, hc48⟩ := hp43
          refine lv_iinc (v := iI ((k : Int) + 1)) (lv' := [(5, .int (iI ((k : Int) + 1))), (7, .int (iI (csM I F k a b))), (6, .int (iI (8 * (a : Int) + 8 * (loN k : Int) + (b : Int) + (roN k : Int)))), (0, .ref o), (1, .int (iI ((a : Int)))), (2, .int (iI ((b : Int)))), (3, .int (iI wd)), (4, .int (iI (8 * (a : Int) + (b : Int))))]) hx hb dX0_looksFrom_182 hl (k := 7) rfl (iI_add _ _) (by decide) rfl (fun ls hl => ?_)
          refine lv_goto (tgt := 86) hx hb dX0_looksFrom_185 (by decide) ?_
          exact ih3 _ _ _ _ (by omega) ⟨k + 1, _, _, _, rfl, by omega, fun q hq => ⟨(ho47 q hq).1.trans ((ho35 q hq).1.trans (hoth q hq).1), (ho47 q hq).2.1.trans ((ho35 q hq).2.1.trans (hoth q hq).2.1), (ho47 q hq).2.2.trans ((ho35 q hq).2.2.trans (hoth q hq).2.2)⟩, by rw [hc48, e1.2.1, hc36, hR, show accT (I 5).toNat (I 6).toNat (csM I F) (DT I F wd) a b (k + 1) = (if a + loN k ≤ (I 5).toNat ∧ b + roN k ≤ (I 6).toNat then wy2 (accT (I 5).toNat (I 6).toNat (csM I F) (DT I F wd) a b k) (csM I F k a b) (DT I F wd (a + loN k) (b + roN k)) else accT (I 5).toNat (I 6).toNat (csM I F) (DT I F wd) a b k) from rfl, if_pos ⟨by omega, by omega⟩, ← hT]; rfl, hB, lv_sub hl [3, 4, 5, 6, 7, 0] rfl⟩
        · have hA : VB 900 (accT (I 5).toNat (I 6).toNat (csM I F) (DT I F wd) a b k) := VB_acc (by omega) (fun q hq h1 h2 => csM60 hOK0 q a b hq h1 h2) (fun q hq h1 h2 => VB_le (VBD (by omega) (by omega) (csM60 hOK0) h1 h2) (by omega)) k (by omega)
          refine x_if_eq (tgt := 182) hx hb dX0_looksFrom_100 (by decide) ⟨by decide, by decide⟩ (fun c49 => ?_) (fun c49 => by exfalso; omega)
          refine lv_iinc (v := iI ((k : Int) + 1)) (lv' := [(5, .int (iI ((k : Int) + 1))), (0, .ref o), (1, .int (iI ((a : Int)))), (2, .int (iI ((b : Int)))), (3, .int (iI wd)), (4, .int (iI (8 * (a : Int) + (b : Int))))]) hx hb dX0_looksFrom_182 hl (k := 5) rfl (iI_add _ _) (by decide) rfl (fun ls hl => ?_)
          refine lv_goto (tgt := 86) hx hb dX0_looksFrom_185 (by decide) ?_
          exact ih3 _ _ _ _ (by omega) ⟨k + 1, _, _, _, rfl, by omega, hoth, by rw [hR, show accT (I 5).toNat (I 6).toNat (csM I F) (DT I F wd) a b (k + 1) = (if a + loN k ≤ (I 5).toNat ∧ b + roN k ≤ (I 6).toNat then wy2 (accT (I 5).toNat (I 6).toNat (csM I F) (DT I F wd) a b k) (csM I F k a b) (DT I F wd (a + loN k) (b + roN k)) else accT (I 5).toNat (I 6).toNat (csM I F) (DT I F wd) a b k) from rfl, if_neg (by omega)], hB, lv_sub hl [1, 2, 3, 4, 5, 0] rfl⟩
    · refine lv_iload_n hx hb dX0_looksFrom_58 rfl (lv_at hl 3 rfl) ?_
      refine lv_aload_n hx hb dX0_looksFrom_59 rfl (lv_at hl 1 rfl) ?_
      refine b_get C hB 4 (by decide) q298 (v := .int (iI (I 6))) rfl rfl dX0_looksFrom_60 ?_
      refine x_icmp_ne (tgt := 83) hx hb dX0_looksFrom_63 (by decide) ⟨by omega, by omega⟩ ⟨by omega, by omega⟩ (fun c50 => ?_) (fun c50 => ?_)
      · refine lv_iconst (v := iI 0) hx hb dX0_looksFrom_83 rfl ?_
        refine lv_istore (lv' := [(5, .int (iI 0)), (4, .int (iI (8 * (a : Int) + (b : Int)))), (0, .ref o), (1, .int (iI ((a : Int)))), (2, .int (iI ((b : Int)))), (3, .int (iI wd))]) hx hb dX0_looksFrom_84 hl (by decide) rfl (fun ls hl => ?_)
        refine w_loop (fun n54 H locs ls => ∃ (k : Nat) (g1 : Nat → Int) (g2 : Nat → Int) (g3 : Nat → Int), n54 = 5 - k ∧ (k ≤ 5) ∧ (∀ q, q ≠ 8 * a + b → g1 q = f1 q ∧ g2 q = f2 q ∧ g3 q = f3 q) ∧ ((g1 (8 * a + b), g2 (8 * a + b), g3 (8 * a + b)) = accT (I 5).toNat (I 6).toNat (csM I F) (DT I F wd) a b k) ∧ xBB E (xA (wU w X) sz) s o Ad I (up3 F g1 g2 g3) X H locs ∧ lv_has ls 8 [(0, .ref o), (1, .int (iI ((a : Int)))), (2, .int (iI ((b : Int)))), (3, .int (iI wd)), (4, .int (iI (8 * (a : Int) + (b : Int)))), (5, .int (iI ((k : Int))))]) _ ⟨0, _, _, _, rfl, Nat.zero_le _, fun q hq => ⟨by simp [va_up, hq], by simp [va_up, hq], by simp [va_up, hq]⟩, by simp only [va_up_s]; rfl, hB, lv_sub hl [2, 3, 4, 5, 1, 0] rfl⟩ ?_
        intro n54 H locs ls hI53 ih51
        obtain ⟨k, g1, g2, g3, hn52, hk, hoth, hR, hB, hl⟩ := hI53
        refine lv_iload hx hb dX0_looksFrom_86 (lv_at hl 5 rfl) ?_
        refine lv_iconst (v := iI 5) hx hb dX0_looksFrom_88 rfl ?_
        refine x_icmp_ge (tgt := 188) hx hb dX0_looksFrom_89 (by decide) ⟨by omega, by omega⟩ ⟨by decide, by decide⟩ (fun c55 => ?_) (fun c55 => ?_)
        · exact b_vret C hB hr hlocks dX0_looksFrom_188 (Nat.le_of_ble_eq_true rfl) (Nat.le_of_ble_eq_true rfl) ⟨rfl, rfl, rfl, _, _, _, rfl, hoth, by rw [hR, show k = 5 by omega]; unfold DT; rw [D_eq (by omega) (by omega), if_neg (by omega), if_neg (by omega)]⟩
        · refine lv_aload_n hx hb dX0_looksFrom_92 rfl (lv_at hl 0 rfl) ?_
          refine lv_iload hx hb dX0_looksFrom_93 (lv_at hl 5 rfl) ?_
          refine lv_iload_n hx hb dX0_looksFrom_95 rfl (lv_at hl 1 rfl) ?_
          refine lv_iload_n hx hb dX0_looksFrom_96 rfl (lv_at hl 2 rfl) ?_
          refine b_calli 0 0 (Nat.le_of_ble_eq_true rfl) (Nat.le_of_ble_eq_true rfl) hB (fun w hI hd hB => rV (As := [.int (iI ((k : Int))), .int (iI ((a : Int))), .int (iI ((b : Int)))]) (n := 3) C hZ hB (kX0_areThere l E o Ad I (up3 F g1 g2 g3) X k a b (by omega) (by omega) (by omega) hOK0 w hI hd _) (lw_V q439 q441 qs15 q68 q442) (by decide +kernel) ⟨Nat.le_of_ble_eq_true rfl, Nat.le_of_ble_eq_true rfl⟩ (wU_l hI.x) rfl rfl rfl hl.1 rfl (Nat.le_of_ble_eq_true rfl) dX0_looksFrom_97 ⟨Nat.le_of_ble_eq_true rfl, Nat.le_of_ble_eq_true rfl⟩) (fun z56 Ad57 I58 F59 X60 H locs hz61 hp62 hB => ?_)
          obtain ⟨hz61a, hz61b⟩ := hz61
          obtain ⟨rfl, rfl, rfl, rfl, ⟨rfl, h63⟩ | ⟨rfl, h63⟩⟩ := hp62
          · have hA : VB 900 (accT (I 5).toNat (I 6).toNat (csM I F) (DT I F wd) a b k) := VB_acc (by omega) (fun q hq h1 h2 => csM60 hOK0 q a b hq h1 h2) (fun q hq h1 h2 => VB_le (VBD (by omega) (by omega) (csM60 hOK0) h1 h2) (by omega)) k (by omega)
            have hlrk := lr_pos k
            have hT := hlat (a + loN k) (b + roN k) (by omega) (by omega) (by omega)
            have hne : 8 * a + 8 * loN k + b + roN k ≠ 8 * a + b := by omega
            have hto := hoth _ hne
            rw [show 8 * (a + loN k) + (b + roN k) = 8 * a + 8 * loN k + b + roN k by omega, ← hto.1, ← hto.2.1, ← hto.2.2] at hT
            have hV : VB 840 (DT I F wd (a + loN k) (b + roN k)) := VBD (by omega) (by omega) (csM60 hOK0) (by omega) (by omega)
            have hcs := csM60 hOK0 k a b (by omega) (by omega) (by omega)
            rw [← hT] at hV
            rw [← hR] at hA
            have hTb : 0 ≤ g1 (8 * a + 8 * loN k + b + roN k) ∧ g1 (8 * a + 8 * loN k + b + roN k) ≤ 100000 ∧ 0 ≤ g2 (8 * a + 8 * loN k + b + roN k) ∧ g2 (8 * a + 8 * loN k + b + roN k) ≤ 100000 := by unfold VB at hV; dsimp only at hV; omega
            have hRb : 0 ≤ g1 (8 * a + b) ∧ g1 (8 * a + b) ≤ 100000 ∧ 0 ≤ g2 (8 * a + b) ∧ g2 (8 * a + b) ≤ 100000 := by unfold VB at hA; dsimp only at hA; omega
            refine x_if_eq (tgt := 182) hx hb dX0_looksFrom_100 (by decide) ⟨by decide, by decide⟩ (fun c64 => by exfalso; omega) (fun c64 => ?_)
            refine lv_bipush (v := iI 8) hx hb dX0_looksFrom_103 rfl ?_
            refine lv_iload_n hx hb dX0_looksFrom_105 rfl (lv_at hl 1 rfl) ?_
            refine lv_iload hx hb dX0_looksFrom_106 (lv_at hl 5 rfl) ?_
            refine bs_calli (n := 1) C hB (As := [.int (iI ((k : Int)))]) (kX0_leftOf l E ((k : Int)) ⟨by omega, by omega⟩) (lw_S q360 q361 q68 q362) (by decide +kernel) ⟨Nat.le_of_ble_eq_true rfl, Nat.le_of_ble_eq_true rfl⟩ rfl hl.1 rfl (Nat.le_of_ble_eq_true rfl) dX0_looksFrom_108 ⟨Nat.le_of_ble_eq_true rfl, Nat.le_of_ble_eq_true rfl⟩ (fun z65 H locs hz66 hp67 hB => ?_)
            obtain ⟨hz66a, hz66b⟩ := hz66
            have h68 : z65 = (loN k : Int) := by unfold loN; (repeat' split) <;> omega
            subst h68
            have hlr := lr_pos k
            refine x_iadd (z := (a : Int) + (loN k : Int)) hx hb dX0_looksFrom_111 (by omega) ?_
            refine x_imul (z := 8 * (a : Int) + 8 * (loN k : Int)) hx hb dX0_looksFrom_112 (by omega) ?_
            refine lv_iload_n hx hb dX0_looksFrom_113 rfl (lv_at hl 2 rfl) ?_
            refine x_iadd (z := 8 * (a : Int) + 8 * (loN k : Int) + (b : Int)) hx hb dX0_looksFrom_114 (by omega) ?_
            refine lv_iload hx hb dX0_looksFrom_115 (lv_at hl 5 rfl) ?_
            refine bs_calli (n := 1) C hB (As := [.int (iI ((k : Int)))]) (kX0_rightOf l E ((k : Int)) ⟨by omega, by omega⟩) (lw_S q363 q364 q68 q365) (by decide +kernel) ⟨Nat.le_of_ble_eq_true rfl, Nat.le_of_ble_eq_true rfl⟩ rfl hl.1 rfl (Nat.le_of_ble_eq_true rfl) dX0_looksFrom_117 ⟨Nat.le_of_ble_eq_true rfl, Nat.le_of_ble_eq_true rfl⟩ (fun z69 H locs hz70 hp71 hB => ?_)
            obtain ⟨hz70a, hz70b⟩ := hz70
            have h72 : z69 = (roN k : Int) := by unfold roN; (repeat' split) <;> omega
            subst h72
            have hlr := lr_pos k
            refine x_iadd (z := 8 * (a : Int) + 8 * (loN k : Int) + (b : Int) + (roN k : Int)) hx hb dX0_looksFrom_120 (by omega) ?_
            refine lv_istore (lv' := [(6, .int (iI (8 * (a : Int) + 8 * (loN k : Int) + (b : Int) + (roN k : Int)))), (0, .ref o), (1, .int (iI ((a : Int)))), (2, .int (iI ((b : Int)))), (3, .int (iI wd)), (4, .int (iI (8 * (a : Int) + (b : Int)))), (5, .int (iI ((k : Int))))]) hx hb dX0_looksFrom_121 hl (by decide) rfl (fun ls hl => ?_)
            refine lv_aload_n hx hb dX0_looksFrom_123 rfl (lv_at hl 1 rfl) ?_
            refine b_get C hB 0 (by decide) q290 (v := .ref (Ad 1)) rfl rfl dX0_looksFrom_124 ?_
            refine lv_iload hx hb dX0_looksFrom_127 (lv_at hl 6 rfl) ?_
            refine r_aald C hB 1 4 rfl rfl k rfl (by omega) (by omega) (v := some (Ad (50 + k))) (if_pos (by omega)) dX0_looksFrom_129 ?_
            refine r_getN C hB (50 + k) (C0_so (by omega)) rfl in_X1 0 (by decide) q209 (fun x h => h) rfl dX0_looksFrom_130 ?_
            refine lv_iload_n hx hb dX0_looksFrom_133 rfl (lv_at hl 2 rfl) ?_
            refine lv_iload_n hx hb dX0_looksFrom_134 rfl (lv_at hl 3 rfl) ?_
            refine b_cost l C hZ hB k (by omega) a b (fun _ => by have : lo (k : Int) = loN k := by { unfold lo loN; (repeat' split) <;> omega }; omega) (fun _ => by have : ro (k : Int) = roN k := by { unfold ro roN; (repeat' split) <;> omega }; omega) hOK0 q367 ⟨Nat.le_of_ble_eq_true rfl, Nat.le_of_ble_eq_true rfl⟩ hl.1 (Nat.le_of_ble_eq_true rfl) dX0_looksFrom_135 ⟨Nat.le_of_ble_eq_true rfl, Nat.le_of_ble_eq_true rfl⟩ (fun H locs hcra hcrb hB => ?_)
            refine x_nm (show cst I (up3 F g1 g2 g3) (k : Int) a b = csM I F k a b from rfl) ?_
            refine lv_istore (lv' := [(7, .int (iI (csM I F k a b))), (6, .int (iI (8 * (a : Int) + 8 * (loN k : Int) + (b : Int) + (roN k : Int)))), (0, .ref o), (1, .int (iI ((a : Int)))), (2, .int (iI ((b : Int)))), (3, .int (iI wd)), (4, .int (iI (8 * (a : Int) + (b : Int)))), (5, .int (iI ((k : Int))))]) hx hb dX0_looksFrom_140 hl (by decide) rfl (fun ls hl => ?_)
            refine lv_aload_n hx hb dX0_looksFrom_142 rfl (lv_at hl 2 rfl) ?_
            refine lv_iload hx hb dX0_looksFrom_143 (lv_at hl 6 rfl) ?_
            refine lv_iload hx hb dX0_looksFrom_145 (lv_at hl 0 rfl) ?_
            refine lv_aload_n hx hb dX0_looksFrom_147 rfl (lv_at hl 2 rfl) ?_
            refine b_get C hB 12 (by decide) q308 (v := .ref (Ad 13)) rfl rfl dX0_looksFrom_148 ?_
            refine lv_iload hx hb dX0_looksFrom_151 (lv_at hl 1 rfl) ?_
            refine b_ald C hB 13 21 64 rfl (v := g1 (8 * a + 8 * loN k + b + roN k)) (8 * a + 8 * loN k + b + roN k) (by omega) (by omega) (by omega) rfl dX0_looksFrom_153 ?_
            refine x_iadd (z := csM I F k a b + g1 (8 * a + 8 * loN k + b + roN k)) hx hb dX0_looksFrom_154 (by omega) ?_
            refine lv_aload_n hx hb dX0_looksFrom_155 rfl (lv_at hl 2 rfl) ?_
            refine b_get C hB 14 (by decide) q310 (v := .ref (Ad 15)) rfl rfl dX0_looksFrom_156 ?_
            refine lv_iload hx hb dX0_looksFrom_159 (lv_at hl 1 rfl) ?_
            refine b_ald C hB 15 23 64 rfl (v := g3 (8 * a + 8 * loN k + b + roN k)) (8 * a + 8 * loN k + b + roN k) (by omega) (by omega) (by omega) rfl dX0_looksFrom_161 ?_
            refine b_callv 0 0 (Nat.le_of_ble_eq_true rfl) (Nat.le_of_ble_eq_true rfl) hB (fun w hI hd hB => rV (As := [.int (iI (8 * (a : Int) + (b : Int))), .int (iI (csM I F k a b + g1 (8 * a + 8 * loN k + b + roN k))), .int (iI (g3 (8 * a + 8 * loN k + b + roN k)))]) (n := 3) C hZ hB (kX0_weighs l E o Ad I F g1 g2 g3 X (8 * a + b) (csM I F k a b + g1 (8 * a + 8 * loN k + b + roN k)) (g3 (8 * a + 8 * loN k + b + roN k)) (by omega) (by omega) (by omega) (by omega) w hI hd _) (lw_V q443 q445 qs16 q68 q446) (by decide +kernel) ⟨Nat.le_of_ble_eq_true rfl, Nat.le_of_ble_eq_true rfl⟩ (wU_l hI.x) rfl rfl rfl hl.1 rfl (Nat.le_of_ble_eq_true rfl) dX0_looksFrom_162 ⟨Nat.le_of_ble_eq_true rfl, Nat.le_of_ble_eq_true rfl⟩) (fun Ad74 I75 F76 X77 H locs hp79 hB => ?_)
            obtain ⟨rfl, rfl, rfl, g80, g81, g82, rfl, ho83, hc84⟩ := hp79
            have e1 := ho83 _ hne
            have hb1 := wy_b (al := g3 (8 * a + 8 * loN k + b + roN k)) (a := g3 (8 * a + b)) hRb.1 hRb.2.1 hRb.2.2.1 hRb.2.2.2 (show 0 ≤ csM I F k a b + g1 (8 * a + 8 * loN k + b + roN k) by omega)
            rw [← hc84] at hb1
            dsimp only at hb1
            rw [← e1.2.1] at hTb
            refine lv_aload_n hx hb dX0_looksFrom_165 rfl (lv_at hl 2 rfl) ?_
            refine lv_iload hx hb dX0_looksFrom_166 (lv_at hl 6 rfl) ?_
            refine lv_iload hx hb dX0_looksFrom_168 (lv_at hl 0 rfl) ?_
            refine lv_aload_n hx hb dX0_looksFrom_170 rfl (lv_at hl 2 rfl) ?_
            refine b_get C hB 13 (by decide) q309 (v := .ref (Ad 14)) rfl rfl dX0_looksFrom_171 ?_
            refine lv_iload hx hb dX0_looksFrom_174 (lv_at hl 1 rfl) ?_
            refine b_ald C hB 14 22 64 rfl (v := g81 (8 * a + 8 * loN k + b + roN k)) (8 * a + 8 * loN k + b + roN k) (by omega) (by omega) (by omega) rfl dX0_looksFrom_176 ?_
            refine x_iadd (z := csM I F k a b + g81 (8 * a + 8 * loN k + b + roN k)) hx hb dX0_looksFrom_177 (by omega) ?_
            refine lv_iconst (v := iI 0) hx hb dX0_looksFrom_178 rfl ?_
            refine b_callv 0 0 (Nat.le_of_ble_eq_true rfl) (Nat.le_of_ble_eq_true rfl) hB (fun w hI hd hB => rV (As := [.int (iI (8 * (a : Int) + (b : Int))), .int (iI (csM I F k a b + g81 (8 * a + 8 * loN k + b + roN k))), .int (iI 0)]) (n := 3) C hZ hB (kX0_weighs l E o Ad I F g80 g81 g82 X (8 * a + b) (csM I F k a b + g81 (8 * a + 8 * loN k + b + roN k)) 0 (by omega) (by omega) (by omega) (by omega) w hI hd _) (lw_V q443 q445 qs16 q68 q446) (by decide +kernel) ⟨Nat.le_of_ble_eq_true rfl, Nat.le_of_ble_eq_true rfl⟩ (wU_l hI.x) rfl rfl rfl hl.1 rfl (Nat.le_of_ble_eq_true rfl) dX0_looksFrom_179 ⟨Nat.le_of_ble_eq_true rfl, Nat.le_of_ble_eq_true rfl⟩) (fun Ad86 I87 F88 X89 H locs hp91 hB => ?_)
            obtain ⟨rfl, rfl, rfl, g92, g93, g94, rfl, ho95, hc96⟩ := hp91
            refine lv_iinc (v := iI ((k : Int) + 1)) (lv' := [(5, .int (iI ((k : Int) + 1))), (7, .int (iI (csM I F k a b))), (6, .int (iI (8 * (a : Int) + 8 * (loN k : Int) + (b : Int) + (roN k : Int)))), (0, .ref o), (1, .int (iI ((a : Int)))), (2, .int (iI ((b : Int)))), (3, .int (iI wd)), (4, .int (iI (8 * (a : Int) + (b : Int))))]) hx hb dX0_looksFrom_182 hl (k := 7) rfl (iI_add _ _) (by decide) rfl (fun ls hl => ?_)
            refine lv_goto (tgt := 86) hx hb dX0_looksFrom_185 (by decide) ?_
            exact ih51 _ _ _ _ (by omega) ⟨k + 1, _, _, _, rfl, by omega, fun q hq => ⟨(ho95 q hq).1.trans ((ho83 q hq).1.trans (hoth q hq).1), (ho95 q hq).2.1.trans ((ho83 q hq).2.1.trans (hoth q hq).2.1), (ho95 q hq).2.2.trans ((ho83 q hq).2.2.trans (hoth q hq).2.2)⟩, by rw [hc96, e1.2.1, hc84, hR, show accT (I 5).toNat (I 6).toNat (csM I F) (DT I F wd) a b (k + 1) = (if a + loN k ≤ (I 5).toNat ∧ b + roN k ≤ (I 6).toNat then wy2 (accT (I 5).toNat (I 6).toNat (csM I F) (DT I F wd) a b k) (csM I F k a b) (DT I F wd (a + loN k) (b + roN k)) else accT (I 5).toNat (I 6).toNat (csM I F) (DT I F wd) a b k) from rfl, if_pos ⟨by omega, by omega⟩, ← hT]; rfl, hB, lv_sub hl [3, 4, 5, 6, 7, 0] rfl⟩
          · have hA : VB 900 (accT (I 5).toNat (I 6).toNat (csM I F) (DT I F wd) a b k) := VB_acc (by omega) (fun q hq h1 h2 => csM60 hOK0 q a b hq h1 h2) (fun q hq h1 h2 => VB_le (VBD (by omega) (by omega) (csM60 hOK0) h1 h2) (by omega)) k (by omega)
            refine x_if_eq (tgt := 182) hx hb dX0_looksFrom_100 (by decide) ⟨by decide, by decide⟩ (fun c97 => ?_) (fun c97 => by exfalso; omega)
            refine lv_iinc (v := iI ((k : Int) + 1)) (lv' := [(5, .int (iI ((k : Int) + 1))), (0, .ref o), (1, .int (iI ((a : Int)))), (2, .int (iI ((b : Int)))), (3, .int (iI wd)), (4, .int (iI (8 * (a : Int) + (b : Int))))]) hx hb dX0_looksFrom_182 hl (k := 5) rfl (iI_add _ _) (by decide) rfl (fun ls hl => ?_)
            refine lv_goto (tgt := 86) hx hb dX0_looksFrom_185 (by decide) ?_
            exact ih51 _ _ _ _ (by omega) ⟨k + 1, _, _, _, rfl, by omega, hoth, by rw [hR, show accT (I 5).toNat (I 6).toNat (csM I F) (DT I F wd) a b (k + 1) = (if a + loN k ≤ (I 5).toNat ∧ b + roN k ≤ (I 6).toNat then wy2 (accT (I 5).toNat (I 6).toNat (csM I F) (DT I F wd) a b k) (csM I F k a b) (DT I F wd (a + loN k) (b + roN k)) else accT (I 5).toNat (I 6).toNat (csM I F) (DT I F wd) a b k) from rfl, if_neg (by omega)], hB, lv_sub hl [1, 2, 3, 4, 5, 0] rfl⟩
      · refine lv_aload_n hx hb dX0_looksFrom_66 rfl (lv_at hl 1 rfl) ?_
        refine b_get C hB 12 (by decide) q308 (v := .ref (Ad 13)) rfl rfl dX0_looksFrom_67 ?_
        refine lv_iload hx hb dX0_looksFrom_70 (lv_at hl 0 rfl) ?_
        refine lv_iconst (v := iI 0) hx hb dX0_looksFrom_72 rfl ?_
        refine b_ast C hB 13 21 64 rfl (f := ((va_up f1 (8 * a + b) 100000))) (8 * a + b) (by omega) (by omega) (by omega) rfl dX0_looksFrom_73 (fun H locs hB => ?_)
        rw [up3_21] at hB
        replace hB : xBB E (xA (wU w X) sz) s o Ad I (up3 F ((va_up (((va_up f1 (8 * a + b) 100000))) (8 * a + b) 0)) ((va_up f2 (8 * a + b) 100000)) ((va_up f3 (8 * a + b) 0))) X _ _ := hB
        refine lv_aload_n hx hb dX0_looksFrom_74 rfl (lv_at hl 1 rfl) ?_
        refine b_get C hB 14 (by decide) q310 (v := .ref (Ad 15)) rfl rfl dX0_looksFrom_75 ?_
        refine lv_iload hx hb dX0_looksFrom_78 (lv_at hl 0 rfl) ?_
        refine lv_iconst (v := iI 1) hx hb dX0_looksFrom_80 rfl ?_
        refine b_ast C hB 15 23 64 rfl (f := ((va_up f3 (8 * a + b) 0))) (8 * a + b) (by omega) (by omega) (by omega) rfl dX0_looksFrom_81 (fun H locs hB => ?_)
        rw [up3_23] at hB
        replace hB : xBB E (xA (wU w X) sz) s o Ad I (up3 F ((va_up (((va_up f1 (8 * a + b) 100000))) (8 * a + b) 0)) ((va_up f2 (8 * a + b) 100000)) ((va_up (((va_up f3 (8 * a + b) 0))) (8 * a + b) 1))) X _ _ := hB
        exact b_vret C hB hr hlocks dX0_looksFrom_82 (Nat.le_of_ble_eq_true rfl) (Nat.le_of_ble_eq_true rfl) ⟨rfl, rfl, rfl, _, _, _, rfl, fun q hq => ⟨by simp [va_up, hq], by simp [va_up, hq], by simp [va_up, hq]⟩, by unfold DT; rw [D_eq (by omega) (by omega), if_neg (by omega), if_pos (by omega)]; simp only [va_up_s]⟩
  · exact b_vret C hB hr hlocks dX0_looksFrom_44 (Nat.le_of_ble_eq_true rfl) (Nat.le_of_ble_eq_true rfl) ⟨rfl, rfl, rfl, _, _, _, rfl, fun q hq => ⟨by simp [va_up, hq], by simp [va_up, hq], by simp [va_up, hq]⟩, by unfold DT; rw [D_eq (by omega) (by omega), if_pos (by omega)]; simp only [va_up_s]; rfl⟩
set_option maxHeartbeats 800000 in
set_option maxRecDepth 100000 in
theorem kX0_aligns (l : Launch) (E : xE) (o : Nat) (Ad : Nat → Nat) (I : Nat → Int) (F : Nat → Nat → Int) (f1 f2 f3 : Nat → Int) (X : xw) (wd : Int) (hw : 0 ≤ wd ∧ wd ≤ 7) (hOK : mOK I F) : ci_ l E yX0_aligns cX0_aligns 4 (some .int) 7 163 0 0 [.ref o, .int (iI wd)] o Ad I (up3 F f1 f2 f3) X (fun z Ad' I' F' X' => Ad = Ad' ∧ I = I' ∧ X = X' ∧ ∃ g1 g2 g3, up3 F g1 g2 g3 = F' ∧ (∀ i j : Nat, (i : Int) ≤ I 5 → (j : Int) ≤ I 6 → (g1 (8 * i + j), g2 (8 * i + j), g3 (8 * i + j)) = DT I F wd i j) ∧ z = (DT I F wd 0 0).1) := by
  intro w hI hd sz
  refine x_bodyz (by decide) (Nat.le_of_ble_eq_true rfl) ?_
  intro p e s m args below meth c ls hx hb C hr hlocks hin hsz hZ hB hl
  have C : xC E p s m args c cX0_aligns 4 RX0 := C
  replace hB : xBB E (xA (wU w X) sz) s o Ad I (up3 F f1 f2 f3) X s.heap [] := ⟨w, hI, hd, hB⟩
  have hl : lv_has ls 4 [(0, .ref o), (1, .int (iI wd))] := hl
  have hOK0 := hOK
  obtain ⟨⟨hf1, hf2⟩, ⟨hl1, hl2⟩, ⟨hr1, hr2⟩, hlr, ⟨hs1, hs2⟩, ⟨hj1, hj2⟩, ⟨hb1, hb2⟩, ⟨hn1, hn2⟩, hL, hR, hN, hS, hC⟩ := hOK
  
  refine lv_aload_n hx hb dX0_aligns_0 rfl (lv_at hl 0 rfl) ?_
  refine b_get C hB 3 (by decide) q296 (v := .ref (Ad 4)) rfl rfl dX0_aligns_1 ?_
  refine b_size C hZ hB (n := I 5) (ed := Ad 30) (fun w hI _ => wU_l (hI.at (r := 4) rfl)) (by omega) q242 ⟨Nat.le_of_ble_eq_true rfl, Nat.le_of_ble_eq_true rfl⟩ hl.1 (Nat.le_of_ble_eq_true rfl) dX0_aligns_4 ⟨Nat.le_of_ble_eq_true rfl, Nat.le_of_ble_eq_true rfl⟩ (fun H locs hB => ?_)
  refine lv_istore_n (lv' := [(2, .int (iI (I 5))), (0, .ref o), (1, .int (iI wd))]) hx hb dX0_aligns_9 rfl hl (by decide) rfl (fun ls hl => ?_)
  refine w_loop (fun n4 H locs ls => ∃ (a : Int) (g1 : Nat → Int) (g2 : Nat → Int) (g3 : Nat → Int), n4 = (a + 1).toNat ∧ (-1 ≤ a ∧ a ≤ I 5) ∧ (∀ i j : Nat, (i : Int) ≤ I 5 → (j : Int) ≤ I 6 → (a < i) → (g1 (8 * i + j), g2 (8 * i + j), g3 (8 * i + j)) = DT I F wd i j) ∧ xBB E (xA (wU w X) sz) s o Ad I (up3 F g1 g2 g3) X H locs ∧ lv_has ls 4 [(0, .ref o), (1, .int (iI wd)), (2, .int (iI a))]) _ ⟨_, _, _, _, rfl, by omega, fun i j h1 h2 h3 => absurd h1 (by omega), hB, lv_sub hl [1, 2, 0] rfl⟩ ?_
  intro n4 H locs ls hI3 ih1
  obtain ⟨a, g1, g2, g3, hn2, ha, hlat, hB, hl⟩ := hI3
  refine lv_iload_n hx hb dX0_aligns_10 rfl (lv_at hl 2 rfl) ?_
  refine x_if_lt (tgt := 42) hx hb dX0_aligns_11 (by decide) ⟨by omega, by omega⟩ (fun c5 => ?_) (fun c5 => ?_)
  · have h00 := hlat 0 0 (by omega) (by omega) (by omega)
    have hV : VB 840 (DT I F wd 0 0) := VBD (by omega) (by omega) (csM60 hOK0) (by omega) (by omega)
    have hz0 : g1 0 = (DT I F wd 0 0).1 := congrArg Prod.fst h00
    have hb0 : 0 ≤ (DT I F wd 0 0).1 ∧ (DT I F wd 0 0).1 ≤ 100000 := by unfold VB at hV; omega
    refine lv_aload_n hx hb dX0_aligns_42 rfl (lv_at hl 0 rfl) ?_
    refine b_get C hB 12 (by decide) q308 (v := .ref (Ad 13)) rfl rfl dX0_aligns_43 ?_
    refine lv_iconst (v := iI 0) hx hb dX0_aligns_46 rfl ?_
    refine b_ald C hB 13 21 64 rfl (v := g1 0) 0 rfl (by omega) (by omega) rfl dX0_aligns_47 ?_
    exact b_iret C hB hr hlocks rfl dX0_aligns_48 (Nat.le_of_ble_eq_true rfl) (Nat.le_of_ble_eq_true rfl) ⟨by omega, by omega⟩ ⟨rfl, rfl, rfl, g1, g2, g3, rfl, fun i j h1 h2 => hlat i j h1 h2 (by omega), hz0⟩
  · obtain ⟨n, rfl⟩ : ∃ n : Nat, a = (n : Int) := ⟨a.toNat, by omega⟩
    refine lv_aload_n hx hb dX0_aligns_14 rfl (lv_at hl 0 rfl) ?_
    refine b_get C hB 4 (by decide) q298 (v := .int (iI (I 6))) rfl rfl dX0_aligns_15 ?_
    refine lv_istore_n (lv' := [(3, .int (iI (I 6))), (0, .ref o), (1, .int (iI wd)), (2, .int (iI ((n : Int))))]) hx hb dX0_aligns_18 rfl hl (by decide) rfl (fun ls hl => ?_)
    refine w_loop (fun n9 H locs ls => ∃ (b : Int) (g1 : Nat → Int) (g2 : Nat → Int) (g3 : Nat → Int), n9 = (b + 1).toNat ∧ (-1 ≤ b ∧ b ≤ I 6) ∧ (∀ i j : Nat, (i : Int) ≤ I 5 → (j : Int) ≤ I 6 → ((n < i ∨ (n = i ∧ b < j))) → (g1 (8 * i + j), g2 (8 * i + j), g3 (8 * i + j)) = DT I F wd i j) ∧ xBB E (xA (wU w X) sz) s o Ad I (up3 F g1 g2 g3) X H locs ∧ lv_has ls 4 [(0, .ref o), (1, .int (iI wd)), (2, .int (iI ((n : Int)))), (3, .int (iI b))]) _ ⟨_, _, _, _, rfl, by omega, fun i j h1 h2 h3 => hlat i j h1 h2 (by omega), hB, lv_sub hl [1, 2, 3, 0] rfl⟩ ?_
    intro n9 H locs ls hI8 ih6
    obtain ⟨b, g1, g2, g3, hn7, hbb, hlat, hB, hl⟩ := hI8
    refine lv_iload_n hx hb dX0_aligns_19 rfl (lv_at hl 3 rfl) ?_
    refine x_if_lt (tgt := 36) hx hb dX0_aligns_20 (by decide) ⟨by omega, by omega⟩ (fun c10 => ?_) (fun c10 => ?_)
    · refine lv_iinc (v := iI ((n : Int) + (-1))) (lv' := [(2, .int (iI ((n : Int) + (-1)))), (0, .ref o), (1, .int (iI wd)), (3, .int (iI b))]) hx hb dX0_aligns_36 hl (k := 2) rfl (iI_add _ _) (by decide) rfl (fun ls hl => ?_)
      rw [show ((n : Int) + (-1) : Int) = (n : Int) - 1 by omega] at hl
      refine lv_goto (tgt := 10) hx hb dX0_aligns_39 (by decide) ?_
      exact ih1 _ _ _ _ (by omega) ⟨_, _, _, _, rfl, by omega, fun i j h1 h2 h3 => hlat i j h1 h2 (by omega), hB, lv_sub hl [1, 2, 0] rfl⟩
    · obtain ⟨k, rfl⟩ : ∃ k : Nat, b = (k : Int) := ⟨b.toNat, by omega⟩
      refine lv_aload_n hx hb dX0_aligns_23 rfl (lv_at hl 0 rfl) ?_
      refine lv_iload_n hx hb dX0_aligns_24 rfl (lv_at hl 2 rfl) ?_
      refine lv_iload_n hx hb dX0_aligns_25 rfl (lv_at hl 3 rfl) ?_
      refine lv_iload_n hx hb dX0_aligns_26 rfl (lv_at hl 1 rfl) ?_
      refine b_callv 0 0 (Nat.le_of_ble_eq_true rfl) (Nat.le_of_ble_eq_true rfl) hB (fun w hI hd hB => rV (As := [.int (iI ((n : Int))), .int (iI ((k : Int))), .int (iI wd)]) (n := 3) C hZ hB (kX0_looksFrom l E o Ad I F g1 g2 g3 X n k wd (by omega) (by omega) (by omega) (fun i j h1 h2 h3 => hlat i j h1 h2 (by omega)) hOK0 w hI hd _) (lw_V q434 q436 qs14 q68 q437) (by decide +kernel) ⟨Nat.le_of_ble_eq_true rfl, Nat.le_of_ble_eq_true rfl⟩ (wU_l hI.x) rfl rfl rfl hl.1 rfl (Nat.le_of_ble_eq_true rfl) dX0_aligns_27 ⟨Nat.le_of_ble_eq_true rfl, Nat.le_of_ble_eq_true rfl⟩) (fun Ad12 I13 F14 X15 H locs hp17 hB => ?_)
      obtain ⟨rfl, rfl, rfl, g18, g19, g20, rfl, ho21, hd22⟩ := hp17
      refine lv_iinc (v := iI ((k : Int) + (-1))) (lv' := [(3, .int (iI ((k : Int) + (-1)))), (0, .ref o), (1, .int (iI wd)), (2, .int (iI ((n : Int))))]) hx hb dX0_aligns_30 hl (k := 3) rfl (iI_add _ _) (by decide) rfl (fun ls hl => ?_)
      rw [show ((k : Int) + (-1) : Int) = (k : Int) - 1 by omega] at hl
      refine lv_goto (tgt := 19) hx hb dX0_aligns_33 (by decide) ?_
      exact ih6 _ _ _ _ (by omega) ⟨_, _, _, _, rfl, by omega, fun i j h1 h2 h3 => by
            by_cases q : i = n ∧ j = k
            · obtain ⟨rfl, rfl⟩ := q
              exact hd22
            · rw [(ho21 (8 * i + j) (by omega)).1, (ho21 (8 * i + j) (by omega)).2.1, (ho21 (8 * i + j) (by omega)).2.2]
              exact hlat i j h1 h2 (by omega), hB, lv_sub hl [1, 2, 3, 0] rfl⟩
