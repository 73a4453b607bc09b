/-! THE COMPONENT: deeds -/
set_option maxRecDepth 100000
theorem isPr_b {v act : Int} (h : isPr v act) : 0 ≤ v ∧ v ≤ 9 := by
  unfold isPr at h
  (repeat' split at h) <;> omega
theorem rLet_b {I : Nat → Int} {F : Nat → Nat → Int} (h : mOK I F) (sd k v : Int) : -2 ≤ rLet I F sd k v ∧ rLet I F sd k v ≤ 9 := by
  obtain ⟨-, -, -, -, -, -, -, -, hL, hR, -⟩ := h
  have hLk : 0 ≤ k ∧ k < I 5 → 1 ≤ F 11 k.toNat ∧ F 11 k.toNat ≤ 9 := fun q => (hL k.toNat (by omega)).2.1
  have hRk : 0 ≤ k ∧ k < I 6 → 1 ≤ F 13 k.toNat ∧ F 13 k.toNat ≤ 9 := fun q => (hR k.toNat (by omega)).1
  unfold rLet
  (repeat' split) <;> first | omega | (have := hLk (by omega); omega) | (have := hRk (by omega); omega)
theorem rPrice_b {I : Nat → Int} {F : Nat → Nat → Int} (h : mOK I F) (wh v : Int) : -3 ≤ rPrice I wh v ∧ rPrice I wh v ≤ 9 := by
  obtain ⟨-, -, -, -, b7, b8, b9, -⟩ := h
  unfold rPrice
  (repeat' split) <;> omega
theorem deed0 {I : Nat → Int} {F : Nat → Nat → Int} {v : Int} {k : Nat} (h : mOK I F) (hp : isPr v ((10 * 0 + k : Nat) : Int)) (hk : k ≤ 9) : (okA I ((10 * 0 + k : Nat) : Int) = true ∧ 0 ≤ rLet I F 0 (k : Int) v ∧ nLet I F 0 (k : Int) v = dF F v ((10 * 0 + k : Nat) : Int) ∧ dI I v ((10 * 0 + k : Nat) : Int) = I) ∨ (okA I ((10 * 0 + k : Nat) : Int) = false ∧ rLet I F 0 (k : Int) v < 0 ∧ nLet I F 0 (k : Int) v = F) := by
  rw [show 10 * 0 + k = k by omega] at *
  obtain ⟨-, -, -, -, -, -, -, -, hL, -⟩ := h
  unfold isPr at hp
  rw [if_neg (by omega)] at hp
  by_cases q : (k : Int) < I 5
  · refine Or.inl ⟨decide_eq_true (Or.inr (Or.inr ⟨by omega, q⟩)), ?_, ?_, ?_⟩
    · unfold rLet
      rw [if_neg (by omega), if_neg (by rw [if_pos rfl]; omega), if_neg (by omega), if_pos rfl]
      have := hL k q
      show 0 ≤ F 11 k
      omega
    · unfold nLet dF
      rw [if_pos ⟨⟨rfl, by omega, by omega⟩, by omega, by omega⟩, if_neg (by omega), if_neg (by omega)]
    · unfold dI
      rw [if_neg (by omega), if_neg (by omega), if_neg (by omega)]
  · refine Or.inr ⟨decide_eq_false (by omega), ?_, ?_⟩
    · unfold rLet
      rw [if_neg (by omega), if_pos (by rw [if_pos rfl]; omega)]
      decide
    · unfold nLet
      rw [if_neg (by omega), if_neg (by omega)]
theorem deed1 {I : Nat → Int} {F : Nat → Nat → Int} {v : Int} {k : Nat} (h : mOK I F) (hp : isPr v ((10 * 1 + k : Nat) : Int)) (hk : k ≤ 9) : (okA I ((10 * 1 + k : Nat) : Int) = true ∧ 0 ≤ rLet I F 1 (k : Int) v ∧ nLet I F 1 (k : Int) v = dF F v ((10 * 1 + k : Nat) : Int) ∧ dI I v ((10 * 1 + k : Nat) : Int) = I) ∨ (okA I ((10 * 1 + k : Nat) : Int) = false ∧ rLet I F 1 (k : Int) v < 0 ∧ nLet I F 1 (k : Int) v = F) := by
  obtain ⟨-, -, -, -, -, -, -, -, -, hR, -⟩ := h
  unfold isPr at hp
  rw [if_neg (by omega)] at hp
  by_cases q : (k : Int) < I 6
  · refine Or.inl ⟨decide_eq_true (Or.inr (Or.inl ⟨by omega, by omega⟩)), ?_, ?_, ?_⟩
    · unfold rLet
      rw [if_neg (by omega), if_neg (by rw [if_neg (by decide)]; omega), if_neg (by omega), if_neg (by decide)]
      have := hR k q
      show 0 ≤ F 13 k
      omega
    · unfold nLet dF
      rw [if_neg (by omega), if_pos ⟨⟨rfl, by omega, by omega⟩, by omega, by omega⟩, if_neg (by omega), if_pos (by omega), show (((10 * 1 + k : Nat) : Int) - 10).toNat = k by omega]
      rfl
    · unfold dI
      rw [if_neg (by omega), if_neg (by omega), if_neg (by omega)]
  · refine Or.inr ⟨decide_eq_false (by omega), ?_, ?_⟩
    · unfold rLet
      rw [if_neg (by omega), if_pos (by rw [if_neg (by decide)]; omega)]
      decide
    · unfold nLet
      rw [if_neg (by omega), if_neg (by omega)]
theorem deed2 {I : Nat → Int} {F : Nat → Nat → Int} {v : Int} {k : Nat} (h : mOK I F) (hp : isPr v ((10 * 2 + k : Nat) : Int)) (hk : k ≤ 9) (h5 : I 5 ≠ 0) : (okA I ((10 * 2 + k : Nat) : Int) = true ∧ 0 ≤ rPrice I (k : Int) v ∧ nPrice I (k : Int) v = dI I v ((10 * 2 + k : Nat) : Int) ∧ dF F v ((10 * 2 + k : Nat) : Int) = F) ∨ (okA I ((10 * 2 + k : Nat) : Int) = false ∧ rPrice I (k : Int) v < 0 ∧ nPrice I (k : Int) v = I) := by
  obtain ⟨-, -, -, -, b7, b8, b9, -⟩ := h
  have hk2 : k ≤ 2 := by
    unfold isPr at hp
    split at hp <;> omega
  have hvb : 0 ≤ v ∧ v ≤ (if (k : Int) = 2 then 7 else 9) := by
    unfold isPr at hp
    rw [if_pos (by omega)] at hp
    obtain ⟨p1, p2⟩ := hp
    refine ⟨p1, ?_⟩
    split at p2
    · rw [if_pos (by omega)]; exact p2
    · rw [if_neg (by omega)]; exact p2
  refine Or.inl ⟨decide_eq_true (Or.inl (by omega)), ?_, ?_, ?_⟩
  · unfold rPrice
    rw [if_neg (by omega), if_neg h5, if_neg (fun q => q hvb)]
    (repeat' split) <;> omega
  · unfold nPrice dI
    rw [if_pos ⟨by omega, h5, hvb⟩]
    rcases (show k = 0 ∨ k = 1 ∨ k = 2 by omega) with rfl | rfl | rfl <;> rfl
  · unfold dF
    rw [if_pos (by omega)]
set_option maxHeartbeats 800000 in
set_option maxRecDepth 100000 in
theorem kX0_lambda_new_5 (l : Launch) (E : xE) (o : Nat) (Ad : Nat → Nat) (I : Nat → Int) (F : Nat → Nat → Int) (X : xw) (v : Int) (kv : Int) (hv : rg v) (hkv : rg kv) (hOK : mOK I F) : ci_ l E yX0_lambda_new_5 cX0_lambda_new_5 3 (some .boolean) 4 88 0 0 [.ref o, .int (iI v), .int (iI kv)] o Ad I F X (fun z Ad' I' F' X' => Ad = Ad' ∧ I = I' ∧ nLet I F 0 kv v = F' ∧ X = X' ∧ ((z = 1 ∧ 0 ≤ rLet I F 0 kv v) ∨ (z = 0 ∧ rLet I F 0 kv v < 0))) := by
  intro w hI hd sz
  refine x_bodyz (by decide) (Nat.le_of_ble_eq_true rfl) ?_
  intro p e s m args below meth c ls hx hb C hr hlocks hin hsz hZ hB hl
  have C : xC E p s m args c cX0_lambda_new_5 3 RX0 := C
  replace hB : xBB E (xA (wU w X) sz) s o Ad I F X s.heap [] := ⟨w, hI, hd, hB⟩
  have hl : lv_has ls 3 [(0, .ref o), (1, .int (iI v)), (2, .int (iI kv))] := hl
  have hOK0 := hOK
  obtain ⟨⟨hf1, hf2⟩, ⟨hl1, hl2⟩, ⟨hr1, hr2⟩, hlr, ⟨hs1, hs2⟩, ⟨hj1, hj2⟩, ⟨hb1, hb2⟩, ⟨hn1, hn2⟩, hL, hR, hN, hS, hC⟩ := hOK
  obtain ⟨hv1, hv2⟩ := hv
  obtain ⟨hkv1, hkv2⟩ := hkv
  refine lv_aload_n hx hb dX0_lambda_new_5_0 rfl (lv_at hl 0 rfl) ?_
  refine lv_iconst (v := iI 0) hx hb dX0_lambda_new_5_1 rfl ?_
  refine lv_iload_n hx hb dX0_lambda_new_5_2 rfl (lv_at hl 2 rfl) ?_
  refine lv_iload_n hx hb dX0_lambda_new_5_3 rfl (lv_at hl 1 rfl) ?_
  refine b_calli 0 0 (Nat.le_of_ble_eq_true rfl) (Nat.le_of_ble_eq_true rfl) hB (fun w hI hd hB => rV (As := [.int (iI 0), .int (iI kv), .int (iI v)]) (n := 3) C hZ hB (kX0_letters l E o Ad I F X 0 kv v ⟨by omega, by omega⟩ ⟨by omega, by omega⟩ ⟨by omega, by omega⟩ hOK0 w hI hd _) (lw_V q230 q231 q232 q68 q233) (by decide +kernel) ⟨Nat.le_of_ble_eq_true rfl, Nat.le_of_ble_eq_true rfl⟩ (wU_l hI.x) rfl rfl rfl hl.1 rfl (Nat.le_of_ble_eq_true rfl) dX0_lambda_new_5_4 ⟨Nat.le_of_ble_eq_true rfl, Nat.le_of_ble_eq_true rfl⟩) (fun z1 Ad2 I3 F4 X5 H locs hz6 hp7 hB => ?_)
  obtain ⟨hz6a, hz6b⟩ := hz6
  obtain ⟨rfl, rfl, rfl, rfl, rfl⟩ := hp7
  have hrl := rLet_b hOK0 0 kv v
  refine x_if_lt (tgt := 14) hx hb dX0_lambda_new_5_7 (by decide) ⟨by omega, by omega⟩ (fun c8 => ?_) (fun c8 => ?_)
  · refine lv_iconst (v := iI 0) hx hb dX0_lambda_new_5_14 rfl ?_
    exact b_iret C hB hr hlocks rfl dX0_lambda_new_5_15 (Nat.le_of_ble_eq_true rfl) (Nat.le_of_ble_eq_true rfl) ⟨by decide, by decide⟩ ⟨rfl, rfl, rfl, rfl, by omega⟩
  · refine lv_iconst (v := iI 1) hx hb dX0_lambda_new_5_10 rfl ?_
    refine lv_goto (tgt := 15) hx hb dX0_lambda_new_5_11 (by decide) ?_
    exact b_iret C hB hr hlocks rfl dX0_lambda_new_5_15 (Nat.le_of_ble_eq_true rfl) (Nat.le_of_ble_eq_true rfl) ⟨by decide, by decide⟩ ⟨rfl, rfl, rfl, rfl, by omega⟩
set_option maxHeartbeats 800000 in
set_option maxRecDepth 100000 in
theorem kX0_lambda_new_6 (l : Launch) (E : xE) (o : Nat) (Ad : Nat → Nat) (I : Nat → Int) (F : Nat → Nat → Int) (X : xw) (v : Int) (kv : Int) (hv : rg v) (hkv : rg kv) (hOK : mOK I F) : ci_ l E yX0_lambda_new_6 cX0_lambda_new_6 3 (some .boolean) 4 88 0 0 [.ref o, .int (iI v), .int (iI kv)] o Ad I F X (fun z Ad' I' F' X' => Ad = Ad' ∧ I = I' ∧ nLet I F 1 kv v = F' ∧ X = X' ∧ ((z = 1 ∧ 0 ≤ rLet I F 1 kv v) ∨ (z = 0 ∧ rLet I F 1 kv v < 0))) := by
  intro w hI hd sz
  refine x_bodyz (by decide) (Nat.le_of_ble_eq_true rfl) ?_
  intro p e s m args below meth c ls hx hb C hr hlocks hin hsz hZ hB hl
  have C : xC E p s m args c cX0_lambda_new_6 3 RX0 := C
  replace hB : xBB E (xA (wU w X) sz) s o Ad I F X s.heap [] := ⟨w, hI, hd, hB⟩
  have hl : lv_has ls 3 [(0, .ref o), (1, .int (iI v)), (2, .int (iI kv))] := hl
  have hOK0 := hOK
  obtain ⟨⟨hf1, hf2⟩, ⟨hl1, hl2⟩, ⟨hr1, hr2⟩, hlr, ⟨hs1, hs2⟩, ⟨hj1, hj2⟩, ⟨hb1, hb2⟩, ⟨hn1, hn2⟩, hL, hR, hN, hS, hC⟩ := hOK
  obtain ⟨hv1, hv2⟩ := hv
  obtain ⟨hkv1, hkv2⟩ := hkv
  refine lv_aload_n hx hb dX0_lambda_new_6_0 rfl (lv_at hl 0 rfl) ?_
  refine lv_iconst (v := iI 1) hx hb dX0_lambda_new_6_1 rfl ?_
  refine lv_iload_n hx hb dX0_lambda_new_6_2 rfl (lv_at hl 2 rfl) ?_
  refine lv_iload_n hx hb dX0_lambda_new_6_3 rfl (lv_at hl 1 rfl) ?_
  refine b_calli 0 0 (Nat.le_of_ble_eq_true rfl) (Nat.le_of_ble_eq_true rfl) hB (fun w hI hd hB => rV (As := [.int (iI 1), .int (iI kv), .int (iI v)]) (n := 3) C hZ hB (kX0_letters l E o Ad I F X 1 kv v ⟨by omega, by omega⟩ ⟨by omega, by omega⟩ ⟨by omega, by omega⟩ hOK0 w hI hd _) (lw_V q230 q231 q232 q68 q233) (by decide +kernel) ⟨Nat.le_of_ble_eq_true rfl, Nat.le_of_ble_eq_true rfl⟩ (wU_l hI.x) rfl rfl rfl hl.1 rfl (Nat.le_of_ble_eq_true rfl) dX0_lambda_new_6_4 ⟨Nat.le_of_ble_eq_true rfl, Nat.le_of_ble_eq_true rfl⟩) (fun z1 Ad2 I3 F4 X5 H locs hz6 hp7 hB => ?_)
  obtain ⟨hz6a, hz6b⟩ := hz6
  obtain ⟨rfl, rfl, rfl, rfl, rfl⟩ := hp7
  have hrl := rLet_b hOK0 1 kv v
  refine x_if_lt (tgt := 14) hx hb dX0_lambda_new_6_7 (by decide) ⟨by omega, by omega⟩ (fun c8 => ?_) (fun c8 => ?_)
  · refine lv_iconst (v := iI 0) hx hb dX0_lambda_new_6_14 rfl ?_
    exact b_iret C hB hr hlocks rfl dX0_lambda_new_6_15 (Nat.le_of_ble_eq_true rfl) (Nat.le_of_ble_eq_true rfl) ⟨by decide, by decide⟩ ⟨rfl, rfl, rfl, rfl, by omega⟩
  · refine lv_iconst (v := iI 1) hx hb dX0_lambda_new_6_10 rfl ?_
    refine lv_goto (tgt := 15) hx hb dX0_lambda_new_6_11 (by decide) ?_
    exact b_iret C hB hr hlocks rfl dX0_lambda_new_6_15 (Nat.le_of_ble_eq_true rfl) (Nat.le_of_ble_eq_true rfl) ⟨by decide, by decide⟩ ⟨rfl, rfl, rfl, rfl, by omega⟩
set_option maxHeartbeats 800000 in
set_option maxRecDepth 100000 in
theorem kX0_lambda_new_7 (l : Launch) (E : xE) (o : Nat) (Ad : Nat → Nat) (I : Nat → Int) (F : Nat → Nat → Int) (X : xw) (v : Int) (wh : Int) (hv : rg v) (hwh : rg wh) (hOK : mOK I F) : ci_ l E yX0_lambda_new_7 cX0_lambda_new_7 3 (some .boolean) 3 63 0 0 [.ref o, .int (iI v), .int (iI wh)] o Ad I F X (fun z Ad' I' F' X' => Ad = Ad' ∧ nPrice I wh v = I' ∧ F = F' ∧ X = X' ∧ ((z = 1 ∧ 0 ≤ rPrice I wh v) ∨ (z = 0 ∧ rPrice I wh v < 0))) := by
  intro w hI hd sz
  refine x_bodyz (by decide) (Nat.le_of_ble_eq_true rfl) ?_
  intro p e s m args below meth c ls hx hb C hr hlocks hin hsz hZ hB hl
  have C : xC E p s m args c cX0_lambda_new_7 3 RX0 := C
  replace hB : xBB E (xA (wU w X) sz) s o Ad I F X s.heap [] := ⟨w, hI, hd, hB⟩
  have hl : lv_has ls 3 [(0, .ref o), (1, .int (iI v)), (2, .int (iI wh))] := hl
  have hOK0 := hOK
  obtain ⟨⟨hf1, hf2⟩, ⟨hl1, hl2⟩, ⟨hr1, hr2⟩, hlr, ⟨hs1, hs2⟩, ⟨hj1, hj2⟩, ⟨hb1, hb2⟩, ⟨hn1, hn2⟩, hL, hR, hN, hS, hC⟩ := hOK
  obtain ⟨hv1, hv2⟩ := hv
  obtain ⟨hwh1, hwh2⟩ := hwh
  refine lv_aload_n hx hb dX0_lambda_new_7_0 rfl (lv_at hl 0 rfl) ?_
  refine lv_iload_n hx hb dX0_lambda_new_7_1 rfl (lv_at hl 2 rfl) ?_
  refine lv_iload_n hx hb dX0_lambda_new_7_2 rfl (lv_at hl 1 rfl) ?_
  refine b_calli 0 0 (Nat.le_of_ble_eq_true rfl) (Nat.le_of_ble_eq_true rfl) hB (fun w hI hd hB => rV (As := [.int (iI wh), .int (iI v)]) (n := 2) C hZ hB (kX0_price l E o Ad I F X wh v ⟨by omega, by omega⟩ ⟨by omega, by omega⟩ hOK0 w hI hd _) (lw_V q270 q271 q272 q68 q273) (by decide +kernel) ⟨Nat.le_of_ble_eq_true rfl, Nat.le_of_ble_eq_true rfl⟩ (wU_l hI.x) rfl rfl rfl hl.1 rfl (Nat.le_of_ble_eq_true rfl) dX0_lambda_new_7_3 ⟨Nat.le_of_ble_eq_true rfl, Nat.le_of_ble_eq_true rfl⟩) (fun z1 Ad2 I3 F4 X5 H locs hz6 hp7 hB => ?_)
  obtain ⟨hz6a, hz6b⟩ := hz6
  obtain ⟨rfl, rfl, rfl, rfl, rfl⟩ := hp7
  have hrl := rPrice_b hOK0 wh v
  refine x_if_lt (tgt := 13) hx hb dX0_lambda_new_7_6 (by decide) ⟨by omega, by omega⟩ (fun c8 => ?_) (fun c8 => ?_)
  · refine lv_iconst (v := iI 0) hx hb dX0_lambda_new_7_13 rfl ?_
    exact b_iret C hB hr hlocks rfl dX0_lambda_new_7_14 (Nat.le_of_ble_eq_true rfl) (Nat.le_of_ble_eq_true rfl) ⟨by decide, by decide⟩ ⟨rfl, rfl, rfl, rfl, by omega⟩
  · refine lv_iconst (v := iI 1) hx hb dX0_lambda_new_7_9 rfl ?_
    refine lv_goto (tgt := 14) hx hb dX0_lambda_new_7_10 (by decide) ?_
    exact b_iret C hB hr hlocks rfl dX0_lambda_new_7_14 (Nat.le_of_ble_eq_true rfl) (Nat.le_of_ble_eq_true rfl) ⟨by decide, by decide⟩ ⟨rfl, rfl, rfl, rfl, by omega⟩
theorem b_deed (l : Launch) {p : Program} {e : Env} {R : Room} {s : State} {m : MethodId} {args : Array Value} {below : List Frame} {meth : Method} {c : Code} {H : Heap} {locs : List Loc} {cells slots : Nat} {Q : State → Prop} {cc : ByteArray} {pc nL : Nat} {ls : Array Slot} {rest : List Value} {E : xE} {A : Nat → Prop} {o : Nat} {Ad : Nat → Nat} {I : Nat → Int} {F : Nat → Nat → Int} {X : xw} {own : String} (C : xC E p s m args c cc nL own) (hZ : zK E A s s.heap) (hB : xBB E A s o Ad I F X H locs) (j w2 : Nat) (v : Int) (hj : j ≤ 2) (hw2 : w2 ≤ 9) (hp : isPr v ((10 * j + w2 : Nat) : Int)) (h5 : I 5 ≠ 0) (hOK : mOK I F) {index count : Nat} (hlk : Cond.methodLink own index ⟨"BookPairs$Deed", "done", "(II)Z"⟩ ∈ lw_all) (hR : 6 ≤ R.frames ∧ 132 ≤ R.locals) (hl : ls.size = nL) (hW : (rest.map fun v => v.category).sum ≤ 8) (hdg : decode cc pc = .ok (.invokeinterface index count, 5)) (hcs : cells ≤ R.cells ∧ slots ≤ R.slots)
    (kt : ∀ (H1 : Heap) (locs1 : List Loc), okA I ((10 * j + w2 : Nat) : Int) = true → xBB E A s o Ad (dI I v ((10 * j + w2 : Nat) : Int)) (dF F v ((10 * j + w2 : Nat) : Int)) X H1 locs1 → W p l e R s m args below meth c H1 locs1 cells slots Q (F0 m (pc + 5) ls (.int (iI 1) :: rest)))
    (kf : ∀ (H1 : Heap) (locs1 : List Loc), okA I ((10 * j + w2 : Nat) : Int) = false → xBB E A s o Ad I F X H1 locs1 → W p l e R s m args below meth c H1 locs1 cells slots Q (F0 m (pc + 5) ls (.int (iI 0) :: rest))) : W p l e R s m args below meth c H locs cells slots Q (F0 m pc ls (.int (iI (w2 : Int)) :: .int (iI v) :: .ref (Ad (80 + j)) :: rest)) := by
  obtain ⟨hR1, hR2⟩ := hR
  have hv : 0 ≤ v ∧ v ≤ 9 := isPr_b hp
  rcases (show j = 0 ∨ j = 1 ∨ j = 2 by omega) with rfl | rfl | rfl
  · refine b_callFi cells slots (Nat.le_refl _) (Nat.le_refl _) hB (fun w hI hd hB => va_runLA (i := 5) (by decide) C hZ hB (kX0_lambda_new_5 l E o Ad I F X v (w2 : Int) ⟨by omega, by omega⟩ ⟨by omega, by omega⟩ hOK w hI hd _) rfl rfl rfl hlk (by decide) q228 q68 q229 qs6 (by decide +kernel) ⟨by omega, by show 8 + (3 + 11) + (8 + (3 + 11) + 88) ≤ R.locals; omega⟩ (lam_at hI (r := 80) rfl) (wU_l hI.x) (qi_bool (fun z w h => by obtain ⟨_, _, _, _, _, _, _, _, _, _, _, _, hh⟩ := h; omega)) hl rfl hW hdg hcs) (fun z Ad1 I1 F1 X1 H1 locs1 hz hp2 hB => ?_)
    obtain ⟨rfl, rfl, rfl, rfl, hr⟩ := hp2
    rcases deed0 hOK hp hw2  with ⟨d1, d2, d3, d4⟩ | ⟨d1, d2, d3⟩
    · have hz1 : z = 1 := by omega
      subst hz1
      rw [d3] at hB
      exact kt H1 locs1 d1 (d4.symm ▸ hB)
    · have hz0 : z = 0 := by omega
      subst hz0
      rw [d3] at hB
      exact kf H1 locs1 d1 hB
  · refine b_callFi cells slots (Nat.le_refl _) (Nat.le_refl _) hB (fun w hI hd hB => va_runLA (i := 6) (by decide) C hZ hB (kX0_lambda_new_6 l E o Ad I F X v (w2 : Int) ⟨by omega, by omega⟩ ⟨by omega, by omega⟩ hOK w hI hd _) rfl rfl rfl hlk (by decide) q265 q68 q266 qs9 (by decide +kernel) ⟨by omega, by show 8 + (3 + 11) + (8 + (3 + 11) + 88) ≤ R.locals; omega⟩ (lam_at hI (r := 81) rfl) (wU_l hI.x) (qi_bool (fun z w h => by obtain ⟨_, _, _, _, _, _, _, _, _, _, _, _, hh⟩ := h; omega)) hl rfl hW hdg hcs) (fun z Ad1 I1 F1 X1 H1 locs1 hz hp2 hB => ?_)
    obtain ⟨rfl, rfl, rfl, rfl, hr⟩ := hp2
    rcases deed1 hOK hp hw2  with ⟨d1, d2, d3, d4⟩ | ⟨d1, d2, d3⟩
    · have hz1 : z = 1 := by omega
      subst hz1
      rw [d3] at hB
      exact kt H1 locs1 d1 (d4.symm ▸ hB)
    · have hz0 : z = 0 := by omega
      subst hz0
      rw [d3] at hB
      exact kf H1 locs1 d1 hB
  · refine b_callFi cells slots (Nat.le_refl _) (Nat.le_refl _) hB (fun w hI hd hB => va_runLA (i := 7) (by decide) C hZ hB (kX0_lambda_new_7 l E o Ad I F X v (w2 : Int) ⟨by omega, by omega⟩ ⟨by omega, by omega⟩ hOK w hI hd _) rfl rfl rfl hlk (by decide) q268 q68 q269 qs10 (by decide +kernel) ⟨by omega, by show 8 + (3 + 11) + (8 + (3 + 11) + 63) ≤ R.locals; omega⟩ (lam_at hI (r := 82) rfl) (wU_l hI.x) (qi_bool (fun z w h => by obtain ⟨_, _, _, _, _, _, _, _, _, _, _, _, hh⟩ := h; omega)) hl rfl hW hdg hcs) (fun z Ad1 I1 F1 X1 H1 locs1 hz hp2 hB => ?_)
    obtain ⟨rfl, rfl, rfl, rfl, hr⟩ := hp2
    rcases deed2 hOK hp hw2 h5 with ⟨d1, d2, d3, d4⟩ | ⟨d1, d2, d3⟩
    · have hz1 : z = 1 := by omega
      subst hz1
      rw [d3] at hB
      exact kt H1 locs1 d1 (d4.symm ▸ hB)
    · have hz0 : z = 0 := by omega
      subst hz0
      rw [d3] at hB
      exact kf H1 locs1 d1 hB
