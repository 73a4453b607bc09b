/-! What may throw: need, sizeOf, cellOf, setIn, rowOf, cellsOf (printed) -/
set_option maxRecDepth 100000
set_option maxHeartbeats 800000 in
set_option maxRecDepth 100000 in
theorem kX0_need (l : Launch) (hfl : l.stackTraces = false) (E : xE) (w : xw) (b : Int) (hb0 : b = 0 ∨ b = 1) : xv_ l E yX0_need (ws_ yX0_need cX0_need 1 none) 9 10320 3 890 [.int (iI b)] w (fun w' => w = w' ∧ b = 1) (fun En w' => w = w' ∧ (((b = 0) ∧ En = "java/lang/IndexOutOfBoundsException"))) := by
  intro sz
  refine x_bodyx (by decide) (Nat.le_of_ble_eq_true rfl) ?_
  intro p e s m args below meth c ls hx hb C hr hlocks hout hsz hV hB hl
  have hZ := hV.1
  have C : xC E p s m args c cX0_need 1 RX0 := C
  have hl : lv_has ls 1 [(0, .int (iI b))] := hl
  refine lv_iload_n hx hb dX0_need_0 rfl (lv_at hl 0 rfl) ?_
  refine x_if_ne (tgt := 15) hx hb dX0_need_1 (by decide) ⟨by omega, by omega⟩ (fun c1 => ?_) (fun c1 => ?_)
  · refine vx_ret ?_
    exact g_vret C hB hr hlocks dX0_need_15 (Nat.le_of_ble_eq_true rfl) (Nat.le_of_ble_eq_true rfl) ⟨rfl, by omega⟩
  · exact x_needX hfl C hV hB hl.1 hlocks hout (Nat.le_of_ble_eq_true rfl) (Nat.le_of_ble_eq_true rfl) (Nat.le_of_ble_eq_true rfl) (Nat.le_of_ble_eq_true rfl) (Nat.le_of_ble_eq_true rfl) (Nat.le_of_ble_eq_true rfl) ⟨rfl, by omega, rfl⟩ q995 q94 dX0_need_4 dX0_need_7 dX0_need_8 dX0_need_11 dX0_need_14
set_option maxHeartbeats 800000 in
set_option maxRecDepth 100000 in
theorem kX0_sizeOf (l : Launch) (hfl : l.stackTraces = false) (E : xE) (w : xw) (r : Option Nat) (t : Int) (n : Int) (f : Nat → Int) (lane : Int) (hr0 : r = none ∨ ∃ a, r = some a ∧ w a = some (rowE E t n f)) (htt : 0 ≤ t ∧ t ≤ 2) (hn : 0 ≤ n ∧ n ≤ 60) (hlane : 0 ≤ lane ∧ lane ≤ 2) : xi_ l E yX0_sizeOf (ws_ yX0_sizeOf cX0_sizeOf 2 (some .int)) 9 10320 3 890 [va_rf r, .int (iI lane)] w (fun z w' => w = w' ∧ r ≠ none ∧ t = lane ∧ z = n) (fun En w' => w = w' ∧ (((r = none) ∧ En = "java/lang/NullPointerException") ∨ ((r ≠ none ∧ t ≠ lane) ∧ En = "java/lang/ClassCastException"))) := by
  intro sz
  refine x_bodyx (by decide) (by cases r <;> exact Nat.le_of_ble_eq_true rfl) ?_
  intro p e s m args below meth c ls hx hb C hr hlocks hout hsz hV hB hl
  have hZ := hV.1
  have C : xC E p s m args c cX0_sizeOf 2 RX0 := C
  have hl : lv_has ls 2 [(0, va_rf r), (1, .int (iI lane))] := by cases r <;> exact hl
  rcases hr0 with rfl | ⟨a, rfl, ha⟩
  · have hl : lv_has ls 2 [(0, .null), (1, .int (iI lane))] := hl
    refine lv_iload_n hx hb dX0_sizeOf_0 rfl (lv_at hl 1 rfl) ?_
    refine x_if_ne (tgt := 12) hx hb dX0_sizeOf_1 (by decide) ⟨by omega, by omega⟩ (fun c1 => ?_) (fun c1 => ?_)
    · refine lv_iload_n hx hb dX0_sizeOf_12 rfl (lv_at hl 1 rfl) ?_
      refine lv_iconst (v := iI 1) hx hb dX0_sizeOf_13 rfl ?_
      refine x_icmp_ne (tgt := 25) hx hb dX0_sizeOf_14 (by decide) ⟨by omega, by omega⟩ ⟨by decide, by decide⟩ (fun c2 => ?_) (fun c2 => ?_)
      · refine lv_aload_nN hx hb dX0_sizeOf_25 rfl (lv_at hl 0 rfl) ?_
        refine x_castN C dX0_sizeOf_26 ?_
        refine x_lenN hfl C hV hB hl.1 ⟨hlocks, Nat.le_of_ble_eq_true rfl, Nat.le_of_ble_eq_true rfl, Nat.le_of_ble_eq_true rfl, Nat.le_of_ble_eq_true rfl⟩ dX0_sizeOf_29 (fun H qx3 hB hE => ?_)
        exact e_out hB hE hout hlocks ⟨rfl, (Or.inl ⟨rfl, rfl⟩)⟩ (Nat.le_of_ble_eq_true rfl) (Nat.le_of_ble_eq_true rfl)
      · refine lv_aload_nN hx hb dX0_sizeOf_17 rfl (lv_at hl 0 rfl) ?_
        refine x_castN C dX0_sizeOf_18 ?_
        refine x_lenN hfl C hV hB hl.1 ⟨hlocks, Nat.le_of_ble_eq_true rfl, Nat.le_of_ble_eq_true rfl, Nat.le_of_ble_eq_true rfl, Nat.le_of_ble_eq_true rfl⟩ dX0_sizeOf_21 (fun H qx4 hB hE => ?_)
        exact e_out hB hE hout hlocks ⟨rfl, (Or.inl ⟨rfl, rfl⟩)⟩ (Nat.le_of_ble_eq_true rfl) (Nat.le_of_ble_eq_true rfl)
    · refine lv_aload_nN hx hb dX0_sizeOf_4 rfl (lv_at hl 0 rfl) ?_
      refine x_castN C dX0_sizeOf_5 ?_
      refine x_lenN hfl C hV hB hl.1 ⟨hlocks, Nat.le_of_ble_eq_true rfl, Nat.le_of_ble_eq_true rfl, Nat.le_of_ble_eq_true rfl, Nat.le_of_ble_eq_true rfl⟩ dX0_sizeOf_8 (fun H qx5 hB hE => ?_)
      exact e_out hB hE hout hlocks ⟨rfl, (Or.inl ⟨rfl, rfl⟩)⟩ (Nat.le_of_ble_eq_true rfl) (Nat.le_of_ble_eq_true rfl)
  · have hl : lv_has ls 2 [(0, .ref a), (1, .int (iI lane))] := hl
    rcases (show t = 0 ∨ t = 1 ∨ t = 2 by omega) with rfl | rfl | rfl
    · have ha0 : w a = some (xBy E n.toNat f) := ha
      refine lv_iload_n hx hb dX0_sizeOf_0 rfl (lv_at hl 1 rfl) ?_
      refine x_if_ne (tgt := 12) hx hb dX0_sizeOf_1 (by decide) ⟨by omega, by omega⟩ (fun c6 => ?_) (fun c6 => ?_)
      · refine lv_iload_n hx hb dX0_sizeOf_12 rfl (lv_at hl 1 rfl) ?_
        refine lv_iconst (v := iI 1) hx hb dX0_sizeOf_13 rfl ?_
        refine x_icmp_ne (tgt := 25) hx hb dX0_sizeOf_14 (by decide) ⟨by omega, by omega⟩ ⟨by decide, by decide⟩ (fun c7 => ?_) (fun c7 => ?_)
        · refine lv_aload_n hx hb dX0_sizeOf_25 rfl (lv_at hl 0 rfl) ?_
          refine x_castRX hfl C hV hB (lane := 0) (lane2 := 2) rfl (by decide +kernel) q1019 ha hl.1 ⟨hlocks, Nat.le_of_ble_eq_true rfl, Nat.le_of_ble_eq_true rfl, Nat.le_of_ble_eq_true rfl, Nat.le_of_ble_eq_true rfl⟩ dX0_sizeOf_26 (fun H qx8 hB hE => ?_)
          exact e_out hB hE hout hlocks ⟨rfl, (Or.inr (⟨⟨fun h => (by cases h), by omega⟩, rfl⟩))⟩ (Nat.le_of_ble_eq_true rfl) (Nat.le_of_ble_eq_true rfl)
        · refine lv_aload_n hx hb dX0_sizeOf_17 rfl (lv_at hl 0 rfl) ?_
          refine x_castRX hfl C hV hB (lane := 0) (lane2 := 1) rfl (by decide +kernel) q1018 ha hl.1 ⟨hlocks, Nat.le_of_ble_eq_true rfl, Nat.le_of_ble_eq_true rfl, Nat.le_of_ble_eq_true rfl, Nat.le_of_ble_eq_true rfl⟩ dX0_sizeOf_18 (fun H qx9 hB hE => ?_)
          exact e_out hB hE hout hlocks ⟨rfl, (Or.inr (⟨⟨fun h => (by cases h), by omega⟩, rfl⟩))⟩ (Nat.le_of_ble_eq_true rfl) (Nat.le_of_ble_eq_true rfl)
      · refine lv_aload_n hx hb dX0_sizeOf_4 rfl (lv_at hl 0 rfl) ?_
        refine x_castR C hB (lane := 0) rfl q1017 ha dX0_sizeOf_5 ?_
        refine x_alen C hB 1 rfl ha0 dX0_sizeOf_8 ?_
        refine x_nm (b := ((n.toNat : Nat) : Int)) rfl ?_
        refine lv_goto (tgt := 30) hx hb dX0_sizeOf_9 (by decide) ?_
        refine vx_ret ?_
        exact g_iret C hB hr hlocks rfl dX0_sizeOf_30 (Nat.le_of_ble_eq_true rfl) (Nat.le_of_ble_eq_true rfl) ⟨by omega, by omega⟩ ⟨rfl, fun h => (by cases h), by omega, by omega⟩
    · have ha0 : w a = some (xSh E n.toNat f) := ha
      refine lv_iload_n hx hb dX0_sizeOf_0 rfl (lv_at hl 1 rfl) ?_
      refine x_if_ne (tgt := 12) hx hb dX0_sizeOf_1 (by decide) ⟨by omega, by omega⟩ (fun c10 => ?_) (fun c10 => ?_)
      · refine lv_iload_n hx hb dX0_sizeOf_12 rfl (lv_at hl 1 rfl) ?_
        refine lv_iconst (v := iI 1) hx hb dX0_sizeOf_13 rfl ?_
        refine x_icmp_ne (tgt := 25) hx hb dX0_sizeOf_14 (by decide) ⟨by omega, by omega⟩ ⟨by decide, by decide⟩ (fun c11 => ?_) (fun c11 => ?_)
        · refine lv_aload_n hx hb dX0_sizeOf_25 rfl (lv_at hl 0 rfl) ?_
          refine x_castRX hfl C hV hB (lane := 1) (lane2 := 2) rfl (by decide +kernel) q1019 ha hl.1 ⟨hlocks, Nat.le_of_ble_eq_true rfl, Nat.le_of_ble_eq_true rfl, Nat.le_of_ble_eq_true rfl, Nat.le_of_ble_eq_true rfl⟩ dX0_sizeOf_26 (fun H qx12 hB hE => ?_)
          exact e_out hB hE hout hlocks ⟨rfl, (Or.inr (⟨⟨fun h => (by cases h), by omega⟩, rfl⟩))⟩ (Nat.le_of_ble_eq_true rfl) (Nat.le_of_ble_eq_true rfl)
        · refine lv_aload_n hx hb dX0_sizeOf_17 rfl (lv_at hl 0 rfl) ?_
          refine x_castR C hB (lane := 1) rfl q1018 ha dX0_sizeOf_18 ?_
          refine x_alen C hB 2 rfl ha0 dX0_sizeOf_21 ?_
          refine x_nm (b := ((n.toNat : Nat) : Int)) rfl ?_
          refine lv_goto (tgt := 30) hx hb dX0_sizeOf_22 (by decide) ?_
          refine vx_ret ?_
          exact g_iret C hB hr hlocks rfl dX0_sizeOf_30 (Nat.le_of_ble_eq_true rfl) (Nat.le_of_ble_eq_true rfl) ⟨by omega, by omega⟩ ⟨rfl, fun h => (by cases h), by omega, by omega⟩
      · refine lv_aload_n hx hb dX0_sizeOf_4 rfl (lv_at hl 0 rfl) ?_
        refine x_castRX hfl C hV hB (lane := 1) (lane2 := 0) rfl (by decide +kernel) q1017 ha hl.1 ⟨hlocks, Nat.le_of_ble_eq_true rfl, Nat.le_of_ble_eq_true rfl, Nat.le_of_ble_eq_true rfl, Nat.le_of_ble_eq_true rfl⟩ dX0_sizeOf_5 (fun H qx13 hB hE => ?_)
        exact e_out hB hE hout hlocks ⟨rfl, (Or.inr (⟨⟨fun h => (by cases h), by omega⟩, rfl⟩))⟩ (Nat.le_of_ble_eq_true rfl) (Nat.le_of_ble_eq_true rfl)
    · have ha0 : w a = some (xI E n.toNat f) := ha
      refine lv_iload_n hx hb dX0_sizeOf_0 rfl (lv_at hl 1 rfl) ?_
      refine x_if_ne (tgt := 12) hx hb dX0_sizeOf_1 (by decide) ⟨by omega, by omega⟩ (fun c14 => ?_) (fun c14 => ?_)
      · refine lv_iload_n hx hb dX0_sizeOf_12 rfl (lv_at hl 1 rfl) ?_
        refine lv_iconst (v := iI 1) hx hb dX0_sizeOf_13 rfl ?_
        refine x_icmp_ne (tgt := 25) hx hb dX0_sizeOf_14 (by decide) ⟨by omega, by omega⟩ ⟨by decide, by decide⟩ (fun c15 => ?_) (fun c15 => ?_)
        · refine lv_aload_n hx hb dX0_sizeOf_25 rfl (lv_at hl 0 rfl) ?_
          refine x_castR C hB (lane := 2) rfl q1019 ha dX0_sizeOf_26 ?_
          refine x_alen C hB 0 rfl ha0 dX0_sizeOf_29 ?_
          refine x_nm (b := ((n.toNat : Nat) : Int)) rfl ?_
          refine vx_ret ?_
          exact g_iret C hB hr hlocks rfl dX0_sizeOf_30 (Nat.le_of_ble_eq_true rfl) (Nat.le_of_ble_eq_true rfl) ⟨by omega, by omega⟩ ⟨rfl, fun h => (by cases h), by omega, by omega⟩
        · refine lv_aload_n hx hb dX0_sizeOf_17 rfl (lv_at hl 0 rfl) ?_
          refine x_castRX hfl C hV hB (lane := 2) (lane2 := 1) rfl (by decide +kernel) q1018 ha hl.1 ⟨hlocks, Nat.le_of_ble_eq_true rfl, Nat.le_of_ble_eq_true rfl, Nat.le_of_ble_eq_true rfl, Nat.le_of_ble_eq_true rfl⟩ dX0_sizeOf_18 (fun H qx16 hB hE => ?_)
          exact e_out hB hE hout hlocks ⟨rfl, (Or.inr (⟨⟨fun h => (by cases h), by omega⟩, rfl⟩))⟩ (Nat.le_of_ble_eq_true rfl) (Nat.le_of_ble_eq_true rfl)
      · refine lv_aload_n hx hb dX0_sizeOf_4 rfl (lv_at hl 0 rfl) ?_
        refine x_castRX hfl C hV hB (lane := 2) (lane2 := 0) rfl (by decide +kernel) q1017 ha hl.1 ⟨hlocks, Nat.le_of_ble_eq_true rfl, Nat.le_of_ble_eq_true rfl, Nat.le_of_ble_eq_true rfl, Nat.le_of_ble_eq_true rfl⟩ dX0_sizeOf_5 (fun H qx17 hB hE => ?_)
        exact e_out hB hE hout hlocks ⟨rfl, (Or.inr (⟨⟨fun h => (by cases h), by omega⟩, rfl⟩))⟩ (Nat.le_of_ble_eq_true rfl) (Nat.le_of_ble_eq_true rfl)
set_option maxHeartbeats 800000 in
set_option maxRecDepth 100000 in
theorem kX0_cellOf (l : Launch) (hfl : l.stackTraces = false) (E : xE) (w : xw) (r : Option Nat) (t : Int) (n : Int) (f : Nat → Int) (lane : Int) (i : Int) (hr0 : r = none ∨ ∃ a, r = some a ∧ w a = some (rowE E t n f)) (htt : 0 ≤ t ∧ t ≤ 2) (hn : 0 ≤ n ∧ n ≤ 60) (hlane : 0 ≤ lane ∧ lane ≤ 2) (hi : rg i) (hf : ∀ j : Nat, (j : Int) < n → rg (f j)) : xi_ l E yX0_cellOf (ws_ yX0_cellOf cX0_cellOf 3 (some .int)) 9 10320 3 890 [va_rf r, .int (iI lane), .int (iI i)] w (fun z w' => w = w' ∧ r ≠ none ∧ t = lane ∧ (0 ≤ i ∧ i < n) ∧ z = f i.toNat) (fun En w' => w = w' ∧ (((r = none) ∧ En = "java/lang/NullPointerException") ∨ ((r ≠ none ∧ t ≠ lane) ∧ En = "java/lang/ClassCastException") ∨ ((r ≠ none ∧ t = lane ∧ ¬ (0 ≤ i ∧ i < n)) ∧ En = "java/lang/ArrayIndexOutOfBoundsException"))) := by
  intro sz
  refine x_bodyx (by decide) (by cases r <;> exact Nat.le_of_ble_eq_true rfl) ?_
  intro p e s m args below meth c ls hx hb C hr hlocks hout hsz hV hB hl
  have hZ := hV.1
  have C : xC E p s m args c cX0_cellOf 3 RX0 := C
  have hl : lv_has ls 3 [(0, va_rf r), (1, .int (iI lane)), (2, .int (iI i))] := by cases r <;> exact hl
  obtain ⟨hia, hib⟩ := hi
  rcases hr0 with rfl | ⟨a, rfl, ha⟩
  · have hl : lv_has ls 3 [(0, .null), (1, .int (iI lane)), (2, .int (iI i))] := hl
    refine lv_iload_n hx hb dX0_cellOf_0 rfl (lv_at hl 1 rfl) ?_
    refine x_if_ne (tgt := 13) hx hb dX0_cellOf_1 (by decide) ⟨by omega, by omega⟩ (fun c1 => ?_) (fun c1 => ?_)
    · refine lv_iload_n hx hb dX0_cellOf_13 rfl (lv_at hl 1 rfl) ?_
      refine lv_iconst (v := iI 1) hx hb dX0_cellOf_14 rfl ?_
      refine x_icmp_ne (tgt := 27) hx hb dX0_cellOf_15 (by decide) ⟨by omega, by omega⟩ ⟨by decide, by decide⟩ (fun c2 => ?_) (fun c2 => ?_)
      · refine lv_aload_nN hx hb dX0_cellOf_27 rfl (lv_at hl 0 rfl) ?_
        refine x_castN C dX0_cellOf_28 ?_
        refine lv_iload_n hx hb dX0_cellOf_31 rfl (lv_at hl 2 rfl) ?_
        refine x_ialdN hfl C hV hB hl.1 ⟨hlocks, Nat.le_of_ble_eq_true rfl, Nat.le_of_ble_eq_true rfl, Nat.le_of_ble_eq_true rfl, Nat.le_of_ble_eq_true rfl⟩ dX0_cellOf_32 (fun H qx3 hB hE => ?_)
        exact e_out hB hE hout hlocks ⟨rfl, (Or.inl ⟨rfl, rfl⟩)⟩ (Nat.le_of_ble_eq_true rfl) (Nat.le_of_ble_eq_true rfl)
      · refine lv_aload_nN hx hb dX0_cellOf_18 rfl (lv_at hl 0 rfl) ?_
        refine x_castN C dX0_cellOf_19 ?_
        refine lv_iload_n hx hb dX0_cellOf_22 rfl (lv_at hl 2 rfl) ?_
        refine x_saldN hfl C hV hB hl.1 ⟨hlocks, Nat.le_of_ble_eq_true rfl, Nat.le_of_ble_eq_true rfl, Nat.le_of_ble_eq_true rfl, Nat.le_of_ble_eq_true rfl⟩ dX0_cellOf_23 (fun H qx4 hB hE => ?_)
        exact e_out hB hE hout hlocks ⟨rfl, (Or.inl ⟨rfl, rfl⟩)⟩ (Nat.le_of_ble_eq_true rfl) (Nat.le_of_ble_eq_true rfl)
    · refine lv_aload_nN hx hb dX0_cellOf_4 rfl (lv_at hl 0 rfl) ?_
      refine x_castN C dX0_cellOf_5 ?_
      refine lv_iload_n hx hb dX0_cellOf_8 rfl (lv_at hl 2 rfl) ?_
      refine x_baldN hfl C hV hB hl.1 ⟨hlocks, Nat.le_of_ble_eq_true rfl, Nat.le_of_ble_eq_true rfl, Nat.le_of_ble_eq_true rfl, Nat.le_of_ble_eq_true rfl⟩ dX0_cellOf_9 (fun H qx5 hB hE => ?_)
      exact e_out hB hE hout hlocks ⟨rfl, (Or.inl ⟨rfl, rfl⟩)⟩ (Nat.le_of_ble_eq_true rfl) (Nat.le_of_ble_eq_true rfl)
  · have hl : lv_has ls 3 [(0, .ref a), (1, .int (iI lane)), (2, .int (iI i))] := hl
    rcases (show t = 0 ∨ t = 1 ∨ t = 2 by omega) with rfl | rfl | rfl
    · have ha0 : w a = some (xBy E n.toNat f) := ha
      refine lv_iload_n hx hb dX0_cellOf_0 rfl (lv_at hl 1 rfl) ?_
      refine x_if_ne (tgt := 13) hx hb dX0_cellOf_1 (by decide) ⟨by omega, by omega⟩ (fun c6 => ?_) (fun c6 => ?_)
      · refine lv_iload_n hx hb dX0_cellOf_13 rfl (lv_at hl 1 rfl) ?_
        refine lv_iconst (v := iI 1) hx hb dX0_cellOf_14 rfl ?_
        refine x_icmp_ne (tgt := 27) hx hb dX0_cellOf_15 (by decide) ⟨by omega, by omega⟩ ⟨by decide, by decide⟩ (fun c7 => ?_) (fun c7 => ?_)
        · refine lv_aload_n hx hb dX0_cellOf_27 rfl (lv_at hl 0 rfl) ?_
          refine x_castRX hfl C hV hB (lane := 0) (lane2 := 2) rfl (by decide +kernel) q1019 ha hl.1 ⟨hlocks, Nat.le_of_ble_eq_true rfl, Nat.le_of_ble_eq_true rfl, Nat.le_of_ble_eq_true rfl, Nat.le_of_ble_eq_true rfl⟩ dX0_cellOf_28 (fun H qx8 hB hE => ?_)
          exact e_out hB hE hout hlocks ⟨rfl, (Or.inr (Or.inl ⟨⟨fun h => (by cases h), by omega⟩, rfl⟩))⟩ (Nat.le_of_ble_eq_true rfl) (Nat.le_of_ble_eq_true rfl)
        · refine lv_aload_n hx hb dX0_cellOf_18 rfl (lv_at hl 0 rfl) ?_
          refine x_castRX hfl C hV hB (lane := 0) (lane2 := 1) rfl (by decide +kernel) q1018 ha hl.1 ⟨hlocks, Nat.le_of_ble_eq_true rfl, Nat.le_of_ble_eq_true rfl, Nat.le_of_ble_eq_true rfl, Nat.le_of_ble_eq_true rfl⟩ dX0_cellOf_19 (fun H qx9 hB hE => ?_)
          exact e_out hB hE hout hlocks ⟨rfl, (Or.inr (Or.inl ⟨⟨fun h => (by cases h), by omega⟩, rfl⟩))⟩ (Nat.le_of_ble_eq_true rfl) (Nat.le_of_ble_eq_true rfl)
      · refine lv_aload_n hx hb dX0_cellOf_4 rfl (lv_at hl 0 rfl) ?_
        refine x_castR C hB (lane := 0) rfl q1017 ha dX0_cellOf_5 ?_
        refine lv_iload_n hx hb dX0_cellOf_8 rfl (lv_at hl 2 rfl) ?_
        by_cases hir : 0 ≤ i ∧ i < ((n.toNat : Nat) : Int)
        · refine x_bald C hB ha0 (i).toNat (by omega) (by omega) (by omega) dX0_cellOf_9 ?_
          obtain ⟨hva, hvb⟩ := hf (i).toNat (by omega)
          refine lv_goto (tgt := 33) hx hb dX0_cellOf_10 (by decide) ?_
          refine vx_ret ?_
          exact g_iret C hB hr hlocks rfl dX0_cellOf_33 (Nat.le_of_ble_eq_true rfl) (Nat.le_of_ble_eq_true rfl) ⟨by omega, by omega⟩ ⟨rfl, fun h => (by cases h), by omega, by omega, rfl⟩
        · refine x_baldZ hfl C hV hB ha0 ⟨by omega, by omega⟩ (by omega) (by omega) hl.1 ⟨hlocks, Nat.le_of_ble_eq_true rfl, Nat.le_of_ble_eq_true rfl, Nat.le_of_ble_eq_true rfl, Nat.le_of_ble_eq_true rfl⟩ dX0_cellOf_9 (fun H qx10 hB hE => ?_)
          exact e_out hB hE hout hlocks ⟨rfl, (Or.inr (Or.inr (⟨⟨fun h => (by cases h), by omega, by omega⟩, rfl⟩)))⟩ (Nat.le_of_ble_eq_true rfl) (Nat.le_of_ble_eq_true rfl)
    · have ha0 : w a = some (xSh E n.toNat f) := ha
      refine lv_iload_n hx hb dX0_cellOf_0 rfl (lv_at hl 1 rfl) ?_
      refine x_if_ne (tgt := 13) hx hb dX0_cellOf_1 (by decide) ⟨by omega, by omega⟩ (fun c11 => ?_) (fun c11 => ?_)
      · refine lv_iload_n hx hb dX0_cellOf_13 rfl (lv_at hl 1 rfl) ?_
        refine lv_iconst (v := iI 1) hx hb dX0_cellOf_14 rfl ?_
        refine x_icmp_ne (tgt := 27) hx hb dX0_cellOf_15 (by decide) ⟨by omega, by omega⟩ ⟨by decide, by decide⟩ (fun c12 => ?_) (fun c12 => ?_)
        · refine lv_aload_n hx hb dX0_cellOf_27 rfl (lv_at hl 0 rfl) ?_
          refine x_castRX hfl C hV hB (lane := 1) (lane2 := 2) rfl (by decide +kernel) q1019 ha hl.1 ⟨hlocks, Nat.le_of_ble_eq_true rfl, Nat.le_of_ble_eq_true rfl, Nat.le_of_ble_eq_true rfl, Nat.le_of_ble_eq_true rfl⟩ dX0_cellOf_28 (fun H qx13 hB hE => ?_)
          exact e_out hB hE hout hlocks ⟨rfl, (Or.inr (Or.inl ⟨⟨fun h => (by cases h), by omega⟩, rfl⟩))⟩ (Nat.le_of_ble_eq_true rfl) (Nat.le_of_ble_eq_true rfl)
        · refine lv_aload_n hx hb dX0_cellOf_18 rfl (lv_at hl 0 rfl) ?_
          refine x_castR C hB (lane := 1) rfl q1018 ha dX0_cellOf_19 ?_
          refine lv_iload_n hx hb dX0_cellOf_22 rfl (lv_at hl 2 rfl) ?_
          by_cases hir : 0 ≤ i ∧ i < ((n.toNat : Nat) : Int)
          · refine x_sald C hB ha0 (i).toNat (by omega) (by omega) (by omega) dX0_cellOf_23 ?_
            obtain ⟨hva, hvb⟩ := hf (i).toNat (by omega)
            refine lv_goto (tgt := 33) hx hb dX0_cellOf_24 (by decide) ?_
            refine vx_ret ?_
            exact g_iret C hB hr hlocks rfl dX0_cellOf_33 (Nat.le_of_ble_eq_true rfl) (Nat.le_of_ble_eq_true rfl) ⟨by omega, by omega⟩ ⟨rfl, fun h => (by cases h), by omega, by omega, rfl⟩
          · refine x_saldZ hfl C hV hB ha0 ⟨by omega, by omega⟩ (by omega) (by omega) hl.1 ⟨hlocks, Nat.le_of_ble_eq_true rfl, Nat.le_of_ble_eq_true rfl, Nat.le_of_ble_eq_true rfl, Nat.le_of_ble_eq_true rfl⟩ dX0_cellOf_23 (fun H qx14 hB hE => ?_)
            exact e_out hB hE hout hlocks ⟨rfl, (Or.inr (Or.inr (⟨⟨fun h => (by cases h), by omega, by omega⟩, rfl⟩)))⟩ (Nat.le_of_ble_eq_true rfl) (Nat.le_of_ble_eq_true rfl)
      · refine lv_aload_n hx hb dX0_cellOf_4 rfl (lv_at hl 0 rfl) ?_
        refine x_castRX hfl C hV hB (lane := 1) (lane2 := 0) rfl (by decide +kernel) q1017 ha hl.1 ⟨hlocks, Nat.le_of_ble_eq_true rfl, Nat.le_of_ble_eq_true rfl, Nat.le_of_ble_eq_true rfl, Nat.le_of_ble_eq_true rfl⟩ dX0_cellOf_5 (fun H qx15 hB hE => ?_)
        exact e_out hB hE hout hlocks ⟨rfl, (Or.inr (Or.inl ⟨⟨fun h => (by cases h), by omega⟩, rfl⟩))⟩ (Nat.le_of_ble_eq_true rfl) (Nat.le_of_ble_eq_true rfl)
    · have ha0 : w a = some (xI E n.toNat f) := ha
      refine lv_iload_n hx hb dX0_cellOf_0 rfl (lv_at hl 1 rfl) ?_
      refine x_if_ne (tgt := 13) hx hb dX0_cellOf_1 (by decide) ⟨by omega, by omega⟩ (fun c16 => ?_) (fun c16 => ?_)
      · refine lv_iload_n hx hb dX0_cellOf_13 rfl (lv_at hl 1 rfl) ?_
        refine lv_iconst (v := iI 1) hx hb dX0_cellOf_14 rfl ?_
        refine x_icmp_ne (tgt := 27) hx hb dX0_cellOf_15 (by decide) ⟨by omega, by omega⟩ ⟨by decide, by decide⟩ (fun c17 => ?_) (fun c17 => ?_)
        · refine lv_aload_n hx hb dX0_cellOf_27 rfl (lv_at hl 0 rfl) ?_
          refine x_castR C hB (lane := 2) rfl q1019 ha dX0_cellOf_28 ?_
          refine lv_iload_n hx hb dX0_cellOf_31 rfl (lv_at hl 2 rfl) ?_
          by_cases hir : 0 ≤ i ∧ i < ((n.toNat : Nat) : Int)
          · refine x_iald C hB ha0 (i).toNat (by omega) (by omega) (by omega) dX0_cellOf_32 ?_
            obtain ⟨hva, hvb⟩ := hf (i).toNat (by omega)
            refine vx_ret ?_
            exact g_iret C hB hr hlocks rfl dX0_cellOf_33 (Nat.le_of_ble_eq_true rfl) (Nat.le_of_ble_eq_true rfl) ⟨by omega, by omega⟩ ⟨rfl, fun h => (by cases h), by omega, by omega, rfl⟩
          · refine x_ialdZ hfl C hV hB ha0 ⟨by omega, by omega⟩ (by omega) (by omega) hl.1 ⟨hlocks, Nat.le_of_ble_eq_true rfl, Nat.le_of_ble_eq_true rfl, Nat.le_of_ble_eq_true rfl, Nat.le_of_ble_eq_true rfl⟩ dX0_cellOf_32 (fun H qx18 hB hE => ?_)
            exact e_out hB hE hout hlocks ⟨rfl, (Or.inr (Or.inr (⟨⟨fun h => (by cases h), by omega, by omega⟩, rfl⟩)))⟩ (Nat.le_of_ble_eq_true rfl) (Nat.le_of_ble_eq_true rfl)
        · refine lv_aload_n hx hb dX0_cellOf_18 rfl (lv_at hl 0 rfl) ?_
          refine x_castRX hfl C hV hB (lane := 2) (lane2 := 1) rfl (by decide +kernel) q1018 ha hl.1 ⟨hlocks, Nat.le_of_ble_eq_true rfl, Nat.le_of_ble_eq_true rfl, Nat.le_of_ble_eq_true rfl, Nat.le_of_ble_eq_true rfl⟩ dX0_cellOf_19 (fun H qx19 hB hE => ?_)
          exact e_out hB hE hout hlocks ⟨rfl, (Or.inr (Or.inl ⟨⟨fun h => (by cases h), by omega⟩, rfl⟩))⟩ (Nat.le_of_ble_eq_true rfl) (Nat.le_of_ble_eq_true rfl)
      · refine lv_aload_n hx hb dX0_cellOf_4 rfl (lv_at hl 0 rfl) ?_
        refine x_castRX hfl C hV hB (lane := 2) (lane2 := 0) rfl (by decide +kernel) q1017 ha hl.1 ⟨hlocks, Nat.le_of_ble_eq_true rfl, Nat.le_of_ble_eq_true rfl, Nat.le_of_ble_eq_true rfl, Nat.le_of_ble_eq_true rfl⟩ dX0_cellOf_5 (fun H qx20 hB hE => ?_)
        exact e_out hB hE hout hlocks ⟨rfl, (Or.inr (Or.inl ⟨⟨fun h => (by cases h), by omega⟩, rfl⟩))⟩ (Nat.le_of_ble_eq_true rfl) (Nat.le_of_ble_eq_true rfl)
set_option maxHeartbeats 800000 in
set_option maxRecDepth 100000 in
theorem kX0_cellOf_i (l : Launch) (E : xE) (w : xw) (a : Nat) (t : Int) (n : Int) (f : Nat → Int) (lane : Int) (i : Int) (ha : w a = some (rowE E t n f)) (htt : 0 ≤ t ∧ t ≤ 2) (hn : 0 ≤ n ∧ n ≤ 60) (ht : t = lane) (hi : 0 ≤ i ∧ i < n) (hf : ∀ j : Nat, (j : Int) < n → rg (f j)) : gi_ l E yX0_cellOf cX0_cellOf 3 (some .int) 0 0 0 0 [.ref a, .int (iI lane), .int (iI i)] w (fun z w' => w = w' ∧ z = f i.toNat) := by
  intro sz
  refine x_bodyz (by decide) (Nat.le_of_ble_eq_true rfl) ?_
  intro p e s m args below meth c ls hx hb C hr hlocks hin hsz hZ hB hl
  have C : xC E p s m args c cX0_cellOf 3 RX0 := C
  have hl : lv_has ls 3 [(0, .ref a), (1, .int (iI lane)), (2, .int (iI i))] := hl
  rcases (show t = 0 ∨ t = 1 ∨ t = 2 by omega) with rfl | rfl | rfl
  · have ha0 : w a = some (xBy E n.toNat f) := ha
    refine lv_iload_n hx hb dX0_cellOf_0 rfl (lv_at hl 1 rfl) ?_
    refine x_if_ne (tgt := 13) hx hb dX0_cellOf_1 (by decide) ⟨by omega, by omega⟩ (fun c1 => by exfalso; omega) (fun c1 => ?_)
    refine lv_aload_n hx hb dX0_cellOf_4 rfl (lv_at hl 0 rfl) ?_
    refine x_castR C hB (lane := 0) rfl q1017 ha dX0_cellOf_5 ?_
    refine lv_iload_n hx hb dX0_cellOf_8 rfl (lv_at hl 2 rfl) ?_
    refine x_bald C hB ha0 (i).toNat (by omega) (by omega) (by omega) dX0_cellOf_9 ?_
    obtain ⟨hva, hvb⟩ := hf (i).toNat (by omega)
    refine lv_goto (tgt := 33) hx hb dX0_cellOf_10 (by decide) ?_
    exact g_iret C hB hr hlocks rfl dX0_cellOf_33 (Nat.le_of_ble_eq_true rfl) (Nat.le_of_ble_eq_true rfl) ⟨by omega, by omega⟩ ⟨rfl, rfl⟩
  · have ha0 : w a = some (xSh E n.toNat f) := ha
    refine lv_iload_n hx hb dX0_cellOf_0 rfl (lv_at hl 1 rfl) ?_
    refine x_if_ne (tgt := 13) hx hb dX0_cellOf_1 (by decide) ⟨by omega, by omega⟩ (fun c2 => ?_) (fun c2 => by exfalso; omega)
    refine lv_iload_n hx hb dX0_cellOf_13 rfl (lv_at hl 1 rfl) ?_
    refine lv_iconst (v := iI 1) hx hb dX0_cellOf_14 rfl ?_
    refine x_icmp_ne (tgt := 27) hx hb dX0_cellOf_15 (by decide) ⟨by omega, by omega⟩ ⟨by decide, by decide⟩ (fun c3 => by exfalso; omega) (fun c3 => ?_)
    refine lv_aload_n hx hb dX0_cellOf_18 rfl (lv_at hl 0 rfl) ?_
    refine x_castR C hB (lane := 1) rfl q1018 ha dX0_cellOf_19 ?_
    refine lv_iload_n hx hb dX0_cellOf_22 rfl (lv_at hl 2 rfl) ?_
    refine x_sald C hB ha0 (i).toNat (by omega) (by omega) (by omega) dX0_cellOf_23 ?_
    obtain ⟨hva, hvb⟩ := hf (i).toNat (by omega)
    refine lv_goto (tgt := 33) hx hb dX0_cellOf_24 (by decide) ?_
    exact g_iret C hB hr hlocks rfl dX0_cellOf_33 (Nat.le_of_ble_eq_true rfl) (Nat.le_of_ble_eq_true rfl) ⟨by omega, by omega⟩ ⟨rfl, rfl⟩
  · have ha0 : w a = some (xI E n.toNat f) := ha
    refine lv_iload_n hx hb dX0_cellOf_0 rfl (lv_at hl 1 rfl) ?_
    refine x_if_ne (tgt := 13) hx hb dX0_cellOf_1 (by decide) ⟨by omega, by omega⟩ (fun c4 => ?_) (fun c4 => by exfalso; omega)
    refine lv_iload_n hx hb dX0_cellOf_13 rfl (lv_at hl 1 rfl) ?_
    refine lv_iconst (v := iI 1) hx hb dX0_cellOf_14 rfl ?_
    refine x_icmp_ne (tgt := 27) hx hb dX0_cellOf_15 (by decide) ⟨by omega, by omega⟩ ⟨by decide, by decide⟩ (fun c5 => ?_) (fun c5 => by exfalso; omega)
    refine lv_aload_n hx hb dX0_cellOf_27 rfl (lv_at hl 0 rfl) ?_
    refine x_castR C hB (lane := 2) rfl q1019 ha dX0_cellOf_28 ?_
    refine lv_iload_n hx hb dX0_cellOf_31 rfl (lv_at hl 2 rfl) ?_
    refine x_iald C hB ha0 (i).toNat (by omega) (by omega) (by omega) dX0_cellOf_32 ?_
    obtain ⟨hva, hvb⟩ := hf (i).toNat (by omega)
    exact g_iret C hB hr hlocks rfl dX0_cellOf_33 (Nat.le_of_ble_eq_true rfl) (Nat.le_of_ble_eq_true rfl) ⟨by omega, by omega⟩ ⟨rfl, rfl⟩
set_option maxHeartbeats 800000 in
set_option maxRecDepth 100000 in
theorem kX0_setIn (l : Launch) (hfl : l.stackTraces = false) (E : xE) (w : xw) (a : Nat) (t : Int) (n : Int) (f : Nat → Int) (i : Int) (v : Int) (ha : w a = some (rowE E t n f)) (htt : 0 ≤ t ∧ t ≤ 2) (hn : 0 ≤ n ∧ n ≤ 60) (hi : rg i) (hv : rg v) : xv_ l E yX0_setIn (ws_ yX0_setIn cX0_setIn 3 none) 9 10320 3 890 [.ref a, .int (iI i), .int (iI v)] w (fun w' => (0 ≤ i ∧ i < n) ∧ va_up w a (some (rowE E t n (va_up f i.toNat (if t = 0 then bB v else if t = 1 then bS v else v)))) = w') (fun En w' => w = w' ∧ (((¬ (0 ≤ i ∧ i < n)) ∧ En = "java/lang/ArrayIndexOutOfBoundsException"))) := by
  intro sz
  refine x_bodyx (by decide) (Nat.le_of_ble_eq_true rfl) ?_
  intro p e s m args below meth c ls hx hb C hr hlocks hout hsz hV hB hl
  have hZ := hV.1
  have C : xC E p s m args c cX0_setIn 3 RX0 := C
  have hl : lv_has ls 3 [(0, .ref a), (1, .int (iI i)), (2, .int (iI v))] := hl
  obtain ⟨hia, hib⟩ := hi
  obtain ⟨hva, hvb⟩ := hv
  rcases (show t = 0 ∨ t = 1 ∨ t = 2 by omega) with rfl | rfl | rfl
  · have ha0 : w a = some (xBy E n.toNat f) := ha
    refine lv_aload_n hx hb dX0_setIn_0 rfl (lv_at hl 0 rfl) ?_
    refine x_instR C hB (lane := 0) rfl q1017 ha dX0_setIn_1 ?_
    refine x_if_eq (tgt := 18) hx hb dX0_setIn_4 (by decide) ⟨by decide, by decide⟩ (fun c1 => by exfalso; omega) (fun c1 => ?_)
    refine lv_aload_n hx hb dX0_setIn_7 rfl (lv_at hl 0 rfl) ?_
    refine x_castR C hB (lane := 0) rfl q1017 ha dX0_setIn_8 ?_
    refine lv_iload_n hx hb dX0_setIn_11 rfl (lv_at hl 1 rfl) ?_
    refine lv_iload_n hx hb dX0_setIn_12 rfl (lv_at hl 2 rfl) ?_
    refine x_i2b hx hb dX0_setIn_13 ?_
    by_cases hir : 0 ≤ i ∧ i < ((n.toNat : Nat) : Int)
    · refine x_bast C hB ha0 (i).toNat (by omega) (by omega) (by omega) (nar_b v) dX0_setIn_14 (fun H locs hB => ?_)
      replace hB : xB E (xA w sz) s (va_up w a (some (xBy E n.toNat ((va_up f (i).toNat (bB v)))))) _ _ := hB
      refine lv_goto (tgt := 43) hx hb dX0_setIn_15 (by decide) ?_
      refine vx_ret ?_
      exact g_vret C hB hr hlocks dX0_setIn_43 (Nat.le_of_ble_eq_true rfl) (Nat.le_of_ble_eq_true rfl) ⟨by omega, rfl⟩
    · refine x_bastZ hfl C hV hB ha0 ⟨by omega, by omega⟩ (by omega) (by omega) hl.1 ⟨hlocks, Nat.le_of_ble_eq_true rfl, Nat.le_of_ble_eq_true rfl, Nat.le_of_ble_eq_true rfl, Nat.le_of_ble_eq_true rfl⟩ dX0_setIn_14 (fun H qx2 hB hE => ?_)
      exact e_out hB hE hout hlocks ⟨rfl, ⟨by omega, rfl⟩⟩ (Nat.le_of_ble_eq_true rfl) (Nat.le_of_ble_eq_true rfl)
  · have ha0 : w a = some (xSh E n.toNat f) := ha
    refine lv_aload_n hx hb dX0_setIn_0 rfl (lv_at hl 0 rfl) ?_
    refine x_instRN C hV hB (lane := 1) (lane2 := 0) rfl (by decide +kernel) q1017 ha dX0_setIn_1 ?_
    refine x_if_eq (tgt := 18) hx hb dX0_setIn_4 (by decide) ⟨by decide, by decide⟩ (fun c3 => ?_) (fun c3 => by exfalso; omega)
    refine lv_aload_n hx hb dX0_setIn_18 rfl (lv_at hl 0 rfl) ?_
    refine x_instR C hB (lane := 1) rfl q1018 ha dX0_setIn_19 ?_
    refine x_if_eq (tgt := 36) hx hb dX0_setIn_22 (by decide) ⟨by decide, by decide⟩ (fun c4 => by exfalso; omega) (fun c4 => ?_)
    refine lv_aload_n hx hb dX0_setIn_25 rfl (lv_at hl 0 rfl) ?_
    refine x_castR C hB (lane := 1) rfl q1018 ha dX0_setIn_26 ?_
    refine lv_iload_n hx hb dX0_setIn_29 rfl (lv_at hl 1 rfl) ?_
    refine lv_iload_n hx hb dX0_setIn_30 rfl (lv_at hl 2 rfl) ?_
    refine x_i2s hx hb dX0_setIn_31 ?_
    by_cases hir : 0 ≤ i ∧ i < ((n.toNat : Nat) : Int)
    · refine x_sast C hB ha0 (i).toNat (by omega) (by omega) (by omega) (nar_s v) dX0_setIn_32 (fun H locs hB => ?_)
      replace hB : xB E (xA w sz) s (va_up w a (some (xSh E n.toNat ((va_up f (i).toNat (bS v)))))) _ _ := hB
      refine lv_goto (tgt := 43) hx hb dX0_setIn_33 (by decide) ?_
      refine vx_ret ?_
      exact g_vret C hB hr hlocks dX0_setIn_43 (Nat.le_of_ble_eq_true rfl) (Nat.le_of_ble_eq_true rfl) ⟨by omega, rfl⟩
    · refine x_sastZ hfl C hV hB ha0 ⟨by omega, by omega⟩ (by omega) (by omega) hl.1 ⟨hlocks, Nat.le_of_ble_eq_true rfl, Nat.le_of_ble_eq_true rfl, Nat.le_of_ble_eq_true rfl, Nat.le_of_ble_eq_true rfl⟩ dX0_setIn_32 (fun H qx5 hB hE => ?_)
      exact e_out hB hE hout hlocks ⟨rfl, ⟨by omega, rfl⟩⟩ (Nat.le_of_ble_eq_true rfl) (Nat.le_of_ble_eq_true rfl)
  · have ha0 : w a = some (xI E n.toNat f) := ha
    refine lv_aload_n hx hb dX0_setIn_0 rfl (lv_at hl 0 rfl) ?_
    refine x_instRN C hV hB (lane := 2) (lane2 := 0) rfl (by decide +kernel) q1017 ha dX0_setIn_1 ?_
    refine x_if_eq (tgt := 18) hx hb dX0_setIn_4 (by decide) ⟨by decide, by decide⟩ (fun c6 => ?_) (fun c6 => by exfalso; omega)
    refine lv_aload_n hx hb dX0_setIn_18 rfl (lv_at hl 0 rfl) ?_
    refine x_instRN C hV hB (lane := 2) (lane2 := 1) rfl (by decide +kernel) q1018 ha dX0_setIn_19 ?_
    refine x_if_eq (tgt := 36) hx hb dX0_setIn_22 (by decide) ⟨by decide, by decide⟩ (fun c7 => ?_) (fun c7 => by exfalso; omega)
    refine lv_aload_n hx hb dX0_setIn_36 rfl (lv_at hl 0 rfl) ?_
    refine x_castR C hB (lane := 2) rfl q1019 ha dX0_setIn_37 ?_
    refine lv_iload_n hx hb dX0_setIn_40 rfl (lv_at hl 1 rfl) ?_
    refine lv_iload_n hx hb dX0_setIn_41 rfl (lv_at hl 2 rfl) ?_
    by_cases hir : 0 ≤ i ∧ i < ((n.toNat : Nat) : Int)
    · refine x_iast C hB ha0 (i).toNat (by omega) (by omega) (by omega) dX0_setIn_42 (fun H locs hB => ?_)
      replace hB : xB E (xA w sz) s (va_up w a (some (xI E n.toNat ((va_up f (i).toNat v))))) _ _ := hB
      refine vx_ret ?_
      exact g_vret C hB hr hlocks dX0_setIn_43 (Nat.le_of_ble_eq_true rfl) (Nat.le_of_ble_eq_true rfl) ⟨by omega, rfl⟩
    · refine x_iastZ hfl C hV hB ha0 ⟨by omega, by omega⟩ (by omega) (by omega) hl.1 ⟨hlocks, Nat.le_of_ble_eq_true rfl, Nat.le_of_ble_eq_true rfl, Nat.le_of_ble_eq_true rfl, Nat.le_of_ble_eq_true rfl⟩ dX0_setIn_42 (fun H qx8 hB hE => ?_)
      exact e_out hB hE hout hlocks ⟨rfl, ⟨by omega, rfl⟩⟩ (Nat.le_of_ble_eq_true rfl) (Nat.le_of_ble_eq_true rfl)
set_option maxHeartbeats 800000 in
set_option maxRecDepth 100000 in
theorem kX0_rowOf (l : Launch) (hfl : l.stackTraces = false) (E : xE) (w : xw) (lane : Int) (n : Int) (hlane : 0 ≤ lane ∧ lane ≤ 2) (hn : rg n) (hn60 : n ≤ 60) : xq_ l E yX0_rowOf (ws_ yX0_rowOf cX0_rowOf 2 (some (.object "java/lang/Object"))) 9 10320 4 890 [.int (iI lane), .int (iI n)] w (fun q w' => 0 ≤ n ∧ ∃ a, some a = q ∧ w a = none ∧ va_up w a (some (rowE E lane n (fun _ => 0))) = w') (fun En w' => w = w' ∧ (((n < 0) ∧ En = "java/lang/NegativeArraySizeException"))) := by
  intro sz
  refine x_bodyx (by decide) (Nat.le_of_ble_eq_true rfl) ?_
  intro p e s m args below meth c ls hx hb C hr hlocks hout hsz hV hB hl
  have hZ := hV.1
  have C : xC E p s m args c cX0_rowOf 2 RX0 := C
  have hl : lv_has ls 2 [(0, .int (iI lane)), (1, .int (iI n))] := hl
  obtain ⟨hna, hnb⟩ := hn
  refine lv_iload_n hx hb dX0_rowOf_0 rfl (lv_at hl 0 rfl) ?_
  refine x_if_ne (tgt := 10) hx hb dX0_rowOf_1 (by decide) ⟨by omega, by omega⟩ (fun c1 => ?_) (fun c1 => ?_)
  · refine lv_iload_n hx hb dX0_rowOf_10 rfl (lv_at hl 0 rfl) ?_
    refine lv_iconst (v := iI 1) hx hb dX0_rowOf_11 rfl ?_
    refine x_icmp_ne (tgt := 21) hx hb dX0_rowOf_12 (by decide) ⟨by omega, by omega⟩ ⟨by decide, by decide⟩ (fun c2 => ?_) (fun c2 => ?_)
    · refine lv_iload_n hx hb dX0_rowOf_21 rfl (lv_at hl 1 rfl) ?_
      by_cases hneg : n < 0
      · refine x_newpZ hfl C hV hB ⟨by omega, by omega⟩ (by omega) hl.1 ⟨hlocks, Nat.le_of_ble_eq_true rfl, Nat.le_of_ble_eq_true rfl, Nat.le_of_ble_eq_true rfl, Nat.le_of_ble_eq_true rfl⟩ dX0_rowOf_22 (fun H qx3 hB hE => ?_)
        exact e_out hB hE hout hlocks ⟨rfl, ⟨by omega, rfl⟩⟩ (Nat.le_of_ble_eq_true rfl) (Nat.le_of_ble_eq_true rfl)
      · refine x_newp C hB (atype := .int) 0 rfl rfl (by decide) q213 (n).toNat (by omega) (by omega) (show 0 + 1 ≤ 4 by omega) (show 0 + (n).toNat ≤ 890 by omega) dX0_rowOf_22 (fun q4 H hq5 hs6 hB => ?_)
        refine x_up (c2 := 1) (s2 := 60) (by omega) (by omega) ?_
        replace hB : xB E (xA w sz) s (va_up w q4 (some (xI E ((n).toNat) ((fun _ => 0))))) _ _ := hB
        refine vx_ret ?_
        exact g_qret C hB hr (Or.inl ⟨_, rfl⟩) hlocks ((some q4)) dX0_rowOf_24 (Nat.le_of_ble_eq_true rfl) (Nat.le_of_ble_eq_true rfl) ⟨by omega, q4, rfl, hq5, by unfold rowE; rw [if_neg (by omega), if_neg (by omega)]⟩
    · refine lv_iload_n hx hb dX0_rowOf_15 rfl (lv_at hl 1 rfl) ?_
      by_cases hneg : n < 0
      · refine x_newpZ hfl C hV hB ⟨by omega, by omega⟩ (by omega) hl.1 ⟨hlocks, Nat.le_of_ble_eq_true rfl, Nat.le_of_ble_eq_true rfl, Nat.le_of_ble_eq_true rfl, Nat.le_of_ble_eq_true rfl⟩ dX0_rowOf_16 (fun H qx7 hB hE => ?_)
        exact e_out hB hE hout hlocks ⟨rfl, ⟨by omega, rfl⟩⟩ (Nat.le_of_ble_eq_true rfl) (Nat.le_of_ble_eq_true rfl)
      · refine x_newp C hB (atype := .short) 2 rfl rfl (by decide) q957 (n).toNat (by omega) (by omega) (show 0 + 1 ≤ 4 by omega) (show 0 + (n).toNat ≤ 890 by omega) dX0_rowOf_16 (fun q8 H hq9 hs10 hB => ?_)
        refine x_up (c2 := 1) (s2 := 60) (by omega) (by omega) ?_
        replace hB : xB E (xA w sz) s (va_up w q8 (some (xSh E ((n).toNat) ((fun _ => 0))))) _ _ := hB
        refine lv_goto (tgt := 24) hx hb dX0_rowOf_18 (by decide) ?_
        refine vx_ret ?_
        exact g_qret C hB hr (Or.inl ⟨_, rfl⟩) hlocks ((some q8)) dX0_rowOf_24 (Nat.le_of_ble_eq_true rfl) (Nat.le_of_ble_eq_true rfl) ⟨by omega, q8, rfl, hq9, by unfold rowE; rw [if_neg (by omega), if_pos (by omega)]⟩
  · refine lv_iload_n hx hb dX0_rowOf_4 rfl (lv_at hl 1 rfl) ?_
    by_cases hneg : n < 0
    · refine x_newpZ hfl C hV hB ⟨by omega, by omega⟩ (by omega) hl.1 ⟨hlocks, Nat.le_of_ble_eq_true rfl, Nat.le_of_ble_eq_true rfl, Nat.le_of_ble_eq_true rfl, Nat.le_of_ble_eq_true rfl⟩ dX0_rowOf_5 (fun H qx11 hB hE => ?_)
      exact e_out hB hE hout hlocks ⟨rfl, ⟨by omega, rfl⟩⟩ (Nat.le_of_ble_eq_true rfl) (Nat.le_of_ble_eq_true rfl)
    · refine x_newp C hB (atype := .byte) 1 rfl rfl (by decide) q932 (n).toNat (by omega) (by omega) (show 0 + 1 ≤ 4 by omega) (show 0 + (n).toNat ≤ 890 by omega) dX0_rowOf_5 (fun q12 H hq13 hs14 hB => ?_)
      refine x_up (c2 := 1) (s2 := 60) (by omega) (by omega) ?_
      replace hB : xB E (xA w sz) s (va_up w q12 (some (xBy E ((n).toNat) ((fun _ => 0))))) _ _ := hB
      refine lv_goto (tgt := 24) hx hb dX0_rowOf_7 (by decide) ?_
      refine vx_ret ?_
      exact g_qret C hB hr (Or.inl ⟨_, rfl⟩) hlocks ((some q12)) dX0_rowOf_24 (Nat.le_of_ble_eq_true rfl) (Nat.le_of_ble_eq_true rfl) ⟨by omega, q12, rfl, hq13, by unfold rowE; rw [if_pos (by omega)]⟩
set_option maxHeartbeats 800000 in
set_option maxRecDepth 100000 in
theorem kX0_cellsOf (l : Launch) (hfl : l.stackTraces = false) (E : xE) (w : xw) (r : Option Nat) (t : Int) (n : Int) (f : Nat → Int) (lane : Int) (i : Int) (nn : Int) (hr0 : r = none ∨ ∃ a, r = some a ∧ w a = some (rowE E t n f)) (htt : 0 ≤ t ∧ t ≤ 2) (hn : 0 ≤ n ∧ n ≤ 60) (hlane : 0 ≤ lane ∧ lane ≤ 2) (hi : rg i) (hnn0 : rg nn) (hf : ∀ j : Nat, (j : Int) < n → rg (f j)) : xq_ l E yX0_cellsOf (ws_ yX0_cellsOf cX0_cellsOf 8 (some (.array .int))) 10 10341 12 2900 [va_rf r, .int (iI lane), .int (iI i), .int (iI nn)] w (fun q w' => r ≠ none ∧ t = lane ∧ (0 ≤ nn ∧ nn < 61 ∧ 0 ≤ i ∧ i ≤ n - nn) ∧ ∃ (a : Nat) (g : Nat → Int), some a = q ∧ w a = none ∧ va_up w a (some (xI E nn.toNat g)) = w' ∧ ∀ j : Nat, j < nn.toNat → g j = f (i.toNat + j)) (fun En w' => w = w' ∧ (((r = none) ∧ En = "java/lang/NullPointerException") ∨ ((r ≠ none ∧ t ≠ lane) ∧ En = "java/lang/ClassCastException") ∨ ((r ≠ none ∧ t = lane ∧ nn < 0) ∧ En = "java/lang/NegativeArraySizeException") ∨ ((r ≠ none ∧ t = lane ∧ 0 ≤ nn ∧ ¬ (nn < 61 ∧ 0 ≤ i ∧ i ≤ n - nn)) ∧ En = "java/lang/IndexOutOfBoundsException"))) := by
  intro sz
  refine x_bodyx (by decide) (by cases r <;> exact Nat.le_of_ble_eq_true rfl) ?_
  intro p e s m args below meth c ls hx hb C hr hlocks hout hsz hV hB hl
  have hZ := hV.1
  have C : xC E p s m args c cX0_cellsOf 8 RX0 := C
  have hl : lv_has ls 8 [(0, va_rf r), (1, .int (iI lane)), (2, .int (iI i)), (3, .int (iI nn))] := by cases r <;> exact hl
  obtain ⟨hia, hib⟩ := hi
  obtain ⟨hna, hnb⟩ := hnn0
  refine x_aldQ hx hb dX0_cellsOf_0 rfl (lv_at hl 0 rfl) ?_
  refine lv_iload_n hx hb dX0_cellsOf_1 rfl (lv_at hl 1 rfl) ?_
  refine g_callXi 3 890 (Nat.le_of_ble_eq_true rfl) (Nat.le_of_ble_eq_true rfl) hB (rXS (As := [va_rf r, .int (iI lane)]) (n := 2) C hV hB (kX0_sizeOf l hfl E w r t n f lane hr0 (by omega) (by omega) (by omega) _) (lw_S q1183 q1184 q68 q1185) (by decide +kernel) ⟨Nat.le_of_ble_eq_true rfl, Nat.le_of_ble_eq_true rfl⟩ rfl hl.1 rfl (Nat.le_of_ble_eq_true rfl) dX0_cellsOf_2 ⟨Nat.le_of_ble_eq_true rfl, Nat.le_of_ble_eq_true rfl⟩) (fun En qx5 w2 H locs hp4 hB hE => ?_) (fun z1 w2 H locs hz3 hp4 hB => ?_)
  · obtain ⟨rfl, hp4⟩ := hp4
    rcases hp4 with ⟨hp4, rfl⟩ | ⟨hp4, rfl⟩
    · exact e_out hB hE hout hlocks ⟨rfl, (Or.inl ⟨hp4, rfl⟩)⟩ (Nat.le_of_ble_eq_true rfl) (Nat.le_of_ble_eq_true rfl)
    · exact e_out hB hE hout hlocks ⟨rfl, (Or.inr (Or.inl ⟨hp4, rfl⟩))⟩ (Nat.le_of_ble_eq_true rfl) (Nat.le_of_ble_eq_true rfl)
  · obtain ⟨hz3a, hz3b⟩ := hz3
    obtain ⟨rfl, hrn, hlt, hzn⟩ := hp4
    refine x_nm (b := n) hzn ?_
    rcases hr0 with hr1 | ⟨a, rfl, ha⟩
    · exact absurd hr1 hrn
    have hl : lv_has ls 8 [(0, .ref a), (1, .int (iI lane)), (2, .int (iI i)), (3, .int (iI nn))] := hl
    refine lv_istore (lv' := [(4, .int (iI n)), (0, .ref a), (1, .int (iI lane)), (2, .int (iI i)), (3, .int (iI nn))]) hx hb dX0_cellsOf_5 hl (by decide) rfl (fun ls hl => ?_)
    refine lv_iload_n hx hb dX0_cellsOf_7 rfl (lv_at hl 4 rfl) ?_
    refine lv_bipush (v := iI 61) hx hb dX0_cellsOf_8 rfl ?_
    refine x_mmin C q447 q448 q75 q449 hl.1 (Nat.le_of_ble_eq_true rfl) (Nat.le_of_ble_eq_true rfl) (Nat.le_of_ble_eq_true rfl) (Nat.le_of_ble_eq_true rfl) ⟨by omega, by omega⟩ ⟨by decide, by decide⟩ dX0_cellsOf_10 ?_
    rcases (show nn < 0 ∨ (0 ≤ nn ∧ nn < 61) ∨ 61 ≤ nn by omega) with hnn | hnn | hnn
    · refine x_nm (b := nn) (by unfold imin; split <;> omega) ?_
      refine x_newpZ hfl C hV hB ⟨by omega, by omega⟩ (by omega) hl.1 ⟨hlocks, Nat.le_of_ble_eq_true rfl, Nat.le_of_ble_eq_true rfl, Nat.le_of_ble_eq_true rfl, Nat.le_of_ble_eq_true rfl⟩ dX0_cellsOf_13 (fun H qx6 hB hE => ?_)
      exact e_out hB hE hout hlocks ⟨rfl, (Or.inr (Or.inr (Or.inl ⟨⟨fun h => (by cases h), hlt, by omega⟩, rfl⟩)))⟩ (Nat.le_of_ble_eq_true rfl) (Nat.le_of_ble_eq_true rfl)
    · refine x_nm (b := nn) (by unfold imin; split <;> omega) ?_
      refine x_newp C hB (atype := .byte) 1 rfl rfl (by decide) q932 (nn).toNat (by omega) (by omega) (show 3 + 1 ≤ 12 by omega) (show 890 + (nn).toNat ≤ 2900 by omega) dX0_cellsOf_13 (fun q7 H hq8 hs9 hB => ?_)
      have hne10 : a ≠ q7 := fun e => by cases (hq8.symm.trans ((congrArg _ e.symm).trans ha))
      refine x_up (c2 := 4) (s2 := 951) (by omega) (by omega) ?_
      replace hB : xB E (xA w sz) s (va_up w q7 (some (xBy E ((nn).toNat) ((fun _ => 0))))) _ _ := hB
      refine lv_astore (lv' := [(5, .ref q7), (4, .int (iI n)), (0, .ref a), (1, .int (iI lane)), (2, .int (iI i)), (3, .int (iI nn))]) hx hb dX0_cellsOf_15 hl (by decide) rfl (fun ls hl => ?_)
      refine lv_iload_n hx hb dX0_cellsOf_17 rfl (lv_at hl 5 rfl) ?_
      refine lv_bipush (v := iI 61) hx hb dX0_cellsOf_18 rfl ?_
      refine x_icmp_ge (tgt := 39) hx hb dX0_cellsOf_20 (by decide) ⟨by omega, by omega⟩ ⟨by decide, by decide⟩ (fun c11 => by exfalso; omega) (fun c11 => ?_)
      refine lv_iload_n hx hb dX0_cellsOf_23 rfl (lv_at hl 4 rfl) ?_
      refine x_if_lt (tgt := 39) hx hb dX0_cellsOf_24 (by decide) ⟨by omega, by omega⟩ (fun c12 => ?_) (fun c12 => ?_)
      · refine lv_iconst (v := iI 0) hx hb dX0_cellsOf_39 rfl ?_
        refine g_callXv 7 1841 (Nat.le_of_ble_eq_true rfl) (Nat.le_of_ble_eq_true rfl) hB (rXS (As := [.int (iI 0)]) (n := 1) C hV hB (kX0_need l hfl E (va_up w q7 (some (xBy E ((nn).toNat) ((fun _ => 0))))) 0 (by decide) _) (lw_S q1186 q1187 q68 q1188) (by decide +kernel) ⟨Nat.le_of_ble_eq_true rfl, Nat.le_of_ble_eq_true rfl⟩ rfl hl.1 rfl (Nat.le_of_ble_eq_true rfl) dX0_cellsOf_40 ⟨Nat.le_of_ble_eq_true rfl, Nat.le_of_ble_eq_true rfl⟩) (fun En qx17 w14 H locs hp16 hB hE => ?_) (fun w14 H locs hp16 hB => ?_)
        · obtain ⟨rfl, hp16⟩ := hp16
          rcases hp16 with ⟨hp16, rfl⟩
          · replace hB : xB E (xA w sz) s w _ _ := hB.forget (fun x e h => by rw [va_up_n _ _ (fun z => by rw [z, hq8] at h; cases h)]; exact h)
            exact e_out hB hE hout hlocks ⟨rfl, (Or.inr (Or.inr (Or.inr (⟨⟨fun h => (by cases h), hlt, by omega, by omega⟩, rfl⟩))))⟩ (Nat.le_of_ble_eq_true rfl) (Nat.le_of_ble_eq_true rfl)
        · exact absurd hp16.2 (by decide)
      · refine lv_iload_n hx hb dX0_cellsOf_27 rfl (lv_at hl 4 rfl) ?_
        refine lv_iload hx hb dX0_cellsOf_28 (lv_at hl 1 rfl) ?_
        refine lv_iload_n hx hb dX0_cellsOf_30 rfl (lv_at hl 5 rfl) ?_
        refine x_isub (z := n - nn) hx hb dX0_cellsOf_31 (by omega) ?_
        refine x_icmp_gt (tgt := 39) hx hb dX0_cellsOf_32 (by decide) ⟨by omega, by omega⟩ ⟨by omega, by omega⟩ (fun c18 => ?_) (fun c18 => ?_)
        · refine lv_iconst (v := iI 0) hx hb dX0_cellsOf_39 rfl ?_
          refine g_callXv 7 1841 (Nat.le_of_ble_eq_true rfl) (Nat.le_of_ble_eq_true rfl) hB (rXS (As := [.int (iI 0)]) (n := 1) C hV hB (kX0_need l hfl E (va_up w q7 (some (xBy E ((nn).toNat) ((fun _ => 0))))) 0 (by decide) _) (lw_S q1186 q1187 q68 q1188) (by decide +kernel) ⟨Nat.le_of_ble_eq_true rfl, Nat.le_of_ble_eq_true rfl⟩ rfl hl.1 rfl (Nat.le_of_ble_eq_true rfl) dX0_cellsOf_40 ⟨Nat.le_of_ble_eq_true rfl, Nat.le_of_ble_eq_true rfl⟩) (fun En qx23 w20 H locs hp22 hB hE => ?_) (fun w20 H locs hp22 hB => ?_)
          · obtain ⟨rfl, hp22⟩ := hp22
            rcases hp22 with ⟨hp22, rfl⟩
            · replace hB : xB E (xA w sz) s w _ _ := hB.forget (fun x e h => by rw [va_up_n _ _ (fun z => by rw [z, hq8] at h; cases h)]; exact h)
              exact e_out hB hE hout hlocks ⟨rfl, (Or.inr (Or.inr (Or.inr (⟨⟨fun h => (by cases h), hlt, by omega, by omega⟩, rfl⟩))))⟩ (Nat.le_of_ble_eq_true rfl) (Nat.le_of_ble_eq_true rfl)
          · exact absurd hp22.2 (by decide)
        · refine lv_iconst (v := iI 1) hx hb dX0_cellsOf_35 rfl ?_
          refine lv_goto (tgt := 40) hx hb dX0_cellsOf_36 (by decide) ?_
          refine g_callXv 7 1841 (Nat.le_of_ble_eq_true rfl) (Nat.le_of_ble_eq_true rfl) hB (rXS (As := [.int (iI 1)]) (n := 1) C hV hB (kX0_need l hfl E (va_up w q7 (some (xBy E ((nn).toNat) ((fun _ => 0))))) 1 (by decide) _) (lw_S q1186 q1187 q68 q1188) (by decide +kernel) ⟨Nat.le_of_ble_eq_true rfl, Nat.le_of_ble_eq_true rfl⟩ rfl hl.1 rfl (Nat.le_of_ble_eq_true rfl) dX0_cellsOf_40 ⟨Nat.le_of_ble_eq_true rfl, Nat.le_of_ble_eq_true rfl⟩) (fun En qx28 w25 H locs hp27 hB hE => ?_) (fun w25 H locs hp27 hB => ?_)
          · obtain ⟨rfl, hp27⟩ := hp27
            rcases hp27 with ⟨hp27, rfl⟩
            · exact absurd hp27 (by decide)
          · obtain ⟨rfl, -⟩ := hp27
            refine lv_aload hx hb dX0_cellsOf_43 (lv_at hl 0 rfl) ?_
            refine x_alen C hB 1 rfl (va_up_s _ _ _) dX0_cellsOf_45 ?_
            refine x_nm (b := (((nn).toNat : Nat) : Int)) rfl ?_
            refine x_newp C hB (atype := .int) 0 rfl rfl (by decide) q213 ((nn).toNat) rfl (by omega) (show 7 + 1 ≤ 12 by omega) (show 1841 + ((nn).toNat) ≤ 2900 by omega) dX0_cellsOf_46 (fun q29 H hq30 hs31 hB => ?_)
            have hne32 : a ≠ q29 := fun e => by cases (hq30.symm.trans ((congrArg _ e.symm).trans ((va_up_n _ _ hne10).trans ha)))
            have hne33 : q7 ≠ q29 := fun e => by cases (hq30.symm.trans ((congrArg _ e.symm).trans (va_up_s _ _ _)))
            refine x_up (c2 := 8) (s2 := 1901) (by omega) (by omega) ?_
            replace hB : xB E (xA w sz) s (va_up (va_up w q7 (some (xBy E ((nn).toNat) ((fun _ => 0))))) q29 (some (xI E (((nn).toNat)) ((fun _ => 0))))) _ _ := hB
            refine lv_astore (lv' := [(6, .ref q29), (5, .ref q7), (4, .int (iI n)), (0, .ref a), (1, .int (iI lane)), (2, .int (iI i)), (3, .int (iI nn))]) hx hb dX0_cellsOf_48 hl (by decide) rfl (fun ls hl => ?_)
            refine lv_iconst (v := iI 0) hx hb dX0_cellsOf_50 rfl ?_
            refine lv_istore (lv' := [(7, .int (iI 0)), (6, .ref q29), (5, .ref q7), (4, .int (iI n)), (0, .ref a), (1, .int (iI lane)), (2, .int (iI i)), (3, .int (iI nn))]) hx hb dX0_cellsOf_51 hl (by decide) rfl (fun ls hl => ?_)
            refine w_loop (fun n37 H locs ls => ∃ (j : Nat) (g : Nat → Int), n37 = (nn).toNat - j ∧ (j ≤ (nn).toNat) ∧ (∀ k, k < j → g k = f (i.toNat + k)) ∧ xB E (xA w sz) s (va_up (va_up w q7 (some (xBy E ((nn).toNat) ((fun _ => 0))))) q29 (some (xI E ((nn).toNat) g))) H locs ∧ lv_has ls 8 [(0, .ref a), (1, .int (iI lane)), (2, .int (iI i)), (3, .int (iI nn)), (4, .int (iI n)), (5, .ref q7), (6, .ref q29), (7, .int (iI ((j : Int))))]) _ ⟨0, (fun _ => 0), rfl, (by omega), (fun k hk => absurd hk (by omega)), hB, lv_sub hl [4, 5, 6, 7, 3, 2, 1, 0] rfl⟩ ?_
            intro n37 H locs ls hI36 ih34
            obtain ⟨j, g, hn35, hj, hg, hB, hl⟩ := hI36
            refine lv_iload hx hb dX0_cellsOf_53 (lv_at hl 7 rfl) ?_
            refine lv_aload hx hb dX0_cellsOf_55 (lv_at hl 6 rfl) ?_
            refine x_alen C hB 0 rfl (va_up_s _ _ _) dX0_cellsOf_57 ?_
            refine x_nm (b := (((nn).toNat : Nat) : Int)) rfl ?_
            refine x_icmp_ge (tgt := 81) hx hb dX0_cellsOf_58 (by decide) ⟨by omega, by omega⟩ ⟨by omega, by omega⟩ (fun c38 => ?_) (fun c38 => ?_)
            · refine lv_aload hx hb dX0_cellsOf_81 (lv_at hl 6 rfl) ?_
              have hw6 : w q29 = none := by have h := hq30; rw [va_up_n _ _ (Ne.symm hne33)] at h; exact h
              replace hB : xB E (xA w sz) s (va_up w q29 (some (xI E ((nn).toNat) g))) _ _ := hB.forget (fun x e h => by
                by_cases g1 : x = q29
                · subst g1; rw [va_up_s] at h ⊢; exact h
                · rw [va_up_n _ _ g1] at h ⊢; rw [va_up_n _ _ (fun z => by rw [z, hq8] at h; cases h)]; exact h)
              refine vx_ret ?_
              exact g_qret C hB hr (Or.inr ⟨_, rfl⟩) hlocks ((some q29)) dX0_cellsOf_83 (Nat.le_of_ble_eq_true rfl) (Nat.le_of_ble_eq_true rfl) ⟨fun h => (by cases h), hlt, by omega, q29, g, rfl, hw6, rfl, fun k hk => hg k (by omega)⟩
            · refine lv_aload hx hb dX0_cellsOf_61 (lv_at hl 6 rfl) ?_
              refine lv_iload hx hb dX0_cellsOf_63 (lv_at hl 7 rfl) ?_
              refine lv_aload_n hx hb dX0_cellsOf_65 rfl (lv_at hl 0 rfl) ?_
              refine lv_iload_n hx hb dX0_cellsOf_66 rfl (lv_at hl 1 rfl) ?_
              refine lv_iload_n hx hb dX0_cellsOf_67 rfl (lv_at hl 2 rfl) ?_
              refine lv_iload hx hb dX0_cellsOf_68 (lv_at hl 7 rfl) ?_
              refine x_iadd (z := i + (j : Int)) hx hb dX0_cellsOf_70 (by omega) ?_
              refine g_calli 8 1901 (Nat.le_of_ble_eq_true rfl) (Nat.le_of_ble_eq_true rfl) hB (rS (As := [.ref a, .int (iI lane), .int (iI (i + (j : Int)))]) (n := 3) C hZ hB (kX0_cellOf_i l E (va_up (va_up w q7 (some (xBy E ((nn).toNat) ((fun _ => 0))))) q29 (some (xI E ((nn).toNat) g))) a t n f lane (i + (j : Int)) ((va_up_n _ _ hne32).trans ((va_up_n _ _ hne10).trans ha)) (by omega) (by omega) hlt (by omega) hf _) (lw_S q1042 q1043 q68 q1044) (by decide +kernel) ⟨Nat.le_of_ble_eq_true rfl, Nat.le_of_ble_eq_true rfl⟩ rfl hl.1 rfl (Nat.le_of_ble_eq_true rfl) dX0_cellsOf_71 ⟨Nat.le_of_ble_eq_true rfl, Nat.le_of_ble_eq_true rfl⟩) (fun z39 w40 H locs hz41 hp42 hB => ?_)
              obtain ⟨hz41a, hz41b⟩ := hz41
              obtain ⟨rfl, rfl⟩ := hp42
              refine x_nm (b := f (i.toNat + j)) (by congr 1; omega) ?_
              refine x_iast C hB (va_up_s _ _ _) j rfl (by omega) (by omega) dX0_cellsOf_74 (fun H locs hB => ?_)
              rw [bx_uu] at hB
              replace hB : xB E (xA w sz) s (va_up (va_up w q7 (some (xBy E ((nn).toNat) ((fun _ => 0))))) q29 (some (xI E ((nn).toNat) ((va_up g j (f (i.toNat + j))))))) _ _ := hB
              refine lv_iinc (v := iI ((j : Int) + 1)) (lv' := [(7, .int (iI ((j : Int) + 1))), (0, .ref a), (1, .int (iI lane)), (2, .int (iI i)), (3, .int (iI nn)), (4, .int (iI n)), (5, .ref q7), (6, .ref q29)]) hx hb dX0_cellsOf_75 hl (k := 7) rfl (iI_add _ _) (by decide) rfl (fun ls hl => ?_)
              refine lv_goto (tgt := 53) hx hb dX0_cellsOf_78 (by decide) ?_
              exact ih34 _ _ _ _ (by omega) ⟨(j + 1), (va_up g j (f (i.toNat + j))), rfl, (by omega), (fun k hk => if gk : k = j then by subst gk; exact va_up_s _ _ _ else by rw [va_up_n _ _ gk]; exact hg k (by omega)), hB, lv_sub hl [1, 2, 3, 4, 5, 6, 7, 0] rfl⟩
    · refine x_nm (b := 61) (by unfold imin; split <;> omega) ?_
      refine x_newp C hB (atype := .byte) 1 rfl rfl (by decide) q932 61 rfl (by omega) (Nat.le_of_ble_eq_true rfl) (Nat.le_of_ble_eq_true rfl) dX0_cellsOf_13 (fun q43 H hq44 hs45 hB => ?_)
      have hne46 : a ≠ q43 := fun e => by cases (hq44.symm.trans ((congrArg _ e.symm).trans ha))
      refine x_up (c2 := 4) (s2 := 951) (Nat.le_of_ble_eq_true rfl) (Nat.le_of_ble_eq_true rfl) ?_
      replace hB : xB E (xA w sz) s (va_up w q43 (some (xBy E 61 ((fun _ => 0))))) _ _ := hB
      refine lv_astore (lv' := [(5, .ref q43), (4, .int (iI n)), (0, .ref a), (1, .int (iI lane)), (2, .int (iI i)), (3, .int (iI nn))]) hx hb dX0_cellsOf_15 hl (by decide) rfl (fun ls hl => ?_)
      refine lv_iload_n hx hb dX0_cellsOf_17 rfl (lv_at hl 5 rfl) ?_
      refine lv_bipush (v := iI 61) hx hb dX0_cellsOf_18 rfl ?_
      refine x_icmp_ge (tgt := 39) hx hb dX0_cellsOf_20 (by decide) ⟨by omega, by omega⟩ ⟨by decide, by decide⟩ (fun c47 => ?_) (fun c47 => by exfalso; omega)
      refine lv_iconst (v := iI 0) hx hb dX0_cellsOf_39 rfl ?_
      refine g_callXv 7 1841 (Nat.le_of_ble_eq_true rfl) (Nat.le_of_ble_eq_true rfl) hB (rXS (As := [.int (iI 0)]) (n := 1) C hV hB (kX0_need l hfl E (va_up w q43 (some (xBy E 61 ((fun _ => 0))))) 0 (by decide) _) (lw_S q1186 q1187 q68 q1188) (by decide +kernel) ⟨Nat.le_of_ble_eq_true rfl, Nat.le_of_ble_eq_true rfl⟩ rfl hl.1 rfl (Nat.le_of_ble_eq_true rfl) dX0_cellsOf_40 ⟨Nat.le_of_ble_eq_true rfl, Nat.le_of_ble_eq_true rfl⟩) (fun En qx52 w49 H locs hp51 hB hE => ?_) (fun w49 H locs hp51 hB => ?_)
      · obtain ⟨rfl, hp51⟩ := hp51
        rcases hp51 with ⟨hp51, rfl⟩
        · replace hB : xB E (xA w sz) s w _ _ := hB.forget (fun x e h => by rw [va_up_n _ _ (fun z => by rw [z, hq44] at h; cases h)]; exact h)
          exact e_out hB hE hout hlocks ⟨rfl, (Or.inr (Or.inr (Or.inr (⟨⟨fun h => (by cases h), hlt, by omega, by omega⟩, rfl⟩))))⟩ (Nat.le_of_ble_eq_true rfl) (Nat.le_of_ble_eq_true rfl)
      · exact absurd hp51.2 (by decide)
