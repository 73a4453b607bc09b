/-! THE COMPONENT: pure statics -/
set_option maxRecDepth 100000
theorem iI_wrap (z : Int) : iI (z - 4294967296) = iI z := by
  rw [Int.sub_eq_add_neg, ← iI_add, show iI (-4294967296) = 0 from by decide]
  exact Int32.add_zero _
set_option maxHeartbeats 400000 in
set_option maxRecDepth 100000 in
theorem kX0_in (l : Launch) (E : xE) (v : Int) (lo : Int) (hi : Int) (hv : rgl v) (hlo : rgl lo) (hhi : rgl hi) : si_ l E yX0_in cX0_in 6 (some .boolean) 0 0 [.long (lI v), .long (lI lo), .long (lI hi)] (fun z => (z = 1 ∧ lo ≤ v ∧ v ≤ hi) ∨ (z = 0 ∧ ¬ (lo ≤ v ∧ v ≤ hi))) := by
  intro w sz
  refine x_body (by decide) (Nat.le_of_ble_eq_true rfl) ?_
  intro p e s m args below meth c ls hx hb C hr hlocks _ hsz hB hl
  have C : xC E p s m args c cX0_in 6 RX0 := C
  have hl : lv_has ls 6 [(0, .long (lI v)), (2, .long (lI lo)), (4, .long (lI hi))] := hl
  obtain ⟨hv1, hv2⟩ := hv
  obtain ⟨hlo1, hlo2⟩ := hlo
  obtain ⟨hhi1, hhi2⟩ := hhi
  refine lv_lload_n hx hb dX0_in_0 rfl (lv_at hl 0 rfl) ?_
  refine lv_lload_n hx hb dX0_in_1 rfl (lv_at hl 1 rfl) ?_
  refine x_lcmp hx hb dX0_in_2 ⟨by omega, by omega⟩ ⟨by omega, by omega⟩ (fun z1 k2a k2b k2c => ?_)
  rcases (show (v < lo ∧ z1 = -1) ∨ (v = lo ∧ z1 = 0) ∨ (lo < v ∧ z1 = 1) by omega) with ⟨k2, rfl⟩ | ⟨k2, rfl⟩ | ⟨k2, rfl⟩
  · refine x_if_lt (tgt := 17) hx hb dX0_in_3 (by decide) ⟨by decide, by decide⟩ (fun c3 => ?_) (fun c3 => by exfalso; omega)
    refine lv_iconst (v := iI 0) hx hb dX0_in_17 rfl ?_
    exact s_iret C hB hr hlocks rfl dX0_in_18 ⟨by decide, by decide⟩ (by omega)
  · refine x_if_lt (tgt := 17) hx hb dX0_in_3 (by decide) ⟨by decide, by decide⟩ (fun c4 => by exfalso; omega) (fun c4 => ?_)
    refine lv_lload_n hx hb dX0_in_6 rfl (lv_at hl 0 rfl) ?_
    refine lv_lload hx hb dX0_in_7 (lv_at hl 2 rfl) ?_
    refine x_lcmp hx hb dX0_in_9 ⟨by omega, by omega⟩ ⟨by omega, by omega⟩ (fun z5 k6a k6b k6c => ?_)
    rcases (show (v < hi ∧ z5 = -1) ∨ (v = hi ∧ z5 = 0) ∨ (hi < v ∧ z5 = 1) by omega) with ⟨k6, rfl⟩ | ⟨k6, rfl⟩ | ⟨k6, rfl⟩
    · refine x_if_gt (tgt := 17) hx hb dX0_in_10 (by decide) ⟨by decide, by decide⟩ (fun c7 => by exfalso; omega) (fun c7 => ?_)
      refine lv_iconst (v := iI 1) hx hb dX0_in_13 rfl ?_
      refine lv_goto (tgt := 18) hx hb dX0_in_14 (by decide) ?_
      exact s_iret C hB hr hlocks rfl dX0_in_18 ⟨by decide, by decide⟩ (by omega)
    · refine x_if_gt (tgt := 17) hx hb dX0_in_10 (by decide) ⟨by decide, by decide⟩ (fun c8 => by exfalso; omega) (fun c8 => ?_)
      refine lv_iconst (v := iI 1) hx hb dX0_in_13 rfl ?_
      refine lv_goto (tgt := 18) hx hb dX0_in_14 (by decide) ?_
      exact s_iret C hB hr hlocks rfl dX0_in_18 ⟨by decide, by decide⟩ (by omega)
    · refine x_if_gt (tgt := 17) hx hb dX0_in_10 (by decide) ⟨by decide, by decide⟩ (fun c9 => ?_) (fun c9 => by exfalso; omega)
      refine lv_iconst (v := iI 0) hx hb dX0_in_17 rfl ?_
      exact s_iret C hB hr hlocks rfl dX0_in_18 ⟨by decide, by decide⟩ (by omega)
  · refine x_if_lt (tgt := 17) hx hb dX0_in_3 (by decide) ⟨by decide, by decide⟩ (fun c10 => by exfalso; omega) (fun c10 => ?_)
    refine lv_lload_n hx hb dX0_in_6 rfl (lv_at hl 0 rfl) ?_
    refine lv_lload hx hb dX0_in_7 (lv_at hl 2 rfl) ?_
    refine x_lcmp hx hb dX0_in_9 ⟨by omega, by omega⟩ ⟨by omega, by omega⟩ (fun z11 k12a k12b k12c => ?_)
    rcases (show (v < hi ∧ z11 = -1) ∨ (v = hi ∧ z11 = 0) ∨ (hi < v ∧ z11 = 1) by omega) with ⟨k12, rfl⟩ | ⟨k12, rfl⟩ | ⟨k12, rfl⟩
    · refine x_if_gt (tgt := 17) hx hb dX0_in_10 (by decide) ⟨by decide, by decide⟩ (fun c13 => by exfalso; omega) (fun c13 => ?_)
      refine lv_iconst (v := iI 1) hx hb dX0_in_13 rfl ?_
      refine lv_goto (tgt := 18) hx hb dX0_in_14 (by decide) ?_
      exact s_iret C hB hr hlocks rfl dX0_in_18 ⟨by decide, by decide⟩ (by omega)
    · refine x_if_gt (tgt := 17) hx hb dX0_in_10 (by decide) ⟨by decide, by decide⟩ (fun c14 => by exfalso; omega) (fun c14 => ?_)
      refine lv_iconst (v := iI 1) hx hb dX0_in_13 rfl ?_
      refine lv_goto (tgt := 18) hx hb dX0_in_14 (by decide) ?_
      exact s_iret C hB hr hlocks rfl dX0_in_18 ⟨by decide, by decide⟩ (by omega)
    · refine x_if_gt (tgt := 17) hx hb dX0_in_10 (by decide) ⟨by decide, by decide⟩ (fun c15 => ?_) (fun c15 => by exfalso; omega)
      refine lv_iconst (v := iI 0) hx hb dX0_in_17 rfl ?_
      exact s_iret C hB hr hlocks rfl dX0_in_18 ⟨by decide, by decide⟩ (by omega)
set_option maxHeartbeats 400000 in
set_option maxRecDepth 100000 in
theorem kX0_leftOf (l : Launch) (E : xE) (so : Int) (hs : rg so) : si_ l E yX0_leftOf cX0_leftOf 1 (some .int) 0 0 [.int (iI so)] (fun z => (so = 2 ∧ z = 0) ∨ (so = 3 ∧ z = 2) ∨ (so ≠ 2 ∧ so ≠ 3 ∧ z = 1)) := by
  intro w sz
  refine x_body (by decide) (Nat.le_of_ble_eq_true rfl) ?_
  intro p e s m args below meth c ls hx hb C hr hlocks _ hsz hB hl
  have C : xC E p s m args c cX0_leftOf 1 RX0 := C
  have hl : lv_has ls 1 [(0, .int (iI so))] := hl
  obtain ⟨hs1, hs2⟩ := hs
  refine lv_iload_n hx hb dX0_leftOf_0 rfl (lv_at hl 0 rfl) ?_
  refine lv_iconst (v := iI 2) hx hb dX0_leftOf_1 rfl ?_
  refine x_icmp_ne (tgt := 9) hx hb dX0_leftOf_2 (by decide) ⟨by omega, by omega⟩ ⟨by decide, by decide⟩ (fun c1 => ?_) (fun c1 => ?_)
  · refine lv_iload_n hx hb dX0_leftOf_9 rfl (lv_at hl 0 rfl) ?_
    refine lv_iconst (v := iI 3) hx hb dX0_leftOf_10 rfl ?_
    refine x_icmp_ne (tgt := 18) hx hb dX0_leftOf_11 (by decide) ⟨by omega, by omega⟩ ⟨by decide, by decide⟩ (fun c2 => ?_) (fun c2 => ?_)
    · refine lv_iconst (v := iI 1) hx hb dX0_leftOf_18 rfl ?_
      exact s_iret C hB hr hlocks rfl dX0_leftOf_19 ⟨by decide, by decide⟩ (by omega)
    · refine lv_iconst (v := iI 2) hx hb dX0_leftOf_14 rfl ?_
      refine lv_goto (tgt := 19) hx hb dX0_leftOf_15 (by decide) ?_
      exact s_iret C hB hr hlocks rfl dX0_leftOf_19 ⟨by decide, by decide⟩ (by omega)
  · refine lv_iconst (v := iI 0) hx hb dX0_leftOf_5 rfl ?_
    refine lv_goto (tgt := 19) hx hb dX0_leftOf_6 (by decide) ?_
    exact s_iret C hB hr hlocks rfl dX0_leftOf_19 ⟨by decide, by decide⟩ (by omega)
set_option maxHeartbeats 400000 in
set_option maxRecDepth 100000 in
theorem kX0_rightOf (l : Launch) (E : xE) (so : Int) (hs : rg so) : si_ l E yX0_rightOf cX0_rightOf 1 (some .int) 0 0 [.int (iI so)] (fun z => (so = 1 ∧ z = 0) ∨ (so = 4 ∧ z = 2) ∨ (so ≠ 1 ∧ so ≠ 4 ∧ z = 1)) := by
  intro w sz
  refine x_body (by decide) (Nat.le_of_ble_eq_true rfl) ?_
  intro p e s m args below meth c ls hx hb C hr hlocks _ hsz hB hl
  have C : xC E p s m args c cX0_rightOf 1 RX0 := C
  have hl : lv_has ls 1 [(0, .int (iI so))] := hl
  obtain ⟨hs1, hs2⟩ := hs
  refine lv_iload_n hx hb dX0_rightOf_0 rfl (lv_at hl 0 rfl) ?_
  refine lv_iconst (v := iI 1) hx hb dX0_rightOf_1 rfl ?_
  refine x_icmp_ne (tgt := 9) hx hb dX0_rightOf_2 (by decide) ⟨by omega, by omega⟩ ⟨by decide, by decide⟩ (fun c1 => ?_) (fun c1 => ?_)
  · refine lv_iload_n hx hb dX0_rightOf_9 rfl (lv_at hl 0 rfl) ?_
    refine lv_iconst (v := iI 4) hx hb dX0_rightOf_10 rfl ?_
    refine x_icmp_ne (tgt := 18) hx hb dX0_rightOf_11 (by decide) ⟨by omega, by omega⟩ ⟨by decide, by decide⟩ (fun c2 => ?_) (fun c2 => ?_)
    · refine lv_iconst (v := iI 1) hx hb dX0_rightOf_18 rfl ?_
      exact s_iret C hB hr hlocks rfl dX0_rightOf_19 ⟨by decide, by decide⟩ (by omega)
    · refine lv_iconst (v := iI 2) hx hb dX0_rightOf_14 rfl ?_
      refine lv_goto (tgt := 19) hx hb dX0_rightOf_15 (by decide) ?_
      exact s_iret C hB hr hlocks rfl dX0_rightOf_19 ⟨by decide, by decide⟩ (by omega)
  · refine lv_iconst (v := iI 0) hx hb dX0_rightOf_5 rfl ?_
    refine lv_goto (tgt := 19) hx hb dX0_rightOf_6 (by decide) ?_
    exact s_iret C hB hr hlocks rfl dX0_rightOf_19 ⟨by decide, by decide⟩ (by omega)
set_option maxHeartbeats 400000 in
set_option maxRecDepth 100000 in
theorem kX0_anchorBit (l : Launch) (E : xE) (x : Int) (hx0 : 0 ≤ x ∧ x ≤ 4) : si_ l E yX0_anchorBit cX0_anchorBit 1 (some .int) 0 0 [.int (iI x)] (fun z => z = aset x) := by
  intro w sz
  refine x_body (by decide) (Nat.le_of_ble_eq_true rfl) ?_
  intro p e s m args below meth c ls hx hb C hr hlocks _ hsz hB hl
  have C : xC E p s m args c cX0_anchorBit 1 RX0 := C
  have hl : lv_has ls 1 [(0, .int (iI x))] := hl
  have := rg_shl 1 x
  refine lv_iload_n hx hb dX0_anchorBit_0 rfl (lv_at hl 0 rfl) ?_
  refine lv_iconst (v := iI 4) hx hb dX0_anchorBit_1 rfl ?_
  refine x_icmp_ne (tgt := 9) hx hb dX0_anchorBit_2 (by decide) ⟨by omega, by omega⟩ ⟨by decide, by decide⟩ (fun c1 => ?_) (fun c1 => ?_)
  · refine lv_iconst (v := iI 1) hx hb dX0_anchorBit_9 rfl ?_
    refine lv_iload_n hx hb dX0_anchorBit_10 rfl (lv_at hl 0 rfl) ?_
    refine x_ishl hx hb dX0_anchorBit_11 ?_
    exact s_iret C hB hr hlocks rfl dX0_anchorBit_12 ⟨by omega, by omega⟩ (by unfold aset; rw [if_neg (by omega)])
  · refine lv_iconst (v := iI 0) hx hb dX0_anchorBit_5 rfl ?_
    refine lv_goto (tgt := 12) hx hb dX0_anchorBit_6 (by decide) ?_
    exact s_iret C hB hr hlocks rfl dX0_anchorBit_12 ⟨by decide, by decide⟩ (by unfold aset; rw [if_pos (by omega)])
set_option maxHeartbeats 400000 in
set_option maxRecDepth 100000 in
theorem kX0_orNone (l : Launch) (E : xE) (v : Int) (hv : rg v) : si_ l E yX0_orNone cX0_orNone 1 (some .int) 0 0 [.int (iI v)] (fun z => z = (if 100000 ≤ v then -9 else v)) := by
  intro w sz
  refine x_body (by decide) (Nat.le_of_ble_eq_true rfl) ?_
  intro p e s m args below meth c ls hx hb C hr hlocks _ hsz hB hl
  have C : xC E p s m args c cX0_orNone 1 RX0 := C
  have hl : lv_has ls 1 [(0, .int (iI v))] := hl
  obtain ⟨hv1, hv2⟩ := hv
  refine lv_iload_n hx hb dX0_orNone_0 rfl (lv_at hl 0 rfl) ?_
  refine lv_ldc hx hb C.1.2.2.2.1 (C.1.2.2.2.2 _ q438) dX0_orNone_1 ?_
  refine x_rw (y := iI 100000) (by decide) ?_
  refine x_icmp_lt (tgt := 11) hx hb dX0_orNone_3 (by decide) ⟨by omega, by omega⟩ ⟨by decide, by decide⟩ (fun c1 => ?_) (fun c1 => ?_)
  · refine lv_iload_n hx hb dX0_orNone_11 rfl (lv_at hl 0 rfl) ?_
    exact s_iret C hB hr hlocks rfl dX0_orNone_12 ⟨by omega, by omega⟩ (by split <;> omega)
  · refine lv_bipush (v := iI (-9)) hx hb dX0_orNone_6 rfl ?_
    refine lv_goto (tgt := 12) hx hb dX0_orNone_8 (by decide) ?_
    exact s_iret C hB hr hlocks rfl dX0_orNone_12 ⟨by decide, by decide⟩ (by split <;> omega)
set_option maxHeartbeats 400000 in
set_option maxRecDepth 100000 in
theorem kX0_noSheet (l : Launch) (E : xE) (k : Int) (hk : rg k) : si_ l E yX0_noSheet cX0_noSheet 1 (some .boolean) 1 25 [.int (iI k)] (fun z => (z = 1 ∧ ¬ (0 ≤ k ∧ k ≤ 3)) ∨ (z = 0 ∧ (0 ≤ k ∧ k ≤ 3))) := by
  intro w sz
  refine x_body (by decide) (Nat.le_of_ble_eq_true rfl) ?_
  intro p e s m args below meth c ls hx hb C hr hlocks _ hsz hB hl
  have C : xC E p s m args c cX0_noSheet 1 RX0 := C
  have hl : lv_has ls 1 [(0, .int (iI k))] := hl
  obtain ⟨hk1, hk2⟩ := hk
  refine lv_iload_n hx hb dX0_noSheet_0 rfl (lv_at hl 0 rfl) ?_
  refine x_i2l hx hb dX0_noSheet_1 ⟨by omega, by omega⟩ ?_
  refine lv_lconst (v := lI 0) hx hb dX0_noSheet_2 rfl ?_
  refine lv_ldc2 hx hb C.1.2.2.2.1 (C.1.2.2.2.2 _ q602) dX0_noSheet_3 ?_
  refine x_rwl (y := lI 3) (by decide) ?_
  refine s_calli (n := 3) C hB (As := [.long (lI k), .long (lI 0), .long (lI 3)]) (kX0_in l E k 0 3 ⟨by omega, by omega⟩ ⟨by omega, by omega⟩ ⟨by omega, by omega⟩) (lw_S q234 q235 q68 q236) (by decide +kernel) ⟨Nat.le_of_ble_eq_true rfl, Nat.le_of_ble_eq_true rfl⟩ rfl hl.1 rfl (Nat.le_of_ble_eq_true rfl) dX0_noSheet_6 ⟨Nat.zero_le _, Nat.zero_le _⟩ (fun z1 H locs hz2 hp3 hB => ?_)
  obtain ⟨hz2a, hz2b⟩ := hz2
  rcases hp3 with ⟨rfl, h4⟩ | ⟨rfl, h4⟩
  · refine x_if_ne (tgt := 16) hx hb dX0_noSheet_9 (by decide) ⟨by decide, by decide⟩ (fun c5 => ?_) (fun c5 => by exfalso; omega)
    refine lv_iconst (v := iI 0) hx hb dX0_noSheet_16 rfl ?_
    exact s_iret C hB hr hlocks rfl dX0_noSheet_17 ⟨by decide, by decide⟩ (by omega)
  · refine x_if_ne (tgt := 16) hx hb dX0_noSheet_9 (by decide) ⟨by decide, by decide⟩ (fun c6 => by exfalso; omega) (fun c6 => ?_)
    refine lv_iconst (v := iI 1) hx hb dX0_noSheet_12 rfl ?_
    refine lv_goto (tgt := 17) hx hb dX0_noSheet_13 (by decide) ?_
    exact s_iret C hB hr hlocks rfl dX0_noSheet_17 ⟨by decide, by decide⟩ (by omega)
set_option maxHeartbeats 400000 in
set_option maxRecDepth 100000 in
theorem kX0_isAsTold (l : Launch) (E : xE) (a : Int) (act : Int) (ha : rg a) (hact : rg act) : si_ l E yX0_isAsTold cX0_isAsTold 2 (some .boolean) 1 25 [.int (iI a), .int (iI act)] (fun z => (z = 1 ∧ isPr a act) ∨ (z = 0 ∧ ¬ isPr a act)) := by
  intro w sz
  refine x_body (by decide) (Nat.le_of_ble_eq_true rfl) ?_
  intro p e s m args below meth c ls hx hb C hr hlocks _ hsz hB hl
  have C : xC E p s m args c cX0_isAsTold 2 RX0 := C
  have hl : lv_has ls 2 [(0, .int (iI a)), (1, .int (iI act))] := hl
  obtain ⟨ha1, ha2⟩ := ha
  obtain ⟨hact1, hact2⟩ := hact
  refine lv_iload_n hx hb dX0_isAsTold_0 rfl (lv_at hl 1 rfl) ?_
  refine x_i2l hx hb dX0_isAsTold_1 ⟨by omega, by omega⟩ ?_
  refine lv_lconst (v := lI 0) hx hb dX0_isAsTold_2 rfl ?_
  refine lv_ldc2 hx hb C.1.2.2.2.1 (C.1.2.2.2.2 _ q1228) dX0_isAsTold_3 ?_
  refine x_rwl (y := lI 6) (by decide) ?_
  refine s_calli (n := 3) C hB (As := [.long (lI act), .long (lI 0), .long (lI 6)]) (kX0_in l E act 0 6 ⟨by omega, by omega⟩ ⟨by omega, by omega⟩ ⟨by omega, by omega⟩) (lw_S q234 q235 q68 q236) (by decide +kernel) ⟨Nat.le_of_ble_eq_true rfl, Nat.le_of_ble_eq_true rfl⟩ rfl hl.1 rfl (Nat.le_of_ble_eq_true rfl) dX0_isAsTold_6 ⟨Nat.zero_le _, Nat.zero_le _⟩ (fun z1 H locs hz2 hp3 hB => ?_)
  obtain ⟨hz2a, hz2b⟩ := hz2
  rcases hp3 with ⟨rfl, h4⟩ | ⟨rfl, h4⟩
  · refine x_if_ne (tgt := 26) hx hb dX0_isAsTold_9 (by decide) ⟨by decide, by decide⟩ (fun c5 => ?_) (fun c5 => by exfalso; omega)
    refine lv_iload_n hx hb dX0_isAsTold_26 rfl (lv_at hl 0 rfl) ?_
    refine x_i2l hx hb dX0_isAsTold_27 ⟨by omega, by omega⟩ ?_
    refine lv_lconst (v := lI 1) hx hb dX0_isAsTold_28 rfl ?_
    refine lv_ldc2 hx hb C.1.2.2.2.1 (C.1.2.2.2.2 _ q254) dX0_isAsTold_29 ?_
    refine x_rwl (y := lI 9) (by decide) ?_
    refine s_calli (n := 3) C hB (As := [.long (lI a), .long (lI 1), .long (lI 9)]) (kX0_in l E a 1 9 ⟨by omega, by omega⟩ ⟨by omega, by omega⟩ ⟨by omega, by omega⟩) (lw_S q234 q235 q68 q236) (by decide +kernel) ⟨Nat.le_of_ble_eq_true rfl, Nat.le_of_ble_eq_true rfl⟩ rfl hl.1 rfl (Nat.le_of_ble_eq_true rfl) dX0_isAsTold_32 ⟨Nat.zero_le _, Nat.zero_le _⟩ (fun z6 H locs hz7 hp8 hB => ?_)
    obtain ⟨hz7a, hz7b⟩ := hz7
    rcases hp8 with ⟨rfl, h9⟩ | ⟨rfl, h9⟩
    · exact s_iret C hB hr hlocks rfl dX0_isAsTold_35 ⟨by decide, by decide⟩ (by first | exact Or.inl ⟨rfl, by unfold isPr; (repeat' split) <;> omega⟩ | exact Or.inr ⟨rfl, fun h => by unfold isPr at h; (repeat' split at h) <;> omega⟩)
    · exact s_iret C hB hr hlocks rfl dX0_isAsTold_35 ⟨by decide, by decide⟩ (by first | exact Or.inl ⟨rfl, by unfold isPr; (repeat' split) <;> omega⟩ | exact Or.inr ⟨rfl, fun h => by unfold isPr at h; (repeat' split at h) <;> omega⟩)
  · refine x_if_ne (tgt := 26) hx hb dX0_isAsTold_9 (by decide) ⟨by decide, by decide⟩ (fun c10 => by exfalso; omega) (fun c10 => ?_)
    refine lv_iload_n hx hb dX0_isAsTold_12 rfl (lv_at hl 1 rfl) ?_
    refine x_i2l hx hb dX0_isAsTold_13 ⟨by omega, by omega⟩ ?_
    refine lv_ldc2 hx hb C.1.2.2.2.1 (C.1.2.2.2.2 _ q1216) dX0_isAsTold_14 ?_
    refine x_rwl (y := lI 10) (by decide) ?_
    refine lv_ldc2 hx hb C.1.2.2.2.1 (C.1.2.2.2.2 _ q1217) dX0_isAsTold_17 ?_
    refine x_rwl (y := lI 16) (by decide) ?_
    refine s_calli (n := 3) C hB (As := [.long (lI act), .long (lI 10), .long (lI 16)]) (kX0_in l E act 10 16 ⟨by omega, by omega⟩ ⟨by omega, by omega⟩ ⟨by omega, by omega⟩) (lw_S q234 q235 q68 q236) (by decide +kernel) ⟨Nat.le_of_ble_eq_true rfl, Nat.le_of_ble_eq_true rfl⟩ rfl hl.1 rfl (Nat.le_of_ble_eq_true rfl) dX0_isAsTold_20 ⟨Nat.zero_le _, Nat.zero_le _⟩ (fun z11 H locs hz12 hp13 hB => ?_)
    obtain ⟨hz12a, hz12b⟩ := hz12
    rcases hp13 with ⟨rfl, h14⟩ | ⟨rfl, h14⟩
    · refine x_if_eq (tgt := 36) hx hb dX0_isAsTold_23 (by decide) ⟨by decide, by decide⟩ (fun c15 => by exfalso; omega) (fun c15 => ?_)
      refine lv_iload_n hx hb dX0_isAsTold_26 rfl (lv_at hl 0 rfl) ?_
      refine x_i2l hx hb dX0_isAsTold_27 ⟨by omega, by omega⟩ ?_
      refine lv_lconst (v := lI 1) hx hb dX0_isAsTold_28 rfl ?_
      refine lv_ldc2 hx hb C.1.2.2.2.1 (C.1.2.2.2.2 _ q254) dX0_isAsTold_29 ?_
      refine x_rwl (y := lI 9) (by decide) ?_
      refine s_calli (n := 3) C hB (As := [.long (lI a), .long (lI 1), .long (lI 9)]) (kX0_in l E a 1 9 ⟨by omega, by omega⟩ ⟨by omega, by omega⟩ ⟨by omega, by omega⟩) (lw_S q234 q235 q68 q236) (by decide +kernel) ⟨Nat.le_of_ble_eq_true rfl, Nat.le_of_ble_eq_true rfl⟩ rfl hl.1 rfl (Nat.le_of_ble_eq_true rfl) dX0_isAsTold_32 ⟨Nat.zero_le _, Nat.zero_le _⟩ (fun z16 H locs hz17 hp18 hB => ?_)
      obtain ⟨hz17a, hz17b⟩ := hz17
      rcases hp18 with ⟨rfl, h19⟩ | ⟨rfl, h19⟩
      · exact s_iret C hB hr hlocks rfl dX0_isAsTold_35 ⟨by decide, by decide⟩ (by first | exact Or.inl ⟨rfl, by unfold isPr; (repeat' split) <;> omega⟩ | exact Or.inr ⟨rfl, fun h => by unfold isPr at h; (repeat' split at h) <;> omega⟩)
      · exact s_iret C hB hr hlocks rfl dX0_isAsTold_35 ⟨by decide, by decide⟩ (by first | exact Or.inl ⟨rfl, by unfold isPr; (repeat' split) <;> omega⟩ | exact Or.inr ⟨rfl, fun h => by unfold isPr at h; (repeat' split at h) <;> omega⟩)
    · refine x_if_eq (tgt := 36) hx hb dX0_isAsTold_23 (by decide) ⟨by decide, by decide⟩ (fun c20 => ?_) (fun c20 => by exfalso; omega)
      refine lv_iload_n hx hb dX0_isAsTold_36 rfl (lv_at hl 1 rfl) ?_
      refine x_i2l hx hb dX0_isAsTold_37 ⟨by omega, by omega⟩ ?_
      refine lv_ldc2 hx hb C.1.2.2.2.1 (C.1.2.2.2.2 _ q1215) dX0_isAsTold_38 ?_
      refine x_rwl (y := lI 20) (by decide) ?_
      refine lv_ldc2 hx hb C.1.2.2.2.1 (C.1.2.2.2.2 _ q1229) dX0_isAsTold_41 ?_
      refine x_rwl (y := lI 22) (by decide) ?_
      refine s_calli (n := 3) C hB (As := [.long (lI act), .long (lI 20), .long (lI 22)]) (kX0_in l E act 20 22 ⟨by omega, by omega⟩ ⟨by omega, by omega⟩ ⟨by omega, by omega⟩) (lw_S q234 q235 q68 q236) (by decide +kernel) ⟨Nat.le_of_ble_eq_true rfl, Nat.le_of_ble_eq_true rfl⟩ rfl hl.1 rfl (Nat.le_of_ble_eq_true rfl) dX0_isAsTold_44 ⟨Nat.zero_le _, Nat.zero_le _⟩ (fun z21 H locs hz22 hp23 hB => ?_)
      obtain ⟨hz22a, hz22b⟩ := hz22
      rcases hp23 with ⟨rfl, h24⟩ | ⟨rfl, h24⟩
      · refine x_if_eq (tgt := 78) hx hb dX0_isAsTold_47 (by decide) ⟨by decide, by decide⟩ (fun c25 => by exfalso; omega) (fun c25 => ?_)
        refine lv_iload_n hx hb dX0_isAsTold_50 rfl (lv_at hl 0 rfl) ?_
        refine x_i2l hx hb dX0_isAsTold_51 ⟨by omega, by omega⟩ ?_
        refine lv_lconst (v := lI 0) hx hb dX0_isAsTold_52 rfl ?_
        refine lv_iload_n hx hb dX0_isAsTold_53 rfl (lv_at hl 1 rfl) ?_
        refine lv_bipush (v := iI 22) hx hb dX0_isAsTold_54 rfl ?_
        refine x_icmp_ne (tgt := 65) hx hb dX0_isAsTold_56 (by decide) ⟨by omega, by omega⟩ ⟨by decide, by decide⟩ (fun c26 => ?_) (fun c26 => ?_)
        · refine lv_ldc2 hx hb C.1.2.2.2.1 (C.1.2.2.2.2 _ q254) dX0_isAsTold_65 ?_
          refine x_rwl (y := lI 9) (by decide) ?_
          refine s_calli (n := 3) C hB (As := [.long (lI a), .long (lI 0), .long (lI 9)]) (kX0_in l E a 0 9 ⟨by omega, by omega⟩ ⟨by omega, by omega⟩ ⟨by omega, by omega⟩) (lw_S q234 q235 q68 q236) (by decide +kernel) ⟨Nat.le_of_ble_eq_true rfl, Nat.le_of_ble_eq_true rfl⟩ rfl hl.1 rfl (Nat.le_of_ble_eq_true rfl) dX0_isAsTold_68 ⟨Nat.zero_le _, Nat.zero_le _⟩ (fun z27 H locs hz28 hp29 hB => ?_)
          obtain ⟨hz28a, hz28b⟩ := hz28
          rcases hp29 with ⟨rfl, h30⟩ | ⟨rfl, h30⟩
          · refine x_if_eq (tgt := 78) hx hb dX0_isAsTold_71 (by decide) ⟨by decide, by decide⟩ (fun c31 => by exfalso; omega) (fun c31 => ?_)
            refine lv_iconst (v := iI 1) hx hb dX0_isAsTold_74 rfl ?_
            refine lv_goto (tgt := 79) hx hb dX0_isAsTold_75 (by decide) ?_
            exact s_iret C hB hr hlocks rfl dX0_isAsTold_79 ⟨by decide, by decide⟩ (by first | exact Or.inl ⟨rfl, by unfold isPr; (repeat' split) <;> omega⟩ | exact Or.inr ⟨rfl, fun h => by unfold isPr at h; (repeat' split at h) <;> omega⟩)
          · refine x_if_eq (tgt := 78) hx hb dX0_isAsTold_71 (by decide) ⟨by decide, by decide⟩ (fun c32 => ?_) (fun c32 => by exfalso; omega)
            refine lv_iconst (v := iI 0) hx hb dX0_isAsTold_78 rfl ?_
            exact s_iret C hB hr hlocks rfl dX0_isAsTold_79 ⟨by decide, by decide⟩ (by first | exact Or.inl ⟨rfl, by unfold isPr; (repeat' split) <;> omega⟩ | exact Or.inr ⟨rfl, fun h => by unfold isPr at h; (repeat' split at h) <;> omega⟩)
        · refine lv_ldc2 hx hb C.1.2.2.2.1 (C.1.2.2.2.2 _ q288) dX0_isAsTold_59 ?_
          refine x_rwl (y := lI 7) (by decide) ?_
          refine lv_goto (tgt := 68) hx hb dX0_isAsTold_62 (by decide) ?_
          refine s_calli (n := 3) C hB (As := [.long (lI a), .long (lI 0), .long (lI 7)]) (kX0_in l E a 0 7 ⟨by omega, by omega⟩ ⟨by omega, by omega⟩ ⟨by omega, by omega⟩) (lw_S q234 q235 q68 q236) (by decide +kernel) ⟨Nat.le_of_ble_eq_true rfl, Nat.le_of_ble_eq_true rfl⟩ rfl hl.1 rfl (Nat.le_of_ble_eq_true rfl) dX0_isAsTold_68 ⟨Nat.zero_le _, Nat.zero_le _⟩ (fun z33 H locs hz34 hp35 hB => ?_)
          obtain ⟨hz34a, hz34b⟩ := hz34
          rcases hp35 with ⟨rfl, h36⟩ | ⟨rfl, h36⟩
          · refine x_if_eq (tgt := 78) hx hb dX0_isAsTold_71 (by decide) ⟨by decide, by decide⟩ (fun c37 => by exfalso; omega) (fun c37 => ?_)
            refine lv_iconst (v := iI 1) hx hb dX0_isAsTold_74 rfl ?_
            refine lv_goto (tgt := 79) hx hb dX0_isAsTold_75 (by decide) ?_
            exact s_iret C hB hr hlocks rfl dX0_isAsTold_79 ⟨by decide, by decide⟩ (by first | exact Or.inl ⟨rfl, by unfold isPr; (repeat' split) <;> omega⟩ | exact Or.inr ⟨rfl, fun h => by unfold isPr at h; (repeat' split at h) <;> omega⟩)
          · refine x_if_eq (tgt := 78) hx hb dX0_isAsTold_71 (by decide) ⟨by decide, by decide⟩ (fun c38 => ?_) (fun c38 => by exfalso; omega)
            refine lv_iconst (v := iI 0) hx hb dX0_isAsTold_78 rfl ?_
            exact s_iret C hB hr hlocks rfl dX0_isAsTold_79 ⟨by decide, by decide⟩ (by first | exact Or.inl ⟨rfl, by unfold isPr; (repeat' split) <;> omega⟩ | exact Or.inr ⟨rfl, fun h => by unfold isPr at h; (repeat' split at h) <;> omega⟩)
      · refine x_if_eq (tgt := 78) hx hb dX0_isAsTold_47 (by decide) ⟨by decide, by decide⟩ (fun c39 => ?_) (fun c39 => by exfalso; omega)
        refine lv_iconst (v := iI 0) hx hb dX0_isAsTold_78 rfl ?_
        exact s_iret C hB hr hlocks rfl dX0_isAsTold_79 ⟨by decide, by decide⟩ (by first | exact Or.inl ⟨rfl, by unfold isPr; (repeat' split) <;> omega⟩ | exact Or.inr ⟨rfl, fun h => by unfold isPr at h; (repeat' split at h) <;> omega⟩)
set_option maxHeartbeats 400000 in
set_option maxRecDepth 100000 in
theorem kX0_greatestOf (l : Launch) (E : xE) (u : Nat) (dd : Nat) (hu : u ≤ 1000) (hd : dd ≤ 1000) : sl_ l E yX0_greatestOf cX0_greatestOf 10 (some .long) 0 0 [.long (lI ((u : Int))), .long (lI ((dd : Int)))] (fun z => z = ((Nat.gcd u dd : Nat) : Int)) := by
  intro w sz
  refine x_body (by decide) (Nat.le_of_ble_eq_true rfl) ?_
  intro p e s m args below meth c ls hx hb C hr hlocks _ hsz hB hl
  have C : xC E p s m args c cX0_greatestOf 10 RX0 := C
  have hl : lv_has ls 10 [(0, .long (lI ((u : Int)))), (2, .long (lI ((dd : Int))))] := hl
  refine lv_lload_n hx hb dX0_greatestOf_0 rfl (lv_at hl 0 rfl) ?_
  refine lv_lstore (lv' := [(4, .long (lI ((u : Int)))), (0, .long (lI ((u : Int)))), (2, .long (lI ((dd : Int))))]) hx hb dX0_greatestOf_1 hl (by decide) rfl (fun ls hl => ?_)
  refine lv_lload_n hx hb dX0_greatestOf_3 rfl (lv_at hl 2 rfl) ?_
  refine lv_lstore (lv' := [(6, .long (lI ((dd : Int)))), (4, .long (lI ((u : Int)))), (0, .long (lI ((u : Int)))), (2, .long (lI ((dd : Int))))]) hx hb dX0_greatestOf_4 hl (by decide) rfl (fun ls hl => ?_)
  refine w_loop (fun n4 H locs ls => ∃ (x : Nat) (y : Nat), n4 = y ∧ (Nat.gcd x y = Nat.gcd u dd) ∧ (x ≤ 1000) ∧ (y ≤ 1000) ∧ xB E (xA w sz) s w H locs ∧ lv_has ls 10 [(0, .long (lI ((u : Int)))), (2, .long (lI ((dd : Int)))), (4, .long (lI ((x : Int)))), (6, .long (lI ((y : Int))))]) _ ⟨u, dd, rfl, rfl, by omega, by omega, hB, lv_sub hl [2, 3, 1, 0] rfl⟩ ?_
  intro n4 H locs ls hI3 ih1
  obtain ⟨x, y, hn2, hgc, hx1, hy1, hB, hl⟩ := hI3
  refine lv_lload hx hb dX0_greatestOf_6 (lv_at hl 3 rfl) ?_
  refine lv_lconst (v := lI 0) hx hb dX0_greatestOf_8 rfl ?_
  refine x_lcmp hx hb dX0_greatestOf_9 ⟨by omega, by omega⟩ ⟨by decide, by decide⟩ (fun z5 k6a k6b k6c => ?_)
  rcases (show ((y : Int) = 0 ∧ z5 = 0) ∨ (0 < (y : Int) ∧ z5 = 1) by omega) with ⟨k6, rfl⟩ | ⟨k6, rfl⟩
  · refine x_if_eq (tgt := 31) hx hb dX0_greatestOf_10 (by decide) ⟨by decide, by decide⟩ (fun c7 => ?_) (fun c7 => by exfalso; omega)
    have hy0 : y = 0 := by omega
    subst hy0
    rw [Nat.gcd_zero_right] at hgc
    refine lv_lload hx hb dX0_greatestOf_31 (lv_at hl 2 rfl) ?_
    exact s_lret C hB hr hlocks dX0_greatestOf_33 ⟨by omega, by omega⟩ (by rw [← hgc])
  · refine x_if_eq (tgt := 31) hx hb dX0_greatestOf_10 (by decide) ⟨by decide, by decide⟩ (fun c8 => by exfalso; omega) (fun c8 => ?_)
    refine lv_lload hx hb dX0_greatestOf_13 (lv_at hl 2 rfl) ?_
    refine lv_lload hx hb dX0_greatestOf_15 (lv_at hl 3 rfl) ?_
    refine x_lrem (a := x) (b := y) hx hb dX0_greatestOf_17 (by omega) (by omega) (by omega) ?_
    refine lv_lstore (lv' := [(8, .long (lI (((x % y : Nat) : Int)))), (0, .long (lI ((u : Int)))), (2, .long (lI ((dd : Int)))), (4, .long (lI ((x : Int)))), (6, .long (lI ((y : Int))))]) hx hb dX0_greatestOf_18 hl (by decide) rfl (fun ls hl => ?_)
    refine lv_lload hx hb dX0_greatestOf_20 (lv_at hl 4 rfl) ?_
    refine lv_lstore (lv' := [(4, .long (lI ((y : Int)))), (8, .long (lI (((x % y : Nat) : Int)))), (0, .long (lI ((u : Int)))), (2, .long (lI ((dd : Int)))), (6, .long (lI ((y : Int))))]) hx hb dX0_greatestOf_22 hl (by decide) rfl (fun ls hl => ?_)
    refine lv_lload hx hb dX0_greatestOf_24 (lv_at hl 1 rfl) ?_
    refine lv_lstore (lv' := [(6, .long (lI (((x % y : Nat) : Int)))), (4, .long (lI ((y : Int)))), (8, .long (lI (((x % y : Nat) : Int)))), (0, .long (lI ((u : Int)))), (2, .long (lI ((dd : Int))))]) hx hb dX0_greatestOf_26 hl (by decide) rfl (fun ls hl => ?_)
    have hmod := Nat.mod_lt x (show 0 < y by omega)
    refine lv_goto (tgt := 6) hx hb dX0_greatestOf_28 (by decide) ?_
    exact ih1 _ _ _ _ (by omega) ⟨y, x % y, rfl, by rw [← hgc, Nat.gcd_comm x y, Nat.gcd_rec y x, Nat.gcd_comm (x % y) y], hy1, Nat.le_of_lt (Nat.lt_of_lt_of_le (Nat.mod_lt x (by omega)) hy1), hB, lv_sub hl [3, 4, 1, 0] rfl⟩
set_option maxHeartbeats 800000 in
set_option maxRecDepth 100000 in
theorem kX0_codeAt (l : Launch) (E : xE) (w : xw) (q : Nat) (n : Nat) (f : Nat → Int) (t : Nat) (hq : w q = some (xI E n f)) (hn : n ≤ 60) (hfr : ∀ j, rg (f j)) (ht : t ≤ 1000) : gi_ l E yX0_codeAt cX0_codeAt 2 (some .int) 0 0 0 0 [.ref q, .int (iI ((t : Int)))] w (fun z w' => w = w' ∧ z = (if t < n then f t else -9)) := by
  intro sz
  refine x_bodyz (by decide) (Nat.le_of_ble_eq_true rfl) ?_
  intro p e s m args below meth c ls hx hb C hr hlocks hin hsz hZ hB hl
  have C : xC E p s m args c cX0_codeAt 2 RX0 := C
  have hl : lv_has ls 2 [(0, .ref q), (1, .int (iI ((t : Int))))] := hl
  refine lv_iload_n hx hb dX0_codeAt_0 rfl (lv_at hl 1 rfl) ?_
  refine lv_aload_n hx hb dX0_codeAt_1 rfl (lv_at hl 0 rfl) ?_
  refine x_alen C hB 0 rfl hq dX0_codeAt_2 ?_
  refine x_nm (b := (n : Int)) rfl ?_
  refine x_icmp_ge (tgt := 12) hx hb dX0_codeAt_3 (by decide) ⟨by omega, by omega⟩ ⟨by omega, by omega⟩ (fun c1 => ?_) (fun c1 => ?_)
  · refine lv_bipush (v := iI (-9)) hx hb dX0_codeAt_12 rfl ?_
    exact g_iret C hB hr hlocks rfl dX0_codeAt_14 (Nat.le_of_ble_eq_true rfl) (Nat.le_of_ble_eq_true rfl) ⟨by decide, by decide⟩ ⟨rfl, (if_neg (by omega)).symm⟩
  · have hft := hfr t
    refine lv_aload_n hx hb dX0_codeAt_6 rfl (lv_at hl 0 rfl) ?_
    refine lv_iload_n hx hb dX0_codeAt_7 rfl (lv_at hl 1 rfl) ?_
    refine x_iald C hB hq t rfl (by omega) (by omega) dX0_codeAt_8 ?_
    refine lv_goto (tgt := 14) hx hb dX0_codeAt_9 (by decide) ?_
    exact g_iret C hB hr hlocks rfl dX0_codeAt_14 (Nat.le_of_ble_eq_true rfl) (Nat.le_of_ble_eq_true rfl) ⟨by omega, by omega⟩ ⟨rfl, (if_pos (by omega)).symm⟩
set_option maxHeartbeats 800000 in
set_option maxRecDepth 100000 in
theorem kX0_lettersAt (l : Launch) (E : xE) (w : xw) (q : Nat) (n : Nat) (f : Nat → Int) (t : Nat) (hq : w q = some (xI E n f)) (hn : n ≤ 60) (hfr : ∀ j, rg (f j)) (ht : t ≤ 1000) : gi_ l E yX0_lettersAt cX0_lettersAt 3 (some .int) 1 25 0 0 [.ref q, .int (iI ((t : Int)))] w (fun z w' => w = w' ∧ z = lOf (if t < n then f t else -9)) := by
  intro sz
  refine x_bodyz (by decide) (Nat.le_of_ble_eq_true rfl) ?_
  intro p e s m args below meth c ls hx hb C hr hlocks hin hsz hZ hB hl
  have C : xC E p s m args c cX0_lettersAt 3 RX0 := C
  have hl : lv_has ls 3 [(0, .ref q), (1, .int (iI ((t : Int))))] := hl
  refine lv_aload_n hx hb dX0_lettersAt_0 rfl (lv_at hl 0 rfl) ?_
  refine lv_iload_n hx hb dX0_lettersAt_1 rfl (lv_at hl 1 rfl) ?_
  refine g_calli 0 0 (Nat.le_of_ble_eq_true rfl) (Nat.le_of_ble_eq_true rfl) hB (rS (As := [.ref q, .int (iI ((t : Int)))]) (n := 2) C hZ hB (kX0_codeAt l E w q n f t hq hn hfr (by omega) _) (lw_S q1058 q1059 q68 q1060) (by decide +kernel) ⟨Nat.le_of_ble_eq_true rfl, Nat.le_of_ble_eq_true rfl⟩ rfl hl.1 rfl (Nat.le_of_ble_eq_true rfl) dX0_lettersAt_2 ⟨Nat.le_of_ble_eq_true rfl, Nat.le_of_ble_eq_true rfl⟩) (fun z1 w2 H locs hz3 hp4 hB => ?_)
  obtain ⟨hz3a, hz3b⟩ := hz3
  obtain ⟨rfl, hcd⟩ := hp4
  have hcr : -9 ≤ z1 ∨ True := Or.inr trivial
  refine lv_bipush (v := iI 48) hx hb dX0_lettersAt_5 rfl ?_
  refine x_isub (z := z1 - 48) hx hb dX0_lettersAt_7 (by omega) ?_
  rcases (show -2147483648 ≤ z1 - 48 ∨ z1 - 48 < -2147483648 by omega) with h5 | h5
  · refine lv_istore_n (lv' := [(2, .int (iI (z1 - 48))), (0, .ref q), (1, .int (iI ((t : Int))))]) hx hb dX0_lettersAt_8 rfl hl (by decide) rfl (fun ls hl => ?_)
    refine lv_iload_n hx hb dX0_lettersAt_9 rfl (lv_at hl 0 rfl) ?_
    refine x_i2l hx hb dX0_lettersAt_10 ⟨by omega, by omega⟩ ?_
    refine lv_lconst (v := lI 1) hx hb dX0_lettersAt_11 rfl ?_
    refine lv_ldc2 hx hb C.1.2.2.2.1 (C.1.2.2.2.2 _ q254) dX0_lettersAt_12 ?_
    refine x_rwl (y := lI 9) (by decide) ?_
    refine s_calli (n := 3) C hB (As := [.long (lI (z1 - 48)), .long (lI 1), .long (lI 9)]) (kX0_in l E (z1 - 48) 1 9 ⟨by omega, by omega⟩ ⟨by omega, by omega⟩ ⟨by omega, by omega⟩) (lw_S q234 q235 q68 q236) (by decide +kernel) ⟨Nat.le_of_ble_eq_true rfl, Nat.le_of_ble_eq_true rfl⟩ rfl hl.1 rfl (Nat.le_of_ble_eq_true rfl) dX0_lettersAt_15 ⟨Nat.le_of_ble_eq_true rfl, Nat.le_of_ble_eq_true rfl⟩ (fun z6 H locs hz7 hp8 hB => ?_)
    obtain ⟨hz7a, hz7b⟩ := hz7
    rcases hp8 with ⟨rfl, h9⟩ | ⟨rfl, h9⟩
    · refine x_if_eq (tgt := 25) hx hb dX0_lettersAt_18 (by decide) ⟨by decide, by decide⟩ (fun c10 => by exfalso; omega) (fun c10 => ?_)
      refine lv_iload_n hx hb dX0_lettersAt_21 rfl (lv_at hl 0 rfl) ?_
      refine lv_goto (tgt := 27) hx hb dX0_lettersAt_22 (by decide) ?_
      exact g_iret C hB hr hlocks rfl dX0_lettersAt_27 (Nat.le_of_ble_eq_true rfl) (Nat.le_of_ble_eq_true rfl) ⟨by omega, by omega⟩ ⟨rfl, by rw [← hcd]; unfold lOf; split <;> omega⟩
    · refine x_if_eq (tgt := 25) hx hb dX0_lettersAt_18 (by decide) ⟨by decide, by decide⟩ (fun c11 => ?_) (fun c11 => by exfalso; omega)
      refine lv_bipush (v := iI (-9)) hx hb dX0_lettersAt_25 rfl ?_
      exact g_iret C hB hr hlocks rfl dX0_lettersAt_27 (Nat.le_of_ble_eq_true rfl) (Nat.le_of_ble_eq_true rfl) ⟨by decide, by decide⟩ ⟨rfl, by rw [← hcd]; unfold lOf; split <;> omega⟩
  · refine x_rw (y := iI (z1 + 4294967248)) ((congrArg iI (show (z1 - 48 : Int) = z1 + 4294967248 - 4294967296 by omega)).trans (iI_wrap _)) ?_
    refine lv_istore_n (lv' := [(2, .int (iI (z1 + 4294967248))), (0, .ref q), (1, .int (iI ((t : Int))))]) hx hb dX0_lettersAt_8 rfl hl (by decide) rfl (fun ls hl => ?_)
    refine lv_iload_n hx hb dX0_lettersAt_9 rfl (lv_at hl 0 rfl) ?_
    refine x_i2l hx hb dX0_lettersAt_10 ⟨by omega, by omega⟩ ?_
    refine lv_lconst (v := lI 1) hx hb dX0_lettersAt_11 rfl ?_
    refine lv_ldc2 hx hb C.1.2.2.2.1 (C.1.2.2.2.2 _ q254) dX0_lettersAt_12 ?_
    refine x_rwl (y := lI 9) (by decide) ?_
    refine s_calli (n := 3) C hB (As := [.long (lI (z1 + 4294967248)), .long (lI 1), .long (lI 9)]) (kX0_in l E (z1 + 4294967248) 1 9 ⟨by omega, by omega⟩ ⟨by omega, by omega⟩ ⟨by omega, by omega⟩) (lw_S q234 q235 q68 q236) (by decide +kernel) ⟨Nat.le_of_ble_eq_true rfl, Nat.le_of_ble_eq_true rfl⟩ rfl hl.1 rfl (Nat.le_of_ble_eq_true rfl) dX0_lettersAt_15 ⟨Nat.le_of_ble_eq_true rfl, Nat.le_of_ble_eq_true rfl⟩ (fun z12 H locs hz13 hp14 hB => ?_)
    obtain ⟨hz13a, hz13b⟩ := hz13
    rcases hp14 with ⟨rfl, h15⟩ | ⟨rfl, h15⟩
    · refine x_if_eq (tgt := 25) hx hb dX0_lettersAt_18 (by decide) ⟨by decide, by decide⟩ (fun c16 => by exfalso; omega) (fun c16 => ?_)
      refine lv_iload_n hx hb dX0_lettersAt_21 rfl (lv_at hl 0 rfl) ?_
      refine lv_goto (tgt := 27) hx hb dX0_lettersAt_22 (by decide) ?_
      exact g_iret C hB hr hlocks rfl dX0_lettersAt_27 (Nat.le_of_ble_eq_true rfl) (Nat.le_of_ble_eq_true rfl) ⟨by omega, by omega⟩ ⟨rfl, by rw [← hcd]; unfold lOf; split <;> omega⟩
    · refine x_if_eq (tgt := 25) hx hb dX0_lettersAt_18 (by decide) ⟨by decide, by decide⟩ (fun c17 => ?_) (fun c17 => by exfalso; omega)
      refine lv_bipush (v := iI (-9)) hx hb dX0_lettersAt_25 rfl ?_
      exact g_iret C hB hr hlocks rfl dX0_lettersAt_27 (Nat.le_of_ble_eq_true rfl) (Nat.le_of_ble_eq_true rfl) ⟨by decide, by decide⟩ ⟨rfl, by rw [← hcd]; unfold lOf; split <;> omega⟩
set_option maxHeartbeats 800000 in
set_option maxRecDepth 100000 in
theorem kX0_anchorAt (l : Launch) (E : xE) (w : xw) (q : Nat) (n : Nat) (f : Nat → Int) (t : Nat) (hq : w q = some (xI E n f)) (hn : n ≤ 60) (hfr : ∀ j, rg (f j)) (ht : t ≤ 1000) : gi_ l E yX0_anchorAt cX0_anchorAt 3 (some .int) 1 25 0 0 [.ref q, .int (iI ((t : Int)))] w (fun z w' => w = w' ∧ z = aOf (if t < n then f t else -9)) := by
  intro sz
  refine x_bodyz (by decide) (Nat.le_of_ble_eq_true rfl) ?_
  intro p e s m args below meth c ls hx hb C hr hlocks hin hsz hZ hB hl
  have C : xC E p s m args c cX0_anchorAt 3 RX0 := C
  have hl : lv_has ls 3 [(0, .ref q), (1, .int (iI ((t : Int))))] := hl
  refine lv_aload_n hx hb dX0_anchorAt_0 rfl (lv_at hl 0 rfl) ?_
  refine lv_iload_n hx hb dX0_anchorAt_1 rfl (lv_at hl 1 rfl) ?_
  refine g_calli 0 0 (Nat.le_of_ble_eq_true rfl) (Nat.le_of_ble_eq_true rfl) hB (rS (As := [.ref q, .int (iI ((t : Int)))]) (n := 2) C hZ hB (kX0_codeAt l E w q n f t hq hn hfr (by omega) _) (lw_S q1058 q1059 q68 q1060) (by decide +kernel) ⟨Nat.le_of_ble_eq_true rfl, Nat.le_of_ble_eq_true rfl⟩ rfl hl.1 rfl (Nat.le_of_ble_eq_true rfl) dX0_anchorAt_2 ⟨Nat.le_of_ble_eq_true rfl, Nat.le_of_ble_eq_true rfl⟩) (fun z1 w2 H locs hz3 hp4 hB => ?_)
  obtain ⟨hz3a, hz3b⟩ := hz3
  obtain ⟨rfl, hcd⟩ := hp4
  refine lv_istore_n (lv' := [(2, .int (iI z1)), (0, .ref q), (1, .int (iI ((t : Int))))]) hx hb dX0_anchorAt_5 rfl hl (by decide) rfl (fun ls hl => ?_)
  refine lv_iload_n hx hb dX0_anchorAt_6 rfl (lv_at hl 0 rfl) ?_
  refine lv_bipush (v := iI 45) hx hb dX0_anchorAt_7 rfl ?_
  refine x_icmp_ne (tgt := 16) hx hb dX0_anchorAt_9 (by decide) ⟨by omega, by omega⟩ ⟨by decide, by decide⟩ (fun c5 => ?_) (fun c5 => ?_)
  · refine lv_iload_n hx hb dX0_anchorAt_16 rfl (lv_at hl 0 rfl) ?_
    refine lv_bipush (v := iI 97) hx hb dX0_anchorAt_17 rfl ?_
    refine x_isub (z := z1 - 97) hx hb dX0_anchorAt_19 (by omega) ?_
    rcases (show -2147483648 ≤ z1 - 97 ∨ z1 - 97 < -2147483648 by omega) with h6 | h6
    · refine x_i2l hx hb dX0_anchorAt_20 ⟨by omega, by omega⟩ ?_
      refine lv_lconst (v := lI 0) hx hb dX0_anchorAt_21 rfl ?_
      refine lv_ldc2 hx hb C.1.2.2.2.1 (C.1.2.2.2.2 _ q602) dX0_anchorAt_22 ?_
      refine x_rwl (y := lI 3) (by decide) ?_
      refine s_calli (n := 3) C hB (As := [.long (lI (z1 - 97)), .long (lI 0), .long (lI 3)]) (kX0_in l E (z1 - 97) 0 3 ⟨by omega, by omega⟩ ⟨by omega, by omega⟩ ⟨by omega, by omega⟩) (lw_S q234 q235 q68 q236) (by decide +kernel) ⟨Nat.le_of_ble_eq_true rfl, Nat.le_of_ble_eq_true rfl⟩ rfl hl.1 rfl (Nat.le_of_ble_eq_true rfl) dX0_anchorAt_25 ⟨Nat.le_of_ble_eq_true rfl, Nat.le_of_ble_eq_true rfl⟩ (fun z7 H locs hz8 hp9 hB => ?_)
      obtain ⟨hz8a, hz8b⟩ := hz8
      rcases hp9 with ⟨rfl, h10⟩ | ⟨rfl, h10⟩
      · refine x_if_eq (tgt := 38) hx hb dX0_anchorAt_28 (by decide) ⟨by decide, by decide⟩ (fun c11 => by exfalso; omega) (fun c11 => ?_)
        refine lv_iload_n hx hb dX0_anchorAt_31 rfl (lv_at hl 0 rfl) ?_
        refine lv_bipush (v := iI 97) hx hb dX0_anchorAt_32 rfl ?_
        refine x_isub (z := z1 - 97) hx hb dX0_anchorAt_34 (by omega) ?_
        refine lv_goto (tgt := 40) hx hb dX0_anchorAt_35 (by decide) ?_
        exact g_iret C hB hr hlocks rfl dX0_anchorAt_40 (Nat.le_of_ble_eq_true rfl) (Nat.le_of_ble_eq_true rfl) ⟨by omega, by omega⟩ ⟨rfl, by rw [← hcd]; unfold aOf; (repeat' split) <;> omega⟩
      · refine x_if_eq (tgt := 38) hx hb dX0_anchorAt_28 (by decide) ⟨by decide, by decide⟩ (fun c12 => ?_) (fun c12 => by exfalso; omega)
        refine lv_bipush (v := iI (-9)) hx hb dX0_anchorAt_38 rfl ?_
        exact g_iret C hB hr hlocks rfl dX0_anchorAt_40 (Nat.le_of_ble_eq_true rfl) (Nat.le_of_ble_eq_true rfl) ⟨by decide, by decide⟩ ⟨rfl, by rw [← hcd]; unfold aOf; (repeat' split) <;> omega⟩
    · refine x_rw (y := iI (z1 + 4294967199)) ((congrArg iI (show (z1 - 97 : Int) = z1 + 4294967199 - 4294967296 by omega)).trans (iI_wrap _)) ?_
      refine x_i2l hx hb dX0_anchorAt_20 ⟨by omega, by omega⟩ ?_
      refine lv_lconst (v := lI 0) hx hb dX0_anchorAt_21 rfl ?_
      refine lv_ldc2 hx hb C.1.2.2.2.1 (C.1.2.2.2.2 _ q602) dX0_anchorAt_22 ?_
      refine x_rwl (y := lI 3) (by decide) ?_
      refine s_calli (n := 3) C hB (As := [.long (lI (z1 + 4294967199)), .long (lI 0), .long (lI 3)]) (kX0_in l E (z1 + 4294967199) 0 3 ⟨by omega, by omega⟩ ⟨by omega, by omega⟩ ⟨by omega, by omega⟩) (lw_S q234 q235 q68 q236) (by decide +kernel) ⟨Nat.le_of_ble_eq_true rfl, Nat.le_of_ble_eq_true rfl⟩ rfl hl.1 rfl (Nat.le_of_ble_eq_true rfl) dX0_anchorAt_25 ⟨Nat.le_of_ble_eq_true rfl, Nat.le_of_ble_eq_true rfl⟩ (fun z13 H locs hz14 hp15 hB => ?_)
      obtain ⟨hz14a, hz14b⟩ := hz14
      rcases hp15 with ⟨rfl, h16⟩ | ⟨rfl, h16⟩
      · refine x_if_eq (tgt := 38) hx hb dX0_anchorAt_28 (by decide) ⟨by decide, by decide⟩ (fun c17 => by exfalso; omega) (fun c17 => ?_)
        refine lv_iload_n hx hb dX0_anchorAt_31 rfl (lv_at hl 0 rfl) ?_
        refine lv_bipush (v := iI 97) hx hb dX0_anchorAt_32 rfl ?_
        refine x_isub (z := z1 - 97) hx hb dX0_anchorAt_34 (by omega) ?_
        refine lv_goto (tgt := 40) hx hb dX0_anchorAt_35 (by decide) ?_
        exact g_iret C hB hr hlocks rfl dX0_anchorAt_40 (Nat.le_of_ble_eq_true rfl) (Nat.le_of_ble_eq_true rfl) ⟨by omega, by omega⟩ ⟨rfl, by rw [← hcd]; unfold aOf; (repeat' split) <;> omega⟩
      · refine x_if_eq (tgt := 38) hx hb dX0_anchorAt_28 (by decide) ⟨by decide, by decide⟩ (fun c18 => ?_) (fun c18 => by exfalso; omega)
        refine lv_bipush (v := iI (-9)) hx hb dX0_anchorAt_38 rfl ?_
        exact g_iret C hB hr hlocks rfl dX0_anchorAt_40 (Nat.le_of_ble_eq_true rfl) (Nat.le_of_ble_eq_true rfl) ⟨by decide, by decide⟩ ⟨rfl, by rw [← hcd]; unfold aOf; (repeat' split) <;> omega⟩
  · refine lv_iconst (v := iI 4) hx hb dX0_anchorAt_12 rfl ?_
    refine lv_goto (tgt := 40) hx hb dX0_anchorAt_13 (by decide) ?_
    exact g_iret C hB hr hlocks rfl dX0_anchorAt_40 (Nat.le_of_ble_eq_true rfl) (Nat.le_of_ble_eq_true rfl) ⟨by decide, by decide⟩ ⟨rfl, by rw [← hcd]; unfold aOf; (repeat' split) <;> omega⟩
