/-! THE MODEL, 1: small ones -/
set_option maxHeartbeats 400000 in
set_option maxRecDepth 100000 in
theorem kX3_within (l : Launch) (E : xE) (v : Int) (lo : Int) (hi : Int) (hv : rg v) (hlo : rg lo) (hhi : rg hi) : si_ l E yX3_within cX3_within 3 (some .boolean) 0 0 [.int (iI v), .int (iI lo), .int (iI hi)] (fun z => (z = 1 ∧ lo ≤ v ∧ v ≤ hi) ∨ (z = 0 ∧ ¬ (lo ≤ v ∧ v ≤ hi))) := by
  intro w sz
  refine x_body (by decide) (Nat.le_of_ble_eq_true rfl) ?_
  intro p e s m args below meth c ls hx hb C hr hlocks _ hsz hB hl
  have C : xC E p s m args c cX3_within 3 RX3 := C
  have hl : lv_has ls 3 [(0, .int (iI v)), (1, .int (iI lo)), (2, .int (iI hi))] := hl
  obtain ⟨hv1, hv2⟩ := hv
  obtain ⟨hlo1, hlo2⟩ := hlo
  obtain ⟨hhi1, hhi2⟩ := hhi
  refine lv_iload_n hx hb dX3_within_0 rfl (lv_at hl 0 rfl) ?_
  refine lv_iload_n hx hb dX3_within_1 rfl (lv_at hl 1 rfl) ?_
  refine x_icmp_lt (tgt := 14) hx hb dX3_within_2 (by decide) ⟨by omega, by omega⟩ ⟨by omega, by omega⟩ (fun c1 => ?_) (fun c1 => ?_)
  · refine lv_iconst (v := iI 0) hx hb dX3_within_14 rfl ?_
    exact s_iret C hB hr hlocks rfl dX3_within_15 ⟨by decide, by decide⟩ (by omega)
  · refine lv_iload_n hx hb dX3_within_5 rfl (lv_at hl 0 rfl) ?_
    refine lv_iload_n hx hb dX3_within_6 rfl (lv_at hl 2 rfl) ?_
    refine x_icmp_gt (tgt := 14) hx hb dX3_within_7 (by decide) ⟨by omega, by omega⟩ ⟨by omega, by omega⟩ (fun c2 => ?_) (fun c2 => ?_)
    · refine lv_iconst (v := iI 0) hx hb dX3_within_14 rfl ?_
      exact s_iret C hB hr hlocks rfl dX3_within_15 ⟨by decide, by decide⟩ (by omega)
    · refine lv_iconst (v := iI 1) hx hb dX3_within_10 rfl ?_
      refine lv_goto (tgt := 15) hx hb dX3_within_11 (by decide) ?_
      exact s_iret C hB hr hlocks rfl dX3_within_15 ⟨by decide, by decide⟩ (by omega)
set_option maxHeartbeats 400000 in
set_option maxRecDepth 100000 in
theorem kX3_isSheet (l : Launch) (E : xE) (k : Int) (hk : rg k) : si_ l E yX3_isSheet cX3_isSheet 1 (some .boolean) 1 22 [.int (iI k)] (fun z => (z = 1 ∧ 0 ≤ k ∧ k ≤ 3) ∨ (z = 0 ∧ ¬ (0 ≤ k ∧ k ≤ 3))) := by
  intro w sz
  refine x_body (by decide) (Nat.le_of_ble_eq_true rfl) ?_
  intro p e s m args below meth c ls hx hb C hr hlocks _ hsz hB hl
  have C : xC E p s m args c cX3_isSheet 1 RX3 := C
  have hl : lv_has ls 1 [(0, .int (iI k))] := hl
  obtain ⟨hk1, hk2⟩ := hk
  refine lv_iload_n hx hb dX3_isSheet_0 rfl (lv_at hl 0 rfl) ?_
  refine lv_iconst (v := iI 0) hx hb dX3_isSheet_1 rfl ?_
  refine lv_iconst (v := iI 3) hx hb dX3_isSheet_2 rfl ?_
  refine s_calli (n := 3) C hB (As := [.int (iI k), .int (iI 0), .int (iI 3)]) (kX3_within l E k 0 3 ⟨by omega, by omega⟩ ⟨by omega, by omega⟩ ⟨by omega, by omega⟩) (lw_S q1498 q1499 q77 q1500) (by decide +kernel) ⟨Nat.le_of_ble_eq_true rfl, Nat.le_of_ble_eq_true rfl⟩ rfl hl.1 rfl (Nat.le_of_ble_eq_true rfl) dX3_isSheet_3 ⟨Nat.zero_le _, Nat.zero_le _⟩ (fun z1 H locs hz2 hp3 hB => ?_)
  obtain ⟨hz2a, hz2b⟩ := hz2
  rcases hp3 with ⟨rfl, h4⟩ | ⟨rfl, h4⟩
  · exact s_iret C hB hr hlocks rfl dX3_isSheet_6 ⟨by decide, by decide⟩ (by omega)
  · exact s_iret C hB hr hlocks rfl dX3_isSheet_6 ⟨by decide, by decide⟩ (by omega)
set_option maxHeartbeats 400000 in
set_option maxRecDepth 100000 in
theorem kX3_isSort (l : Launch) (E : xE) (k : Int) (hk : rg k) : si_ l E yX3_isSort cX3_isSort 1 (some .boolean) 1 22 [.int (iI k)] (fun z => (z = 1 ∧ 0 ≤ k ∧ k ≤ 2) ∨ (z = 0 ∧ ¬ (0 ≤ k ∧ k ≤ 2))) := by
  intro w sz
  refine x_body (by decide) (Nat.le_of_ble_eq_true rfl) ?_
  intro p e s m args below meth c ls hx hb C hr hlocks _ hsz hB hl
  have C : xC E p s m args c cX3_isSort 1 RX3 := C
  have hl : lv_has ls 1 [(0, .int (iI k))] := hl
  obtain ⟨hk1, hk2⟩ := hk
  refine lv_iload_n hx hb dX3_isSort_0 rfl (lv_at hl 0 rfl) ?_
  refine lv_iconst (v := iI 0) hx hb dX3_isSort_1 rfl ?_
  refine lv_iconst (v := iI 2) hx hb dX3_isSort_2 rfl ?_
  refine s_calli (n := 3) C hB (As := [.int (iI k), .int (iI 0), .int (iI 2)]) (kX3_within l E k 0 2 ⟨by omega, by omega⟩ ⟨by omega, by omega⟩ ⟨by omega, by omega⟩) (lw_S q1498 q1499 q77 q1500) (by decide +kernel) ⟨Nat.le_of_ble_eq_true rfl, Nat.le_of_ble_eq_true rfl⟩ rfl hl.1 rfl (Nat.le_of_ble_eq_true rfl) dX3_isSort_3 ⟨Nat.zero_le _, Nat.zero_le _⟩ (fun z1 H locs hz2 hp3 hB => ?_)
  obtain ⟨hz2a, hz2b⟩ := hz2
  rcases hp3 with ⟨rfl, h4⟩ | ⟨rfl, h4⟩
  · exact s_iret C hB hr hlocks rfl dX3_isSort_6 ⟨by decide, by decide⟩ (by omega)
  · exact s_iret C hB hr hlocks rfl dX3_isSort_6 ⟨by decide, by decide⟩ (by omega)
set_option maxHeartbeats 400000 in
set_option maxRecDepth 100000 in
theorem kX3_isLeft (l : Launch) (E : xE) (o : Nat) (Ad : Nat → Nat) (I : Nat → Int) (F : Nat → Nat → Int) (a : Int) (ha : rg a) (h5 : rg (I 5)) : mi_ l E yX3_isLeft cX3_isLeft 2 (some .boolean) 0 0 [.ref o, .int (iI a)] o Ad I F (fun z I' F' => I = I' ∧ F = F' ∧ ((z = 1 ∧ 0 ≤ a ∧ a < I 5) ∨ (z = 0 ∧ ¬ (0 ≤ a ∧ a < I 5)))) := by
  intro w sz hM
  refine x_body (by decide) (Nat.le_of_ble_eq_true rfl) ?_
  intro p e s m args below meth c ls hx hb C hr hlocks _ hsz hB hl
  have C : xC E p s m args c cX3_isLeft 2 RX3 := C
  replace hB : mB E (xA w sz) s o Ad I F s.heap [] := ⟨w, hM, hB⟩
  have hl : lv_has ls 2 [(0, .ref o), (1, .int (iI a))] := hl
  obtain ⟨ha1, ha2⟩ := ha
  obtain ⟨h51, h52⟩ := h5
  refine lv_iload_n hx hb dX3_isLeft_0 rfl (lv_at hl 1 rfl) ?_
  refine x_if_lt (tgt := 16) hx hb dX3_isLeft_1 (by decide) ⟨by omega, by omega⟩ (fun c1 => ?_) (fun c1 => ?_)
  · refine lv_iconst (v := iI 0) hx hb dX3_isLeft_16 rfl ?_
    exact m_iret C hB hr hlocks rfl dX3_isLeft_17 ⟨by decide, by decide⟩ ⟨rfl, rfl, by omega⟩
  · refine lv_iload_n hx hb dX3_isLeft_4 rfl (lv_at hl 1 rfl) ?_
    refine lv_aload_n hx hb dX3_isLeft_5 rfl (lv_at hl 0 rfl) ?_
    refine m_get C hB 5 (by decide) q1399 (v := .int (iI (I 5))) rfl rfl dX3_isLeft_6 ?_
    refine x_icmp_ge (tgt := 16) hx hb dX3_isLeft_9 (by decide) ⟨by omega, by omega⟩ ⟨by omega, by omega⟩ (fun c2 => ?_) (fun c2 => ?_)
    · refine lv_iconst (v := iI 0) hx hb dX3_isLeft_16 rfl ?_
      exact m_iret C hB hr hlocks rfl dX3_isLeft_17 ⟨by decide, by decide⟩ ⟨rfl, rfl, by omega⟩
    · refine lv_iconst (v := iI 1) hx hb dX3_isLeft_12 rfl ?_
      refine lv_goto (tgt := 17) hx hb dX3_isLeft_13 (by decide) ?_
      exact m_iret C hB hr hlocks rfl dX3_isLeft_17 ⟨by decide, by decide⟩ ⟨rfl, rfl, by omega⟩
set_option maxHeartbeats 400000 in
set_option maxRecDepth 100000 in
theorem kX3_isRight (l : Launch) (E : xE) (o : Nat) (Ad : Nat → Nat) (I : Nat → Int) (F : Nat → Nat → Int) (a : Int) (ha : rg a) (h5 : rg (I 6)) : mi_ l E yX3_isRight cX3_isRight 2 (some .boolean) 0 0 [.ref o, .int (iI a)] o Ad I F (fun z I' F' => I = I' ∧ F = F' ∧ ((z = 1 ∧ 0 ≤ a ∧ a < I 6) ∨ (z = 0 ∧ ¬ (0 ≤ a ∧ a < I 6)))) := by
  intro w sz hM
  refine x_body (by decide) (Nat.le_of_ble_eq_true rfl) ?_
  intro p e s m args below meth c ls hx hb C hr hlocks _ hsz hB hl
  have C : xC E p s m args c cX3_isRight 2 RX3 := C
  replace hB : mB E (xA w sz) s o Ad I F s.heap [] := ⟨w, hM, hB⟩
  have hl : lv_has ls 2 [(0, .ref o), (1, .int (iI a))] := hl
  obtain ⟨ha1, ha2⟩ := ha
  obtain ⟨h51, h52⟩ := h5
  refine lv_iload_n hx hb dX3_isRight_0 rfl (lv_at hl 1 rfl) ?_
  refine x_if_lt (tgt := 16) hx hb dX3_isRight_1 (by decide) ⟨by omega, by omega⟩ (fun c1 => ?_) (fun c1 => ?_)
  · refine lv_iconst (v := iI 0) hx hb dX3_isRight_16 rfl ?_
    exact m_iret C hB hr hlocks rfl dX3_isRight_17 ⟨by decide, by decide⟩ ⟨rfl, rfl, by omega⟩
  · refine lv_iload_n hx hb dX3_isRight_4 rfl (lv_at hl 1 rfl) ?_
    refine lv_aload_n hx hb dX3_isRight_5 rfl (lv_at hl 0 rfl) ?_
    refine m_get C hB 6 (by decide) q1400 (v := .int (iI (I 6))) rfl rfl dX3_isRight_6 ?_
    refine x_icmp_ge (tgt := 16) hx hb dX3_isRight_9 (by decide) ⟨by omega, by omega⟩ ⟨by omega, by omega⟩ (fun c2 => ?_) (fun c2 => ?_)
    · refine lv_iconst (v := iI 0) hx hb dX3_isRight_16 rfl ?_
      exact m_iret C hB hr hlocks rfl dX3_isRight_17 ⟨by decide, by decide⟩ ⟨rfl, rfl, by omega⟩
    · refine lv_iconst (v := iI 1) hx hb dX3_isRight_12 rfl ?_
      refine lv_goto (tgt := 17) hx hb dX3_isRight_13 (by decide) ?_
      exact m_iret C hB hr hlocks rfl dX3_isRight_17 ⟨by decide, by decide⟩ ⟨rfl, rfl, by omega⟩
