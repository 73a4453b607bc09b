/-! THE COMPONENT: a left sentence's kinds -/
set_option maxRecDepth 100000
theorem plE_0 {o : Nat} {k L A : Int} (h : k = 0) : plE o k L A = xO 4 [.int (iI A), .int (iI L), .ref o] := if_pos h
theorem plE_1 {o : Nat} {k L A : Int} (h : k = 1) : plE o k L A = xO 5 [.int (iI A), .int (iI L), .ref o, .ref o] := by
  unfold plE
  rw [if_neg (by omega), if_pos h]
theorem plE_2 {o : Nat} {k L A : Int} (h : k ≠ 0 ∧ k ≠ 1) : plE o k L A = xO 6 [.int (iI A), .int (iI L), .ref o, .ref o, .ref o] := by
  unfold plE
  rw [if_neg h.1, if_neg h.2]
theorem kd_kd (F : Nat → Nat → Int) (r i : Nat) (u v : Int) : kd (kd F r i u) r i v = kd F r i v := by
  unfold kd
  rw [va_up_s, bx_uu, bx_uu]
theorem kd_id (F : Nat → Nat → Int) (r i : Nat) : kd F r i (F r i) = F := by
  unfold kd
  rw [va_up_id, va_up_id]
theorem kd_up3 (F : Nat → Nat → Int) (g1 g2 g3 : Nat → Int) (i : Nat) (v : Int) : kd (up3 F g1 g2 g3) 10 i v = up3 (kd F 10 i v) g1 g2 g3 := by
  have h := up3_c (F := F) (g1 := g1) (g2 := g2) (g3 := g3) (r := 10) (f := F 10) (h := va_up (F 10) i v) (by decide)
  rw [va_up_id] at h
  exact h
section TP
variable {p : Program} {l : Launch} {e : Env} {R : Room} {s : State} {m : MethodId} {args : Array Value} {below : List Frame} {meth : Method} {c : Code} {H : Heap} {locs : List Loc} {cells slots : Nat} {Q : State → Prop}
variable {cc : ByteArray} {pc nL : Nat} {ls : Array Slot} {rest : List Value} {E : xE} {A : Nat → Prop} {o a : Nat} {Ad : Nat → Nat} {I : Nat → Int} {F : Nat → Nat → Int} {X : xw} {own : String}
theorem t_plL (C : xC E p s m args c cc nL own) (hB : xBB E A s o Ad I F X H locs) {k L N : Int} (h : X a = some (plE o k L N)) {index : Nat} (hlk : (Cond.fieldLink own index "BookPairs$Plain" "letters" "I") ∈ lw_all) (hdg : decode cc pc = .ok (.getfield index, 3))
    (kk : W p l e R s m args below meth c H locs cells slots Q (F0 m (pc + 3) ls (.int (iI L) :: rest))) : W p l e R s m args below meth c H locs cells slots Q (F0 m pc ls (.ref a :: rest)) := by
  obtain ⟨w, hI, hd, hB⟩ := hB
  exact x_plL C hB (wU_r hd h) hlk hdg kk
theorem t_plA (C : xC E p s m args c cc nL own) (hB : xBB E A s o Ad I F X H locs) {k L N : Int} (h : X a = some (plE o k L N)) {index : Nat} (hlk : (Cond.fieldLink own index "BookPairs$Plain" "anchor" "I") ∈ lw_all) (hdg : decode cc pc = .ok (.getfield index, 3))
    (kk : W p l e R s m args below meth c H locs cells slots Q (F0 m (pc + 3) ls (.int (iI N) :: rest))) : W p l e R s m args below meth c H locs cells slots Q (F0 m pc ls (.ref a :: rest)) := by
  obtain ⟨w, hI, hd, hB⟩ := hB
  exact x_plA C hB (wU_r hd h) hlk hdg kk
end TP
set_option maxHeartbeats 800000 in
set_option maxRecDepth 100000 in
theorem kX0_madeOf (l : Launch) (E : xE) (o : Nat) (Ad : Nat → Nat) (I : Nat → Int) (F : Nat → Nat → Int) (X : xw) (kv : Int) (lv : Int) (nv : Int) (hkv : 0 ≤ kv ∧ kv ≤ 2) : cq_ l E yX0_madeOf cX0_madeOf 4 (some (.object "BookPairs$Plain")) 4 93 1 5 [.ref o, .int (iI kv), .int (iI lv), .int (iI nv)] o Ad I F X (fun z Ad' I' F' X' => Ad = Ad' ∧ I = I' ∧ F = F' ∧ ∃ q, z = some q ∧ X q = none ∧ va_up X q (some (plE o kv lv nv)) = X') := by
  intro w hI hd sz
  refine x_bodyz (by decide) (Nat.le_of_ble_eq_true rfl) ?_
  intro p e s m args below meth c ls hx hb C hr hlocks hin hsz hZ hB hl
  have C : xC E p s m args c cX0_madeOf 4 RX0 := C
  replace hB : xBB E (xA (wU w X) sz) s o Ad I F X s.heap [] := ⟨w, hI, hd, hB⟩
  have hl : lv_has ls 4 [(0, .ref o), (1, .int (iI kv)), (2, .int (iI lv)), (3, .int (iI nv))] := hl
  refine lv_iload_n hx hb dX0_madeOf_0 rfl (lv_at hl 1 rfl) ?_
  refine x_if_ne (tgt := 17) hx hb dX0_madeOf_1 (by decide) ⟨by omega, by omega⟩ (fun c1 => ?_) (fun c1 => ?_)
  · refine lv_iload_n hx hb dX0_madeOf_17 rfl (lv_at hl 1 rfl) ?_
    refine lv_iconst (v := iI 1) hx hb dX0_madeOf_18 rfl ?_
    refine x_icmp_ne (tgt := 35) hx hb dX0_madeOf_19 (by decide) ⟨by omega, by omega⟩ ⟨by decide, by decide⟩ (fun c2 => ?_) (fun c2 => ?_)
    · refine t_new C hB (ci := 6) (fs := [.int (iI 0), .int (iI 0), .null, .null, .null]) rfl in_X8 tyX8_ok q807 q808 q82 dvX8 (Nat.le_of_ble_eq_true rfl) (Nat.le_of_ble_eq_true rfl) dX0_madeOf_35 (fun q3 H hq4 hs5 hB => ?_)
      refine x_up (c2 := 1) (s2 := 5) (Nat.le_of_ble_eq_true rfl) (Nat.le_of_ble_eq_true rfl) ?_
      replace hB : xBB E (xA (wU w X) sz) s o Ad I F (va_up X q3 (some (xO 6 [.int (iI 0), .int (iI 0), .null, .null, .null]))) _ _ := hB
      refine lv_dup hx hb dX0_madeOf_38 rfl ?_
      refine lv_aload_n hx hb dX0_madeOf_39 rfl (lv_at hl 0 rfl) ?_
      refine lv_iload_n hx hb dX0_madeOf_40 rfl (lv_at hl 2 rfl) ?_
      refine lv_iload_n hx hb dX0_madeOf_41 rfl (lv_at hl 3 rfl) ?_
      obtain ⟨wq, hIq, hdq, hB⟩ := hB
      refine g_callv 1 5 (Nat.le_of_ble_eq_true rfl) (Nat.le_of_ble_eq_true rfl) hB (rI (As := [.ref o, .int (iI lv), .int (iI nv)]) (n := 3) C hZ hB (kX8_init l E (wU wq (va_up X q3 (some (xO 6 [.int (iI 0), .int (iI 0), .null, .null, .null])))) q3 o lv nv (wU_r hdq (va_up_s _ _ _)) _) (lw_meth q811) q82 q809 q810 rfl (by decide +kernel) ⟨Nat.le_of_ble_eq_true rfl, Nat.le_of_ble_eq_true rfl⟩ rfl hl.1 rfl (Nat.le_of_ble_eq_true rfl) dX0_madeOf_42 ⟨Nat.le_of_ble_eq_true rfl, Nat.le_of_ble_eq_true rfl⟩) (fun w7 H locs hp9 hB => ?_)
      subst hp9
      rw [(hdq.put_t (xO 6 [.int (iI nv), .int (iI lv), .ref o, .ref o, .ref o]) (va_up_s _ _ _)).2] at hB
      replace hB : xBB E (xA (wU w X) sz) s o Ad I F (va_up (va_up X q3 (some (xO 6 [.int (iI 0), .int (iI 0), .null, .null, .null]))) q3 (some (xO 6 [.int (iI nv), .int (iI lv), .ref o, .ref o, .ref o]))) _ _ := ⟨wq, hIq, (hdq.put_t _ (va_up_s _ _ _)).1, hB⟩
      rw [bx_uu] at hB
      replace hB : xBB E (xA (wU w X) sz) s o Ad I F (va_up X q3 (some (xO 6 [.int (iI nv), .int (iI lv), .ref o, .ref o, .ref o]))) _ _ := hB
      exact b_qret C hB hr (Or.inl ⟨_, rfl⟩) hlocks ((some q3)) dX0_madeOf_45 (Nat.le_of_ble_eq_true rfl) (Nat.le_of_ble_eq_true rfl) ⟨rfl, rfl, rfl, _, rfl, hq4, by rw [plE_2 (by omega)]⟩
    · refine t_new C hB (ci := 5) (fs := [.int (iI 0), .int (iI 0), .null, .null]) rfl in_X7 tyX7_ok q795 q796 q81 dvX7 (Nat.le_of_ble_eq_true rfl) (Nat.le_of_ble_eq_true rfl) dX0_madeOf_22 (fun q10 H hq11 hs12 hB => ?_)
      refine x_up (c2 := 1) (s2 := 4) (Nat.le_of_ble_eq_true rfl) (Nat.le_of_ble_eq_true rfl) ?_
      replace hB : xBB E (xA (wU w X) sz) s o Ad I F (va_up X q10 (some (xO 5 [.int (iI 0), .int (iI 0), .null, .null]))) _ _ := hB
      refine lv_dup hx hb dX0_madeOf_25 rfl ?_
      refine lv_aload_n hx hb dX0_madeOf_26 rfl (lv_at hl 0 rfl) ?_
      refine lv_iload_n hx hb dX0_madeOf_27 rfl (lv_at hl 2 rfl) ?_
      refine lv_iload_n hx hb dX0_madeOf_28 rfl (lv_at hl 3 rfl) ?_
      obtain ⟨wq, hIq, hdq, hB⟩ := hB
      refine g_callv 1 4 (Nat.le_of_ble_eq_true rfl) (Nat.le_of_ble_eq_true rfl) hB (rI (As := [.ref o, .int (iI lv), .int (iI nv)]) (n := 3) C hZ hB (kX7_init_X7 l E (wU wq (va_up X q10 (some (xO 5 [.int (iI 0), .int (iI 0), .null, .null])))) q10 o lv nv (wU_r hdq (va_up_s _ _ _)) _) (lw_meth q799) q81 q797 q798 rfl (by decide +kernel) ⟨Nat.le_of_ble_eq_true rfl, Nat.le_of_ble_eq_true rfl⟩ rfl hl.1 rfl (Nat.le_of_ble_eq_true rfl) dX0_madeOf_29 ⟨Nat.le_of_ble_eq_true rfl, Nat.le_of_ble_eq_true rfl⟩) (fun w14 H locs hp16 hB => ?_)
      subst hp16
      rw [(hdq.put_t (xO 5 [.int (iI nv), .int (iI lv), .ref o, .ref o]) (va_up_s _ _ _)).2] at hB
      replace hB : xBB E (xA (wU w X) sz) s o Ad I F (va_up (va_up X q10 (some (xO 5 [.int (iI 0), .int (iI 0), .null, .null]))) q10 (some (xO 5 [.int (iI nv), .int (iI lv), .ref o, .ref o]))) _ _ := ⟨wq, hIq, (hdq.put_t _ (va_up_s _ _ _)).1, hB⟩
      rw [bx_uu] at hB
      replace hB : xBB E (xA (wU w X) sz) s o Ad I F (va_up X q10 (some (xO 5 [.int (iI nv), .int (iI lv), .ref o, .ref o]))) _ _ := hB
      refine lv_goto (tgt := 45) hx hb dX0_madeOf_32 (by decide) ?_
      exact b_qret C hB hr (Or.inl ⟨_, rfl⟩) hlocks ((some q10)) dX0_madeOf_45 (Nat.le_of_ble_eq_true rfl) (Nat.le_of_ble_eq_true rfl) ⟨rfl, rfl, rfl, _, rfl, hq11, by rw [plE_1 (by omega)]⟩
  · refine t_new C hB (ci := 4) (fs := [.int (iI 0), .int (iI 0), .null]) rfl in_X6 tyX6_ok q175 q773 q80 dvX6 (Nat.le_of_ble_eq_true rfl) (Nat.le_of_ble_eq_true rfl) dX0_madeOf_4 (fun q17 H hq18 hs19 hB => ?_)
    refine x_up (c2 := 1) (s2 := 3) (Nat.le_of_ble_eq_true rfl) (Nat.le_of_ble_eq_true rfl) ?_
    replace hB : xBB E (xA (wU w X) sz) s o Ad I F (va_up X q17 (some (xO 4 [.int (iI 0), .int (iI 0), .null]))) _ _ := hB
    refine lv_dup hx hb dX0_madeOf_7 rfl ?_
    refine lv_aload_n hx hb dX0_madeOf_8 rfl (lv_at hl 0 rfl) ?_
    refine lv_iload_n hx hb dX0_madeOf_9 rfl (lv_at hl 2 rfl) ?_
    refine lv_iload_n hx hb dX0_madeOf_10 rfl (lv_at hl 3 rfl) ?_
    obtain ⟨wq, hIq, hdq, hB⟩ := hB
    refine g_callv 1 3 (Nat.le_of_ble_eq_true rfl) (Nat.le_of_ble_eq_true rfl) hB (rI (As := [.ref o, .int (iI lv), .int (iI nv)]) (n := 3) C hZ hB (kX6_init_X6 l E (wU wq (va_up X q17 (some (xO 4 [.int (iI 0), .int (iI 0), .null])))) q17 o lv nv (wU_r hdq (va_up_s _ _ _)) _) (lw_meth q776) q80 q774 q775 rfl (by decide +kernel) ⟨Nat.le_of_ble_eq_true rfl, Nat.le_of_ble_eq_true rfl⟩ rfl hl.1 rfl (Nat.le_of_ble_eq_true rfl) dX0_madeOf_11 ⟨Nat.le_of_ble_eq_true rfl, Nat.le_of_ble_eq_true rfl⟩) (fun w21 H locs hp23 hB => ?_)
    subst hp23
    rw [(hdq.put_t (xO 4 [.int (iI nv), .int (iI lv), .ref o]) (va_up_s _ _ _)).2] at hB
    replace hB : xBB E (xA (wU w X) sz) s o Ad I F (va_up (va_up X q17 (some (xO 4 [.int (iI 0), .int (iI 0), .null]))) q17 (some (xO 4 [.int (iI nv), .int (iI lv), .ref o]))) _ _ := ⟨wq, hIq, (hdq.put_t _ (va_up_s _ _ _)).1, hB⟩
    rw [bx_uu] at hB
    replace hB : xBB E (xA (wU w X) sz) s o Ad I F (va_up X q17 (some (xO 4 [.int (iI nv), .int (iI lv), .ref o]))) _ _ := hB
    refine lv_goto (tgt := 45) hx hb dX0_madeOf_14 (by decide) ?_
    exact b_qret C hB hr (Or.inl ⟨_, rfl⟩) hlocks ((some q17)) dX0_madeOf_45 (Nat.le_of_ble_eq_true rfl) (Nat.le_of_ble_eq_true rfl) ⟨rfl, rfl, rfl, _, rfl, hq18, by rw [plE_0 (by omega)]⟩
set_option maxHeartbeats 800000 in
set_option maxRecDepth 100000 in
theorem kX0_kinds (l : Launch) (E : xE) (o : Nat) (Ad : Nat → Nat) (I : Nat → Int) (F : Nat → Nat → Int) (X : xw) (ax : Int) (hax : rg ax) (hOK : mOK I F) : ci_ l E yX0_kinds cX0_kinds 5 (some .int) 9 208 3 15 [.ref o, .int (iI ax)] o Ad I F X (fun z Ad' I' F' X' => I = I' ∧ (∃ g1 g2 g3, up3 F g1 g2 g3 = F') ∧ z = rKinds I F ax) := by
  intro w hI hd sz
  refine x_bodyz (by decide) (Nat.le_of_ble_eq_true rfl) ?_
  intro p e s m args below meth c ls hx hb C hr hlocks hin hsz hZ hB hl
  have C : xC E p s m args c cX0_kinds 5 RX0 := C
  replace hB : xBB E (xA (wU w X) sz) s o Ad I F X s.heap [] := ⟨w, hI, hd, hB⟩
  have hl : lv_has ls 5 [(0, .ref o), (1, .int (iI ax))] := hl
  have hOK0 := hOK
  obtain ⟨⟨hf1, hf2⟩, ⟨hl1, hl2⟩, ⟨hr1, hr2⟩, hlr, ⟨hs1, hs2⟩, ⟨hj1, hj2⟩, ⟨hb1, hb2⟩, ⟨hn1, hn2⟩, hL, hR, hN, hS, hC⟩ := hOK
  obtain ⟨hax1, hax2⟩ := hax
  refine lv_aload_n hx hb dX0_kinds_0 rfl (lv_at hl 0 rfl) ?_
  refine lv_iload_n hx hb dX0_kinds_1 rfl (lv_at hl 1 rfl) ?_
  refine b_calli 0 0 (Nat.le_of_ble_eq_true rfl) (Nat.le_of_ble_eq_true rfl) hB (fun w hI hd hB => rV (As := [.int (iI ax)]) (n := 1) C hZ hB (kX0_noLeft l E o Ad I F X ax ⟨by omega, by omega⟩ hOK0 w hI hd _) (lw_V q237 q239 qs7 q68 q240) (by decide +kernel) ⟨Nat.le_of_ble_eq_true rfl, Nat.le_of_ble_eq_true rfl⟩ (wU_l hI.x) rfl rfl rfl hl.1 rfl (Nat.le_of_ble_eq_true rfl) dX0_kinds_2 ⟨Nat.le_of_ble_eq_true rfl, Nat.le_of_ble_eq_true rfl⟩) (fun z1 Ad2 I3 F4 X5 H locs hz6 hp7 hB => ?_)
  obtain ⟨hz6a, hz6b⟩ := hz6
  obtain ⟨rfl, rfl, rfl, rfl, ⟨rfl, h8⟩ | ⟨rfl, h8⟩⟩ := hp7
  · refine x_if_eq (tgt := 10) hx hb dX0_kinds_5 (by decide) ⟨by decide, by decide⟩ (fun c9 => by exfalso; omega) (fun c9 => ?_)
    refine lv_iconst (v := iI (-1)) hx hb dX0_kinds_8 rfl ?_
    exact b_iret C hB hr hlocks rfl dX0_kinds_9 (Nat.le_of_ble_eq_true rfl) (Nat.le_of_ble_eq_true rfl) ⟨by decide, by decide⟩ ⟨rfl, ⟨_, _, _, up3_id F⟩, by unfold rKinds; rw [if_pos (by omega)]⟩
  · refine x_if_eq (tgt := 10) hx hb dX0_kinds_5 (by decide) ⟨by decide, by decide⟩ (fun c10 => ?_) (fun c10 => by exfalso; omega)
    obtain ⟨kk, rfl⟩ : ∃ kk : Nat, ax = (kk : Int) := ⟨ax.toNat, by omega⟩
    refine lv_aload_n hx hb dX0_kinds_10 rfl (lv_at hl 0 rfl) ?_
    refine b_get C hB 3 (by decide) q296 (v := .ref (Ad 4)) rfl rfl dX0_kinds_11 ?_
    refine lv_iload_n hx hb dX0_kinds_14 rfl (lv_at hl 1 rfl) ?_
    refine b_lget C hZ hB kk rfl (show ((kk : Nat) : Int) < I 5 by omega) (show I 5 ≤ 7 by omega) q156 ⟨Nat.le_of_ble_eq_true rfl, Nat.le_of_ble_eq_true rfl⟩ hl.1 (Nat.le_of_ble_eq_true rfl) dX0_kinds_15 ⟨Nat.le_of_ble_eq_true rfl, Nat.le_of_ble_eq_true rfl⟩ (fun H locs hB => ?_)
    refine b_castP C hB kk (show ((kk : Nat) : Int) < I 5 by omega) (show I 5 ≤ 7 by omega) q175 dX0_kinds_20 ?_
    refine lv_astore_n (lv' := [(2, .ref (Ad (100 + kk))), (0, .ref o), (1, .int (iI ((kk : Int))))]) hx hb dX0_kinds_23 rfl hl (by decide) rfl (fun ls hl => ?_)
    refine lv_iconst (v := iI 0) hx hb dX0_kinds_24 rfl ?_
    refine lv_istore_n (lv' := [(3, .int (iI 0)), (2, .ref (Ad (100 + kk))), (0, .ref o), (1, .int (iI ((kk : Int))))]) hx hb dX0_kinds_25 rfl hl (by decide) rfl (fun ls hl => ?_)
    refine lv_iconst (v := iI 0) hx hb dX0_kinds_26 rfl ?_
    refine lv_istore (lv' := [(4, .int (iI 0)), (3, .int (iI 0)), (2, .ref (Ad (100 + kk))), (0, .ref o), (1, .int (iI ((kk : Int))))]) hx hb dX0_kinds_27 hl (by decide) rfl (fun ls hl => ?_)
    refine lv_iload hx hb dX0_kinds_29 (lv_at hl 0 rfl) ?_
    refine lv_iconst (v := iI 3) hx hb dX0_kinds_31 rfl ?_
    refine x_icmp_ge (tgt := 84) hx hb dX0_kinds_32 (by decide) ⟨by decide, by decide⟩ ⟨by decide, by decide⟩ (fun c11 => by exfalso; omega) (fun c11 => ?_)
    refine lv_aload_n hx hb dX0_kinds_35 rfl (lv_at hl 3 rfl) ?_
    refine b_get C hB 3 (by decide) q296 (v := .ref (Ad 4)) rfl rfl dX0_kinds_36 ?_
    refine lv_iload_n hx hb dX0_kinds_39 rfl (lv_at hl 4 rfl) ?_
    refine lv_aload_n hx hb dX0_kinds_40 rfl (lv_at hl 3 rfl) ?_
    refine lv_iload hx hb dX0_kinds_41 (lv_at hl 0 rfl) ?_
    refine lv_aload_n hx hb dX0_kinds_43 rfl (lv_at hl 2 rfl) ?_
    refine b_plL C hB kk (show ((kk : Nat) : Int) < I 5 by omega) (show I 5 ≤ 7 by omega) q786 dX0_kinds_44 ?_
    have := hL kk (by omega)
    refine lv_aload_n hx hb dX0_kinds_47 rfl (lv_at hl 2 rfl) ?_
    refine b_plA C hB kk (show ((kk : Nat) : Int) < I 5 by omega) (show I 5 ≤ 7 by omega) q779 dX0_kinds_48 ?_
    have := hL kk (by omega)
    refine b_callq 1 5 (Nat.le_of_ble_eq_true rfl) (Nat.le_of_ble_eq_true rfl) hB (fun w hI hd hB => rV (As := [.int (iI 0), .int (iI ((F 11) kk)), .int (iI ((F 12) kk))]) (n := 3) C hZ hB (kX0_madeOf l E o Ad I F X 0 ((F 11) kk) ((F 12) kk) ⟨by omega, by omega⟩ w hI hd _) (lw_V q769 q771 qs25 q68 q772) (by decide +kernel) ⟨Nat.le_of_ble_eq_true rfl, Nat.le_of_ble_eq_true rfl⟩ (wU_l hI.x) rfl rfl rfl hl.1 rfl (Nat.le_of_ble_eq_true rfl) dX0_kinds_51 ⟨Nat.le_of_ble_eq_true rfl, Nat.le_of_ble_eq_true rfl⟩) (fun z12 Ad13 I14 F15 X16 H locs hp18 hB => ?_)
    obtain ⟨rfl, rfl, rfl, q19, rfl, hq20, rfl⟩ := hp18
    replace hB : xBB E (xA (wU w X) sz) s o Ad I F (va_up X q19 (some (plE o 0 ((F 11) kk) ((F 12) kk)))) _ _ := hB
    refine b_lset C hZ hB kk rfl (show ((kk : Nat) : Int) < I 5 by omega) (show I 5 ≤ 7 by omega) (va_up_s _ _ _) q822 ⟨Nat.le_of_ble_eq_true rfl, Nat.le_of_ble_eq_true rfl⟩ hl.1 (Nat.le_of_ble_eq_true rfl) dX0_kinds_54 ⟨Nat.le_of_ble_eq_true rfl, Nat.le_of_ble_eq_true rfl⟩ (fun H locs Ad21 X22 hx23 hxp24 hpq25 hpa26 hA27 hA28 hB => ?_)
    replace hB : xBB E (xA (wU w X) sz) s o Ad21 I (kd F 10 kk 0) X22 _ _ := hB
    refine lv_pop hx hb dX0_kinds_59 rfl ?_
    refine lv_iload_n hx hb dX0_kinds_60 rfl (lv_at hl 1 rfl) ?_
    refine lv_aload_n hx hb dX0_kinds_61 rfl (lv_at hl 3 rfl) ?_
    rw [← up3_id (kd F 10 kk 0)] at hB
    refine b_calli 1 5 (Nat.le_of_ble_eq_true rfl) (Nat.le_of_ble_eq_true rfl) hB (fun w hI hd hB => rV (As := []) (n := 0) C hZ hB (kX0_areSo l E o Ad21 I (kd F 10 kk 0) ((kd F 10 kk 0) 21) ((kd F 10 kk 0) 22) ((kd F 10 kk 0) 23) X22 (mOK_kd10 hOK0 (a := kk) (v := 0) ⟨by omega, by omega⟩) w hI hd _) (lw_V q830 q832 qs26 q68 q833) (by decide +kernel) ⟨Nat.le_of_ble_eq_true rfl, Nat.le_of_ble_eq_true rfl⟩ (wU_l hI.x) rfl rfl rfl hl.1 rfl (Nat.le_of_ble_eq_true rfl) dX0_kinds_62 ⟨Nat.le_of_ble_eq_true rfl, Nat.le_of_ble_eq_true rfl⟩) (fun z29 Ad30 I31 F32 X33 H locs hz34 hp35 hB => ?_)
    obtain ⟨hz34a, hz34b⟩ := hz34
    obtain ⟨rfl, rfl, rfl, g36, g37, g38, rfl, ⟨rfl, h39⟩ | ⟨rfl, h39⟩⟩ := hp35
    · refine x_if_eq (tgt := 75) hx hb dX0_kinds_65 (by decide) ⟨by decide, by decide⟩ (fun c40 => by exfalso; omega) (fun c40 => ?_)
      refine lv_iconst (v := iI 1) hx hb dX0_kinds_68 rfl ?_
      refine lv_iload hx hb dX0_kinds_69 (lv_at hl 0 rfl) ?_
      refine x_ishl hx hb dX0_kinds_71 ?_
      refine lv_goto (tgt := 76) hx hb dX0_kinds_72 (by decide) ?_
      refine x_ior hx hb dX0_kinds_76 ?_
      refine lv_istore_n (lv' := [(3, .int (iI (bOr 0 (bShl 1 0)))), (4, .int (iI 0)), (2, .ref (Ad (100 + kk))), (0, .ref o), (1, .int (iI ((kk : Int))))]) hx hb dX0_kinds_77 rfl hl (by decide) rfl (fun ls hl => ?_)
      refine lv_iinc (v := iI (0 + 1)) (lv' := [(4, .int (iI (0 + 1))), (3, .int (iI (bOr 0 (bShl 1 0)))), (2, .ref (Ad (100 + kk))), (0, .ref o), (1, .int (iI ((kk : Int))))]) hx hb dX0_kinds_78 hl (k := 1) rfl (iI_add _ _) (by decide) rfl (fun ls hl => ?_)
      rw [show (0 + 1 : Int) = 1 by omega] at hl
      refine lv_goto (tgt := 29) hx hb dX0_kinds_81 (by decide) ?_
      refine x_up (c2 := 3 - 1 * 2) (s2 := 15 - 5 * 2) (by omega) (by omega) ?_
      refine w_loopC 3 15 1 5 (fun n44 H locs ls => ∃ (v_ : Nat) (x : Int) (u_ : Int) (Ad1 : Nat → Nat) (X1 : xw) (g1 : Nat → Int) (g2 : Nat → Int) (g3 : Nat → Int), n44 = 3 - v_ ∧ (1 ≤ v_ ∧ v_ ≤ 3) ∧ (x = kset I F kk v_) ∧ (X1 (Ad (100 + kk)) = some (plE o (F 10 kk) (F 11 kk) (F 12 kk))) ∧ xBB E (xA (wU w X) sz) s o Ad1 I (up3 (kd F 10 kk u_) g1 g2 g3) X1 H locs ∧ lv_has ls 5 [(0, .ref o), (1, .int (iI ((kk : Int)))), (2, .ref (Ad (100 + kk))), (3, .int (iI x)), (4, .int (iI ((v_ : Int))))]) 2 ⟨1, _, _, _, _, _, _, _, rfl, ⟨by omega, by omega⟩, by rw [show kset I F kk (0 + 1) = bOr (kset I F kk 0) (if rSo I (kd F 10 kk ((0 : Nat) : Int)) = true then bShl 1 ((0 : Nat) : Int) else 0) from rfl, if_pos (show rSo I (kd F 10 kk ((0 : Nat) : Int)) = true from h39)]; rfl, hxp24, hB, lv_sub hl [3, 4, 2, 1, 0] rfl⟩ ?_
      intro n44 H locs ls hI43 ih41
      obtain ⟨v_, x, u_, Ad1, X1, g1, g2, g3, hn42, hv, hxx, hxp1, hB, hl⟩ := hI43
      have hxr : rg x := hxx ▸ rg_kset I F kk v_
      obtain ⟨hxr1, hxr2⟩ := hxr
      refine lv_iload hx hb dX0_kinds_29 (lv_at hl 4 rfl) ?_
      refine lv_iconst (v := iI 3) hx hb dX0_kinds_31 rfl ?_
      refine x_icmp_ge (tgt := 84) hx hb dX0_kinds_32 (by decide) ⟨by omega, by omega⟩ ⟨by decide, by decide⟩ (fun c45 => ?_) (fun c45 => ?_)
      · refine lv_aload_n hx hb dX0_kinds_84 rfl (lv_at hl 0 rfl) ?_
        refine b_get C hB 3 (by decide) q296 (v := .ref (Ad1 4)) rfl rfl dX0_kinds_85 ?_
        refine lv_iload_n hx hb dX0_kinds_88 rfl (lv_at hl 1 rfl) ?_
        refine lv_aload_n hx hb dX0_kinds_89 rfl (lv_at hl 2 rfl) ?_
        refine b_lset C hZ hB kk rfl (show ((kk : Nat) : Int) < I 5 by omega) (show I 5 ≤ 7 by omega) hxp1 q822 ⟨Nat.le_of_ble_eq_true rfl, Nat.le_of_ble_eq_true rfl⟩ hl.1 (Nat.le_of_ble_eq_true rfl) dX0_kinds_90 ⟨(show (3 - 1 * n44) ≤ 3 by omega), (show (15 - 5 * n44) ≤ 15 by omega)⟩ (fun H locs Ad46 X47 hx48 hxp49 hpq50 hpa51 hA52 hA53 hB => ?_)
        rw [kd_up3, kd_kd] at hB
        rw [kd_id] at hB
        replace hB : xBB E (xA (wU w X) sz) s o Ad46 I (up3 F g1 g2 g3) X47 _ _ := hB
        refine lv_pop hx hb dX0_kinds_95 rfl ?_
        refine lv_iload_n hx hb dX0_kinds_96 rfl (lv_at hl 3 rfl) ?_
        exact b_iret C hB hr hlocks rfl dX0_kinds_97 (by omega) (by omega) ⟨by omega, by omega⟩ ⟨rfl, ⟨_, _, _, rfl⟩, by unfold rKinds; rw [if_neg (by omega), Int.toNat_natCast, hxx, show v_ = 3 by omega]⟩
      · refine lv_aload_n hx hb dX0_kinds_35 rfl (lv_at hl 0 rfl) ?_
        refine b_get C hB 3 (by decide) q296 (v := .ref (Ad1 4)) rfl rfl dX0_kinds_36 ?_
        refine lv_iload_n hx hb dX0_kinds_39 rfl (lv_at hl 1 rfl) ?_
        refine lv_aload_n hx hb dX0_kinds_40 rfl (lv_at hl 0 rfl) ?_
        refine lv_iload hx hb dX0_kinds_41 (lv_at hl 4 rfl) ?_
        refine lv_aload_n hx hb dX0_kinds_43 rfl (lv_at hl 2 rfl) ?_
        refine t_plL C hB hxp1 q786 dX0_kinds_44 ?_
        refine lv_aload_n hx hb dX0_kinds_47 rfl (lv_at hl 2 rfl) ?_
        refine t_plA C hB hxp1 q779 dX0_kinds_48 ?_
        refine b_callq ((3 - 1 * n44) + 1) ((15 - 5 * n44) + 5) (by omega) (by omega) hB (fun w hI hd hB => rV (As := [.int (iI ((v_ : Int))), .int (iI (F 11 kk)), .int (iI (F 12 kk))]) (n := 3) C hZ hB (kX0_madeOf l E o Ad1 I (up3 (kd F 10 kk u_) g1 g2 g3) X1 ((v_ : Int)) (F 11 kk) (F 12 kk) ⟨by omega, by omega⟩ w hI hd _) (lw_V q769 q771 qs25 q68 q772) (by decide +kernel) ⟨Nat.le_of_ble_eq_true rfl, Nat.le_of_ble_eq_true rfl⟩ (wU_l hI.x) rfl rfl rfl hl.1 rfl (Nat.le_of_ble_eq_true rfl) dX0_kinds_51 ⟨(show (3 - 1 * n44) + 1 ≤ 3 by omega), (show (15 - 5 * n44) + 5 ≤ 15 by omega)⟩) (fun z54 Ad55 I56 F57 X58 H locs hp60 hB => ?_)
        obtain ⟨rfl, rfl, rfl, q61, rfl, hq62, rfl⟩ := hp60
        have hne63 : Ad (100 + kk) ≠ q61 := fun e => by cases (hq62.symm.trans ((congrArg _ e.symm).trans hxp1))
        replace hB : xBB E (xA (wU w X) sz) s o Ad1 I (up3 (kd F 10 kk u_) g1 g2 g3) (va_up X1 q61 (some (plE o ((v_ : Int)) (F 11 kk) (F 12 kk)))) _ _ := hB
        refine b_lset C hZ hB kk rfl (show ((kk : Nat) : Int) < I 5 by omega) (show I 5 ≤ 7 by omega) (va_up_s _ _ _) q822 ⟨Nat.le_of_ble_eq_true rfl, Nat.le_of_ble_eq_true rfl⟩ hl.1 (Nat.le_of_ble_eq_true rfl) dX0_kinds_54 ⟨(show (3 - 1 * n44) + 1 ≤ 3 by omega), (show (15 - 5 * n44) + 5 ≤ 15 by omega)⟩ (fun H locs Ad64 X65 hx66 hxp67 hpq68 hpa69 hA70 hA71 hB => ?_)
        rw [kd_up3, kd_kd] at hB
        replace hB : xBB E (xA (wU w X) sz) s o Ad64 I (up3 (kd F 10 kk ((v_ : Int))) g1 g2 g3) X65 _ _ := hB
        refine lv_pop hx hb dX0_kinds_59 rfl ?_
        refine lv_iload_n hx hb dX0_kinds_60 rfl (lv_at hl 3 rfl) ?_
        refine lv_aload_n hx hb dX0_kinds_61 rfl (lv_at hl 0 rfl) ?_
        refine b_calli ((3 - 1 * n44) + 1) ((15 - 5 * n44) + 5) (by omega) (by omega) hB (fun w hI hd hB => rV (As := []) (n := 0) C hZ hB (kX0_areSo l E o Ad64 I (kd F 10 kk ((v_ : Int))) g1 g2 g3 X65 (mOK_kd10 hOK0 (a := kk) (v := ((v_ : Int))) ⟨by omega, by omega⟩) w hI hd _) (lw_V q830 q832 qs26 q68 q833) (by decide +kernel) ⟨Nat.le_of_ble_eq_true rfl, Nat.le_of_ble_eq_true rfl⟩ (wU_l hI.x) rfl rfl rfl hl.1 rfl (Nat.le_of_ble_eq_true rfl) dX0_kinds_62 ⟨(show (3 - 1 * n44) + 1 + 0 ≤ 3 by omega), (show (15 - 5 * n44) + 5 + 0 ≤ 15 by omega)⟩) (fun z72 Ad73 I74 F75 X76 H locs hz77 hp78 hB => ?_)
        obtain ⟨hz77a, hz77b⟩ := hz77
        obtain ⟨rfl, rfl, rfl, g79, g80, g81, rfl, ⟨rfl, h82⟩ | ⟨rfl, h82⟩⟩ := hp78
        · refine x_if_eq (tgt := 75) hx hb dX0_kinds_65 (by decide) ⟨by decide, by decide⟩ (fun c83 => by exfalso; omega) (fun c83 => ?_)
          refine lv_iconst (v := iI 1) hx hb dX0_kinds_68 rfl ?_
          refine lv_iload hx hb dX0_kinds_69 (lv_at hl 4 rfl) ?_
          refine x_ishl hx hb dX0_kinds_71 ?_
          refine lv_goto (tgt := 76) hx hb dX0_kinds_72 (by decide) ?_
          refine x_ior hx hb dX0_kinds_76 ?_
          refine lv_istore_n (lv' := [(3, .int (iI (bOr x (bShl 1 ((v_ : Int)))))), (0, .ref o), (1, .int (iI ((kk : Int)))), (2, .ref (Ad (100 + kk))), (4, .int (iI ((v_ : Int))))]) hx hb dX0_kinds_77 rfl hl (by decide) rfl (fun ls hl => ?_)
          refine lv_iinc (v := iI ((v_ : Int) + 1)) (lv' := [(4, .int (iI ((v_ : Int) + 1))), (3, .int (iI (bOr x (bShl 1 ((v_ : Int)))))), (0, .ref o), (1, .int (iI ((kk : Int)))), (2, .ref (Ad (100 + kk)))]) hx hb dX0_kinds_78 hl (k := 4) rfl (iI_add _ _) (by decide) rfl (fun ls hl => ?_)
          refine lv_goto (tgt := 29) hx hb dX0_kinds_81 (by decide) ?_
          refine x_up (c2 := 3 - 1 * (3 - (v_ + 1))) (s2 := 15 - 5 * (3 - (v_ + 1))) (by omega) (by omega) ?_
          exact ih41 _ _ _ _ (by omega) ⟨v_ + 1, _, _, _, _, _, _, _, rfl, ⟨by omega, by omega⟩, by rw [show kset I F kk (v_ + 1) = bOr (kset I F kk v_) (if rSo I (kd F 10 kk ((v_ : Nat) : Int)) = true then bShl 1 ((v_ : Nat) : Int) else 0) from rfl, if_pos (show rSo I (kd F 10 kk ((v_ : Nat) : Int)) = true from h82), ← hxx], (hx66 _ _ hne63 ((va_up_n _ _ hne63).trans hxp1)), hB, lv_sub hl [2, 3, 4, 1, 0] rfl⟩
        · refine x_if_eq (tgt := 75) hx hb dX0_kinds_65 (by decide) ⟨by decide, by decide⟩ (fun c84 => ?_) (fun c84 => by exfalso; omega)
          refine lv_iconst (v := iI 0) hx hb dX0_kinds_75 rfl ?_
          refine x_ior hx hb dX0_kinds_76 ?_
          refine lv_istore_n (lv' := [(3, .int (iI (bOr x 0))), (0, .ref o), (1, .int (iI ((kk : Int)))), (2, .ref (Ad (100 + kk))), (4, .int (iI ((v_ : Int))))]) hx hb dX0_kinds_77 rfl hl (by decide) rfl (fun ls hl => ?_)
          refine lv_iinc (v := iI ((v_ : Int) + 1)) (lv' := [(4, .int (iI ((v_ : Int) + 1))), (3, .int (iI (bOr x 0))), (0, .ref o), (1, .int (iI ((kk : Int)))), (2, .ref (Ad (100 + kk)))]) hx hb dX0_kinds_78 hl (k := 4) rfl (iI_add _ _) (by decide) rfl (fun ls hl => ?_)
          refine lv_goto (tgt := 29) hx hb dX0_kinds_81 (by decide) ?_
          refine x_up (c2 := 3 - 1 * (3 - (v_ + 1))) (s2 := 15 - 5 * (3 - (v_ + 1))) (by omega) (by omega) ?_
          exact ih41 _ _ _ _ (by omega) ⟨v_ + 1, _, _, _, _, _, _, _, rfl, ⟨by omega, by omega⟩, by rw [show kset I F kk (v_ + 1) = bOr (kset I F kk v_) (if rSo I (kd F 10 kk ((v_ : Nat) : Int)) = true then bShl 1 ((v_ : Nat) : Int) else 0) from rfl, if_neg (show ¬ rSo I (kd F 10 kk ((v_ : Nat) : Int)) = true from (by rw [show rSo I (kd F 10 kk ((v_ : Nat) : Int)) = false from h82]; decide)), ← hxx], (hx66 _ _ hne63 ((va_up_n _ _ hne63).trans hxp1)), hB, lv_sub hl [2, 3, 4, 1, 0] rfl⟩
    · refine x_if_eq (tgt := 75) hx hb dX0_kinds_65 (by decide) ⟨by decide, by decide⟩ (fun c85 => ?_) (fun c85 => by exfalso; omega)
      refine lv_iconst (v := iI 0) hx hb dX0_kinds_75 rfl ?_
      refine x_ior hx hb dX0_kinds_76 ?_
      refine lv_istore_n (lv' := [(3, .int (iI (bOr 0 0))), (4, .int (iI 0)), (2, .ref (Ad (100 + kk))), (0, .ref o), (1, .int (iI ((kk : Int))))]) hx hb dX0_kinds_77 rfl hl (by decide) rfl (fun ls hl => ?_)
      refine lv_iinc (v := iI (0 + 1)) (lv' := [(4, .int (iI (0 + 1))), (3, .int (iI (bOr 0 0))), (2, .ref (Ad (100 + kk))), (0, .ref o), (1, .int (iI ((kk : Int))))]) hx hb dX0_kinds_78 hl (k := 1) rfl (iI_add _ _) (by decide) rfl (fun ls hl => ?_)
      rw [show (0 + 1 : Int) = 1 by omega] at hl
      refine lv_goto (tgt := 29) hx hb dX0_kinds_81 (by decide) ?_
      refine x_up (c2 := 3 - 1 * 2) (s2 := 15 - 5 * 2) (by omega) (by omega) ?_
      refine w_loopC 3 15 1 5 (fun n89 H locs ls => ∃ (v_ : Nat) (x : Int) (u_ : Int) (Ad1 : Nat → Nat) (X1 : xw) (g1 : Nat → Int) (g2 : Nat → Int) (g3 : Nat → Int), n89 = 3 - v_ ∧ (1 ≤ v_ ∧ v_ ≤ 3) ∧ (x = kset I F kk v_) ∧ (X1 (Ad (100 + kk)) = some (plE o (F 10 kk) (F 11 kk) (F 12 kk))) ∧ xBB E (xA (wU w X) sz) s o Ad1 I (up3 (kd F 10 kk u_) g1 g2 g3) X1 H locs ∧ lv_has ls 5 [(0, .ref o), (1, .int (iI ((kk : Int)))), (2, .ref (Ad (100 + kk))), (3, .int (iI x)), (4, .int (iI ((v_ : Int))))]) 2 ⟨1, _, _, _, _, _, _, _, rfl, ⟨by omega, by omega⟩, by rw [show kset I F kk (0 + 1) = bOr (kset I F kk 0) (if rSo I (kd F 10 kk ((0 : Nat) : Int)) = true then bShl 1 ((0 : Nat) : Int) else 0) from rfl, if_neg (show ¬ rSo I (kd F 10 kk ((0 : Nat) : Int)) = true from (by rw [show rSo I (kd F 10 kk ((0 : Nat) : Int)) = false from h39]; decide))]; rfl, hxp24, hB, lv_sub hl [3, 4, 2, 1, 0] rfl⟩ ?_
      intro n89 H locs ls hI88 ih86
      obtain ⟨v_, x, u_, Ad1, X1, g1, g2, g3, hn87, hv, hxx, hxp1, hB, hl⟩ := hI88
      have hxr : rg x := hxx ▸ rg_kset I F kk v_
      obtain ⟨hxr1, hxr2⟩ := hxr
      refine lv_iload hx hb dX0_kinds_29 (lv_at hl 4 rfl) ?_
      refine lv_iconst (v := iI 3) hx hb dX0_kinds_31 rfl ?_
      refine x_icmp_ge (tgt := 84) hx hb dX0_kinds_32 (by decide) ⟨by omega, by omega⟩ ⟨by decide, by decide⟩ (fun c90 => ?_) (fun c90 => ?_)
      · refine lv_aload_n hx hb dX0_kinds_84 rfl (lv_at hl 0 rfl) ?_
        refine b_get C hB 3 (by decide) q296 (v := .ref (Ad1 4)) rfl rfl dX0_kinds_85 ?_
        refine lv_iload_n hx hb dX0_kinds_88 rfl (lv_at hl 1 rfl) ?_
        refine lv_aload_n hx hb dX0_kinds_89 rfl (lv_at hl 2 rfl) ?_
        refine b_lset C hZ hB kk rfl (show ((kk : Nat) : Int) < I 5 by omega) (show I 5 ≤ 7 by omega) hxp1 q822 ⟨Nat.le_of_ble_eq_true rfl, Nat.le_of_ble_eq_true rfl⟩ hl.1 (Nat.le_of_ble_eq_true rfl) dX0_kinds_90 ⟨(show (3 - 1 * n89) ≤ 3 by omega), (show (15 - 5 * n89) ≤ 15 by omega)⟩ (fun H locs Ad91 X92 hx93 hxp94 hpq95 hpa96 hA97 hA98 hB => ?_)
        rw [kd_up3, kd_kd] at hB
        rw [kd_id] at hB
        replace hB : xBB E (xA (wU w X) sz) s o Ad91 I (up3 F g1 g2 g3) X92 _ _ := hB
        refine lv_pop hx hb dX0_kinds_95 rfl ?_
        refine lv_iload_n hx hb dX0_kinds_96 rfl (lv_at hl 3 rfl) ?_
        exact b_iret C hB hr hlocks rfl dX0_kinds_97 (by omega) (by omega) ⟨by omega, by omega⟩ ⟨rfl, ⟨_, _, _, rfl⟩, by unfold rKinds; rw [if_neg (by omega), Int.toNat_natCast, hxx, show v_ = 3 by omega]⟩
      · refine lv_aload_n hx hb dX0_kinds_35 rfl (lv_at hl 0 rfl) ?_
        refine b_get C hB 3 (by decide) q296 (v := .ref (Ad1 4)) rfl rfl dX0_kinds_36 ?_
        refine lv_iload_n hx hb dX0_kinds_39 rfl (lv_at hl 1 rfl) ?_
        refine lv_aload_n hx hb dX0_kinds_40 rfl (lv_at hl 0 rfl) ?_
        refine lv_iload hx hb dX0_kinds_41 (lv_at hl 4 rfl) ?_
        refine lv_aload_n hx hb dX0_kinds_43 rfl (lv_at hl 2 rfl) ?_
        refine t_plL C hB hxp1 q786 dX0_kinds_44 ?_
        refine lv_aload_n hx hb dX0_kinds_47 rfl (lv_at hl 2 rfl) ?_
        refine t_plA C hB hxp1 q779 dX0_kinds_48 ?_
        refine b_callq ((3 - 1 * n89) + 1) ((15 - 5 * n89) + 5) (by omega) (by omega) hB (fun w hI hd hB => rV (As := [.int (iI ((v_ : Int))), .int (iI (F 11 kk)), .int (iI (F 12 kk))]) (n := 3) C hZ hB (kX0_madeOf l E o Ad1 I (up3 (kd F 10 kk u_) g1 g2 g3) X1 ((v_ : Int)) (F 11 kk) (F 12 kk) ⟨by omega, by omega⟩ w hI hd _) (lw_V q769 q771 qs25 q68 q772) (by decide +kernel) ⟨Nat.le_of_ble_eq_true rfl, Nat.le_of_ble_eq_true rfl⟩ (wU_l hI.x) rfl rfl rfl hl.1 rfl (Nat.le_of_ble_eq_true rfl) dX0_kinds_51 ⟨(show (3 - 1 * n89) + 1 ≤ 3 by omega), (show (15 - 5 * n89) + 5 ≤ 15 by omega)⟩) (fun z99 Ad100 I101 F102 X103 H locs hp105 hB => ?_)
        obtain ⟨rfl, rfl, rfl, q106, rfl, hq107, rfl⟩ := hp105
        have hne108 : Ad (100 + kk) ≠ q106 := fun e => by cases (hq107.symm.trans ((congrArg _ e.symm).trans hxp1))
        replace hB : xBB E (xA (wU w X) sz) s o Ad1 I (up3 (kd F 10 kk u_) g1 g2 g3) (va_up X1 q106 (some (plE o ((v_ : Int)) (F 11 kk) (F 12 kk)))) _ _ := hB
        refine b_lset C hZ hB kk rfl (show ((kk : Nat) : Int) < I 5 by omega) (show I 5 ≤ 7 by omega) (va_up_s _ _ _) q822 ⟨Nat.le_of_ble_eq_true rfl, Nat.le_of_ble_eq_true rfl⟩ hl.1 (Nat.le_of_ble_eq_true rfl) dX0_kinds_54 ⟨(show (3 - 1 * n89) + 1 ≤ 3 by omega), (show (15 - 5 * n89) + 5 ≤ 15 by omega)⟩ (fun H locs Ad109 X110 hx111 hxp112 hpq113 hpa114 hA115 hA116 hB => ?_)
        rw [kd_up3, kd_kd] at hB
        replace hB : xBB E (xA (wU w X) sz) s o Ad109 I (up3 (kd F 10 kk ((v_ : Int))) g1 g2 g3) X110 _ _ := hB
        refine lv_pop hx hb dX0_kinds_59 rfl ?_
        refine lv_iload_n hx hb dX0_kinds_60 rfl (lv_at hl 3 rfl) ?_
        refine lv_aload_n hx hb dX0_kinds_61 rfl (lv_at hl 0 rfl) ?_
        refine b_calli ((3 - 1 * n89) + 1) ((15 - 5 * n89) + 5) (by omega) (by omega) hB (fun w hI hd hB => rV (As := []) (n := 0) C hZ hB (kX0_areSo l E o Ad109 I (kd F 10 kk ((v_ : Int))) g1 g2 g3 X110 (mOK_kd10 hOK0 (a := kk) (v := ((v_ : Int))) ⟨by omega, by omega⟩) w hI hd _) (lw_V q830 q832 qs26 q68 q833) (by decide +kernel) ⟨Nat.le_of_ble_eq_true rfl, Nat.le_of_ble_eq_true rfl⟩ (wU_l hI.x) rfl rfl rfl hl.1 rfl (Nat.le_of_ble_eq_true rfl) dX0_kinds_62 ⟨(show (3 - 1 * n89) + 1 + 0 ≤ 3 by omega), (show (15 - 5 * n89) + 5 + 0 ≤ 15 by omega)⟩) (fun z117 Ad118 I119 F120 X121 H locs hz122 hp123 hB => ?_)
        obtain ⟨hz122a, hz122b⟩ := hz122
        obtain ⟨rfl, rfl, rfl, g124, g125, g126, rfl, ⟨rfl, h127⟩ | ⟨rfl, h127⟩⟩ := hp123
        · refine x_if_eq (tgt := 75) hx hb dX0_kinds_65 (by decide) ⟨by decide, by decide⟩ (fun c128 => by exfalso; omega) (fun c128 => ?_)
          refine lv_iconst (v := iI 1) hx hb dX0_kinds_68 rfl ?_
          refine lv_iload hx hb dX0_kinds_69 (lv_at hl 4 rfl) ?_
          refine x_ishl hx hb dX0_kinds_71 ?_
          refine lv_goto (tgt := 76) hx hb dX0_kinds_72 (by decide) ?_
          refine x_ior hx hb dX0_kinds_76 ?_
          refine lv_istore_n (lv' := [(3, .int (iI (bOr x (bShl 1 ((v_ : Int)))))), (0, .ref o), (1, .int (iI ((kk : Int)))), (2, .ref (Ad (100 + kk))), (4, .int (iI ((v_ : Int))))]) hx hb dX0_kinds_77 rfl hl (by decide) rfl (fun ls hl => ?_)
          refine lv_iinc (v := iI ((v_ : Int) + 1)) (lv' := [(4, .int (iI ((v_ : Int) + 1))), (3, .int (iI (bOr x (bShl 1 ((v_ : Int)))))), (0, .ref o), (1, .int (iI ((kk : Int)))), (2, .ref (Ad (100 + kk)))]) hx hb dX0_kinds_78 hl (k := 4) rfl (iI_add _ _) (by decide) rfl (fun ls hl => ?_)
          refine lv_goto (tgt := 29) hx hb dX0_kinds_81 (by decide) ?_
          refine x_up (c2 := 3 - 1 * (3 - (v_ + 1))) (s2 := 15 - 5 * (3 - (v_ + 1))) (by omega) (by omega) ?_
          exact ih86 _ _ _ _ (by omega) ⟨v_ + 1, _, _, _, _, _, _, _, rfl, ⟨by omega, by omega⟩, by rw [show kset I F kk (v_ + 1) = bOr (kset I F kk v_) (if rSo I (kd F 10 kk ((v_ : Nat) : Int)) = true then bShl 1 ((v_ : Nat) : Int) else 0) from rfl, if_pos (show rSo I (kd F 10 kk ((v_ : Nat) : Int)) = true from h127), ← hxx], (hx111 _ _ hne108 ((va_up_n _ _ hne108).trans hxp1)), hB, lv_sub hl [2, 3, 4, 1, 0] rfl⟩
        · refine x_if_eq (tgt := 75) hx hb dX0_kinds_65 (by decide) ⟨by decide, by decide⟩ (fun c129 => ?_) (fun c129 => by exfalso; omega)
          refine lv_iconst (v := iI 0) hx hb dX0_kinds_75 rfl ?_
          refine x_ior hx hb dX0_kinds_76 ?_
          refine lv_istore_n (lv' := [(3, .int (iI (bOr x 0))), (0, .ref o), (1, .int (iI ((kk : Int)))), (2, .ref (Ad (100 + kk))), (4, .int (iI ((v_ : Int))))]) hx hb dX0_kinds_77 rfl hl (by decide) rfl (fun ls hl => ?_)
          refine lv_iinc (v := iI ((v_ : Int) + 1)) (lv' := [(4, .int (iI ((v_ : Int) + 1))), (3, .int (iI (bOr x 0))), (0, .ref o), (1, .int (iI ((kk : Int)))), (2, .ref (Ad (100 + kk)))]) hx hb dX0_kinds_78 hl (k := 4) rfl (iI_add _ _) (by decide) rfl (fun ls hl => ?_)
          refine lv_goto (tgt := 29) hx hb dX0_kinds_81 (by decide) ?_
          refine x_up (c2 := 3 - 1 * (3 - (v_ + 1))) (s2 := 15 - 5 * (3 - (v_ + 1))) (by omega) (by omega) ?_
          exact ih86 _ _ _ _ (by omega) ⟨v_ + 1, _, _, _, _, _, _, _, rfl, ⟨by omega, by omega⟩, by rw [show kset I F kk (v_ + 1) = bOr (kset I F kk v_) (if rSo I (kd F 10 kk ((v_ : Nat) : Int)) = true then bShl 1 ((v_ : Nat) : Int) else 0) from rfl, if_neg (show ¬ rSo I (kd F 10 kk ((v_ : Nat) : Int)) = true from (by rw [show rSo I (kd F 10 kk ((v_ : Nat) : Int)) = false from h127]; decide)), ← hxx], (hx111 _ _ hne108 ((va_up_n _ _ hne108).trans hxp1)), hB, lv_sub hl [2, 3, 4, 1, 0] rfl⟩
