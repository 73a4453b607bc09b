/-! THE MODEL, 17: the constructor -/
set_option maxRecDepth 100000
def pv (t : Nat) (Ad : Nat → Nat) (k : Nat) : Value := if k < t then .ref (Ad k) else .null
/-- the fields, the arrays below place t made -/
abbrev mFt (t : Nat) (Ad : Nat → Nat) : List Value := [.int (iI 0), .int (iI 0), pv t Ad 2, pv t Ad 3, pv t Ad 4, .int (iI 0), .int (iI 0), .int (iI 0), .int (iI 0), .int (iI 0), pv t Ad 10, pv t Ad 11, pv t Ad 12, pv t Ad 13, pv t Ad 14, .int (iI 0), .int (iI 0), .int (iI 0), pv t Ad 18, pv t Ad 19, pv t Ad 20, pv t Ad 21, pv t Ad 22, pv t Ad 23, .int (iI 0), pv t Ad 25, pv t Ad 26, pv t Ad 27, pv t Ad 28, .int (iI 0), pv t Ad 30, pv t Ad 31]
def mF0 : Nat → Nat → Int := fun k => if k = 2 then va_up (va_up (va_up (va_up (fun _ => 0) 0 (-9)) 1 (-9)) 2 (-9)) 3 (-9) else fun _ => 0
def mI0 : Nat → Int := fun _ => 0
/-- the model half made: the arrays below place t stand -/
def mPt (E : xE) (o t : Nat) (Ad : Nat → Nat) (w : xw) : Prop := w o = some (xO 3 (mFt t Ad)) ∧ (∀ k N, k < t → mArr k = some N → w (Ad k) = some (xI E N (mF0 k))) ∧ ∀ i j N M, i < t → j < t → mArr i = some N → mArr j = some M → Ad i = Ad j → i = j
theorem mPt.next {E : xE} {o t : Nat} {Ad : Nat → Nat} {w w1 : xw} (h : mPt E o t Ad w) (k N q : Nat) (hk : mArr k = some N) (hgap : ∀ j, j < k → t ≤ j → mArr j = none) (hq : w q = none) (hw : w1 q = some (xI E N (mF0 k))) (ho : ∀ a, a ≠ q → w1 a = w a) (htk : t ≤ k) (hset : (mFt t Ad).set k (.ref q) = mFt (k + 1) (va_up Ad k q)) : mPt E o (k + 1) (va_up Ad k q) (va_up w1 o (some (xO 3 ((mFt t Ad).set k (.ref q))))) := by
  obtain ⟨h1, h2, h3⟩ := h
  have hoq : o ≠ q := by
    intro e
    rw [e, hq] at h1
    cases h1
  have hd : ∀ j M, j < k + 1 → j ≠ k → mArr j = some M → j < t := by
    intro j M hj hne hM
    rcases Nat.lt_or_ge j t with h | h
    · exact h
    · have := hgap j (by omega) h
      rw [hM] at this
      cases this
  have hAq : ∀ j M, j < t → mArr j = some M → Ad j ≠ q := by
    intro j M hj hM e
    have := h2 j M hj hM
    rw [e, hq] at this
    cases this
  have hAo : ∀ j M, j < t → mArr j = some M → Ad j ≠ o := by
    intro j M hj hM e
    have := h2 j M hj hM
    rw [e, h1] at this
    cases this
  refine ⟨by rw [va_up_s, hset], fun j M hj hM => ?_, fun i j M M' hi hj hM hM' e => ?_⟩
  · by_cases e : j = k
    · subst e
      rw [va_up_s, va_up_n _ _ (Ne.symm hoq), hw]
      rw [hk] at hM
      cases hM
      rfl
    · have hjt := hd j M hj e hM
      rw [va_up_n _ _ e, va_up_n _ _ (hAo j M hjt hM), ho _ (hAq j M hjt hM)]
      exact h2 j M hjt hM
  · by_cases ei : i = k
    · by_cases ej : j = k
      · rw [ei, ej]
      · rw [ei, va_up_s, va_up_n _ _ ej] at e
        exact absurd e.symm (hAq j M' (hd j M' hj ej hM') hM')
    · by_cases ej : j = k
      · rw [ej, va_up_s, va_up_n _ _ ei] at e
        exact absurd e (hAq i M (hd i M hi ei hM) hM)
      · rw [va_up_n _ _ ei, va_up_n _ _ ej] at e
        exact h3 i j M M' (hd i M hi ei hM) (hd j M' hj ej hM') hM hM' e
theorem mPt.inv {E : xE} {o : Nat} {Ad : Nat → Nat} {w : xw} (h : mPt E o 32 Ad w) : mInv E o Ad mI0 mF0 w := by
  obtain ⟨h1, h2, h3⟩ := h
  have hlt : ∀ k N, mArr k = some N → k < 32 := by
    intro k N hk
    rcases Nat.lt_or_ge k 32 with h | h
    · exact h
    · obtain ⟨j, rfl⟩ : ∃ j, k = j + 32 := ⟨k - 32, by omega⟩
      cases hk
  exact ⟨h1, fun k N hk => h2 k N (hlt k N hk) hk, fun i j N M hi hj e => h3 i j N M (hlt i N hi) (hlt j M hj) hi hj e⟩
theorem m0_ok : mOK mI0 mF0 := by
  refine ⟨by decide, by decide, by decide, by decide, by decide, by decide, by decide, by decide, fun k hk => absurd hk (by show ¬ (k : Int) < 0; omega), fun k hk => absurd hk (by show ¬ (k : Int) < 0; omega), fun k hk => absurd hk (by show ¬ (k : Int) < 0; omega), fun k hk => ?_, fun j hj => ?_⟩
  · match k, hk with
    | 0, _ => decide
    | 1, _ => decide
    | 2, _ => decide
    | 3, _ => decide
  · exact (show rg 0 from ⟨by decide, by decide⟩)
set_option maxHeartbeats 4000000 in
theorem kX3_init (l : Launch) (E : xE) (o : Nat) (Ad : Nat → Nat) (w : xw) (sz : Nat) (hM : mPt E o 0 Ad w) : Met l yX3_init (ws_ yX3_init cX3_init 1 none) { frames := 1, cells := 20, slots := 585, locals := 12 } (xPc E w sz [.ref o]) (va_Qv (fun w2 => ∃ Ad, mInv E o Ad mI0 mF0 w2) (xEnd E (xA w sz)) (xA w sz)) 20 585 (xA w sz) := by
  refine x_body (by decide) (Nat.le_of_ble_eq_true rfl) ?_
  intro p e s m args below meth c ls hx hb C hr hlocks hin hsz hB hl
  have C : xC E p s m args c cX3_init 1 RX3 := C
  have hin : meth.name = "<init>" := hin rfl
  have hl : lv_has ls 1 [(0, .ref o)] := hl
  refine lv_aload_n hx hb dX3_init_0 rfl (lv_at hl 0 rfl) ?_
  refine W.objInit hx hb C.1.2.2.2.1 (C.1.2.2.2.2 _ q1393) (C.1.2.2.2.2 _ q113) (C.1.2.2.2.2 _ q114) rfl (by rw [C.1.2.2.1]; exact hl.1) rfl dX3_init_1 (Nat.le_of_ble_eq_true rfl) (Nat.le_of_ble_eq_true rfl) ?_
  refine W.eq (g2 := F0 m 4 ls []) rfl ?_
  refine lv_aload_n hx hb dX3_init_4 rfl (lv_at hl 0 rfl) ?_
  refine lv_iconst (v := iI 4) hx hb dX3_init_5 rfl ?_
  refine x_newp C hB (atype := .int) 0 (ty := .int) rfl rfl (Or.inl rfl) q213 4 rfl (by decide) (Nat.le_of_ble_eq_true rfl) (Nat.le_of_ble_eq_true rfl) dX3_init_6 (fun q2 H hq2 hg2 hB => ?_)
  replace hB : xB E (xA w sz) s (va_up w q2 (some (xI E 4 (fun _ => 0)))) H [] := hB
  refine lv_dup hx hb dX3_init_8 rfl ?_
  refine lv_iconst (v := iI 0) hx hb dX3_init_9 rfl ?_
  refine lv_bipush (v := iI (-9)) hx hb dX3_init_10 rfl ?_
  refine x_iast (N := 4) (f := (fun _ => 0)) C hB (va_up_s _ _ _) 0 rfl (by decide) (by decide) dX3_init_12 (fun H locs hB => ?_)
  refine lv_dup hx hb dX3_init_13 rfl ?_
  refine lv_iconst (v := iI 1) hx hb dX3_init_14 rfl ?_
  refine lv_bipush (v := iI (-9)) hx hb dX3_init_15 rfl ?_
  refine x_iast (N := 4) (f := (va_up (fun _ => 0) 0 (-9))) C hB (va_up_s _ _ _) 1 rfl (by decide) (by decide) dX3_init_17 (fun H locs hB => ?_)
  refine lv_dup hx hb dX3_init_18 rfl ?_
  refine lv_iconst (v := iI 2) hx hb dX3_init_19 rfl ?_
  refine lv_bipush (v := iI (-9)) hx hb dX3_init_20 rfl ?_
  refine x_iast (N := 4) (f := (va_up (va_up (fun _ => 0) 0 (-9)) 1 (-9))) C hB (va_up_s _ _ _) 2 rfl (by decide) (by decide) dX3_init_22 (fun H locs hB => ?_)
  refine lv_dup hx hb dX3_init_23 rfl ?_
  refine lv_iconst (v := iI 3) hx hb dX3_init_24 rfl ?_
  refine lv_bipush (v := iI (-9)) hx hb dX3_init_25 rfl ?_
  refine x_iast (N := 4) (f := (va_up (va_up (va_up (fun _ => 0) 0 (-9)) 1 (-9)) 2 (-9))) C hB (va_up_s _ _ _) 3 rfl (by decide) (by decide) dX3_init_27 (fun H locs hB => ?_)
  obtain ⟨u2, hu2⟩ : ∃ u, (va_up (va_up (va_up (va_up (va_up w q2 (some (xI E 4 (fun _ => 0)))) q2 (some (xI E 4 (va_up (fun _ => 0) 0 (-9))))) q2 (some (xI E 4 (va_up (va_up (fun _ => 0) 0 (-9)) 1 (-9))))) q2 (some (xI E 4 (va_up (va_up (va_up (fun _ => 0) 0 (-9)) 1 (-9)) 2 (-9))))) q2 (some (xI E 4 (va_up (va_up (va_up (va_up (fun _ => 0) 0 (-9)) 1 (-9)) 2 (-9)) 3 (-9))))) = u := ⟨_, rfl⟩
  have ha2 : u2 q2 = some (xI E 4 (mF0 2)) := by rw [← hu2]; exact va_up_s _ _ _
  have hb2 : ∀ a, a ≠ q2 → u2 a = w a := by intro a h; rw [← hu2]; exact (va_up_n _ _ h).trans ((va_up_n _ _ h).trans ((va_up_n _ _ h).trans ((va_up_n _ _ h).trans (va_up_n _ _ h))))
  rw [hu2] at hB
  have ho2 : o ≠ q2 := by intro h; rw [← h, hM.1] at hq2; cases hq2
  refine x_putF C hB (ci := 3) (fs := mFt 0 Ad) ((hb2 o ho2).trans hM.1) rfl in_X3 tyX3_ok nmX3 2 (by decide) q1396 (fun x h => h) rfl hin rfl rfl rfl (Nat.le_of_ble_eq_true rfl) dX3_init_28 (fun H locs hB => ?_)
  have hM3 := hM.next 2 4 q2 rfl (by decide) hq2 ha2 hb2 (by decide) rfl
  clear hu2 ha2 hb2 ho2
  clear hq2
  generalize hAd : va_up Ad 2 q2 = Ad3 at hM3
  generalize hw3 : va_up _ o _ = w3 at hM3 hB
  clear hAd hw3
  refine lv_aload_n hx hb dX3_init_31 rfl (lv_at hl 0 rfl) ?_
  refine lv_iconst (v := iI 4) hx hb dX3_init_32 rfl ?_
  refine x_newp C hB (atype := .int) 0 (ty := .int) rfl rfl (Or.inl rfl) q213 4 rfl (by decide) (Nat.le_of_ble_eq_true rfl) (Nat.le_of_ble_eq_true rfl) dX3_init_33 (fun q3 H hq3 hg3 hB => ?_)
  replace hB : xB E (xA w sz) s (va_up w3 q3 (some (xI E 4 (fun _ => 0)))) H locs := hB
  obtain ⟨u3, hu3⟩ : ∃ u, (va_up w3 q3 (some (xI E 4 (fun _ => 0)))) = u := ⟨_, rfl⟩
  have ha3 : u3 q3 = some (xI E 4 (mF0 3)) := by rw [← hu3]; exact va_up_s _ _ _
  have hb3 : ∀ a, a ≠ q3 → u3 a = w3 a := by intro a h; rw [← hu3]; exact va_up_n _ _ h
  rw [hu3] at hB
  have ho3 : o ≠ q3 := by intro h; rw [← h, hM3.1] at hq3; cases hq3
  refine x_putF C hB (ci := 3) (fs := mFt 3 Ad3) ((hb3 o ho3).trans hM3.1) rfl in_X3 tyX3_ok nmX3 3 (by decide) q1397 (fun x h => h) rfl hin rfl rfl rfl (Nat.le_of_ble_eq_true rfl) dX3_init_35 (fun H locs hB => ?_)
  have hM4 := hM3.next 3 4 q3 rfl (by decide) hq3 ha3 hb3 (by decide) rfl
  clear hu3 ha3 hb3 ho3
  clear hq3
  generalize hAd : va_up Ad3 3 q3 = Ad4 at hM4
  generalize hw4 : va_up _ o _ = w4 at hM4 hB
  clear hAd hw4
  refine lv_aload_n hx hb dX3_init_38 rfl (lv_at hl 0 rfl) ?_
  refine lv_sipush (v := iI 240) hx hb dX3_init_39 rfl ?_
  refine x_newp C hB (atype := .int) 0 (ty := .int) rfl rfl (Or.inl rfl) q213 240 rfl (by decide) (Nat.le_of_ble_eq_true rfl) (Nat.le_of_ble_eq_true rfl) dX3_init_42 (fun q4 H hq4 hg4 hB => ?_)
  replace hB : xB E (xA w sz) s (va_up w4 q4 (some (xI E 240 (fun _ => 0)))) H locs := hB
  obtain ⟨u4, hu4⟩ : ∃ u, (va_up w4 q4 (some (xI E 240 (fun _ => 0)))) = u := ⟨_, rfl⟩
  have ha4 : u4 q4 = some (xI E 240 (mF0 4)) := by rw [← hu4]; exact va_up_s _ _ _
  have hb4 : ∀ a, a ≠ q4 → u4 a = w4 a := by intro a h; rw [← hu4]; exact va_up_n _ _ h
  rw [hu4] at hB
  have ho4 : o ≠ q4 := by intro h; rw [← h, hM4.1] at hq4; cases hq4
  refine x_putF C hB (ci := 3) (fs := mFt 4 Ad4) ((hb4 o ho4).trans hM4.1) rfl in_X3 tyX3_ok nmX3 4 (by decide) q1398 (fun x h => h) rfl hin rfl rfl rfl (Nat.le_of_ble_eq_true rfl) dX3_init_44 (fun H locs hB => ?_)
  have hM5 := hM4.next 4 240 q4 rfl (by decide) hq4 ha4 hb4 (by decide) rfl
  clear hu4 ha4 hb4 ho4
  clear hq4
  generalize hAd : va_up Ad4 4 q4 = Ad5 at hM5
  generalize hw5 : va_up _ o _ = w5 at hM5 hB
  clear hAd hw5
  refine lv_aload_n hx hb dX3_init_47 rfl (lv_at hl 0 rfl) ?_
  refine lv_bipush (v := iI 7) hx hb dX3_init_48 rfl ?_
  refine x_newp C hB (atype := .int) 0 (ty := .int) rfl rfl (Or.inl rfl) q213 7 rfl (by decide) (Nat.le_of_ble_eq_true rfl) (Nat.le_of_ble_eq_true rfl) dX3_init_50 (fun q10 H hq10 hg10 hB => ?_)
  replace hB : xB E (xA w sz) s (va_up w5 q10 (some (xI E 7 (fun _ => 0)))) H locs := hB
  obtain ⟨u10, hu10⟩ : ∃ u, (va_up w5 q10 (some (xI E 7 (fun _ => 0)))) = u := ⟨_, rfl⟩
  have ha10 : u10 q10 = some (xI E 7 (mF0 10)) := by rw [← hu10]; exact va_up_s _ _ _
  have hb10 : ∀ a, a ≠ q10 → u10 a = w5 a := by intro a h; rw [← hu10]; exact va_up_n _ _ h
  rw [hu10] at hB
  have ho10 : o ≠ q10 := by intro h; rw [← h, hM5.1] at hq10; cases hq10
  refine x_putF C hB (ci := 3) (fs := mFt 5 Ad5) ((hb10 o ho10).trans hM5.1) rfl in_X3 tyX3_ok nmX3 10 (by decide) q1404 (fun x h => h) rfl hin rfl rfl rfl (Nat.le_of_ble_eq_true rfl) dX3_init_52 (fun H locs hB => ?_)
  have hM11 := hM5.next 10 7 q10 rfl (by decide) hq10 ha10 hb10 (by decide) rfl
  clear hu10 ha10 hb10 ho10
  clear hq10
  generalize hAd : va_up Ad5 10 q10 = Ad11 at hM11
  generalize hw11 : va_up _ o _ = w11 at hM11 hB
  clear hAd hw11
  refine lv_aload_n hx hb dX3_init_55 rfl (lv_at hl 0 rfl) ?_
  refine lv_bipush (v := iI 7) hx hb dX3_init_56 rfl ?_
  refine x_newp C hB (atype := .int) 0 (ty := .int) rfl rfl (Or.inl rfl) q213 7 rfl (by decide) (Nat.le_of_ble_eq_true rfl) (Nat.le_of_ble_eq_true rfl) dX3_init_58 (fun q11 H hq11 hg11 hB => ?_)
  replace hB : xB E (xA w sz) s (va_up w11 q11 (some (xI E 7 (fun _ => 0)))) H locs := hB
  obtain ⟨u11, hu11⟩ : ∃ u, (va_up w11 q11 (some (xI E 7 (fun _ => 0)))) = u := ⟨_, rfl⟩
  have ha11 : u11 q11 = some (xI E 7 (mF0 11)) := by rw [← hu11]; exact va_up_s _ _ _
  have hb11 : ∀ a, a ≠ q11 → u11 a = w11 a := by intro a h; rw [← hu11]; exact va_up_n _ _ h
  rw [hu11] at hB
  have ho11 : o ≠ q11 := by intro h; rw [← h, hM11.1] at hq11; cases hq11
  refine x_putF C hB (ci := 3) (fs := mFt 11 Ad11) ((hb11 o ho11).trans hM11.1) rfl in_X3 tyX3_ok nmX3 11 (by decide) q1405 (fun x h => h) rfl hin rfl rfl rfl (Nat.le_of_ble_eq_true rfl) dX3_init_60 (fun H locs hB => ?_)
  have hM12 := hM11.next 11 7 q11 rfl (by decide) hq11 ha11 hb11 (by decide) rfl
  clear hu11 ha11 hb11 ho11
  clear hq11
  generalize hAd : va_up Ad11 11 q11 = Ad12 at hM12
  generalize hw12 : va_up _ o _ = w12 at hM12 hB
  clear hAd hw12
  refine lv_aload_n hx hb dX3_init_63 rfl (lv_at hl 0 rfl) ?_
  refine lv_bipush (v := iI 7) hx hb dX3_init_64 rfl ?_
  refine x_newp C hB (atype := .int) 0 (ty := .int) rfl rfl (Or.inl rfl) q213 7 rfl (by decide) (Nat.le_of_ble_eq_true rfl) (Nat.le_of_ble_eq_true rfl) dX3_init_66 (fun q12 H hq12 hg12 hB => ?_)
  replace hB : xB E (xA w sz) s (va_up w12 q12 (some (xI E 7 (fun _ => 0)))) H locs := hB
  obtain ⟨u12, hu12⟩ : ∃ u, (va_up w12 q12 (some (xI E 7 (fun _ => 0)))) = u := ⟨_, rfl⟩
  have ha12 : u12 q12 = some (xI E 7 (mF0 12)) := by rw [← hu12]; exact va_up_s _ _ _
  have hb12 : ∀ a, a ≠ q12 → u12 a = w12 a := by intro a h; rw [← hu12]; exact va_up_n _ _ h
  rw [hu12] at hB
  have ho12 : o ≠ q12 := by intro h; rw [← h, hM12.1] at hq12; cases hq12
  refine x_putF C hB (ci := 3) (fs := mFt 12 Ad12) ((hb12 o ho12).trans hM12.1) rfl in_X3 tyX3_ok nmX3 12 (by decide) q1406 (fun x h => h) rfl hin rfl rfl rfl (Nat.le_of_ble_eq_true rfl) dX3_init_68 (fun H locs hB => ?_)
  have hM13 := hM12.next 12 7 q12 rfl (by decide) hq12 ha12 hb12 (by decide) rfl
  clear hu12 ha12 hb12 ho12
  clear hq12
  generalize hAd : va_up Ad12 12 q12 = Ad13 at hM13
  generalize hw13 : va_up _ o _ = w13 at hM13 hB
  clear hAd hw13
  refine lv_aload_n hx hb dX3_init_71 rfl (lv_at hl 0 rfl) ?_
  refine lv_bipush (v := iI 7) hx hb dX3_init_72 rfl ?_
  refine x_newp C hB (atype := .int) 0 (ty := .int) rfl rfl (Or.inl rfl) q213 7 rfl (by decide) (Nat.le_of_ble_eq_true rfl) (Nat.le_of_ble_eq_true rfl) dX3_init_74 (fun q13 H hq13 hg13 hB => ?_)
  replace hB : xB E (xA w sz) s (va_up w13 q13 (some (xI E 7 (fun _ => 0)))) H locs := hB
  obtain ⟨u13, hu13⟩ : ∃ u, (va_up w13 q13 (some (xI E 7 (fun _ => 0)))) = u := ⟨_, rfl⟩
  have ha13 : u13 q13 = some (xI E 7 (mF0 13)) := by rw [← hu13]; exact va_up_s _ _ _
  have hb13 : ∀ a, a ≠ q13 → u13 a = w13 a := by intro a h; rw [← hu13]; exact va_up_n _ _ h
  rw [hu13] at hB
  have ho13 : o ≠ q13 := by intro h; rw [← h, hM13.1] at hq13; cases hq13
  refine x_putF C hB (ci := 3) (fs := mFt 13 Ad13) ((hb13 o ho13).trans hM13.1) rfl in_X3 tyX3_ok nmX3 13 (by decide) q1407 (fun x h => h) rfl hin rfl rfl rfl (Nat.le_of_ble_eq_true rfl) dX3_init_76 (fun H locs hB => ?_)
  have hM14 := hM13.next 13 7 q13 rfl (by decide) hq13 ha13 hb13 (by decide) rfl
  clear hu13 ha13 hb13 ho13
  clear hq13
  generalize hAd : va_up Ad13 13 q13 = Ad14 at hM14
  generalize hw14 : va_up _ o _ = w14 at hM14 hB
  clear hAd hw14
  refine lv_aload_n hx hb dX3_init_79 rfl (lv_at hl 0 rfl) ?_
  refine lv_bipush (v := iI 7) hx hb dX3_init_80 rfl ?_
  refine x_newp C hB (atype := .int) 0 (ty := .int) rfl rfl (Or.inl rfl) q213 7 rfl (by decide) (Nat.le_of_ble_eq_true rfl) (Nat.le_of_ble_eq_true rfl) dX3_init_82 (fun q14 H hq14 hg14 hB => ?_)
  replace hB : xB E (xA w sz) s (va_up w14 q14 (some (xI E 7 (fun _ => 0)))) H locs := hB
  obtain ⟨u14, hu14⟩ : ∃ u, (va_up w14 q14 (some (xI E 7 (fun _ => 0)))) = u := ⟨_, rfl⟩
  have ha14 : u14 q14 = some (xI E 7 (mF0 14)) := by rw [← hu14]; exact va_up_s _ _ _
  have hb14 : ∀ a, a ≠ q14 → u14 a = w14 a := by intro a h; rw [← hu14]; exact va_up_n _ _ h
  rw [hu14] at hB
  have ho14 : o ≠ q14 := by intro h; rw [← h, hM14.1] at hq14; cases hq14
  refine x_putF C hB (ci := 3) (fs := mFt 14 Ad14) ((hb14 o ho14).trans hM14.1) rfl in_X3 tyX3_ok nmX3 14 (by decide) q1408 (fun x h => h) rfl hin rfl rfl rfl (Nat.le_of_ble_eq_true rfl) dX3_init_84 (fun H locs hB => ?_)
  have hM15 := hM14.next 14 7 q14 rfl (by decide) hq14 ha14 hb14 (by decide) rfl
  clear hu14 ha14 hb14 ho14
  clear hq14
  generalize hAd : va_up Ad14 14 q14 = Ad15 at hM15
  generalize hw15 : va_up _ o _ = w15 at hM15 hB
  clear hAd hw15
  refine lv_aload_n hx hb dX3_init_87 rfl (lv_at hl 0 rfl) ?_
  refine lv_bipush (v := iI 7) hx hb dX3_init_88 rfl ?_
  refine x_newp C hB (atype := .int) 0 (ty := .int) rfl rfl (Or.inl rfl) q213 7 rfl (by decide) (Nat.le_of_ble_eq_true rfl) (Nat.le_of_ble_eq_true rfl) dX3_init_90 (fun q18 H hq18 hg18 hB => ?_)
  replace hB : xB E (xA w sz) s (va_up w15 q18 (some (xI E 7 (fun _ => 0)))) H locs := hB
  obtain ⟨u18, hu18⟩ : ∃ u, (va_up w15 q18 (some (xI E 7 (fun _ => 0)))) = u := ⟨_, rfl⟩
  have ha18 : u18 q18 = some (xI E 7 (mF0 18)) := by rw [← hu18]; exact va_up_s _ _ _
  have hb18 : ∀ a, a ≠ q18 → u18 a = w15 a := by intro a h; rw [← hu18]; exact va_up_n _ _ h
  rw [hu18] at hB
  have ho18 : o ≠ q18 := by intro h; rw [← h, hM15.1] at hq18; cases hq18
  refine x_putF C hB (ci := 3) (fs := mFt 15 Ad15) ((hb18 o ho18).trans hM15.1) rfl in_X3 tyX3_ok nmX3 18 (by decide) q1412 (fun x h => h) rfl hin rfl rfl rfl (Nat.le_of_ble_eq_true rfl) dX3_init_92 (fun H locs hB => ?_)
  have hM19 := hM15.next 18 7 q18 rfl (by decide) hq18 ha18 hb18 (by decide) rfl
  clear hu18 ha18 hb18 ho18
  clear hq18
  generalize hAd : va_up Ad15 18 q18 = Ad19 at hM19
  generalize hw19 : va_up _ o _ = w19 at hM19 hB
  clear hAd hw19
  refine lv_aload_n hx hb dX3_init_95 rfl (lv_at hl 0 rfl) ?_
  refine lv_bipush (v := iI 14) hx hb dX3_init_96 rfl ?_
  refine x_newp C hB (atype := .int) 0 (ty := .int) rfl rfl (Or.inl rfl) q213 14 rfl (by decide) (Nat.le_of_ble_eq_true rfl) (Nat.le_of_ble_eq_true rfl) dX3_init_98 (fun q19 H hq19 hg19 hB => ?_)
  replace hB : xB E (xA w sz) s (va_up w19 q19 (some (xI E 14 (fun _ => 0)))) H locs := hB
  obtain ⟨u19, hu19⟩ : ∃ u, (va_up w19 q19 (some (xI E 14 (fun _ => 0)))) = u := ⟨_, rfl⟩
  have ha19 : u19 q19 = some (xI E 14 (mF0 19)) := by rw [← hu19]; exact va_up_s _ _ _
  have hb19 : ∀ a, a ≠ q19 → u19 a = w19 a := by intro a h; rw [← hu19]; exact va_up_n _ _ h
  rw [hu19] at hB
  have ho19 : o ≠ q19 := by intro h; rw [← h, hM19.1] at hq19; cases hq19
  refine x_putF C hB (ci := 3) (fs := mFt 19 Ad19) ((hb19 o ho19).trans hM19.1) rfl in_X3 tyX3_ok nmX3 19 (by decide) q1413 (fun x h => h) rfl hin rfl rfl rfl (Nat.le_of_ble_eq_true rfl) dX3_init_100 (fun H locs hB => ?_)
  have hM20 := hM19.next 19 14 q19 rfl (by decide) hq19 ha19 hb19 (by decide) rfl
  clear hu19 ha19 hb19 ho19
  clear hq19
  generalize hAd : va_up Ad19 19 q19 = Ad20 at hM20
  generalize hw20 : va_up _ o _ = w20 at hM20 hB
  clear hAd hw20
  refine lv_aload_n hx hb dX3_init_103 rfl (lv_at hl 0 rfl) ?_
  refine lv_bipush (v := iI 14) hx hb dX3_init_104 rfl ?_
  refine x_newp C hB (atype := .int) 0 (ty := .int) rfl rfl (Or.inl rfl) q213 14 rfl (by decide) (Nat.le_of_ble_eq_true rfl) (Nat.le_of_ble_eq_true rfl) dX3_init_106 (fun q20 H hq20 hg20 hB => ?_)
  replace hB : xB E (xA w sz) s (va_up w20 q20 (some (xI E 14 (fun _ => 0)))) H locs := hB
  obtain ⟨u20, hu20⟩ : ∃ u, (va_up w20 q20 (some (xI E 14 (fun _ => 0)))) = u := ⟨_, rfl⟩
  have ha20 : u20 q20 = some (xI E 14 (mF0 20)) := by rw [← hu20]; exact va_up_s _ _ _
  have hb20 : ∀ a, a ≠ q20 → u20 a = w20 a := by intro a h; rw [← hu20]; exact va_up_n _ _ h
  rw [hu20] at hB
  have ho20 : o ≠ q20 := by intro h; rw [← h, hM20.1] at hq20; cases hq20
  refine x_putF C hB (ci := 3) (fs := mFt 20 Ad20) ((hb20 o ho20).trans hM20.1) rfl in_X3 tyX3_ok nmX3 20 (by decide) q1414 (fun x h => h) rfl hin rfl rfl rfl (Nat.le_of_ble_eq_true rfl) dX3_init_108 (fun H locs hB => ?_)
  have hM21 := hM20.next 20 14 q20 rfl (by decide) hq20 ha20 hb20 (by decide) rfl
  clear hu20 ha20 hb20 ho20
  clear hq20
  generalize hAd : va_up Ad20 20 q20 = Ad21 at hM21
  generalize hw21 : va_up _ o _ = w21 at hM21 hB
  clear hAd hw21
  refine lv_aload_n hx hb dX3_init_111 rfl (lv_at hl 0 rfl) ?_
  refine lv_bipush (v := iI 64) hx hb dX3_init_112 rfl ?_
  refine x_newp C hB (atype := .int) 0 (ty := .int) rfl rfl (Or.inl rfl) q213 64 rfl (by decide) (Nat.le_of_ble_eq_true rfl) (Nat.le_of_ble_eq_true rfl) dX3_init_114 (fun q21 H hq21 hg21 hB => ?_)
  replace hB : xB E (xA w sz) s (va_up w21 q21 (some (xI E 64 (fun _ => 0)))) H locs := hB
  obtain ⟨u21, hu21⟩ : ∃ u, (va_up w21 q21 (some (xI E 64 (fun _ => 0)))) = u := ⟨_, rfl⟩
  have ha21 : u21 q21 = some (xI E 64 (mF0 21)) := by rw [← hu21]; exact va_up_s _ _ _
  have hb21 : ∀ a, a ≠ q21 → u21 a = w21 a := by intro a h; rw [← hu21]; exact va_up_n _ _ h
  rw [hu21] at hB
  have ho21 : o ≠ q21 := by intro h; rw [← h, hM21.1] at hq21; cases hq21
  refine x_putF C hB (ci := 3) (fs := mFt 21 Ad21) ((hb21 o ho21).trans hM21.1) rfl in_X3 tyX3_ok nmX3 21 (by decide) q1415 (fun x h => h) rfl hin rfl rfl rfl (Nat.le_of_ble_eq_true rfl) dX3_init_116 (fun H locs hB => ?_)
  have hM22 := hM21.next 21 64 q21 rfl (by decide) hq21 ha21 hb21 (by decide) rfl
  clear hu21 ha21 hb21 ho21
  clear hq21
  generalize hAd : va_up Ad21 21 q21 = Ad22 at hM22
  generalize hw22 : va_up _ o _ = w22 at hM22 hB
  clear hAd hw22
  refine lv_aload_n hx hb dX3_init_119 rfl (lv_at hl 0 rfl) ?_
  refine lv_bipush (v := iI 64) hx hb dX3_init_120 rfl ?_
  refine x_newp C hB (atype := .int) 0 (ty := .int) rfl rfl (Or.inl rfl) q213 64 rfl (by decide) (Nat.le_of_ble_eq_true rfl) (Nat.le_of_ble_eq_true rfl) dX3_init_122 (fun q22 H hq22 hg22 hB => ?_)
  replace hB : xB E (xA w sz) s (va_up w22 q22 (some (xI E 64 (fun _ => 0)))) H locs := hB
  obtain ⟨u22, hu22⟩ : ∃ u, (va_up w22 q22 (some (xI E 64 (fun _ => 0)))) = u := ⟨_, rfl⟩
  have ha22 : u22 q22 = some (xI E 64 (mF0 22)) := by rw [← hu22]; exact va_up_s _ _ _
  have hb22 : ∀ a, a ≠ q22 → u22 a = w22 a := by intro a h; rw [← hu22]; exact va_up_n _ _ h
  rw [hu22] at hB
  have ho22 : o ≠ q22 := by intro h; rw [← h, hM22.1] at hq22; cases hq22
  refine x_putF C hB (ci := 3) (fs := mFt 22 Ad22) ((hb22 o ho22).trans hM22.1) rfl in_X3 tyX3_ok nmX3 22 (by decide) q1416 (fun x h => h) rfl hin rfl rfl rfl (Nat.le_of_ble_eq_true rfl) dX3_init_124 (fun H locs hB => ?_)
  have hM23 := hM22.next 22 64 q22 rfl (by decide) hq22 ha22 hb22 (by decide) rfl
  clear hu22 ha22 hb22 ho22
  clear hq22
  generalize hAd : va_up Ad22 22 q22 = Ad23 at hM23
  generalize hw23 : va_up _ o _ = w23 at hM23 hB
  clear hAd hw23
  refine lv_aload_n hx hb dX3_init_127 rfl (lv_at hl 0 rfl) ?_
  refine lv_bipush (v := iI 64) hx hb dX3_init_128 rfl ?_
  refine x_newp C hB (atype := .int) 0 (ty := .int) rfl rfl (Or.inl rfl) q213 64 rfl (by decide) (Nat.le_of_ble_eq_true rfl) (Nat.le_of_ble_eq_true rfl) dX3_init_130 (fun q23 H hq23 hg23 hB => ?_)
  replace hB : xB E (xA w sz) s (va_up w23 q23 (some (xI E 64 (fun _ => 0)))) H locs := hB
  obtain ⟨u23, hu23⟩ : ∃ u, (va_up w23 q23 (some (xI E 64 (fun _ => 0)))) = u := ⟨_, rfl⟩
  have ha23 : u23 q23 = some (xI E 64 (mF0 23)) := by rw [← hu23]; exact va_up_s _ _ _
  have hb23 : ∀ a, a ≠ q23 → u23 a = w23 a := by intro a h; rw [← hu23]; exact va_up_n _ _ h
  rw [hu23] at hB
  have ho23 : o ≠ q23 := by intro h; rw [← h, hM23.1] at hq23; cases hq23
  refine x_putF C hB (ci := 3) (fs := mFt 23 Ad23) ((hb23 o ho23).trans hM23.1) rfl in_X3 tyX3_ok nmX3 23 (by decide) q1417 (fun x h => h) rfl hin rfl rfl rfl (Nat.le_of_ble_eq_true rfl) dX3_init_132 (fun H locs hB => ?_)
  have hM24 := hM23.next 23 64 q23 rfl (by decide) hq23 ha23 hb23 (by decide) rfl
  clear hu23 ha23 hb23 ho23
  clear hq23
  generalize hAd : va_up Ad23 23 q23 = Ad24 at hM24
  generalize hw24 : va_up _ o _ = w24 at hM24 hB
  clear hAd hw24
  refine lv_aload_n hx hb dX3_init_135 rfl (lv_at hl 0 rfl) ?_
  refine lv_bipush (v := iI 14) hx hb dX3_init_136 rfl ?_
  refine x_newp C hB (atype := .int) 0 (ty := .int) rfl rfl (Or.inl rfl) q213 14 rfl (by decide) (Nat.le_of_ble_eq_true rfl) (Nat.le_of_ble_eq_true rfl) dX3_init_138 (fun q25 H hq25 hg25 hB => ?_)
  replace hB : xB E (xA w sz) s (va_up w24 q25 (some (xI E 14 (fun _ => 0)))) H locs := hB
  obtain ⟨u25, hu25⟩ : ∃ u, (va_up w24 q25 (some (xI E 14 (fun _ => 0)))) = u := ⟨_, rfl⟩
  have ha25 : u25 q25 = some (xI E 14 (mF0 25)) := by rw [← hu25]; exact va_up_s _ _ _
  have hb25 : ∀ a, a ≠ q25 → u25 a = w24 a := by intro a h; rw [← hu25]; exact va_up_n _ _ h
  rw [hu25] at hB
  have ho25 : o ≠ q25 := by intro h; rw [← h, hM24.1] at hq25; cases hq25
  refine x_putF C hB (ci := 3) (fs := mFt 24 Ad24) ((hb25 o ho25).trans hM24.1) rfl in_X3 tyX3_ok nmX3 25 (by decide) q1419 (fun x h => h) rfl hin rfl rfl rfl (Nat.le_of_ble_eq_true rfl) dX3_init_140 (fun H locs hB => ?_)
  have hM26 := hM24.next 25 14 q25 rfl (by decide) hq25 ha25 hb25 (by decide) rfl
  clear hu25 ha25 hb25 ho25
  clear hq25
  generalize hAd : va_up Ad24 25 q25 = Ad26 at hM26
  generalize hw26 : va_up _ o _ = w26 at hM26 hB
  clear hAd hw26
  refine lv_aload_n hx hb dX3_init_143 rfl (lv_at hl 0 rfl) ?_
  refine lv_bipush (v := iI 14) hx hb dX3_init_144 rfl ?_
  refine x_newp C hB (atype := .int) 0 (ty := .int) rfl rfl (Or.inl rfl) q213 14 rfl (by decide) (Nat.le_of_ble_eq_true rfl) (Nat.le_of_ble_eq_true rfl) dX3_init_146 (fun q26 H hq26 hg26 hB => ?_)
  replace hB : xB E (xA w sz) s (va_up w26 q26 (some (xI E 14 (fun _ => 0)))) H locs := hB
  obtain ⟨u26, hu26⟩ : ∃ u, (va_up w26 q26 (some (xI E 14 (fun _ => 0)))) = u := ⟨_, rfl⟩
  have ha26 : u26 q26 = some (xI E 14 (mF0 26)) := by rw [← hu26]; exact va_up_s _ _ _
  have hb26 : ∀ a, a ≠ q26 → u26 a = w26 a := by intro a h; rw [← hu26]; exact va_up_n _ _ h
  rw [hu26] at hB
  have ho26 : o ≠ q26 := by intro h; rw [← h, hM26.1] at hq26; cases hq26
  refine x_putF C hB (ci := 3) (fs := mFt 26 Ad26) ((hb26 o ho26).trans hM26.1) rfl in_X3 tyX3_ok nmX3 26 (by decide) q1420 (fun x h => h) rfl hin rfl rfl rfl (Nat.le_of_ble_eq_true rfl) dX3_init_148 (fun H locs hB => ?_)
  have hM27 := hM26.next 26 14 q26 rfl (by decide) hq26 ha26 hb26 (by decide) rfl
  clear hu26 ha26 hb26 ho26
  clear hq26
  generalize hAd : va_up Ad26 26 q26 = Ad27 at hM27
  generalize hw27 : va_up _ o _ = w27 at hM27 hB
  clear hAd hw27
  refine lv_aload_n hx hb dX3_init_151 rfl (lv_at hl 0 rfl) ?_
  refine lv_bipush (v := iI 14) hx hb dX3_init_152 rfl ?_
  refine x_newp C hB (atype := .int) 0 (ty := .int) rfl rfl (Or.inl rfl) q213 14 rfl (by decide) (Nat.le_of_ble_eq_true rfl) (Nat.le_of_ble_eq_true rfl) dX3_init_154 (fun q27 H hq27 hg27 hB => ?_)
  replace hB : xB E (xA w sz) s (va_up w27 q27 (some (xI E 14 (fun _ => 0)))) H locs := hB
  obtain ⟨u27, hu27⟩ : ∃ u, (va_up w27 q27 (some (xI E 14 (fun _ => 0)))) = u := ⟨_, rfl⟩
  have ha27 : u27 q27 = some (xI E 14 (mF0 27)) := by rw [← hu27]; exact va_up_s _ _ _
  have hb27 : ∀ a, a ≠ q27 → u27 a = w27 a := by intro a h; rw [← hu27]; exact va_up_n _ _ h
  rw [hu27] at hB
  have ho27 : o ≠ q27 := by intro h; rw [← h, hM27.1] at hq27; cases hq27
  refine x_putF C hB (ci := 3) (fs := mFt 27 Ad27) ((hb27 o ho27).trans hM27.1) rfl in_X3 tyX3_ok nmX3 27 (by decide) q1421 (fun x h => h) rfl hin rfl rfl rfl (Nat.le_of_ble_eq_true rfl) dX3_init_156 (fun H locs hB => ?_)
  have hM28 := hM27.next 27 14 q27 rfl (by decide) hq27 ha27 hb27 (by decide) rfl
  clear hu27 ha27 hb27 ho27
  clear hq27
  generalize hAd : va_up Ad27 27 q27 = Ad28 at hM28
  generalize hw28 : va_up _ o _ = w28 at hM28 hB
  clear hAd hw28
  refine lv_aload_n hx hb dX3_init_159 rfl (lv_at hl 0 rfl) ?_
  refine lv_bipush (v := iI 17) hx hb dX3_init_160 rfl ?_
  refine x_newp C hB (atype := .int) 0 (ty := .int) rfl rfl (Or.inl rfl) q213 17 rfl (by decide) (Nat.le_of_ble_eq_true rfl) (Nat.le_of_ble_eq_true rfl) dX3_init_162 (fun q28 H hq28 hg28 hB => ?_)
  replace hB : xB E (xA w sz) s (va_up w28 q28 (some (xI E 17 (fun _ => 0)))) H locs := hB
  obtain ⟨u28, hu28⟩ : ∃ u, (va_up w28 q28 (some (xI E 17 (fun _ => 0)))) = u := ⟨_, rfl⟩
  have ha28 : u28 q28 = some (xI E 17 (mF0 28)) := by rw [← hu28]; exact va_up_s _ _ _
  have hb28 : ∀ a, a ≠ q28 → u28 a = w28 a := by intro a h; rw [← hu28]; exact va_up_n _ _ h
  rw [hu28] at hB
  have ho28 : o ≠ q28 := by intro h; rw [← h, hM28.1] at hq28; cases hq28
  refine x_putF C hB (ci := 3) (fs := mFt 28 Ad28) ((hb28 o ho28).trans hM28.1) rfl in_X3 tyX3_ok nmX3 28 (by decide) q1422 (fun x h => h) rfl hin rfl rfl rfl (Nat.le_of_ble_eq_true rfl) dX3_init_164 (fun H locs hB => ?_)
  have hM29 := hM28.next 28 17 q28 rfl (by decide) hq28 ha28 hb28 (by decide) rfl
  clear hu28 ha28 hb28 ho28
  clear hq28
  generalize hAd : va_up Ad28 28 q28 = Ad29 at hM29
  generalize hw29 : va_up _ o _ = w29 at hM29 hB
  clear hAd hw29
  refine lv_aload_n hx hb dX3_init_167 rfl (lv_at hl 0 rfl) ?_
  refine lv_bipush (v := iI 8) hx hb dX3_init_168 rfl ?_
  refine x_newp C hB (atype := .int) 0 (ty := .int) rfl rfl (Or.inl rfl) q213 8 rfl (by decide) (Nat.le_of_ble_eq_true rfl) (Nat.le_of_ble_eq_true rfl) dX3_init_170 (fun q30 H hq30 hg30 hB => ?_)
  replace hB : xB E (xA w sz) s (va_up w29 q30 (some (xI E 8 (fun _ => 0)))) H locs := hB
  obtain ⟨u30, hu30⟩ : ∃ u, (va_up w29 q30 (some (xI E 8 (fun _ => 0)))) = u := ⟨_, rfl⟩
  have ha30 : u30 q30 = some (xI E 8 (mF0 30)) := by rw [← hu30]; exact va_up_s _ _ _
  have hb30 : ∀ a, a ≠ q30 → u30 a = w29 a := by intro a h; rw [← hu30]; exact va_up_n _ _ h
  rw [hu30] at hB
  have ho30 : o ≠ q30 := by intro h; rw [← h, hM29.1] at hq30; cases hq30
  refine x_putF C hB (ci := 3) (fs := mFt 29 Ad29) ((hb30 o ho30).trans hM29.1) rfl in_X3 tyX3_ok nmX3 30 (by decide) q1424 (fun x h => h) rfl hin rfl rfl rfl (Nat.le_of_ble_eq_true rfl) dX3_init_172 (fun H locs hB => ?_)
  have hM31 := hM29.next 30 8 q30 rfl (by decide) hq30 ha30 hb30 (by decide) rfl
  clear hu30 ha30 hb30 ho30
  clear hq30
  generalize hAd : va_up Ad29 30 q30 = Ad31 at hM31
  generalize hw31 : va_up _ o _ = w31 at hM31 hB
  clear hAd hw31
  refine lv_aload_n hx hb dX3_init_175 rfl (lv_at hl 0 rfl) ?_
  refine lv_bipush (v := iI 8) hx hb dX3_init_176 rfl ?_
  refine x_newp C hB (atype := .int) 0 (ty := .int) rfl rfl (Or.inl rfl) q213 8 rfl (by decide) (Nat.le_of_ble_eq_true rfl) (Nat.le_of_ble_eq_true rfl) dX3_init_178 (fun q31 H hq31 hg31 hB => ?_)
  replace hB : xB E (xA w sz) s (va_up w31 q31 (some (xI E 8 (fun _ => 0)))) H locs := hB
  obtain ⟨u31, hu31⟩ : ∃ u, (va_up w31 q31 (some (xI E 8 (fun _ => 0)))) = u := ⟨_, rfl⟩
  have ha31 : u31 q31 = some (xI E 8 (mF0 31)) := by rw [← hu31]; exact va_up_s _ _ _
  have hb31 : ∀ a, a ≠ q31 → u31 a = w31 a := by intro a h; rw [← hu31]; exact va_up_n _ _ h
  rw [hu31] at hB
  have ho31 : o ≠ q31 := by intro h; rw [← h, hM31.1] at hq31; cases hq31
  refine x_putF C hB (ci := 3) (fs := mFt 31 Ad31) ((hb31 o ho31).trans hM31.1) rfl in_X3 tyX3_ok nmX3 31 (by decide) q1425 (fun x h => h) rfl hin rfl rfl rfl (Nat.le_of_ble_eq_true rfl) dX3_init_180 (fun H locs hB => ?_)
  have hM32 := hM31.next 31 8 q31 rfl (by decide) hq31 ha31 hb31 (by decide) rfl
  clear hu31 ha31 hb31 ho31
  clear hq31
  generalize hAd : va_up Ad31 31 q31 = Ad32 at hM32
  generalize hw32 : va_up _ o _ = w32 at hM32 hB
  clear hAd hw32
  exact W.vret hx hb hr (fun t ht hW => ⟨⟨w32, rfl, ⟨Ad32, hM32.inv⟩, by rw [ht]; exact hB.1, hB.2.1⟩, hB.2.2.1.F ht⟩) hB.2.2.1.2.2 dX3_init_183 hlocks
