/-! ROWS for acts: casts of left sentences, copies between rows, readers -/
set_option maxRecDepth 100000
/-- cells in the range of their lane -/
def lnOK (lane x : Int) : Prop := (lane = 0 → -128 ≤ x ∧ x ≤ 127) ∧ (lane = 1 → -32768 ≤ x ∧ x ≤ 32767)
def xOK (F : Nat → Nat → Int) : Prop := ∀ k j : Nat, k < 4 → (j : Int) < F 3 k → lnOK (F 2 k) (F 4 (60 * k + j))
theorem fits_b {x : Int} (h : -128 ≤ x ∧ x ≤ 127) : fits .byte (.int (iI x)) = true := by
  have e := iI_toInt (z := x) ⟨by omega, by omega⟩
  have a1 : (-128 : Int32).toInt = -128 := by decide
  have a2 : (127 : Int32).toInt = 127 := by decide
  simp only [fits, Bool.and_eq_true, decide_eq_true_eq, Int32.le_iff_toInt_le, e, a1, a2]
  exact h
theorem fits_s {x : Int} (h : -32768 ≤ x ∧ x ≤ 32767) : fits .short (.int (iI x)) = true := by
  have e := iI_toInt (z := x) ⟨by omega, by omega⟩
  have a1 : (-32768 : Int32).toInt = -32768 := by decide
  have a2 : (32767 : Int32).toInt = 32767 := by decide
  simp only [fits, Bool.and_eq_true, decide_eq_true_eq, Int32.le_iff_toInt_le, e, a1, a2]
  exact h
theorem rowE_0 {E : xE} {n : Int} {f : Nat → Int} : rowE E 0 n f = .inl (.inl (E.2 1, n.toNat, .inl (fun j => iI (f j)))) := rfl
theorem rowE_1 {E : xE} {n : Int} {f : Nat → Int} : rowE E 1 n f = .inl (.inl (E.2 2, n.toNat, .inl (fun j => iI (f j)))) := rfl
theorem rowE_2 {E : xE} {n : Int} {f : Nat → Int} : rowE E 2 n f = .inl (.inl (E.2 0, n.toNat, .inl (fun j => iI (f j)))) := rfl
theorem xB.arrI {E : xE} {A : Nat → Prop} {s : State} {w : xw} {H : Heap} {locs : List Loc} (h : xB E A s w H locs) {a n : Nat} {f g : Nat → Int} (ha : w a = some (xI E n f)) (hfg : ∀ j, j < n → f j = g j) : xB E A s (va_up w a (some (xI E n g))) H locs := by
  obtain ⟨hP, hD, hS, hA⟩ := h
  have h1 := hP a _ ha
  refine ⟨fun q e hq => ?_, fun q e hq => ?_, hS, hA⟩
  · by_cases g1 : q = a
    · subst g1
      rw [va_up_s] at hq
      cases hq
      show H[q]? = some (vp_cell (E.2 0) (n, .inl (fun j => iI (g j))))
      have h2 : H[q]? = some (vp_cell (E.2 0) (n, .inl (fun j => iI (f j)))) := h1
      rw [h2, vp_cell_i, vp_cell_i]
      congr 1
      exact arrV_congr _ _ (fun j hj => by rw [hfg j hj])
    · rw [va_up_n _ _ g1] at hq
      exact hP q e hq
  · by_cases g1 : q = a
    · subst g1
      exact hD q _ ha
    · rw [va_up_n _ _ g1] at hq
      exact hD q e hq
section R4
variable {p : Program} {l : Launch} {e : Env} {R : Room} {s : State} {m : MethodId} {args : Array Value} {below : List Frame} {meth : Method} {c : Code} {H : Heap} {locs : List Loc} {cells slots : Nat} {Q : State → Prop}
variable {cc : ByteArray} {pc nL : Nat} {ls : Array Slot} {rest : List Value} {E : xE} {A : Nat → Prop} {a : Nat} {w : xw} {own : String} {o : Nat} {Ad : Nat → Nat} {I : Nat → Int} {F : Nat → Nat → Int} {X : xw}
theorem x_castOX (hfl : l.stackTraces = false) (C : xC E p s m args c cc nL own) (hV : zV E A s s.heap) (hB : xB E A s w H locs) {index ci : Nat} {fs : List Value} {q : vw_C} {nm : String} (ha : w a = some (xO ci fs)) (hc : vwCl[ci]? = some q) (hnc : (q.1, nm) ∈ ncl) (hp1 : castPackages_1.contains (packageOf q.1) = true ∧ q.1.toList.length ≤ 20) (hp2 : castPackages_1.contains (packageOf nm) = true ∧ nm.toList.length ≤ 20) (hlink : (Cond.classLink own index nm) ∈ lw_all) (hl : ls.size = nL) (hr : rmOK meth R cells slots (.ref a :: rest)) (hdg : decode cc pc = .ok (.checkcast index, 3))
    (kx : thr E A w locs p l e R s m args below meth c cells slots Q (F0 m pc ls (.ref a :: rest)) "java/lang/ClassCastException") : W p l e R s m args below meth c H locs cells slots Q (F0 m pc ls (.ref a :: rest)) := by
  obtain ⟨h1, h2, h3, h4, h5⟩ := hr
  refine xv_castX C.1.1 C.1.2.1 C.1.2.2.2.1 (C.1.2.2.2.2 _ hlink) (hV.1.1.2.1 _ hnc) (xrecv C.2 hB.1 ha hc) hV.2.2.2.1 hp1 hp2 hdg (fun tx t1 t2 => ?_)
  exact e_vm hfl C hV kp_x hB vw_CCE vg_CCE (e_ok _ (Or.inl rfl)) ⟨t1, t2⟩ hl h1 h2 h3 h4 h5 kx
theorem b_castLg (C : xC E p s m args c cc nL own) (hB : xBB E A s o Ad I F X H locs) (i : Nat) (hi : (i : Int) < I 5) (h7 : I 5 ≤ 7) (hk : F 10 i = 1 ∨ F 10 i = 2) {index : Nat} (hlk : (Cond.classLink own index "BookPairs$Longer") ∈ lw_all) (hdg : decode cc pc = .ok (.checkcast index, 3))
    (kk : W p l e R s m args below meth c H locs cells slots Q (F0 m (pc + 3) ls (.ref (Ad (100 + i)) :: rest))) : W p l e R s m args below meth c H locs cells slots Q (F0 m pc ls (.ref (Ad (100 + i)) :: rest)) := by
  obtain ⟨w, hI, hd, hB⟩ := hB
  rcases hk with h | h
  · exact x_castS C hB hlk (wU_l (X := X) (pl_at1 hI hi h7 h)) rfl rfl hdg kk
  · exact x_castY C hB hlk (wU_l (X := X) (pl_at2 hI hi h7 h)) rfl rfl q1751 hdg kk
theorem b_castDb (C : xC E p s m args c cc nL own) (hB : xBB E A s o Ad I F X H locs) (i : Nat) (hi : (i : Int) < I 5) (h7 : I 5 ≤ 7) (hk : F 10 i = 2) {index : Nat} (hlk : (Cond.classLink own index "BookPairs$Doubled") ∈ lw_all) (hdg : decode cc pc = .ok (.checkcast index, 3))
    (kk : W p l e R s m args below meth c H locs cells slots Q (F0 m (pc + 3) ls (.ref (Ad (100 + i)) :: rest))) : W p l e R s m args below meth c H locs cells slots Q (F0 m pc ls (.ref (Ad (100 + i)) :: rest)) := by
  obtain ⟨w, hI, hd, hB⟩ := hB
  exact x_castS C hB hlk (wU_l (X := X) (pl_at2 hI hi h7 hk)) rfl rfl hdg kk
theorem b_plLg (C : xC E p s m args c cc nL own) (hB : xBB E A s o Ad I F X H locs) (i : Nat) (hi : (i : Int) < I 5) (h7 : I 5 ≤ 7) (hk : F 10 i = 1 ∨ F 10 i = 2) {index : Nat} (hlk : (Cond.fieldLink own index "BookPairs$Longer" "letters" "I") ∈ lw_all) (hdg : decode cc pc = .ok (.getfield index, 3))
    (kk : W p l e R s m args below meth c H locs cells slots Q (F0 m (pc + 3) ls (.int (iI (F 11 i)) :: rest))) : W p l e R s m args below meth c H locs cells slots Q (F0 m pc ls (.ref (Ad (100 + i)) :: rest)) := by
  obtain ⟨w, hI, hd, hB⟩ := hB
  rcases hk with h | h
  · exact x_get C hB (wU_l (X := X) (pl_at1 hI hi h7 h)) rfl in_X7 1 (by decide) hlk (fun x h => u_same (C.1.2.2.2.2 _ q783) x h) rfl hdg kk
  · exact x_get C hB (wU_l (X := X) (pl_at2 hI hi h7 h)) rfl in_X8 1 (by decide) hlk (fun x h => u_same (C.1.2.2.2.2 _ q783) x h) rfl hdg kk
theorem b_plDb (C : xC E p s m args c cc nL own) (hB : xBB E A s o Ad I F X H locs) (i : Nat) (hi : (i : Int) < I 5) (h7 : I 5 ≤ 7) (hk : F 10 i = 2) {index : Nat} (hlk : (Cond.fieldLink own index "BookPairs$Doubled" "letters" "I") ∈ lw_all) (hdg : decode cc pc = .ok (.getfield index, 3))
    (kk : W p l e R s m args below meth c H locs cells slots Q (F0 m (pc + 3) ls (.int (iI (F 11 i)) :: rest))) : W p l e R s m args below meth c H locs cells slots Q (F0 m pc ls (.ref (Ad (100 + i)) :: rest)) := by
  obtain ⟨w, hI, hd, hB⟩ := hB
  exact x_get C hB (wU_l (X := X) (pl_at2 hI hi h7 hk)) rfl in_X8 1 (by decide) hlk (fun x h => u_same (C.1.2.2.2.2 _ q785) x h) rfl hdg kk
/-- System.arraycopy between two rows of one lane -/
theorem x_copyR (C : xC E p s m args c cc nL own) (hB : xB E A s w H locs) {index : Nat} (hw : cpW own index) {a b : Nat} {la na nb : Int} {fa fb : Nat → Int} {z1 z2 z3 : Int} (ha : w a = some (rowE E la na fa)) (hb : w b = some (rowE E la nb fb)) (hla : 0 ≤ la ∧ la ≤ 2) (hna : 0 ≤ na ∧ na < 2 ^ 30) (hnb : 0 ≤ nb ∧ nb < 2 ^ 30) (h0 : 0 ≤ z1 ∧ 0 ≤ z2 ∧ 0 ≤ z3) (h4 : z1 + z3 ≤ na) (h5 : z2 + z3 ≤ nb) (hfit : ∀ j : Nat, (j : Int) < na → lnOK la (fa j))
    (hl : ls.size = nL) (hframes : 1 ≤ R.frames) (hlocals : (rest.map fun v => v.category).sum + (nativeFrameWords "java/lang/System" "arraycopy" 5 + 11) ≤ R.locals) (hdg : decode cc pc = .ok (.invokestatic index, 3))
    (kk : ∀ (H1 : Heap) (locs1 : List Loc), xB E A s (va_up w b (some (rowE E la nb (va_cpy fa fb z1.toNat z2.toNat z3.toNat)))) H1 locs1 → W p l e R s m args below meth c H1 locs1 cells slots Q (F0 m (pc + 3) ls rest)) : W p l e R s m args below meth c H locs cells slots Q (F0 m pc ls (.int (iI z3) :: .int (iI z2) :: .ref b :: .int (iI z1) :: .ref a :: rest)) := by
  obtain ⟨w1, w2, w3, w4⟩ := hw
  rcases (show la = 0 ∨ la = 1 ∨ la = 2 by omega) with rfl | rfl | rfl
  · exact x_copyi C hB w1 w2 w3 w4 1 rfl rfl ha hb z1.toNat z2.toNat z3.toNat (by omega) (by omega) (by omega) (by omega) (by omega) (by omega) (by omega) (fun i hi => fits_b ((hfit _ (by omega)).1 rfl)) hl hframes hlocals hdg kk
  · exact x_copyi C hB w1 w2 w3 w4 2 rfl rfl ha hb z1.toNat z2.toNat z3.toNat (by omega) (by omega) (by omega) (by omega) (by omega) (by omega) (by omega) (fun i hi => fits_s ((hfit _ (by omega)).2 rfl)) hl hframes hlocals hdg kk
  · exact x_copyi C hB w1 w2 w3 w4 0 rfl rfl ha hb z1.toNat z2.toNat z3.toNat (by omega) (by omega) (by omega) (by omega) (by omega) (by omega) (by omega) (fun i hi => rfl) hl hframes hlocals hdg kk
/-- a reader of books reads -/
theorem b_readC (l : Launch) {p : Program} {e : Env} {R : Room} {s : State} {m : MethodId} {args : Array Value} {below : List Frame} {meth : Method} {c : Code} {H : Heap} {locs : List Loc} {cells slots : Nat} {Q : State → Prop} {rest : List Value} (C : xC E p s m args c cc nL own) (hZ : zK E A s s.heap) (hB : xBB E A s o Ad I F X H locs) {rd q n : Nat} {f : Nat → Int} (hrd : X rd = some (lamE E o 8)) (hq : X q = some (xI E n f)) (hn : n ≤ 60) (hfr : ∀ j, rg (f j)) (hOK : mOK I F) {index count : Nat} (hlk : Cond.methodLink own index ⟨"BookPairs$Reader", "read", "([I)I"⟩ ∈ lw_all) (hR : 8 ≤ R.frames ∧ 8 + (2 + 11) + (8 + (5 + 11) + 144) ≤ R.locals) (hl : ls.size = nL) (hW : (rest.map fun v => v.category).sum ≤ 8) (hdg : decode cc pc = .ok (.invokeinterface index count, 5)) (hcs : cells + 11 ≤ R.cells ∧ slots + 62 ≤ R.slots)
    (kk : ∀ (z : Int) (Ad1 : Nat → Nat) (I1 : Nat → Int) (F1 : Nat → Nat → Int) (X1 : xw) (H1 : Heap) (locs1 : List Loc), rg z → mAg (nbI I (xt f n) n) (nbF F (xt f n) n) I1 F1 → z = rText (xt f n) n → xBB E A s o Ad1 I1 F1 X1 H1 locs1 → W p l e R s m args below meth c H1 locs1 (cells + 11) (slots + 62) Q (F0 m (pc + 5) ls (.int (iI z) :: rest))) : W p l e R s m args below meth c H locs cells slots Q (F0 m pc ls (.ref q :: .ref rd :: rest)) := by
  obtain ⟨hR1, hR2⟩ := hR
  exact b_callFi (cells + 11) (slots + 62) (Nat.le_refl _) (Nat.le_refl _) hB (fun w hI hd hB => va_runLC (i := 8) rfl C hZ hB (kX0_newBooks l E o Ad I F X q n f hq hn hfr hOK w hI hd _) rfl rfl rfl hlk (by decide) q1056 q68 q1057 qs33 (by decide +kernel) ⟨by omega, hR2⟩ (wU_r hd hrd) (wU_l hI.x) qi_int hl rfl hW hdg hcs) (fun z Ad1 I1 F1 X1 H1 locs1 hz hp hB => kk z Ad1 I1 F1 X1 H1 locs1 hz hp.1 hp.2 hB)
/-- a reader of a day reads -/
theorem b_readD (l : Launch) {p : Program} {e : Env} {R : Room} {s : State} {m : MethodId} {args : Array Value} {below : List Frame} {meth : Method} {c : Code} {H : Heap} {locs : List Loc} {cells slots : Nat} {Q : State → Prop} {rest : List Value} (C : xC E p s m args c cc nL own) (hZ : zK E A s s.heap) (hB : xBB E A s o Ad I F X H locs) {rd q n : Nat} {f : Nat → Int} {wh : Int} (hrd : X rd = some (.inr { cls := E.2 19, slots := #[.ref o, .int (iI wh)], vm := .none })) (hq : X q = some (xI E (2 * n) f)) (hn : n ≤ 20) (hfr : ∀ j, j < 2 * n → rg (f j)) (hwh : (0 ≤ wh ∧ wh ≤ 4) ∨ (10 ≤ wh ∧ wh ≤ 16)) (hOK : mOK I F) {index count : Nat} (hlk : Cond.methodLink own index ⟨"BookPairs$Reader", "read", "([I)I"⟩ ∈ lw_all) (hR : 16 ≤ R.frames ∧ 8 + (2 + 11) + (8 + (3 + 11) + 324) ≤ R.locals) (hl : ls.size = nL) (hW : (rest.map fun v => v.category).sum ≤ 8) (hdg : decode cc pc = .ok (.invokeinterface index count, 5)) (hcs : cells + 18 ≤ R.cells ∧ slots + 72 ≤ R.slots)
    (kk : ∀ (z : Int) (Ad1 : Nat → Nat) (I1 : Nat → Int) (F1 : Nat → Nat → Int) (X1 : xw) (H1 : Heap) (locs1 : List Loc), rg z → mAg I F I1 F1 → z = rDayB I F f n wh → xBB E A s o Ad1 I1 F1 X1 H1 locs1 → W p l e R s m args below meth c H1 locs1 (cells + 18) (slots + 72) Q (F0 m (pc + 5) ls (.int (iI z) :: rest))) : W p l e R s m args below meth c H locs cells slots Q (F0 m pc ls (.ref q :: .ref rd :: rest)) := by
  obtain ⟨hR1, hR2⟩ := hR
  exact b_callFi (cells + 18) (slots + 72) (Nat.le_refl _) (Nat.le_refl _) hB (fun w hI hd hB => va_runLD (i := 9) rfl C hZ hB (kX0_lambda_day_8 l E o Ad I F X q n f wh hq hn hfr hwh hOK w hI hd _) rfl rfl rfl hlk (by decide) q1219 q68 q1220 qs37 (by decide +kernel) ⟨by omega, hR2⟩ (wU_r hd hrd) (wU_l hI.x) qi_int hl rfl hW hdg hcs) (fun z Ad1 I1 F1 X1 H1 locs1 hz hp hB => kk z Ad1 I1 F1 X1 H1 locs1 hz hp.1 hp.2 hB)
end R4
