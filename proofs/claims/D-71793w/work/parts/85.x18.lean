/-! THE COMPONENT: a day, and all put back -/
set_option maxRecDepth 100000
noncomputable def rDayB (I : Nat → Int) (F : Nat → Nat → Int) (f : Nat → Int) (n : Nat) (wh : Int) : Int := if I 5 = 0 then -3 else @ite Int (∀ q : Nat, q < n → isPr (f (2 * q)) (f (2 * q + 1))) (Classical.propDecidable _) (rDay I F f n wh) (-2)
theorem rDay_kp (I : Nat → Int) (F : Nat → Nat → Int) (h c : Nat → Int) (n : Nat) (wh : Int) : rDay I (kpF F h) c n wh = rDay I F c n wh := by
  have g := gdy_0 c (I 0) h n 0 I F
  rw [va_up_id] at g
  unfold rDay
  rw [g]
  dsimp only
  rw [rTellD_0]
theorem day_cpy (f : Nat → Int) {k : Nat} (h : k < 7) : va_cpy f (fun _ => 0) 0 0 7 k = f k := by
  unfold va_cpy
  rw [if_pos ⟨Nat.zero_le _, by omega⟩]
  congr 1
  omega
section CPY
variable {p : Program} {l : Launch} {e : Env} {R : Room} {s : State} {m : MethodId} {args : Array Value} {below : List Frame} {meth : Method} {c : Code} {H : Heap} {locs : List Loc} {cells slots : Nat} {Q : State → Prop}
variable {cc : ByteArray} {pc nL : Nat} {ls : Array Slot} {rest : List Value} {E : xE} {A : Nat → Prop} {o a : Nat} {Ad : Nat → Nat} {I : Nat → Int} {F : Nat → Nat → Int} {X : xw} {own : String}
theorem b_cpyR (C : xC E p s m args c cc nL own) (hB : xBB E A s o Ad I F X H locs) {index : Nat} (hlink : (Cond.methodLink own index arraycopyName) ∈ lw_all) (hnat : (Cond.native arraycopyName) ∈ lw_all) (hstat : (Cond.static arraycopyName) ∈ lw_all) (hini : (Cond.initialized "java/lang/System") ∈ lw_all) (r k : Nat) (hr : xArr r = some (k, 7)) {g : Nat → Int} (ha : X a = some (xI E 7 g))
    (hl : ls.size = nL) (hframes : 1 ≤ R.frames) (hlocals : (rest.map fun v => v.category).sum + (nativeFrameWords "java/lang/System" "arraycopy" 5 + 11) ≤ R.locals) (hdg : decode cc pc = .ok (.invokestatic index, 3))
    (kk : ∀ (H1 : Heap) (locs1 : List Loc), xBB E A s o Ad I F (va_up X a (some (xI E 7 (va_cpy (F k) g 0 0 7)))) H1 locs1 → W p l e R s m args below meth c H1 locs1 cells slots Q (F0 m (pc + 3) ls rest)) : W p l e R s m args below meth c H locs cells slots Q (F0 m pc ls (.int (iI 7) :: .int (iI 0) :: .ref a :: .int (iI 0) :: .ref (Ad r) :: rest)) := by
  obtain ⟨w, hI, hd, hB⟩ := hB
  refine x_copyi C hB hlink hnat hstat hini 0 rfl rfl (wU_l (hI.at (C0_arr hr))) (wU_r hd ha) 0 0 7 rfl rfl rfl (by omega) (by omega) (by omega) (by omega) (fun _ _ => rfl) hl hframes hlocals hdg (fun H1 locs1 h => kk H1 locs1 ⟨w, hI, (hd.put_t _ ha).1, ?_⟩)
  rw [← (hd.put_t _ ha).2]
  exact h
end CPY
set_option maxHeartbeats 800000 in
set_option maxRecDepth 100000 in
theorem kX0_dayBy (l : Launch) (E : xE) (o : Nat) (Ad : Nat → Nat) (I : Nat → Int) (F : Nat → Nat → Int) (X : xw) (q : Nat) (n : Nat) (f : Nat → Int) (wh : Int) (hq : X q = some (xI E (2 * n) f)) (hn : n ≤ 20) (hrf : ∀ j, j < 2 * n → rg (f j)) (hwh : (0 ≤ wh ∧ wh ≤ 4) ∨ (10 ≤ wh ∧ wh ≤ 16)) (hOK : mOK I F) : ci_ l E yX0_dayBy cX0_dayBy 9 (some .int) 13 296 18 72 [.ref o, .ref q, .int (iI wh)] o Ad I F X (fun z Ad' I' F' X' => mAg I F I' F' ∧ z = rDayB I F f n wh) := by
  intro w hI hd sz
  refine x_bodyz (by decide) (Nat.le_of_ble_eq_true rfl) ?_
  intro p e s m args below meth c ls hx hb C hr hlocks hin hsz hZ hB hl
  have C : xC E p s m args c cX0_dayBy 9 RX0 := C
  replace hB : xBB E (xA (wU w X) sz) s o Ad I F X s.heap [] := ⟨w, hI, hd, hB⟩
  have hl : lv_has ls 9 [(0, .ref o), (1, .ref q), (2, .int (iI wh))] := hl
  have hOK0 := hOK
  obtain ⟨⟨hf1, hf2⟩, ⟨hl1, hl2⟩, ⟨hr1, hr2⟩, hlr, ⟨hs1, hs2⟩, ⟨hj1, hj2⟩, ⟨hb1, hb2⟩, ⟨hn1, hn2⟩, hL, hR, hN, hS, hC⟩ := hOK
  refine lv_aload_n hx hb dX0_dayBy_0 rfl (lv_at hl 0 rfl) ?_
  refine b_calli 0 0 (Nat.le_of_ble_eq_true rfl) (Nat.le_of_ble_eq_true rfl) hB (fun w hI hd hB => rV (As := []) (n := 0) C hZ hB (kX0_noBooks l E o Ad I F X hOK0 w hI hd _) (lw_V q275 q277 qs11 q68 q278) (by decide +kernel) ⟨Nat.le_of_ble_eq_true rfl, Nat.le_of_ble_eq_true rfl⟩ (wU_l hI.x) rfl rfl rfl hl.1 rfl (Nat.le_of_ble_eq_true rfl) dX0_dayBy_1 ⟨Nat.le_of_ble_eq_true rfl, Nat.le_of_ble_eq_true rfl⟩) (fun z1 Ad2 I3 F4 X5 H locs hz6 hp7 hB => ?_)
  obtain ⟨hz6a, hz6b⟩ := hz6
  obtain ⟨rfl, rfl, rfl, rfl, ⟨rfl, h8⟩ | ⟨rfl, h8⟩⟩ := hp7
  · refine x_if_eq (tgt := 10) hx hb dX0_dayBy_4 (by decide) ⟨by decide, by decide⟩ (fun c9 => by exfalso; omega) (fun c9 => ?_)
    refine lv_bipush (v := iI (-3)) hx hb dX0_dayBy_7 rfl ?_
    exact b_iret C hB hr hlocks rfl dX0_dayBy_9 (Nat.le_of_ble_eq_true rfl) (Nat.le_of_ble_eq_true rfl) ⟨by decide, by decide⟩ ⟨mAg_rfl I F, by unfold rDayB; rw [if_pos (by omega)]⟩
  · refine x_if_eq (tgt := 10) hx hb dX0_dayBy_4 (by decide) ⟨by decide, by decide⟩ (fun c10 => ?_) (fun c10 => by exfalso; omega)
    refine lv_iconst (v := iI 0) hx hb dX0_dayBy_10 rfl ?_
    refine lv_istore_n (lv' := [(3, .int (iI 0)), (0, .ref o), (1, .ref q), (2, .int (iI wh))]) hx hb dX0_dayBy_11 rfl hl (by decide) rfl (fun ls hl => ?_)
    refine w_loop (fun n14 H locs ls => ∃ (c_ : Nat), n14 = n - c_ ∧ (c_ ≤ n) ∧ (∀ t, t < c_ → isPr (f (2 * t)) (f (2 * t + 1))) ∧ xBB E (xA (wU w X) sz) s o Ad I F X H locs ∧ lv_has ls 9 [(0, .ref o), (1, .ref q), (2, .int (iI wh)), (3, .int (iI (2 * (c_ : Int))))]) _ ⟨0, rfl, Nat.zero_le _, fun t h => absurd h (Nat.not_lt_zero t), hB, lv_sub hl [1, 2, 3, 0] rfl⟩ ?_
    intro n14 H locs ls hI13 ih11
    obtain ⟨c_, hn12, hcn, hall, hB, hl⟩ := hI13
    refine lv_iload_n hx hb dX0_dayBy_12 rfl (lv_at hl 3 rfl) ?_
    refine lv_aload_n hx hb dX0_dayBy_13 rfl (lv_at hl 1 rfl) ?_
    refine t_len C hB 0 rfl hq dX0_dayBy_14 ?_
    refine x_nm (b := (((2 * n) : Nat) : Int)) rfl ?_
    refine x_icmp_ge (tgt := 41) hx hb dX0_dayBy_15 (by decide) ⟨by omega, by omega⟩ ⟨by omega, by omega⟩ (fun c15 => ?_) (fun c15 => ?_)
    · have hcn2 : c_ = n := by omega
      subst hcn2
      refine lv_aload_n hx hb dX0_dayBy_41 rfl (lv_at hl 0 rfl) ?_
      refine b_get C hB 7 (by decide) q301 (v := .int (iI (I 7))) rfl rfl dX0_dayBy_42 ?_
      refine lv_istore_n (lv' := [(3, .int (iI (I 7))), (0, .ref o), (1, .ref q), (2, .int (iI wh))]) hx hb dX0_dayBy_45 rfl hl (by decide) rfl (fun ls hl => ?_)
      refine lv_aload_n hx hb dX0_dayBy_46 rfl (lv_at hl 1 rfl) ?_
      refine b_get C hB 8 (by decide) q302 (v := .int (iI (I 8))) rfl rfl dX0_dayBy_47 ?_
      refine lv_istore (lv' := [(4, .int (iI (I 8))), (3, .int (iI (I 7))), (0, .ref o), (1, .ref q), (2, .int (iI wh))]) hx hb dX0_dayBy_50 hl (by decide) rfl (fun ls hl => ?_)
      refine lv_aload_n hx hb dX0_dayBy_52 rfl (lv_at hl 2 rfl) ?_
      refine b_get C hB 9 (by decide) q304 (v := .int (iI (I 9))) rfl rfl dX0_dayBy_53 ?_
      refine lv_istore (lv' := [(5, .int (iI (I 9))), (4, .int (iI (I 8))), (3, .int (iI (I 7))), (0, .ref o), (1, .ref q), (2, .int (iI wh))]) hx hb dX0_dayBy_56 hl (by decide) rfl (fun ls hl => ?_)
      refine lv_bipush (v := iI 7) hx hb dX0_dayBy_58 rfl ?_
      refine t_newp C hB (atype := .int) 0 rfl rfl (by decide) q213 7 rfl (by omega) (Nat.le_of_ble_eq_true rfl) (Nat.le_of_ble_eq_true rfl) dX0_dayBy_60 (fun q16 H hq17 hs18 hB => ?_)
      have hne19 : q ≠ q16 := fun e => by cases (hq17.symm.trans ((congrArg _ e.symm).trans hq))
      refine x_up (c2 := 1) (s2 := 7) (Nat.le_of_ble_eq_true rfl) (Nat.le_of_ble_eq_true rfl) ?_
      replace hB : xBB E (xA (wU w X) sz) s o Ad I F (va_up X q16 (some (xI E 7 ((fun _ => 0))))) _ _ := hB
      refine lv_astore (lv' := [(6, .ref q16), (5, .int (iI (I 9))), (4, .int (iI (I 8))), (3, .int (iI (I 7))), (0, .ref o), (1, .ref q), (2, .int (iI wh))]) hx hb dX0_dayBy_62 hl (by decide) rfl (fun ls hl => ?_)
      refine lv_aload_n hx hb dX0_dayBy_64 rfl (lv_at hl 4 rfl) ?_
      refine b_get C hB 5 (by decide) q299 (v := .ref (Ad 6)) rfl rfl dX0_dayBy_65 ?_
      refine lv_iconst (v := iI 0) hx hb dX0_dayBy_68 rfl ?_
      refine lv_aload hx hb dX0_dayBy_69 (lv_at hl 0 rfl) ?_
      refine lv_iconst (v := iI 0) hx hb dX0_dayBy_71 rfl ?_
      refine lv_bipush (v := iI 7) hx hb dX0_dayBy_72 rfl ?_
      refine b_cpyR C hB q1108 q744 q743 q85 6 13 rfl (va_up_s _ _ _) hl.1 (Nat.le_of_ble_eq_true rfl) (Nat.le_of_ble_eq_true rfl) dX0_dayBy_74 (fun H locs hB => ?_)
      rw [bx_uu] at hB
      replace hB : xBB E (xA (wU w X) sz) s o Ad I F (va_up X q16 (some (xI E 7 ((va_cpy (F 13) ((fun _ => 0)) 0 0 7))))) _ _ := hB
      rw [← kpF_id F] at hB
      replace hB : xBB E (xA (wU w X) sz) s o Ad I (kpF F (F 28)) (va_up X q16 (some (xI E 7 ((va_cpy (F 13) ((fun _ => 0)) 0 0 7))))) _ _ := hB
      refine lv_iconst (v := iI 0) hx hb dX0_dayBy_77 rfl ?_
      refine lv_istore (lv' := [(7, .int (iI 0)), (6, .ref q16), (5, .int (iI (I 9))), (4, .int (iI (I 8))), (3, .int (iI (I 7))), (0, .ref o), (1, .ref q), (2, .int (iI wh))]) hx hb dX0_dayBy_78 hl (by decide) rfl (fun ls hl => ?_)
      refine w_loop (fun n23 H locs ls => ∃ (i_ : Nat) (hk : Nat → Int), n23 = (I 5 - i_).toNat ∧ ((i_ : Int) ≤ I 5) ∧ (∀ k, k < i_ → hk k = F 11 k) ∧ xBB E (xA (wU w X) sz) s o Ad I (kpF F hk) (va_up X q16 (some (xI E 7 ((va_cpy (F 13) ((fun _ => 0)) 0 0 7))))) H locs ∧ lv_has ls 9 [(0, .ref o), (1, .ref q), (2, .int (iI wh)), (3, .int (iI (I 7))), (4, .int (iI (I 8))), (5, .int (iI (I 9))), (6, .ref q16), (7, .int (iI ((i_ : Int))))]) _ ⟨0, _, rfl, by omega, fun k h => absurd h (Nat.not_lt_zero k), hB, lv_sub hl [5, 6, 7, 4, 3, 2, 1, 0] rfl⟩ ?_
      intro n23 H locs ls hI22 ih20
      obtain ⟨i_, hk, hn21, hi5, hkk, hB, hl⟩ := hI22
      refine lv_iload hx hb dX0_dayBy_80 (lv_at hl 7 rfl) ?_
      refine lv_aload_n hx hb dX0_dayBy_82 rfl (lv_at hl 0 rfl) ?_
      refine b_get C hB 3 (by decide) q296 (v := .ref (Ad 4)) rfl rfl dX0_dayBy_83 ?_
      refine b_size C hZ hB (n := I 5) (ed := Ad 30) (fun w hI _ => wU_l (hI.at (r := 4) rfl)) (by omega) q242 ⟨Nat.le_of_ble_eq_true rfl, Nat.le_of_ble_eq_true rfl⟩ hl.1 (Nat.le_of_ble_eq_true rfl) dX0_dayBy_86 ⟨Nat.le_of_ble_eq_true rfl, Nat.le_of_ble_eq_true rfl⟩ (fun H locs hB => ?_)
      refine x_icmp_ge (tgt := 124) hx hb dX0_dayBy_91 (by decide) ⟨by omega, by omega⟩ ⟨by omega, by omega⟩ (fun c24 => ?_) (fun c24 => ?_)
      · refine lv_aload_n hx hb dX0_dayBy_124 rfl (lv_at hl 0 rfl) ?_
        refine lv_aload_n hx hb dX0_dayBy_125 rfl (lv_at hl 1 rfl) ?_
        refine lv_iload_n hx hb dX0_dayBy_126 rfl (lv_at hl 2 rfl) ?_
        refine b_calli 18 72 (Nat.le_of_ble_eq_true rfl) (Nat.le_of_ble_eq_true rfl) hB (fun w hI hd hB => rV (As := [.ref q, .int (iI wh)]) (n := 2) C hZ hB (kX0_dayOf l E o Ad I (kpF F hk) (va_up X q16 (some (xI E 7 ((va_cpy (F 13) ((fun _ => 0)) 0 0 7))))) q c_ f wh ((va_up_n _ _ hne19).trans hq) hn hall hwh (by omega) (show mOK I (kpF F hk) from hOK0) w hI hd _) (lw_V q1230 q1232 qs39 q68 q1233) (by decide +kernel) ⟨Nat.le_of_ble_eq_true rfl, Nat.le_of_ble_eq_true rfl⟩ (wU_l hI.x) rfl rfl rfl hl.1 rfl (Nat.le_of_ble_eq_true rfl) dX0_dayBy_127 ⟨Nat.le_of_ble_eq_true rfl, Nat.le_of_ble_eq_true rfl⟩) (fun z25 Ad26 I27 F28 X29 H locs hz30 hp31 hB => ?_)
        obtain ⟨hz30a, hz30b⟩ := hz30
        obtain ⟨rfl, hg36, ⟨g32, g33, g34, hg37⟩, hs35, hz38⟩ := hp31
        rw [rDay_kp] at hz38
        have hgy := gdy_0 f (I 0) hk c_ 0 I F
        rw [va_up_id] at hgy
        obtain ⟨x7, x8, x9, f11, f13, hI1, hF1⟩ := gdy_form f c_ 0 I F
        rw [hgy] at hg36 hg37
        dsimp only at hg36 hg37
        rw [hI1] at hg36
        rw [hF1] at hg37
        subst hg36 hg37
        replace hB : xBB E (xA (wU w X) sz) s o Ad ((va_up (bd3 I x7 x8 x9) 0 (I 0))) ((up3 (kpF (dyF F f11 f13) hk) g32 g33 g34)) X29 _ _ := hB
        refine lv_istore (lv' := [(7, .int (iI z25)), (0, .ref o), (1, .ref q), (2, .int (iI wh)), (3, .int (iI (I 7))), (4, .int (iI (I 8))), (5, .int (iI (I 9))), (6, .ref q16)]) hx hb dX0_dayBy_130 hl (by decide) rfl (fun ls hl => ?_)
        refine lv_aload_n hx hb dX0_dayBy_132 rfl (lv_at hl 1 rfl) ?_
        refine lv_iload_n hx hb dX0_dayBy_133 rfl (lv_at hl 4 rfl) ?_
        refine b_put C hB 7 7 (by decide) rfl q301 rfl rfl rfl dX0_dayBy_134 (fun H locs hB => ?_)
        refine lv_aload_n hx hb dX0_dayBy_137 rfl (lv_at hl 1 rfl) ?_
        refine lv_iload hx hb dX0_dayBy_138 (lv_at hl 5 rfl) ?_
        refine b_put C hB 8 8 (by decide) rfl q302 rfl rfl rfl dX0_dayBy_140 (fun H locs hB => ?_)
        refine lv_aload_n hx hb dX0_dayBy_143 rfl (lv_at hl 1 rfl) ?_
        refine lv_iload hx hb dX0_dayBy_144 (lv_at hl 6 rfl) ?_
        refine b_put C hB 9 9 (by decide) rfl q304 rfl rfl rfl dX0_dayBy_146 (fun H locs hB => ?_)
        refine lv_aload_n hx hb dX0_dayBy_149 rfl (lv_at hl 1 rfl) ?_
        refine lv_aload hx hb dX0_dayBy_150 (lv_at hl 7 rfl) ?_
        refine b_putR C hB 5 6 13 (by decide) q299 (hs35 _ _ (va_up_s _ _ _)) dX0_dayBy_152 (fun H locs Ad39 X40 hx41 hB => ?_)
        replace hB : xBB E (xA (wU w X) sz) s o Ad39 (va_up (va_up (va_up ((va_up (bd3 I x7 x8 x9) 0 (I 0))) 7 (I 7)) 8 (I 8)) 9 (I 9)) (va_up ((up3 (kpF (dyF F f11 f13) hk) g32 g33 g34)) 13 ((va_cpy (F 13) ((fun _ => 0)) 0 0 7))) X40 _ _ := hB
        obtain ⟨Y, hY⟩ : ∃ Y, Y = va_up ((up3 (kpF (dyF F f11 f13) hk) g32 g33 g34)) 13 ((va_cpy (F 13) ((fun _ => 0)) 0 0 7)) := ⟨_, rfl⟩
        rw [← hY, ← va_up_id Y 11] at hB
        replace hB : xBB E (xA (wU w X) sz) s o Ad39 (va_up (va_up (va_up ((va_up (bd3 I x7 x8 x9) 0 (I 0))) 7 (I 7)) 8 (I 8)) 9 (I 9)) ((va_up Y 11 (Y 11))) X40 _ _ := hB
        refine lv_iconst (v := iI 0) hx hb dX0_dayBy_155 rfl ?_
        refine lv_istore (lv' := [(8, .int (iI 0)), (7, .int (iI z25)), (0, .ref o), (1, .ref q), (2, .int (iI wh)), (3, .int (iI (I 7))), (4, .int (iI (I 8))), (5, .int (iI (I 9))), (6, .ref q16)]) hx hb dX0_dayBy_156 hl (by decide) rfl (fun ls hl => ?_)
        refine w_loop (fun n45 H locs ls => ∃ (i_ : Nat) (fl : Nat → Int), n45 = (I 5 - i_).toNat ∧ ((i_ : Int) ≤ I 5) ∧ (∀ k, k < i_ → fl k = F 11 k) ∧ xBB E (xA (wU w X) sz) s o Ad39 (va_up (va_up (va_up ((va_up (bd3 I x7 x8 x9) 0 (I 0))) 7 (I 7)) 8 (I 8)) 9 (I 9)) ((va_up Y 11 fl)) X40 H locs ∧ lv_has ls 9 [(0, .ref o), (7, .int (iI z25)), (8, .int (iI ((i_ : Int))))]) _ ⟨0, _, rfl, by omega, fun k h => absurd h (Nat.not_lt_zero k), hB, lv_sub hl [2, 1, 0] rfl⟩ ?_
        intro n45 H locs ls hI44 ih42
        obtain ⟨i_, fl, hn43, hi5, hfl, hB, hl⟩ := hI44
        refine lv_iload hx hb dX0_dayBy_158 (lv_at hl 2 rfl) ?_
        refine lv_aload_n hx hb dX0_dayBy_160 rfl (lv_at hl 0 rfl) ?_
        refine b_get C hB 3 (by decide) q296 (v := .ref (Ad39 4)) rfl rfl dX0_dayBy_161 ?_
        refine b_size C hZ hB (n := I 5) (ed := Ad39 30) (fun w hI _ => wU_l (hI.at (r := 4) rfl)) (by omega) q242 ⟨Nat.le_of_ble_eq_true rfl, Nat.le_of_ble_eq_true rfl⟩ hl.1 (Nat.le_of_ble_eq_true rfl) dX0_dayBy_164 ⟨Nat.le_of_ble_eq_true rfl, Nat.le_of_ble_eq_true rfl⟩ (fun H locs hB => ?_)
        refine x_icmp_ge (tgt := 202) hx hb dX0_dayBy_169 (by decide) ⟨by omega, by omega⟩ ⟨by omega, by omega⟩ (fun c46 => ?_) (fun c46 => ?_)
        · refine lv_iload hx hb dX0_dayBy_202 (lv_at hl 1 rfl) ?_
          exact b_iret C hB hr hlocks rfl dX0_dayBy_204 (Nat.le_of_ble_eq_true rfl) (Nat.le_of_ble_eq_true rfl) ⟨by omega, by omega⟩ ⟨(by subst hY; exact ⟨rfl, rfl, rfl, rfl, rfl, rfl, rfl, rfl, fun k hk => ⟨rfl, hfl k (by have hk2 : (k : Int) < I 5 := hk; omega), rfl⟩, fun k hk => ⟨day_cpy (F 13) (by have hk2 : (k : Int) < I 6 := hk; omega), rfl⟩, fun _ _ => ⟨rfl, rfl⟩, fun _ _ => ⟨rfl, rfl⟩, fun _ _ => rfl⟩), by unfold rDayB; rw [if_neg (by omega), if_pos hall]; exact hz38⟩
        · refine lv_aload_n hx hb dX0_dayBy_172 rfl (lv_at hl 0 rfl) ?_
          refine b_get C hB 3 (by decide) q296 (v := .ref (Ad39 4)) rfl rfl dX0_dayBy_173 ?_
          refine lv_iload hx hb dX0_dayBy_176 (lv_at hl 2 rfl) ?_
          refine b_lget C hZ hB i_ rfl (show ((i_ : Nat) : Int) < I 5 by omega) (show I 5 ≤ 7 by omega) q156 ⟨Nat.le_of_ble_eq_true rfl, Nat.le_of_ble_eq_true rfl⟩ hl.1 (Nat.le_of_ble_eq_true rfl) dX0_dayBy_178 ⟨Nat.le_of_ble_eq_true rfl, Nat.le_of_ble_eq_true rfl⟩ (fun H locs hB => ?_)
          refine b_castP C hB i_ (show ((i_ : Nat) : Int) < I 5 by omega) (show I 5 ≤ 7 by omega) q175 dX0_dayBy_183 ?_
          refine lv_aload_n hx hb dX0_dayBy_186 rfl (lv_at hl 0 rfl) ?_
          refine b_get C hB 15 (by decide) q311 (v := .ref (Ad39 16)) rfl rfl dX0_dayBy_187 ?_
          refine lv_iload hx hb dX0_dayBy_190 (lv_at hl 2 rfl) ?_
          refine b_ald C hB 16 28 7 rfl (v := F 11 i_) i_ rfl (by omega) (by omega) (show Y 28 i_ = F 11 i_ from by rw [hY]; exact hkk i_ (by omega)) dX0_dayBy_192 ?_
          refine b_plput C hB i_ (show ((i_ : Nat) : Int) < I 5 by omega) (show I 5 ≤ 7 by omega) q786 dX0_dayBy_193 (fun H locs hB => ?_)
          replace hB : xBB E (xA (wU w X) sz) s o Ad39 (va_up (va_up (va_up ((va_up (bd3 I x7 x8 x9) 0 (I 0))) 7 (I 7)) 8 (I 8)) 9 (I 9)) (va_up ((va_up Y 11 fl)) 11 (va_up fl i_ (F 11 i_))) X40 _ _ := hB
          rw [bx_uu] at hB
          replace hB : xBB E (xA (wU w X) sz) s o Ad39 (va_up (va_up (va_up ((va_up (bd3 I x7 x8 x9) 0 (I 0))) 7 (I 7)) 8 (I 8)) 9 (I 9)) ((va_up Y 11 (va_up fl i_ (F 11 i_)))) X40 _ _ := hB
          refine lv_iinc (v := iI ((i_ : Int) + 1)) (lv' := [(8, .int (iI ((i_ : Int) + 1))), (0, .ref o), (7, .int (iI z25))]) hx hb dX0_dayBy_196 hl (k := 2) rfl (iI_add _ _) (by decide) rfl (fun ls hl => ?_)
          refine lv_goto (tgt := 158) hx hb dX0_dayBy_199 (by decide) ?_
          exact ih42 _ _ _ _ (by omega) ⟨i_ + 1, _, rfl, by omega, fun k h => by
                by_cases e : k = i_
                · subst e; exact va_up_s _ _ _
                · exact (va_up_n _ _ e).trans (hfl k (by omega)), hB, lv_sub hl [1, 2, 0] rfl⟩
      · refine lv_aload_n hx hb dX0_dayBy_94 rfl (lv_at hl 0 rfl) ?_
        refine b_get C hB 15 (by decide) q311 (v := .ref (Ad 16)) rfl rfl dX0_dayBy_95 ?_
        refine lv_iload hx hb dX0_dayBy_98 (lv_at hl 7 rfl) ?_
        refine lv_aload_n hx hb dX0_dayBy_100 rfl (lv_at hl 0 rfl) ?_
        refine b_get C hB 3 (by decide) q296 (v := .ref (Ad 4)) rfl rfl dX0_dayBy_101 ?_
        refine lv_iload hx hb dX0_dayBy_104 (lv_at hl 7 rfl) ?_
        refine b_lget C hZ hB i_ rfl (show ((i_ : Nat) : Int) < I 5 by omega) (show I 5 ≤ 7 by omega) q156 ⟨Nat.le_of_ble_eq_true rfl, Nat.le_of_ble_eq_true rfl⟩ hl.1 (Nat.le_of_ble_eq_true rfl) dX0_dayBy_106 ⟨Nat.le_of_ble_eq_true rfl, Nat.le_of_ble_eq_true rfl⟩ (fun H locs hB => ?_)
        refine b_castP C hB i_ (show ((i_ : Nat) : Int) < I 5 by omega) (show I 5 ≤ 7 by omega) q175 dX0_dayBy_111 ?_
        refine b_plL C hB i_ (show ((i_ : Nat) : Int) < I 5 by omega) (show I 5 ≤ 7 by omega) q786 dX0_dayBy_114 ?_
        refine b_ast C hB 16 28 7 rfl (f := hk) i_ rfl (by omega) (by omega) rfl dX0_dayBy_117 (fun H locs hB => ?_)
        rw [kpF_28] at hB
        replace hB : xBB E (xA (wU w X) sz) s o Ad I (kpF F ((va_up hk i_ ((F 11) i_)))) (va_up X q16 (some (xI E 7 ((va_cpy (F 13) ((fun _ => 0)) 0 0 7))))) _ _ := hB
        refine lv_iinc (v := iI ((i_ : Int) + 1)) (lv' := [(7, .int (iI ((i_ : Int) + 1))), (0, .ref o), (1, .ref q), (2, .int (iI wh)), (3, .int (iI (I 7))), (4, .int (iI (I 8))), (5, .int (iI (I 9))), (6, .ref q16)]) hx hb dX0_dayBy_118 hl (k := 7) rfl (iI_add _ _) (by decide) rfl (fun ls hl => ?_)
        refine lv_goto (tgt := 80) hx hb dX0_dayBy_121 (by decide) ?_
        exact ih20 _ _ _ _ (by omega) ⟨i_ + 1, _, rfl, by omega, fun k h => by
              by_cases e : k = i_
              · subst e; exact va_up_s _ _ _
              · exact (va_up_n _ _ e).trans (hkk k (by omega)), hB, lv_sub hl [1, 2, 3, 4, 5, 6, 7, 0] rfl⟩
    · have hrf1 := hrf (2 * c_) (by omega)
      have hrf2 := hrf (2 * c_ + 1) (by omega)
      obtain ⟨hrf1a, hrf1b⟩ := hrf1
      obtain ⟨hrf2a, hrf2b⟩ := hrf2
      refine lv_aload_n hx hb dX0_dayBy_18 rfl (lv_at hl 1 rfl) ?_
      refine lv_iload_n hx hb dX0_dayBy_19 rfl (lv_at hl 3 rfl) ?_
      refine t_ald C hB hq (2 * c_) (by omega) (by omega) (by omega) dX0_dayBy_20 ?_
      refine lv_aload_n hx hb dX0_dayBy_21 rfl (lv_at hl 1 rfl) ?_
      refine lv_iload_n hx hb dX0_dayBy_22 rfl (lv_at hl 3 rfl) ?_
      refine lv_iconst (v := iI 1) hx hb dX0_dayBy_23 rfl ?_
      refine x_iadd (z := 2 * (c_ : Int) + 1) hx hb dX0_dayBy_24 (by omega) ?_
      refine t_ald C hB hq (2 * c_ + 1) (by omega) (by omega) (by omega) dX0_dayBy_25 ?_
      refine bs_calli (n := 2) C hB (As := [.int (iI (f (2 * c_))), .int (iI (f (2 * c_ + 1)))]) (kX0_isAsTold l E (f (2 * c_)) (f (2 * c_ + 1)) ⟨by omega, by omega⟩ ⟨by omega, by omega⟩) (lw_S q1225 q1226 q68 q1227) (by decide +kernel) ⟨Nat.le_of_ble_eq_true rfl, Nat.le_of_ble_eq_true rfl⟩ rfl hl.1 rfl (Nat.le_of_ble_eq_true rfl) dX0_dayBy_26 ⟨Nat.le_of_ble_eq_true rfl, Nat.le_of_ble_eq_true rfl⟩ (fun z47 H locs hz48 hp49 hB => ?_)
      obtain ⟨hz48a, hz48b⟩ := hz48
      rcases hp49 with ⟨rfl, hpq⟩ | ⟨rfl, hpq⟩
      · refine x_if_ne (tgt := 35) hx hb dX0_dayBy_29 (by decide) ⟨by decide, by decide⟩ (fun c50 => ?_) (fun c50 => by exfalso; omega)
        refine lv_iinc (v := iI (2 * (c_ : Int) + 2)) (lv' := [(3, .int (iI (2 * (c_ : Int) + 2))), (0, .ref o), (1, .ref q), (2, .int (iI wh))]) hx hb dX0_dayBy_35 hl (k := 3) rfl (iI_add _ _) (by decide) rfl (fun ls hl => ?_)
        refine lv_goto (tgt := 12) hx hb dX0_dayBy_38 (by decide) ?_
        exact ih11 _ _ _ _ (by omega) ⟨c_ + 1, rfl, by omega, fun t h => by
              by_cases e : t = c_
              · subst e; exact hpq
              · exact hall t (by omega), hB, lv_sub hl [1, 2, 3, 0] rfl⟩
      · refine x_if_ne (tgt := 35) hx hb dX0_dayBy_29 (by decide) ⟨by decide, by decide⟩ (fun c51 => by exfalso; omega) (fun c51 => ?_)
        refine lv_bipush (v := iI (-2)) hx hb dX0_dayBy_32 rfl ?_
        exact b_iret C hB hr hlocks rfl dX0_dayBy_34 (Nat.le_of_ble_eq_true rfl) (Nat.le_of_ble_eq_true rfl) ⟨by decide, by decide⟩ ⟨mAg_rfl I F, by unfold rDayB; rw [if_neg (by omega), if_neg (fun h => hpq (h c_ (by omega)))]⟩
set_option maxHeartbeats 800000 in
set_option maxRecDepth 100000 in
theorem kX0_lambda_day_8 (l : Launch) (E : xE) (o : Nat) (Ad : Nat → Nat) (I : Nat → Int) (F : Nat → Nat → Int) (X : xw) (q : Nat) (n : Nat) (f : Nat → Int) (wh : Int) (hq : X q = some (xI E (2 * n) f)) (hn : n ≤ 20) (hrf : ∀ j, j < 2 * n → rg (f j)) (hwh : (0 ≤ wh ∧ wh ≤ 4) ∨ (10 ≤ wh ∧ wh ≤ 16)) (hOK : mOK I F) : ci_ l E yX0_lambda_day_8 cX0_lambda_day_8 3 (some .int) 14 324 18 72 [.ref o, .int (iI wh), .ref q] o Ad I F X (fun z Ad' I' F' X' => mAg I F I' F' ∧ z = rDayB I F f n wh) := by
  intro w hI hd sz
  refine x_bodyz (by decide) (Nat.le_of_ble_eq_true rfl) ?_
  intro p e s m args below meth c ls hx hb C hr hlocks hin hsz hZ hB hl
  have C : xC E p s m args c cX0_lambda_day_8 3 RX0 := C
  replace hB : xBB E (xA (wU w X) sz) s o Ad I F X s.heap [] := ⟨w, hI, hd, hB⟩
  have hl : lv_has ls 3 [(0, .ref o), (1, .int (iI wh)), (2, .ref q)] := hl
  refine lv_aload_n hx hb dX0_lambda_day_8_0 rfl (lv_at hl 0 rfl) ?_
  refine lv_aload_n hx hb dX0_lambda_day_8_1 rfl (lv_at hl 2 rfl) ?_
  refine lv_iload_n hx hb dX0_lambda_day_8_2 rfl (lv_at hl 1 rfl) ?_
  refine b_calli 18 72 (Nat.le_of_ble_eq_true rfl) (Nat.le_of_ble_eq_true rfl) hB (fun w hI hd hB => rV (As := [.ref q, .int (iI wh)]) (n := 2) C hZ hB (kX0_dayBy l E o Ad I F X q n f wh hq hn hrf hwh hOK w hI hd _) (lw_V q1221 q1223 qs38 q68 q1224) (by decide +kernel) ⟨Nat.le_of_ble_eq_true rfl, Nat.le_of_ble_eq_true rfl⟩ (wU_l hI.x) rfl rfl rfl hl.1 rfl (Nat.le_of_ble_eq_true rfl) dX0_lambda_day_8_3 ⟨Nat.le_of_ble_eq_true rfl, Nat.le_of_ble_eq_true rfl⟩) (fun z1 Ad2 I3 F4 X5 H locs hz6 hp7 hB => ?_)
  obtain ⟨hz6a, hz6b⟩ := hz6
  exact b_iret C hB hr hlocks rfl dX0_lambda_day_8_6 (Nat.le_of_ble_eq_true rfl) (Nat.le_of_ble_eq_true rfl) ⟨by omega, by omega⟩ hp7
