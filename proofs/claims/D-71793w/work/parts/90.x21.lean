/-! THE COMPONENT: the left book of a text -/
set_option maxRecDepth 100000
theorem plE_nL {o : Nat} {k L A : Int} (fs : List Value) : plE o k L A ≠ xO 18 fs := by
  unfold plE
  split
  · intro h; injection h with h; injection h with h; injection h with h; cases h
  · split
    · intro h; injection h with h; injection h with h; injection h with h; cases h
    · intro h; injection h with h; injection h with h; injection h with h; cases h
theorem lfE_upb {Ad : Nat → Nat} {b n q : Nat} : lfE (va_up Ad (b + n) q) b ((n : Int) + 1) = va_up (lfE Ad b (n : Int)) n (some q) := by
  funext j
  unfold lfE
  by_cases g : j = n
  · subst g
    rw [va_up_s, if_pos (by omega), va_up_s]
  · rw [va_up_n _ _ g]
    by_cases g2 : j < n
    · rw [if_pos (by omega), if_pos (by omega), va_up_n _ _ (show b + j ≠ b + n by omega)]
    · rw [if_neg (by omega), if_neg (by omega)]
theorem told_up {X : xw} {t te q c : Nat} {g : Nat → Nat} {p : Nat → xX} {eT eE e1 e2 : xX} (hp : ∀ k, k < c → X (g (0 + k)) = some (p k)) (hi : ∀ k k', k < c → k' < c → g (0 + k) = g (0 + k') → k = k') (ht : X t = some eT) (he : X te = some eE) (hq : X q = none) (hne : ∀ k, p k ≠ eT ∧ p k ≠ eE) : ∀ k, k < c + 1 → va_up (va_up (va_up X q (some (p c))) te (some e1)) t (some e2) (va_up g (0 + c) q (0 + k)) = some (p k) := by
  have hgq : ∀ k, k < c → g (0 + k) ≠ q := fun k hk z => by have := hp k hk; rw [z, hq] at this; cases this
  intro k hk
  by_cases e : k = c
  · subst e
    rw [va_up_s, va_up_n _ _ (fun z => by rw [z, ht] at hq; cases hq), va_up_n _ _ (fun z => by rw [z, he] at hq; cases hq), va_up_s]
  · have hk2 : k < c := by omega
    rw [va_up_n _ _ (show 0 + k ≠ 0 + c by omega)]
    rw [va_up_n _ _ (fun z => by have := hp k hk2; rw [z, ht] at this; injection this with this; exact (hne k).1 this.symm), va_up_n _ _ (fun z => by have := hp k hk2; rw [z, he] at this; injection this with this; exact (hne k).2 this.symm), va_up_n _ _ (hgq k hk2)]
    exact hp k hk2
theorem told_up2 {X : xw} {q c : Nat} {g : Nat → Nat} {p : Nat → xX} (hp : ∀ k, k < c → X (g (0 + k)) = some (p k)) (hi : ∀ k k', k < c → k' < c → g (0 + k) = g (0 + k') → k = k') (hq : X q = none) : ∀ k k', k < c + 1 → k' < c + 1 → va_up g (0 + c) q (0 + k) = va_up g (0 + c) q (0 + k') → k = k' := by
  have hgq : ∀ k, k < c → g (0 + k) ≠ q := fun k hk z => by have := hp k hk; rw [z, hq] at this; cases this
  intro k k' hk hk' z
  by_cases e : k = c
  · by_cases e2 : k' = c
    · omega
    · rw [e, va_up_s, va_up_n _ _ (show 0 + k' ≠ 0 + c by omega)] at z
      exact absurd z.symm (hgq k' (by omega))
  · by_cases e2 : k' = c
    · rw [e2, va_up_s, va_up_n _ _ (show 0 + k ≠ 0 + c by omega)] at z
      exact absurd z (hgq k (by omega))
    · rw [va_up_n _ _ (show 0 + k ≠ 0 + c by omega), va_up_n _ _ (show 0 + k' ≠ 0 + c by omega)] at z
      exact hi k k' (by omega) (by omega) z
section TL
variable {p : Program} {l : Launch} {e : Env} {R : Room} {s : State} {m : MethodId} {args : Array Value} {below : List Frame} {meth : Method} {c : Code} {H : Heap} {locs : List Loc} {cells slots : Nat} {Q : State → Prop}
variable {cc : ByteArray} {pc nL : Nat} {ls : Array Slot} {rest : List Value} {E : xE} {A : Nat → Prop} {o a te v : Nat} {Ad : Nat → Nat} {I : Nat → Int} {F : Nat → Nat → Int} {X : xw} {own : String}
/-- one more in a list beside x -/
theorem t_ladd7 (C : xC E p s m args c cc nL own) (hZ : zK E A s s.heap) (hB : xBB E A s o Ad I F X H locs) {mm : Int} {n cap : Nat} {f : Nat → Option Nat} (ha : X a = some (xO 18 [.int (iI mm), .ref te, .int (iI (n : Int))])) (he : X te = some (xR E 3 cap f)) (hv : xAny X v) (hne : a ≠ te) (hn : n < cap) (hc : cap ≤ 100) {index count : Nat} (hlk : Cond.methodLink own index ⟨"java/util/List", "add", "(Ljava/lang/Object;)Z"⟩ ∈ lw_all) (hR : 2 ≤ R.frames ∧ 44 ≤ R.locals) (hl : ls.size = nL) (hW : (rest.map fun v => v.category).sum ≤ 8) (hdg : decode cc pc = .ok (.invokeinterface index count, 5)) (hcs : cells ≤ R.cells ∧ slots ≤ R.slots)
    (kk : ∀ (z : Int) (H1 : Heap) (locs1 : List Loc), xBB E A s o Ad I F (va_up (va_up X te (some (xR E 3 cap (va_up f n (some v))))) a (some (xO 18 [.int (iI (mm + 1)), .ref te, .int (iI ((n : Int) + 1))]))) H1 locs1 → W p l e R s m args below meth c H1 locs1 cells slots Q (F0 m (pc + 5) ls (.int (iI z) :: rest))) : W p l e R s m args below meth c H locs cells slots Q (F0 m pc ls (.ref v :: .ref a :: rest)) := by
  obtain ⟨w, hI, hd, hB⟩ := hB
  obtain ⟨ci, fs, q, v1, v2, v3⟩ := hv
  refine g_callFi cells slots (Nat.le_refl _) (Nat.le_refl _) hB (rF (As := [.ref v]) (n := 1) C hZ hB ⟨"java/util/List", "add", "(Ljava/lang/Object;)Z"⟩ (kJ2_add l E (wU w X) a te mm n cap f v (wU_r hd ha) (wU_r hd he) ⟨ci, fs, q, wU_r hd v1, v2, v3⟩ hn hc H.size) (by decide) hlk q676 q678 q71 q680 (by decide +kernel) ⟨hR.1, hR.2⟩ (wU_r hd ha) rfl rfl rfl hl rfl hW hdg hcs) (fun z w1 H1 locs1 hz hp2 hB => ?_)
  subst hp2
  have h1 := hd.put_t (xR E 3 cap (va_up f n (some v))) he
  have h2 := h1.1.put_t (xO 18 [.int (iI (mm + 1)), .ref te, .int (iI ((n : Int) + 1))]) ((va_up_n _ _ hne).trans ha)
  refine kk z H1 locs1 ⟨w, hI, h2.1, ?_⟩
  rw [h1.2, h2.2] at hB
  exact hB
end TL
set_option maxHeartbeats 6400000 in
set_option maxRecDepth 100000 in
theorem kX0_leftIn (l : Launch) (E : xE) (o : Nat) (Ad : Nat → Nat) (I : Nat → Int) (F : Nat → Nat → Int) (X : xw) (q : Nat) (n : Nat) (f : Nat → Int) (t : Nat) (te : Nat) (m0 : Int) (hq : X q = some (xI E n f)) (hn : n ≤ 60) (hfr : ∀ j, rg (f j)) (hxt : X t = some (xO 18 [.int (iI m0), .ref te, .int (iI 0)])) (hxe : X te = some (xR E 3 7 (fun _ => none))) (htte : t ≠ te) (hqt : q ≠ t) (hqte : q ≠ te) : ci_ l E yX0_leftIn cX0_leftIn 9 (some .int) 5 116 7 35 [.ref o, .ref q, .int (iI 1), .ref t] o Ad I F X (fun z Ad' I' F' X' => Ad = Ad' ∧ I = I' ∧ F = F' ∧ (∃ (mm : Int) (c_ : Nat) (g_ : Nat → Nat), c_ ≤ 7 ∧ X' t = some (xO 18 [.int (iI mm), .ref te, .int (iI (c_ : Int))]) ∧ X' te = some (xR E 3 7 (lfE g_ 0 (c_ : Int))) ∧ (∀ k, k < c_ → X' (g_ (0 + k)) = some (plE o (kOf (xt f n (2 + 4 * k))) (lOf (xt f n (3 + 4 * k))) (aOf (xt f n (4 + 4 * k))))) ∧ (∀ k k', k < c_ → k' < c_ → g_ (0 + k) = g_ (0 + k') → k = k') ∧ (0 ≤ z → z = 4 * (c_ : Int) + 1 ∧ 1 ≤ c_ ∧ ∀ k, k < c_ → kOf (xt f n (2 + 4 * k)) ≠ -9 ∧ lOf (xt f n (3 + 4 * k)) ≠ -9 ∧ aOf (xt f n (4 + 4 * k)) ≠ -9)) ∧ (∀ a e, a ≠ t → a ≠ te → X a = some e → X' a = some e) ∧ z = lfR (xt f n) 8 0) := by
  intro w hI hd sz
  refine x_bodyz (by decide) (Nat.le_of_ble_eq_true rfl) ?_
  intro p e s m args below meth c ls hx hb C hr hlocks hin hsz hZ hB hl
  have C : xC E p s m args c cX0_leftIn 9 RX0 := C
  replace hB : xBB E (xA (wU w X) sz) s o Ad I F X s.heap [] := ⟨w, hI, hd, hB⟩
  have hl : lv_has ls 9 [(0, .ref o), (1, .ref q), (2, .int (iI 1)), (3, .ref t)] := hl
  refine lv_iload_n hx hb dX0_leftIn_0 rfl (lv_at hl 2 rfl) ?_
  refine lv_istore (lv' := [(4, .int (iI 1)), (0, .ref o), (1, .ref q), (2, .int (iI 1)), (3, .ref t)]) hx hb dX0_leftIn_1 hl (by decide) rfl (fun ls hl => ?_)
  refine x_up (c2 := 7 - 1 * 7) (s2 := 35 - 5 * 7) (by omega) (by omega) ?_
  refine w_loopC 7 35 1 5 (fun n4 H locs ls => ∃ (c_ : Nat) (X1 : xw) (g_ : Nat → Nat) (mm : Int), n4 = 7 - c_ ∧ (X1 q = some (xI E n f)) ∧ (c_ ≤ 7) ∧ (X1 t = some (xO 18 [.int (iI mm), .ref te, .int (iI (c_ : Int))])) ∧ (X1 te = some (xR E 3 7 (lfE g_ 0 (c_ : Int)))) ∧ (∀ k, k < c_ → X1 (g_ (0 + k)) = some (plE o (kOf (xt f n (2 + 4 * k))) (lOf (xt f n (3 + 4 * k))) (aOf (xt f n (4 + 4 * k))))) ∧ (∀ k k', k < c_ → k' < c_ → g_ (0 + k) = g_ (0 + k') → k = k') ∧ (∀ a e, a ≠ t → a ≠ te → X a = some e → X1 a = some e) ∧ (∀ k, k < c_ → kOf (xt f n (2 + 4 * k)) ≠ -9 ∧ lOf (xt f n (3 + 4 * k)) ≠ -9 ∧ aOf (xt f n (4 + 4 * k)) ≠ -9) ∧ (lfR (xt f n) 8 0 = lfR (xt f n) (8 - c_) c_) ∧ xBB E (xA (wU w X) sz) s o Ad I F X1 H locs ∧ lv_has ls 9 [(0, .ref o), (1, .ref q), (3, .ref t), (4, .int (iI (4 * (c_ : Int) + 1)))]) 7 ⟨0, _, fun _ => 0, _, rfl, hq, by omega, hxt, (by rw [show lfE (fun _ => 0) 0 ((0 : Nat) : Int) = fun _ => none from funext fun j => if_neg (by omega)]; exact hxe), fun k h => absurd h (Nat.not_lt_zero k), fun k _ h => absurd h (Nat.not_lt_zero k), fun a e _ _ h => h, fun k h => absurd h (Nat.not_lt_zero k), rfl, hB, lv_sub hl [1, 2, 4, 0] rfl⟩ ?_
  intro n4 H locs ls hI3 ih1
  obtain ⟨c_, X1, g_, mm, hn2, hq1, hc7, hxt, hxe, hxp, hxi, hxk, hcd, hlf, hB, hl⟩ := hI3
  have hrs := lfR_s (xt f n) (7 - c_) c_
  rw [show 7 - c_ + 1 = 8 - c_ by omega] at hrs
  refine lv_aload_n hx hb dX0_leftIn_3 rfl (lv_at hl 2 rfl) ?_
  refine b_empty C hZ hB (n := (c_ : Int)) (ed := te) (fun w _ hd => wU_r hd hxt) (by omega) q280 ⟨Nat.le_of_ble_eq_true rfl, Nat.le_of_ble_eq_true rfl⟩ hl.1 (Nat.le_of_ble_eq_true rfl) dX0_leftIn_4 ⟨(show (7 - 1 * n4) ≤ 7 by omega), (show (35 - 5 * n4) ≤ 35 by omega)⟩ (fun z5 H locs h6 hB => ?_)
  rcases h6 with ⟨rfl, h6⟩ | ⟨rfl, h6⟩
  · refine x_if_ne (tgt := 23) hx hb dX0_leftIn_9 (by decide) ⟨by decide, by decide⟩ (fun c7 => ?_) (fun c7 => by exfalso; omega)
    refine lv_aload_n hx hb dX0_leftIn_23 rfl (lv_at hl 2 rfl) ?_
    refine b_size C hZ hB (n := (c_ : Int)) (ed := te) (fun w _ hd => wU_r hd hxt) (by omega) q242 ⟨Nat.le_of_ble_eq_true rfl, Nat.le_of_ble_eq_true rfl⟩ hl.1 (Nat.le_of_ble_eq_true rfl) dX0_leftIn_24 ⟨(show (7 - 1 * n4) ≤ 7 by omega), (show (35 - 5 * n4) ≤ 35 by omega)⟩ (fun H locs hB => ?_)
    refine lv_bipush (v := iI 7) hx hb dX0_leftIn_29 rfl ?_
    refine x_icmp_eq (tgt := 45) hx hb dX0_leftIn_31 (by decide) ⟨by omega, by omega⟩ ⟨by decide, by decide⟩ (fun c8 => ?_) (fun c8 => ?_)
    · refine lv_bipush (v := iI (-100)) hx hb dX0_leftIn_45 rfl ?_
      refine lv_iload hx hb dX0_leftIn_47 (lv_at hl 3 rfl) ?_
      refine x_isub (z := -(4 * (c_ : Int)) - 101) hx hb dX0_leftIn_49 (by omega) ?_
      exact b_iret C hB hr hlocks rfl dX0_leftIn_50 (by omega) (by omega) ⟨by omega, by omega⟩ ⟨rfl, rfl, rfl, ⟨_, c_, g_, hc7, hxt, hxe, hxp, hxi, fun h => absurd h (by omega)⟩, hxk, by rw [hlf, hrs, if_pos (by omega), if_pos (by omega)]; omega⟩
    · refine lv_aload_n hx hb dX0_leftIn_34 rfl (lv_at hl 1 rfl) ?_
      refine lv_iload hx hb dX0_leftIn_35 (lv_at hl 3 rfl) ?_
      obtain ⟨wq, hIq, hdq, hB⟩ := hB
      refine g_calli ((7 - 1 * n4)) ((35 - 5 * n4)) (by omega) (by omega) hB (rS (As := [.ref q, .int (iI (4 * (c_ : Int) + 1))]) (n := 2) C hZ hB (kX0_codeAt l E (wU wq X1) q n f (4 * c_ + 1) (wU_r hdq hq1) hn hfr (by omega) _) (lw_S q1058 q1059 q68 q1060) (by decide +kernel) ⟨Nat.le_of_ble_eq_true rfl, Nat.le_of_ble_eq_true rfl⟩ rfl hl.1 rfl (Nat.le_of_ble_eq_true rfl) dX0_leftIn_37 ⟨(show (7 - 1 * n4) + 0 ≤ 7 by omega), (show (35 - 5 * n4) + 0 ≤ 35 by omega)⟩) (fun z9 w10 H locs hz11 hp12 hB => ?_)
      obtain ⟨hz11a, hz11b⟩ := hz11
      obtain ⟨rfl, hp12⟩ := hp12
      replace hB : xBB E (xA (wU w X) sz) s o Ad I F X1 _ _ := ⟨wq, hIq, hdq, hB⟩
      subst hp12
      refine x_nm (b := xt f n (4 * c_ + 1)) rfl ?_
      have hrx := xt_rg hfr n (4 * c_ + 1)
      obtain ⟨hrx1, hrx2⟩ := hrx
      refine x_nm (show xt f n (4 * c_ + 1) = xt f n (1 + 4 * c_) from congrArg (xt f n) (by omega)) ?_
      have hrx1 := xt_rg hfr n (1 + 4 * c_)
      obtain ⟨hrx1a, hrx1b⟩ := hrx1
      refine lv_bipush (v := iI 59) hx hb dX0_leftIn_40 rfl ?_
      refine x_icmp_eq (tgt := 51) hx hb dX0_leftIn_42 (by decide) ⟨by omega, by omega⟩ ⟨by decide, by decide⟩ (fun c13 => ?_) (fun c13 => ?_)
      · refine lv_aload_n hx hb dX0_leftIn_51 rfl (lv_at hl 1 rfl) ?_
        refine lv_iload hx hb dX0_leftIn_52 (lv_at hl 3 rfl) ?_
        refine lv_iconst (v := iI 1) hx hb dX0_leftIn_54 rfl ?_
        refine x_iadd (z := 4 * (c_ : Int) + 2) hx hb dX0_leftIn_55 (by omega) ?_
        obtain ⟨wq, hIq, hdq, hB⟩ := hB
        refine g_calli ((7 - 1 * n4)) ((35 - 5 * n4)) (by omega) (by omega) hB (rS (As := [.ref q, .int (iI (4 * (c_ : Int) + 2))]) (n := 2) C hZ hB (kX0_codeAt l E (wU wq X1) q n f (4 * c_ + 2) (wU_r hdq hq1) hn hfr (by omega) _) (lw_S q1058 q1059 q68 q1060) (by decide +kernel) ⟨Nat.le_of_ble_eq_true rfl, Nat.le_of_ble_eq_true rfl⟩ rfl hl.1 rfl (Nat.le_of_ble_eq_true rfl) dX0_leftIn_56 ⟨(show (7 - 1 * n4) + 0 ≤ 7 by omega), (show (35 - 5 * n4) + 0 ≤ 35 by omega)⟩) (fun z14 w15 H locs hz16 hp17 hB => ?_)
        obtain ⟨hz16a, hz16b⟩ := hz16
        obtain ⟨rfl, hp17⟩ := hp17
        replace hB : xBB E (xA (wU w X) sz) s o Ad I F X1 _ _ := ⟨wq, hIq, hdq, hB⟩
        subst hp17
        refine x_nm (b := xt f n (4 * c_ + 2)) rfl ?_
        have hrx := xt_rg hfr n (4 * c_ + 2)
        obtain ⟨hrx1, hrx2⟩ := hrx
        refine x_nm (show xt f n (4 * c_ + 2) = xt f n (2 + 4 * c_) from congrArg (xt f n) (by omega)) ?_
        have hrx2 := xt_rg hfr n (2 + 4 * c_)
        obtain ⟨hrx2a, hrx2b⟩ := hrx2
        refine lv_istore (lv' := [(5, .int (iI (xt f n (2 + 4 * c_)))), (0, .ref o), (1, .ref q), (3, .ref t), (4, .int (iI (4 * (c_ : Int) + 1)))]) hx hb dX0_leftIn_59 hl (by decide) rfl (fun ls hl => ?_)
        refine lv_iload hx hb dX0_leftIn_61 (lv_at hl 0 rfl) ?_
        refine lv_bipush (v := iI 80) hx hb dX0_leftIn_63 rfl ?_
        refine x_icmp_ne (tgt := 72) hx hb dX0_leftIn_65 (by decide) ⟨by omega, by omega⟩ ⟨by decide, by decide⟩ (fun c18 => ?_) (fun c18 => ?_)
        · refine lv_iload hx hb dX0_leftIn_72 (lv_at hl 0 rfl) ?_
          refine lv_bipush (v := iI 76) hx hb dX0_leftIn_74 rfl ?_
          refine x_icmp_ne (tgt := 83) hx hb dX0_leftIn_76 (by decide) ⟨by omega, by omega⟩ ⟨by decide, by decide⟩ (fun c19 => ?_) (fun c19 => ?_)
          · refine lv_iload hx hb dX0_leftIn_83 (lv_at hl 0 rfl) ?_
            refine lv_bipush (v := iI 68) hx hb dX0_leftIn_85 rfl ?_
            refine x_icmp_ne (tgt := 94) hx hb dX0_leftIn_87 (by decide) ⟨by omega, by omega⟩ ⟨by decide, by decide⟩ (fun c20 => ?_) (fun c20 => ?_)
            · refine lv_bipush (v := iI (-9)) hx hb dX0_leftIn_94 rfl ?_
              have hko : kOf (xt f n (2 + 4 * c_)) = -9 := by unfold kOf; (repeat' split) <;> omega
              refine x_nm (b := kOf (xt f n (2 + 4 * c_))) hko.symm ?_
              refine lv_istore (lv' := [(6, .int (iI (kOf (xt f n (2 + 4 * c_))))), (5, .int (iI (xt f n (2 + 4 * c_)))), (0, .ref o), (1, .ref q), (3, .ref t), (4, .int (iI (4 * (c_ : Int) + 1)))]) hx hb dX0_leftIn_96 hl (by decide) rfl (fun ls hl => ?_)
              refine lv_iload hx hb dX0_leftIn_98 (lv_at hl 0 rfl) ?_
              refine x_if_ge (tgt := 109) hx hb dX0_leftIn_100 (by decide) ⟨by omega, by omega⟩ (fun c21 => ?_) (fun c21 => ?_)
              · refine lv_aload_n hx hb dX0_leftIn_109 rfl (lv_at hl 3 rfl) ?_
                refine lv_iload hx hb dX0_leftIn_110 (lv_at hl 5 rfl) ?_
                refine lv_iconst (v := iI 2) hx hb dX0_leftIn_112 rfl ?_
                refine x_iadd (z := 4 * (c_ : Int) + 3) hx hb dX0_leftIn_113 (by omega) ?_
                obtain ⟨wq, hIq, hdq, hB⟩ := hB
                refine g_calli ((7 - 1 * n4)) ((35 - 5 * n4)) (by omega) (by omega) hB (rS (As := [.ref q, .int (iI (4 * (c_ : Int) + 3))]) (n := 2) C hZ hB (kX0_lettersAt l E (wU wq X1) q n f (4 * c_ + 3) (wU_r hdq hq1) hn hfr (by omega) _) (lw_S q1070 q1071 q68 q1072) (by decide +kernel) ⟨Nat.le_of_ble_eq_true rfl, Nat.le_of_ble_eq_true rfl⟩ rfl hl.1 rfl (Nat.le_of_ble_eq_true rfl) dX0_leftIn_114 ⟨(show (7 - 1 * n4) + 0 ≤ 7 by omega), (show (35 - 5 * n4) + 0 ≤ 35 by omega)⟩) (fun z22 w23 H locs hz24 hp25 hB => ?_)
                obtain ⟨hz24a, hz24b⟩ := hz24
                obtain ⟨rfl, hp25⟩ := hp25
                replace hB : xBB E (xA (wU w X) sz) s o Ad I F X1 _ _ := ⟨wq, hIq, hdq, hB⟩
                subst hp25
                refine x_nm (b := lOf (xt f n (4 * c_ + 3))) rfl ?_
                have hrx := lOf_c (xt f n (4 * c_ + 3))
                refine x_nm (show lOf (xt f n (4 * c_ + 3)) = lOf (xt f n (3 + 4 * c_)) from congrArg (fun j => lOf (xt f n j)) (by omega)) ?_
                rw [show lOf (xt f n (4 * c_ + 3)) = lOf (xt f n (3 + 4 * c_)) from congrArg (fun j => lOf (xt f n j)) (by omega)] at hrx
                have hrxl := hrx
                refine lv_istore (lv' := [(7, .int (iI (lOf (xt f n (3 + 4 * c_))))), (6, .int (iI (kOf (xt f n (2 + 4 * c_))))), (5, .int (iI (xt f n (2 + 4 * c_)))), (0, .ref o), (1, .ref q), (3, .ref t), (4, .int (iI (4 * (c_ : Int) + 1)))]) hx hb dX0_leftIn_117 hl (by decide) rfl (fun ls hl => ?_)
                refine lv_iload hx hb dX0_leftIn_119 (lv_at hl 0 rfl) ?_
                refine x_if_ge (tgt := 130) hx hb dX0_leftIn_121 (by decide) ⟨by omega, by omega⟩ (fun c26 => ?_) (fun c26 => ?_)
                · refine lv_aload_n hx hb dX0_leftIn_130 rfl (lv_at hl 4 rfl) ?_
                  refine lv_iload hx hb dX0_leftIn_131 (lv_at hl 6 rfl) ?_
                  refine lv_iconst (v := iI 3) hx hb dX0_leftIn_133 rfl ?_
                  refine x_iadd (z := 4 * (c_ : Int) + 4) hx hb dX0_leftIn_134 (by omega) ?_
                  obtain ⟨wq, hIq, hdq, hB⟩ := hB
                  refine g_calli ((7 - 1 * n4)) ((35 - 5 * n4)) (by omega) (by omega) hB (rS (As := [.ref q, .int (iI (4 * (c_ : Int) + 4))]) (n := 2) C hZ hB (kX0_anchorAt l E (wU wq X1) q n f (4 * c_ + 4) (wU_r hdq hq1) hn hfr (by omega) _) (lw_S q1073 q1074 q68 q1075) (by decide +kernel) ⟨Nat.le_of_ble_eq_true rfl, Nat.le_of_ble_eq_true rfl⟩ rfl hl.1 rfl (Nat.le_of_ble_eq_true rfl) dX0_leftIn_135 ⟨(show (7 - 1 * n4) + 0 ≤ 7 by omega), (show (35 - 5 * n4) + 0 ≤ 35 by omega)⟩) (fun z27 w28 H locs hz29 hp30 hB => ?_)
                  obtain ⟨hz29a, hz29b⟩ := hz29
                  obtain ⟨rfl, hp30⟩ := hp30
                  replace hB : xBB E (xA (wU w X) sz) s o Ad I F X1 _ _ := ⟨wq, hIq, hdq, hB⟩
                  subst hp30
                  refine x_nm (b := aOf (xt f n (4 * c_ + 4))) rfl ?_
                  have hrx := aOf_c (xt f n (4 * c_ + 4))
                  refine x_nm (show aOf (xt f n (4 * c_ + 4)) = aOf (xt f n (4 + 4 * c_)) from congrArg (fun j => aOf (xt f n j)) (by omega)) ?_
                  rw [show aOf (xt f n (4 * c_ + 4)) = aOf (xt f n (4 + 4 * c_)) from congrArg (fun j => aOf (xt f n j)) (by omega)] at hrx
                  have hrxa := hrx
                  refine lv_istore (lv' := [(8, .int (iI (aOf (xt f n (4 + 4 * c_))))), (7, .int (iI (lOf (xt f n (3 + 4 * c_))))), (6, .int (iI (kOf (xt f n (2 + 4 * c_))))), (5, .int (iI (xt f n (2 + 4 * c_)))), (0, .ref o), (1, .ref q), (3, .ref t), (4, .int (iI (4 * (c_ : Int) + 1)))]) hx hb dX0_leftIn_138 hl (by decide) rfl (fun ls hl => ?_)
                  refine lv_iload hx hb dX0_leftIn_140 (lv_at hl 0 rfl) ?_
                  refine x_if_ge (tgt := 151) hx hb dX0_leftIn_142 (by decide) ⟨by omega, by omega⟩ (fun c31 => ?_) (fun c31 => ?_)
                  · refine lv_aload_n hx hb dX0_leftIn_151 rfl (lv_at hl 6 rfl) ?_
                    refine lv_aload_n hx hb dX0_leftIn_152 rfl (lv_at hl 4 rfl) ?_
                    refine lv_iload hx hb dX0_leftIn_153 (lv_at hl 2 rfl) ?_
                    refine lv_iload hx hb dX0_leftIn_155 (lv_at hl 1 rfl) ?_
                    refine lv_iload hx hb dX0_leftIn_157 (lv_at hl 0 rfl) ?_
                    refine b_callq ((7 - 1 * n4) + 1) ((35 - 5 * n4) + 5) (by omega) (by omega) hB (fun w hI hd hB => rV (As := [.int (iI (kOf (xt f n (2 + 4 * c_)))), .int (iI (lOf (xt f n (3 + 4 * c_)))), .int (iI (aOf (xt f n (4 + 4 * c_))))]) (n := 3) C hZ hB (kX0_madeOf l E o Ad I F X1 (kOf (xt f n (2 + 4 * c_))) (lOf (xt f n (3 + 4 * c_))) (aOf (xt f n (4 + 4 * c_))) ⟨by omega, by omega⟩ w hI hd _) (lw_V q769 q771 qs25 q68 q772) (by decide +kernel) ⟨Nat.le_of_ble_eq_true rfl, Nat.le_of_ble_eq_true rfl⟩ (wU_l hI.x) rfl rfl rfl hl.1 rfl (Nat.le_of_ble_eq_true rfl) dX0_leftIn_159 ⟨(show (7 - 1 * n4) + 1 ≤ 7 by omega), (show (35 - 5 * n4) + 5 ≤ 35 by omega)⟩) (fun z32 Ad33 I34 F35 X36 H locs hp38 hB => ?_)
                    obtain ⟨rfl, rfl, rfl, q39, rfl, hq40, rfl⟩ := hp38
                    have hne41 : q ≠ q39 := fun e => by cases (hq40.symm.trans ((congrArg _ e.symm).trans hq1))
                    have hne42 : t ≠ q39 := fun e => by cases (hq40.symm.trans ((congrArg _ e.symm).trans hxt))
                    have hne43 : te ≠ q39 := fun e => by cases (hq40.symm.trans ((congrArg _ e.symm).trans hxe))
                    replace hB : xBB E (xA (wU w X) sz) s o Ad I F (va_up X1 q39 (some (plE o (kOf (xt f n (2 + 4 * c_))) (lOf (xt f n (3 + 4 * c_))) (aOf (xt f n (4 + 4 * c_)))))) _ _ := hB
                    refine t_ladd7 C hZ hB ((va_up_n _ _ hne42).trans hxt) ((va_up_n _ _ hne43).trans hxe) (plE_any (va_up_s _ _ _)) htte (by omega) (by decide) q673 ⟨Nat.le_of_ble_eq_true rfl, Nat.le_of_ble_eq_true rfl⟩ hl.1 (Nat.le_of_ble_eq_true rfl) dX0_leftIn_162 ⟨(show (7 - 1 * n4) + 1 ≤ 7 by omega), (show (35 - 5 * n4) + 5 ≤ 35 by omega)⟩ (fun z44 H locs hB => ?_)
                    replace hB : xBB E (xA (wU w X) sz) s o Ad I F (va_up (va_up (va_up X1 q39 (some (plE o (kOf (xt f n (2 + 4 * c_))) (lOf (xt f n (3 + 4 * c_))) (aOf (xt f n (4 + 4 * c_)))))) te (some (xR E 3 7 ((va_up ((lfE g_ 0 (c_ : Int))) c_ (some q39)))))) t (some (xO 18 [.int (iI (mm + 1)), .ref te, .int (iI ((c_ : Int) + 1))]))) _ _ := hB
                    refine lv_pop hx hb dX0_leftIn_167 rfl ?_
                    refine lv_iinc (v := iI (4 * (c_ : Int) + 1 + 4)) (lv' := [(4, .int (iI (4 * (c_ : Int) + 1 + 4))), (8, .int (iI (aOf (xt f n (4 + 4 * c_))))), (7, .int (iI (lOf (xt f n (3 + 4 * c_))))), (6, .int (iI (kOf (xt f n (2 + 4 * c_))))), (5, .int (iI (xt f n (2 + 4 * c_)))), (0, .ref o), (1, .ref q), (3, .ref t)]) hx hb dX0_leftIn_168 hl (k := 7) rfl (iI_add _ _) (by decide) rfl (fun ls hl => ?_)
                    rw [show (4 * (c_ : Int) + 1 + 4 : Int) = 4 * (c_ : Int) + 5 by omega] at hl
                    refine lv_goto (tgt := 3) hx hb dX0_leftIn_171 (by decide) ?_
                    refine x_up (c2 := 7 - 1 * (7 - (c_ + 1))) (s2 := 35 - 5 * (7 - (c_ + 1))) (by omega) (by omega) ?_
                    exact ih1 _ _ _ _ (by omega) ⟨c_ + 1, _, va_up g_ (0 + c_) q39, _, rfl, ((va_up_n _ _ hqt).trans ((va_up_n _ _ hqte).trans ((va_up_n _ _ hne41).trans hq1))), by omega, (va_up_s _ _ _), (by rw [show ((c_ + 1 : Nat) : Int) = (c_ : Int) + 1 from rfl, lfE_upb]; exact ((va_up_n _ _ (Ne.symm htte)).trans (va_up_s _ _ _))), told_up (p := fun k => plE o (kOf (xt f n (2 + 4 * k))) (lOf (xt f n (3 + 4 * k))) (aOf (xt f n (4 + 4 * k)))) hxp hxi hxt hxe hq40 (fun k => ⟨plE_nL _, plE_nX E _ _⟩), told_up2 (p := fun k => plE o (kOf (xt f n (2 + 4 * k))) (lOf (xt f n (3 + 4 * k))) (aOf (xt f n (4 + 4 * k)))) hxp hxi hq40, fun a e h1 h2 h3 => by have h4 := hxk a e h1 h2 h3; rw [va_up_n _ _ h1, va_up_n _ _ h2, va_up_n _ _ (fun z => by rw [z, hq40] at h4; cases h4)]; exact h4, fun k h => by
                          by_cases e : k = c_
                          · subst e; exact ⟨by omega, by omega, by omega⟩
                          · exact hcd k (by omega), by rw [hlf, hrs, if_pos (by omega), if_neg (by omega), if_neg (by omega), if_neg (by omega), if_neg (by omega), show 8 - (c_ + 1) = 7 - c_ by omega], hB, lv_sub hl [5, 6, 7, 0] rfl⟩
                  · refine lv_bipush (v := iI (-103)) hx hb dX0_leftIn_145 rfl ?_
                    refine lv_iload hx hb dX0_leftIn_147 (lv_at hl 7 rfl) ?_
                    refine x_isub (z := -(4 * (c_ : Int)) - 104) hx hb dX0_leftIn_149 (by omega) ?_
                    exact b_iret C hB hr hlocks rfl dX0_leftIn_150 (by omega) (by omega) ⟨by omega, by omega⟩ ⟨rfl, rfl, rfl, ⟨_, c_, g_, hc7, hxt, hxe, hxp, hxi, fun h => absurd h (by omega)⟩, hxk, by rw [hlf, hrs, if_pos (by omega), if_neg (by omega), if_neg (by omega), if_neg (by omega), if_pos (by omega)]; omega⟩
                · refine lv_bipush (v := iI (-102)) hx hb dX0_leftIn_124 rfl ?_
                  refine lv_iload hx hb dX0_leftIn_126 (lv_at hl 6 rfl) ?_
                  refine x_isub (z := -(4 * (c_ : Int)) - 103) hx hb dX0_leftIn_128 (by omega) ?_
                  exact b_iret C hB hr hlocks rfl dX0_leftIn_129 (by omega) (by omega) ⟨by omega, by omega⟩ ⟨rfl, rfl, rfl, ⟨_, c_, g_, hc7, hxt, hxe, hxp, hxi, fun h => absurd h (by omega)⟩, hxk, by rw [hlf, hrs, if_pos (by omega), if_neg (by omega), if_neg (by omega), if_pos (by omega)]; omega⟩
              · refine lv_bipush (v := iI (-101)) hx hb dX0_leftIn_103 rfl ?_
                refine lv_iload hx hb dX0_leftIn_105 (lv_at hl 5 rfl) ?_
                refine x_isub (z := -(4 * (c_ : Int)) - 102) hx hb dX0_leftIn_107 (by omega) ?_
                exact b_iret C hB hr hlocks rfl dX0_leftIn_108 (by omega) (by omega) ⟨by omega, by omega⟩ ⟨rfl, rfl, rfl, ⟨_, c_, g_, hc7, hxt, hxe, hxp, hxi, fun h => absurd h (by omega)⟩, hxk, by rw [hlf, hrs, if_pos (by omega), if_neg (by omega), if_pos (by omega)]; omega⟩
            · refine lv_iconst (v := iI 2) hx hb dX0_leftIn_90 rfl ?_
              refine lv_goto (tgt := 96) hx hb dX0_leftIn_91 (by decide) ?_
              have hko : kOf (xt f n (2 + 4 * c_)) = 2 := by unfold kOf; (repeat' split) <;> omega
              refine x_nm (b := kOf (xt f n (2 + 4 * c_))) hko.symm ?_
              refine lv_istore (lv' := [(6, .int (iI (kOf (xt f n (2 + 4 * c_))))), (5, .int (iI (xt f n (2 + 4 * c_)))), (0, .ref o), (1, .ref q), (3, .ref t), (4, .int (iI (4 * (c_ : Int) + 1)))]) hx hb dX0_leftIn_96 hl (by decide) rfl (fun ls hl => ?_)
              refine lv_iload hx hb dX0_leftIn_98 (lv_at hl 0 rfl) ?_
              refine x_if_ge (tgt := 109) hx hb dX0_leftIn_100 (by decide) ⟨by omega, by omega⟩ (fun c45 => ?_) (fun c45 => ?_)
              · refine lv_aload_n hx hb dX0_leftIn_109 rfl (lv_at hl 3 rfl) ?_
                refine lv_iload hx hb dX0_leftIn_110 (lv_at hl 5 rfl) ?_
                refine lv_iconst (v := iI 2) hx hb dX0_leftIn_112 rfl ?_
                refine x_iadd (z := 4 * (c_ : Int) + 3) hx hb dX0_leftIn_113 (by omega) ?_
                obtain ⟨wq, hIq, hdq, hB⟩ := hB
                refine g_calli ((7 - 1 * n4)) ((35 - 5 * n4)) (by omega) (by omega) hB (rS (As := [.ref q, .int (iI (4 * (c_ : Int) + 3))]) (n := 2) C hZ hB (kX0_lettersAt l E (wU wq X1) q n f (4 * c_ + 3) (wU_r hdq hq1) hn hfr (by omega) _) (lw_S q1070 q1071 q68 q1072) (by decide +kernel) ⟨Nat.le_of_ble_eq_true rfl, Nat.le_of_ble_eq_true rfl⟩ rfl hl.1 rfl (Nat.le_of_ble_eq_true rfl) dX0_leftIn_114 ⟨(show (7 - 1 * n4) + 0 ≤ 7 by omega), (show (35 - 5 * n4) + 0 ≤ 35 by omega)⟩) (fun z46 w47 H locs hz48 hp49 hB => ?_)
                obtain ⟨hz48a, hz48b⟩ := hz48
                obtain ⟨rfl, hp49⟩ := hp49
                replace hB : xBB E (xA (wU w X) sz) s o Ad I F X1 _ _ := ⟨wq, hIq, hdq, hB⟩
                subst hp49
                refine x_nm (b := lOf (xt f n (4 * c_ + 3))) rfl ?_
                have hrx := lOf_c (xt f n (4 * c_ + 3))
                refine x_nm (show lOf (xt f n (4 * c_ + 3)) = lOf (xt f n (3 + 4 * c_)) from congrArg (fun j => lOf (xt f n j)) (by omega)) ?_
                rw [show lOf (xt f n (4 * c_ + 3)) = lOf (xt f n (3 + 4 * c_)) from congrArg (fun j => lOf (xt f n j)) (by omega)] at hrx
                have hrxl := hrx
                refine lv_istore (lv' := [(7, .int (iI (lOf (xt f n (3 + 4 * c_))))), (6, .int (iI (kOf (xt f n (2 + 4 * c_))))), (5, .int (iI (xt f n (2 + 4 * c_)))), (0, .ref o), (1, .ref q), (3, .ref t), (4, .int (iI (4 * (c_ : Int) + 1)))]) hx hb dX0_leftIn_117 hl (by decide) rfl (fun ls hl => ?_)
                refine lv_iload hx hb dX0_leftIn_119 (lv_at hl 0 rfl) ?_
                refine x_if_ge (tgt := 130) hx hb dX0_leftIn_121 (by decide) ⟨by omega, by omega⟩ (fun c50 => ?_) (fun c50 => ?_)
                · refine lv_aload_n hx hb dX0_leftIn_130 rfl (lv_at hl 4 rfl) ?_
                  refine lv_iload hx hb dX0_leftIn_131 (lv_at hl 6 rfl) ?_
                  refine lv_iconst (v := iI 3) hx hb dX0_leftIn_133 rfl ?_
                  refine x_iadd (z := 4 * (c_ : Int) + 4) hx hb dX0_leftIn_134 (by omega) ?_
                  obtain ⟨wq, hIq, hdq, hB⟩ := hB
                  refine g_calli ((7 - 1 * n4)) ((35 - 5 * n4)) (by omega) (by omega) hB (rS (As := [.ref q, .int (iI (4 * (c_ : Int) + 4))]) (n := 2) C hZ hB (kX0_anchorAt l E (wU wq X1) q n f (4 * c_ + 4) (wU_r hdq hq1) hn hfr (by omega) _) (lw_S q1073 q1074 q68 q1075) (by decide +kernel) ⟨Nat.le_of_ble_eq_true rfl, Nat.le_of_ble_eq_true rfl⟩ rfl hl.1 rfl (Nat.le_of_ble_eq_true rfl) dX0_leftIn_135 ⟨(show (7 - 1 * n4) + 0 ≤ 7 by omega), (show (35 - 5 * n4) + 0 ≤ 35 by omega)⟩) (fun z51 w52 H locs hz53 hp54 hB => ?_)
                  obtain ⟨hz53a, hz53b⟩ := hz53
                  obtain ⟨rfl, hp54⟩ := hp54
                  replace hB : xBB E (xA (wU w X) sz) s o Ad I F X1 _ _ := ⟨wq, hIq, hdq, hB⟩
                  subst hp54
                  refine x_nm (b := aOf (xt f n (4 * c_ + 4))) rfl ?_
                  have hrx := aOf_c (xt f n (4 * c_ + 4))
                  refine x_nm (show aOf (xt f n (4 * c_ + 4)) = aOf (xt f n (4 + 4 * c_)) from congrArg (fun j => aOf (xt f n j)) (by omega)) ?_
                  rw [show aOf (xt f n (4 * c_ + 4)) = aOf (xt f n (4 + 4 * c_)) from congrArg (fun j => aOf (xt f n j)) (by omega)] at hrx
                  have hrxa := hrx
                  refine lv_istore (lv' := [(8, .int (iI (aOf (xt f n (4 + 4 * c_))))), (7, .int (iI (lOf (xt f n (3 + 4 * c_))))), (6, .int (iI (kOf (xt f n (2 + 4 * c_))))), (5, .int (iI (xt f n (2 + 4 * c_)))), (0, .ref o), (1, .ref q), (3, .ref t), (4, .int (iI (4 * (c_ : Int) + 1)))]) hx hb dX0_leftIn_138 hl (by decide) rfl (fun ls hl => ?_)
                  refine lv_iload hx hb dX0_leftIn_140 (lv_at hl 0 rfl) ?_
                  refine x_if_ge (tgt := 151) hx hb dX0_leftIn_142 (by decide) ⟨by omega, by omega⟩ (fun c55 => ?_) (fun c55 => ?_)
                  · refine lv_aload_n hx hb dX0_leftIn_151 rfl (lv_at hl 6 rfl) ?_
                    refine lv_aload_n hx hb dX0_leftIn_152 rfl (lv_at hl 4 rfl) ?_
                    refine lv_iload hx hb dX0_leftIn_153 (lv_at hl 2 rfl) ?_
                    refine lv_iload hx hb dX0_leftIn_155 (lv_at hl 1 rfl) ?_
                    refine lv_iload hx hb dX0_leftIn_157 (lv_at hl 0 rfl) ?_
                    refine b_callq ((7 - 1 * n4) + 1) ((35 - 5 * n4) + 5) (by omega) (by omega) hB (fun w hI hd hB => rV (As := [.int (iI (kOf (xt f n (2 + 4 * c_)))), .int (iI (lOf (xt f n (3 + 4 * c_)))), .int (iI (aOf (xt f n (4 + 4 * c_))))]) (n := 3) C hZ hB (kX0_madeOf l E o Ad I F X1 (kOf (xt f n (2 + 4 * c_))) (lOf (xt f n (3 + 4 * c_))) (aOf (xt f n (4 + 4 * c_))) ⟨by omega, by omega⟩ w hI hd _) (lw_V q769 q771 qs25 q68 q772) (by decide +kernel) ⟨Nat.le_of_ble_eq_true rfl, Nat.le_of_ble_eq_true rfl⟩ (wU_l hI.x) rfl rfl rfl hl.1 rfl (Nat.le_of_ble_eq_true rfl) dX0_leftIn_159 ⟨(show (7 - 1 * n4) + 1 ≤ 7 by omega), (show (35 - 5 * n4) + 5 ≤ 35 by omega)⟩) (fun z56 Ad57 I58 F59 X60 H locs hp62 hB => ?_)
                    obtain ⟨rfl, rfl, rfl, q63, rfl, hq64, rfl⟩ := hp62
                    have hne65 : q ≠ q63 := fun e => by cases (hq64.symm.trans ((congrArg _ e.symm).trans hq1))
                    have hne66 : t ≠ q63 := fun e => by cases (hq64.symm.trans ((congrArg _ e.symm).trans hxt))
                    have hne67 : te ≠ q63 := fun e => by cases (hq64.symm.trans ((congrArg _ e.symm).trans hxe))
                    replace hB : xBB E (xA (wU w X) sz) s o Ad I F (va_up X1 q63 (some (plE o (kOf (xt f n (2 + 4 * c_))) (lOf (xt f n (3 + 4 * c_))) (aOf (xt f n (4 + 4 * c_)))))) _ _ := hB
                    refine t_ladd7 C hZ hB ((va_up_n _ _ hne66).trans hxt) ((va_up_n _ _ hne67).trans hxe) (plE_any (va_up_s _ _ _)) htte (by omega) (by decide) q673 ⟨Nat.le_of_ble_eq_true rfl, Nat.le_of_ble_eq_true rfl⟩ hl.1 (Nat.le_of_ble_eq_true rfl) dX0_leftIn_162 ⟨(show (7 - 1 * n4) + 1 ≤ 7 by omega), (show (35 - 5 * n4) + 5 ≤ 35 by omega)⟩ (fun z68 H locs hB => ?_)
                    replace hB : xBB E (xA (wU w X) sz) s o Ad I F (va_up (va_up (va_up X1 q63 (some (plE o (kOf (xt f n (2 + 4 * c_))) (lOf (xt f n (3 + 4 * c_))) (aOf (xt f n (4 + 4 * c_)))))) te (some (xR E 3 7 ((va_up ((lfE g_ 0 (c_ : Int))) c_ (some q63)))))) t (some (xO 18 [.int (iI (mm + 1)), .ref te, .int (iI ((c_ : Int) + 1))]))) _ _ := hB
                    refine lv_pop hx hb dX0_leftIn_167 rfl ?_
                    refine lv_iinc (v := iI (4 * (c_ : Int) + 1 + 4)) (lv' := [(4, .int (iI (4 * (c_ : Int) + 1 + 4))), (8, .int (iI (aOf (xt f n (4 + 4 * c_))))), (7, .int (iI (lOf (xt f n (3 + 4 * c_))))), (6, .int (iI (kOf (xt f n (2 + 4 * c_))))), (5, .int (iI (xt f n (2 + 4 * c_)))), (0, .ref o), (1, .ref q), (3, .ref t)]) hx hb dX0_leftIn_168 hl (k := 7) rfl (iI_add _ _) (by decide) rfl (fun ls hl => ?_)
                    rw [show (4 * (c_ : Int) + 1 + 4 : Int) = 4 * (c_ : Int) + 5 by omega] at hl
                    refine lv_goto (tgt := 3) hx hb dX0_leftIn_171 (by decide) ?_
                    refine x_up (c2 := 7 - 1 * (7 - (c_ + 1))) (s2 := 35 - 5 * (7 - (c_ + 1))) (by omega) (by omega) ?_
                    exact ih1 _ _ _ _ (by omega) ⟨c_ + 1, _, va_up g_ (0 + c_) q63, _, rfl, ((va_up_n _ _ hqt).trans ((va_up_n _ _ hqte).trans ((va_up_n _ _ hne65).trans hq1))), by omega, (va_up_s _ _ _), (by rw [show ((c_ + 1 : Nat) : Int) = (c_ : Int) + 1 from rfl, lfE_upb]; exact ((va_up_n _ _ (Ne.symm htte)).trans (va_up_s _ _ _))), told_up (p := fun k => plE o (kOf (xt f n (2 + 4 * k))) (lOf (xt f n (3 + 4 * k))) (aOf (xt f n (4 + 4 * k)))) hxp hxi hxt hxe hq64 (fun k => ⟨plE_nL _, plE_nX E _ _⟩), told_up2 (p := fun k => plE o (kOf (xt f n (2 + 4 * k))) (lOf (xt f n (3 + 4 * k))) (aOf (xt f n (4 + 4 * k)))) hxp hxi hq64, fun a e h1 h2 h3 => by have h4 := hxk a e h1 h2 h3; rw [va_up_n _ _ h1, va_up_n _ _ h2, va_up_n _ _ (fun z => by rw [z, hq64] at h4; cases h4)]; exact h4, fun k h => by
                          by_cases e : k = c_
                          · subst e; exact ⟨by omega, by omega, by omega⟩
                          · exact hcd k (by omega), by rw [hlf, hrs, if_pos (by omega), if_neg (by omega), if_neg (by omega), if_neg (by omega), if_neg (by omega), show 8 - (c_ + 1) = 7 - c_ by omega], hB, lv_sub hl [5, 6, 7, 0] rfl⟩
                  · refine lv_bipush (v := iI (-103)) hx hb dX0_leftIn_145 rfl ?_
                    refine lv_iload hx hb dX0_leftIn_147 (lv_at hl 7 rfl) ?_
                    refine x_isub (z := -(4 * (c_ : Int)) - 104) hx hb dX0_leftIn_149 (by omega) ?_
                    exact b_iret C hB hr hlocks rfl dX0_leftIn_150 (by omega) (by omega) ⟨by omega, by omega⟩ ⟨rfl, rfl, rfl, ⟨_, c_, g_, hc7, hxt, hxe, hxp, hxi, fun h => absurd h (by omega)⟩, hxk, by rw [hlf, hrs, if_pos (by omega), if_neg (by omega), if_neg (by omega), if_neg (by omega), if_pos (by omega)]; omega⟩
                · refine lv_bipush (v := iI (-102)) hx hb dX0_leftIn_124 rfl ?_
                  refine lv_iload hx hb dX0_leftIn_126 (lv_at hl 6 rfl) ?_
                  refine x_isub (z := -(4 * (c_ : Int)) - 103) hx hb dX0_leftIn_128 (by omega) ?_
                  exact b_iret C hB hr hlocks rfl dX0_leftIn_129 (by omega) (by omega) ⟨by omega, by omega⟩ ⟨rfl, rfl, rfl, ⟨_, c_, g_, hc7, hxt, hxe, hxp, hxi, fun h => absurd h (by omega)⟩, hxk, by rw [hlf, hrs, if_pos (by omega), if_neg (by omega), if_neg (by omega), if_pos (by omega)]; omega⟩
              · refine lv_bipush (v := iI (-101)) hx hb dX0_leftIn_103 rfl ?_
                refine lv_iload hx hb dX0_leftIn_105 (lv_at hl 5 rfl) ?_
                refine x_isub (z := -(4 * (c_ : Int)) - 102) hx hb dX0_leftIn_107 (by omega) ?_
                exact b_iret C hB hr hlocks rfl dX0_leftIn_108 (by omega) (by omega) ⟨by omega, by omega⟩ ⟨rfl, rfl, rfl, ⟨_, c_, g_, hc7, hxt, hxe, hxp, hxi, fun h => absurd h (by omega)⟩, hxk, by rw [hlf, hrs, if_pos (by omega), if_neg (by omega), if_pos (by omega)]; omega⟩
          · refine lv_iconst (v := iI 1) hx hb dX0_leftIn_79 rfl ?_
            refine lv_goto (tgt := 96) hx hb dX0_leftIn_80 (by decide) ?_
            have hko : kOf (xt f n (2 + 4 * c_)) = 1 := by unfold kOf; (repeat' split) <;> omega
            refine x_nm (b := kOf (xt f n (2 + 4 * c_))) hko.symm ?_
            refine lv_istore (lv' := [(6, .int (iI (kOf (xt f n (2 + 4 * c_))))), (5, .int (iI (xt f n (2 + 4 * c_)))), (0, .ref o), (1, .ref q), (3, .ref t), (4, .int (iI (4 * (c_ : Int) + 1)))]) hx hb dX0_leftIn_96 hl (by decide) rfl (fun ls hl => ?_)
            refine lv_iload hx hb dX0_leftIn_98 (lv_at hl 0 rfl) ?_
            refine x_if_ge (tgt := 109) hx hb dX0_leftIn_100 (by decide) ⟨by omega, by omega⟩ (fun c69 => ?_) (fun c69 => ?_)
            · refine lv_aload_n hx hb dX0_leftIn_109 rfl (lv_at hl 3 rfl) ?_
              refine lv_iload hx hb dX0_leftIn_110 (lv_at hl 5 rfl) ?_
              refine lv_iconst (v := iI 2) hx hb dX0_leftIn_112 rfl ?_
              refine x_iadd (z := 4 * (c_ : Int) + 3) hx hb dX0_leftIn_113 (by omega) ?_
              obtain ⟨wq, hIq, hdq, hB⟩ := hB
              refine g_calli ((7 - 1 * n4)) ((35 - 5 * n4)) (by omega) (by omega) hB (rS (As := [.ref q, .int (iI (4 * (c_ : Int) + 3))]) (n := 2) C hZ hB (kX0_lettersAt l E (wU wq X1) q n f (4 * c_ + 3) (wU_r hdq hq1) hn hfr (by omega) _) (lw_S q1070 q1071 q68 q1072) (by decide +kernel) ⟨Nat.le_of_ble_eq_true rfl, Nat.le_of_ble_eq_true rfl⟩ rfl hl.1 rfl (Nat.le_of_ble_eq_true rfl) dX0_leftIn_114 ⟨(show (7 - 1 * n4) + 0 ≤ 7 by omega), (show (35 - 5 * n4) + 0 ≤ 35 by omega)⟩) (fun z70 w71 H locs hz72 hp73 hB => ?_)
              obtain ⟨hz72a, hz72b⟩ := hz72
              obtain ⟨rfl, hp73⟩ := hp73
              replace hB : xBB E (xA (wU w X) sz) s o Ad I F X1 _ _ := ⟨wq, hIq, hdq, hB⟩
              subst hp73
              refine x_nm (b := lOf (xt f n (4 * c_ + 3))) rfl ?_
              have hrx := lOf_c (xt f n (4 * c_ + 3))
              refine x_nm (show lOf (xt f n (4 * c_ + 3)) = lOf (xt f n (3 + 4 * c_)) from congrArg (fun j => lOf (xt f n j)) (by omega)) ?_
              rw [show lOf (xt f n (4 * c_ + 3)) = lOf (xt f n (3 + 4 * c_)) from congrArg (fun j => lOf (xt f n j)) (by omega)] at hrx
              have hrxl := hrx
              refine lv_istore (lv' := [(7, .int (iI (lOf (xt f n (3 + 4 * c_))))), (6, .int (iI (kOf (xt f n (2 + 4 * c_))))), (5, .int (iI (xt f n (2 + 4 * c_)))), (0, .ref o), (1, .ref q), (3, .ref t), (4, .int (iI (4 * (c_ : Int) + 1)))]) hx hb dX0_leftIn_117 hl (by decide) rfl (fun ls hl => ?_)
              refine lv_iload hx hb dX0_leftIn_119 (lv_at hl 0 rfl) ?_
              refine x_if_ge (tgt := 130) hx hb dX0_leftIn_121 (by decide) ⟨by omega, by omega⟩ (fun c74 => ?_) (fun c74 => ?_)
              · refine lv_aload_n hx hb dX0_leftIn_130 rfl (lv_at hl 4 rfl) ?_
                refine lv_iload hx hb dX0_leftIn_131 (lv_at hl 6 rfl) ?_
                refine lv_iconst (v := iI 3) hx hb dX0_leftIn_133 rfl ?_
                refine x_iadd (z := 4 * (c_ : Int) + 4) hx hb dX0_leftIn_134 (by omega) ?_
                obtain ⟨wq, hIq, hdq, hB⟩ := hB
                refine g_calli ((7 - 1 * n4)) ((35 - 5 * n4)) (by omega) (by omega) hB (rS (As := [.ref q, .int (iI (4 * (c_ : Int) + 4))]) (n := 2) C hZ hB (kX0_anchorAt l E (wU wq X1) q n f (4 * c_ + 4) (wU_r hdq hq1) hn hfr (by omega) _) (lw_S q1073 q1074 q68 q1075) (by decide +kernel) ⟨Nat.le_of_ble_eq_true rfl, Nat.le_of_ble_eq_true rfl⟩ rfl hl.1 rfl (Nat.le_of_ble_eq_true rfl) dX0_leftIn_135 ⟨(show (7 - 1 * n4) + 0 ≤ 7 by omega), (show (35 - 5 * n4) + 0 ≤ 35 by omega)⟩) (fun z75 w76 H locs hz77 hp78 hB => ?_)
                obtain ⟨hz77a, hz77b⟩ := hz77
                obtain ⟨rfl, hp78⟩ := hp78
                replace hB : xBB E (xA (wU w X) sz) s o Ad I F X1 _ _ := ⟨wq, hIq, hdq, hB⟩
                subst hp78
                refine x_nm (b := aOf (xt f n (4 * c_ + 4))) rfl ?_
                have hrx := aOf_c (xt f n (4 * c_ + 4))
                refine x_nm (show aOf (xt f n (4 * c_ + 4)) = aOf (xt f n (4 + 4 * c_)) from congrArg (fun j => aOf (xt f n j)) (by omega)) ?_
                rw [show aOf (xt f n (4 * c_ + 4)) = aOf (xt f n (4 + 4 * c_)) from congrArg (fun j => aOf (xt f n j)) (by omega)] at hrx
                have hrxa := hrx
                refine lv_istore (lv' := [(8, .int (iI (aOf (xt f n (4 + 4 * c_))))), (7, .int (iI (lOf (xt f n (3 + 4 * c_))))), (6, .int (iI (kOf (xt f n (2 + 4 * c_))))), (5, .int (iI (xt f n (2 + 4 * c_)))), (0, .ref o), (1, .ref q), (3, .ref t), (4, .int (iI (4 * (c_ : Int) + 1)))]) hx hb dX0_leftIn_138 hl (by decide) rfl (fun ls hl => ?_)
                refine lv_iload hx hb dX0_leftIn_140 (lv_at hl 0 rfl) ?_
                refine x_if_ge (tgt := 151) hx hb dX0_leftIn_142 (by decide) ⟨by omega, by omega⟩ (fun c79 => ?_) (fun c79 => ?_)
                · refine lv_aload_n hx hb dX0_leftIn_151 rfl (lv_at hl 6 rfl) ?_
                  refine lv_aload_n hx hb dX0_leftIn_152 rfl (lv_at hl 4 rfl) ?_
                  refine lv_iload hx hb dX0_leftIn_153 (lv_at hl 2 rfl) ?_
                  refine lv_iload hx hb dX0_leftIn_155 (lv_at hl 1 rfl) ?_
                  refine lv_iload hx hb dX0_leftIn_157 (lv_at hl 0 rfl) ?_
                  refine b_callq ((7 - 1 * n4) + 1) ((35 - 5 * n4) + 5) (by omega) (by omega) hB (fun w hI hd hB => rV (As := [.int (iI (kOf (xt f n (2 + 4 * c_)))), .int (iI (lOf (xt f n (3 + 4 * c_)))), .int (iI (aOf (xt f n (4 + 4 * c_))))]) (n := 3) C hZ hB (kX0_madeOf l E o Ad I F X1 (kOf (xt f n (2 + 4 * c_))) (lOf (xt f n (3 + 4 * c_))) (aOf (xt f n (4 + 4 * c_))) ⟨by omega, by omega⟩ w hI hd _) (lw_V q769 q771 qs25 q68 q772) (by decide +kernel) ⟨Nat.le_of_ble_eq_true rfl, Nat.le_of_ble_eq_true rfl⟩ (wU_l hI.x) rfl rfl rfl hl.1 rfl (Nat.le_of_ble_eq_true rfl) dX0_leftIn_159 ⟨(show (7 - 1 * n4) + 1 ≤ 7 by omega), (show (35 - 5 * n4) + 5 ≤ 35 by omega)⟩) (fun z80 Ad81 I82 F83 X84 H locs hp86 hB => ?_)
                  obtain ⟨rfl, rfl, rfl, q87, rfl, hq88, rfl⟩ := hp86
                  have hne89 : q ≠ q87 := fun e => by cases (hq88.symm.trans ((congrArg _ e.symm).trans hq1))
                  have hne90 : t ≠ q87 := fun e => by cases (hq88.symm.trans ((congrArg _ e.symm).trans hxt))
                  have hne91 : te ≠ q87 := fun e => by cases (hq88.symm.trans ((congrArg _ e.symm).trans hxe))
                  replace hB : xBB E (xA (wU w X) sz) s o Ad I F (va_up X1 q87 (some (plE o (kOf (xt f n (2 + 4 * c_))) (lOf (xt f n (3 + 4 * c_))) (aOf (xt f n (4 + 4 * c_)))))) _ _ := hB
                  refine t_ladd7 C hZ hB ((va_up_n _ _ hne90).trans hxt) ((va_up_n _ _ hne91).trans hxe) (plE_any (va_up_s _ _ _)) htte (by omega) (by decide) q673 ⟨Nat.le_of_ble_eq_true rfl, Nat.le_of_ble_eq_true rfl⟩ hl.1 (Nat.le_of_ble_eq_true rfl) dX0_leftIn_162 ⟨(show (7 - 1 * n4) + 1 ≤ 7 by omega), (show (35 - 5 * n4) + 5 ≤ 35 by omega)⟩ (fun z92 H locs hB => ?_)
                  replace hB : xBB E (xA (wU w X) sz) s o Ad I F (va_up (va_up (va_up X1 q87 (some (plE o (kOf (xt f n (2 + 4 * c_))) (lOf (xt f n (3 + 4 * c_))) (aOf (xt f n (4 + 4 * c_)))))) te (some (xR E 3 7 ((va_up ((lfE g_ 0 (c_ : Int))) c_ (some q87)))))) t (some (xO 18 [.int (iI (mm + 1)), .ref te, .int (iI ((c_ : Int) + 1))]))) _ _ := hB
                  refine lv_pop hx hb dX0_leftIn_167 rfl ?_
                  refine lv_iinc (v := iI (4 * (c_ : Int) + 1 + 4)) (lv' := [(4, .int (iI (4 * (c_ : Int) + 1 + 4))), (8, .int (iI (aOf (xt f n (4 + 4 * c_))))), (7, .int (iI (lOf (xt f n (3 + 4 * c_))))), (6, .int (iI (kOf (xt f n (2 + 4 * c_))))), (5, .int (iI (xt f n (2 + 4 * c_)))), (0, .ref o), (1, .ref q), (3, .ref t)]) hx hb dX0_leftIn_168 hl (k := 7) rfl (iI_add _ _) (by decide) rfl (fun ls hl => ?_)
                  rw [show (4 * (c_ : Int) + 1 + 4 : Int) = 4 * (c_ : Int) + 5 by omega] at hl
                  refine lv_goto (tgt := 3) hx hb dX0_leftIn_171 (by decide) ?_
                  refine x_up (c2 := 7 - 1 * (7 - (c_ + 1))) (s2 := 35 - 5 * (7 - (c_ + 1))) (by omega) (by omega) ?_
                  exact ih1 _ _ _ _ (by omega) ⟨c_ + 1, _, va_up g_ (0 + c_) q87, _, rfl, ((va_up_n _ _ hqt).trans ((va_up_n _ _ hqte).trans ((va_up_n _ _ hne89).trans hq1))), by omega, (va_up_s _ _ _), (by rw [show ((c_ + 1 : Nat) : Int) = (c_ : Int) + 1 from rfl, lfE_upb]; exact ((va_up_n _ _ (Ne.symm htte)).trans (va_up_s _ _ _))), told_up (p := fun k => plE o (kOf (xt f n (2 + 4 * k))) (lOf (xt f n (3 + 4 * k))) (aOf (xt f n (4 + 4 * k)))) hxp hxi hxt hxe hq88 (fun k => ⟨plE_nL _, plE_nX E _ _⟩), told_up2 (p := fun k => plE o (kOf (xt f n (2 + 4 * k))) (lOf (xt f n (3 + 4 * k))) (aOf (xt f n (4 + 4 * k)))) hxp hxi hq88, fun a e h1 h2 h3 => by have h4 := hxk a e h1 h2 h3; rw [va_up_n _ _ h1, va_up_n _ _ h2, va_up_n _ _ (fun z => by rw [z, hq88] at h4; cases h4)]; exact h4, fun k h => by
                        by_cases e : k = c_
                        · subst e; exact ⟨by omega, by omega, by omega⟩
                        · exact hcd k (by omega), by rw [hlf, hrs, if_pos (by omega), if_neg (by omega), if_neg (by omega), if_neg (by omega), if_neg (by omega), show 8 - (c_ + 1) = 7 - c_ by omega], hB, lv_sub hl [5, 6, 7, 0] rfl⟩
                · refine lv_bipush (v := iI (-103)) hx hb dX0_leftIn_145 rfl ?_
                  refine lv_iload hx hb dX0_leftIn_147 (lv_at hl 7 rfl) ?_
                  refine x_isub (z := -(4 * (c_ : Int)) - 104) hx hb dX0_leftIn_149 (by omega) ?_
                  exact b_iret C hB hr hlocks rfl dX0_leftIn_150 (by omega) (by omega) ⟨by omega, by omega⟩ ⟨rfl, rfl, rfl, ⟨_, c_, g_, hc7, hxt, hxe, hxp, hxi, fun h => absurd h (by omega)⟩, hxk, by rw [hlf, hrs, if_pos (by omega), if_neg (by omega), if_neg (by omega), if_neg (by omega), if_pos (by omega)]; omega⟩
              · refine lv_bipush (v := iI (-102)) hx hb dX0_leftIn_124 rfl ?_
                refine lv_iload hx hb dX0_leftIn_126 (lv_at hl 6 rfl) ?_
                refine x_isub (z := -(4 * (c_ : Int)) - 103) hx hb dX0_leftIn_128 (by omega) ?_
                exact b_iret C hB hr hlocks rfl dX0_leftIn_129 (by omega) (by omega) ⟨by omega, by omega⟩ ⟨rfl, rfl, rfl, ⟨_, c_, g_, hc7, hxt, hxe, hxp, hxi, fun h => absurd h (by omega)⟩, hxk, by rw [hlf, hrs, if_pos (by omega), if_neg (by omega), if_neg (by omega), if_pos (by omega)]; omega⟩
            · refine lv_bipush (v := iI (-101)) hx hb dX0_leftIn_103 rfl ?_
              refine lv_iload hx hb dX0_leftIn_105 (lv_at hl 5 rfl) ?_
              refine x_isub (z := -(4 * (c_ : Int)) - 102) hx hb dX0_leftIn_107 (by omega) ?_
              exact b_iret C hB hr hlocks rfl dX0_leftIn_108 (by omega) (by omega) ⟨by omega, by omega⟩ ⟨rfl, rfl, rfl, ⟨_, c_, g_, hc7, hxt, hxe, hxp, hxi, fun h => absurd h (by omega)⟩, hxk, by rw [hlf, hrs, if_pos (by omega), if_neg (by omega), if_pos (by omega)]; omega⟩
        · refine lv_iconst (v := iI 0) hx hb dX0_leftIn_68 rfl ?_
          refine lv_goto (tgt := 96) hx hb dX0_leftIn_69 (by decide) ?_
          have hko : kOf (xt f n (2 + 4 * c_)) = 0 := by unfold kOf; (repeat' split) <;> omega
          refine x_nm (b := kOf (xt f n (2 + 4 * c_))) hko.symm ?_
          refine lv_istore (lv' := [(6, .int (iI (kOf (xt f n (2 + 4 * c_))))), (5, .int (iI (xt f n (2 + 4 * c_)))), (0, .ref o), (1, .ref q), (3, .ref t), (4, .int (iI (4 * (c_ : Int) + 1)))]) hx hb dX0_leftIn_96 hl (by decide) rfl (fun ls hl => ?_)
          refine lv_iload hx hb dX0_leftIn_98 (lv_at hl 0 rfl) ?_
          refine x_if_ge (tgt := 109) hx hb dX0_leftIn_100 (by decide) ⟨by omega, by omega⟩ (fun c93 => ?_) (fun c93 => ?_)
          · refine lv_aload_n hx hb dX0_leftIn_109 rfl (lv_at hl 3 rfl) ?_
            refine lv_iload hx hb dX0_leftIn_110 (lv_at hl 5 rfl) ?_
            refine lv_iconst (v := iI 2) hx hb dX0_leftIn_112 rfl ?_
            refine x_iadd (z := 4 * (c_ : Int) + 3) hx hb dX0_leftIn_113 (by omega) ?_
            obtain ⟨wq, hIq, hdq, hB⟩ := hB
            refine g_calli ((7 - 1 * n4)) ((35 - 5 * n4)) (by omega) (by omega) hB (rS (As := [.ref q, .int (iI (4 * (c_ : Int) + 3))]) (n := 2) C hZ hB (kX0_lettersAt l E (wU wq X1) q n f (4 * c_ + 3) (wU_r hdq hq1) hn hfr (by omega) _) (lw_S q1070 q1071 q68 q1072) (by decide +kernel) ⟨Nat.le_of_ble_eq_true rfl, Nat.le_of_ble_eq_true rfl⟩ rfl hl.1 rfl (Nat.le_of_ble_eq_true rfl) dX0_leftIn_114 ⟨(show (7 - 1 * n4) + 0 ≤ 7 by omega), (show (35 - 5 * n4) + 0 ≤ 35 by omega)⟩) (fun z94 w95 H locs hz96 hp97 hB => ?_)
            obtain ⟨hz96a, hz96b⟩ := hz96
            obtain ⟨rfl, hp97⟩ := hp97
            replace hB : xBB E (xA (wU w X) sz) s o Ad I F X1 _ _ := ⟨wq, hIq, hdq, hB⟩
            subst hp97
            refine x_nm (b := lOf (xt f n (4 * c_ + 3))) rfl ?_
            have hrx := lOf_c (xt f n (4 * c_ + 3))
            refine x_nm (show lOf (xt f n (4 * c_ + 3)) = lOf (xt f n (3 + 4 * c_)) from congrArg (fun j => lOf (xt f n j)) (by omega)) ?_
            rw [show lOf (xt f n (4 * c_ + 3)) = lOf (xt f n (3 + 4 * c_)) from congrArg (fun j => lOf (xt f n j)) (by omega)] at hrx
            have hrxl := hrx
            refine lv_istore (lv' := [(7, .int (iI (lOf (xt f n (3 + 4 * c_))))), (6, .int (iI (kOf (xt f n (2 + 4 * c_))))), (5, .int (iI (xt f n (2 + 4 * c_)))), (0, .ref o), (1, .ref q), (3, .ref t), (4, .int (iI (4 * (c_ : Int) + 1)))]) hx hb dX0_leftIn_117 hl (by decide) rfl (fun ls hl => ?_)
            refine lv_iload hx hb dX0_leftIn_119 (lv_at hl 0 rfl) ?_
            refine x_if_ge (tgt := 130) hx hb dX0_leftIn_121 (by decide) ⟨by omega, by omega⟩ (fun c98 => ?_) (fun c98 => ?_)
            · refine lv_aload_n hx hb dX0_leftIn_130 rfl (lv_at hl 4 rfl) ?_
              refine lv_iload hx hb dX0_leftIn_131 (lv_at hl 6 rfl) ?_
              refine lv_iconst (v := iI 3) hx hb dX0_leftIn_133 rfl ?_
              refine x_iadd (z := 4 * (c_ : Int) + 4) hx hb dX0_leftIn_134 (by omega) ?_
              obtain ⟨wq, hIq, hdq, hB⟩ := hB
              refine g_calli ((7 - 1 * n4)) ((35 - 5 * n4)) (by omega) (by omega) hB (rS (As := [.ref q, .int (iI (4 * (c_ : Int) + 4))]) (n := 2) C hZ hB (kX0_anchorAt l E (wU wq X1) q n f (4 * c_ + 4) (wU_r hdq hq1) hn hfr (by omega) _) (lw_S q1073 q1074 q68 q1075) (by decide +kernel) ⟨Nat.le_of_ble_eq_true rfl, Nat.le_of_ble_eq_true rfl⟩ rfl hl.1 rfl (Nat.le_of_ble_eq_true rfl) dX0_leftIn_135 ⟨(show (7 - 1 * n4) + 0 ≤ 7 by omega), (show (35 - 5 * n4) + 0 ≤ 35 by omega)⟩) (fun z99 w100 H locs hz101 hp102 hB => ?_)
              obtain ⟨hz101a, hz101b⟩ := hz101
              obtain ⟨rfl, hp102⟩ := hp102
              replace hB : xBB E (xA (wU w X) sz) s o Ad I F X1 _ _ := ⟨wq, hIq, hdq, hB⟩
              subst hp102
              refine x_nm (b := aOf (xt f n (4 * c_ + 4))) rfl ?_
              have hrx := aOf_c (xt f n (4 * c_ + 4))
              refine x_nm (show aOf (xt f n (4 * c_ + 4)) = aOf (xt f n (4 + 4 * c_)) from congrArg (fun j => aOf (xt f n j)) (by omega)) ?_
              rw [show aOf (xt f n (4 * c_ + 4)) = aOf (xt f n (4 + 4 * c_)) from congrArg (fun j => aOf (xt f n j)) (by omega)] at hrx
              have hrxa := hrx
              refine lv_istore (lv' := [(8, .int (iI (aOf (xt f n (4 + 4 * c_))))), (7, .int (iI (lOf (xt f n (3 + 4 * c_))))), (6, .int (iI (kOf (xt f n (2 + 4 * c_))))), (5, .int (iI (xt f n (2 + 4 * c_)))), (0, .ref o), (1, .ref q), (3, .ref t), (4, .int (iI (4 * (c_ : Int) + 1)))]) hx hb dX0_leftIn_138 hl (by decide) rfl (fun ls hl => ?_)
              refine lv_iload hx hb dX0_leftIn_140 (lv_at hl 0 rfl) ?_
              refine x_if_ge (tgt := 151) hx hb dX0_leftIn_142 (by decide) ⟨by omega, by omega⟩ (fun c103 => ?_) (fun c103 => ?_)
              · refine lv_aload_n hx hb dX0_leftIn_151 rfl (lv_at hl 6 rfl) ?_
                refine lv_aload_n hx hb dX0_leftIn_152 rfl (lv_at hl 4 rfl) ?_
                refine lv_iload hx hb dX0_leftIn_153 (lv_at hl 2 rfl) ?_
                refine lv_iload hx hb dX0_leftIn_155 (lv_at hl 1 rfl) ?_
                refine lv_iload hx hb dX0_leftIn_157 (lv_at hl 0 rfl) ?_
                refine b_callq ((7 - 1 * n4) + 1) ((35 - 5 * n4) + 5) (by omega) (by omega) hB (fun w hI hd hB => rV (As := [.int (iI (kOf (xt f n (2 + 4 * c_)))), .int (iI (lOf (xt f n (3 + 4 * c_)))), .int (iI (aOf (xt f n (4 + 4 * c_))))]) (n := 3) C hZ hB (kX0_madeOf l E o Ad I F X1 (kOf (xt f n (2 + 4 * c_))) (lOf (xt f n (3 + 4 * c_))) (aOf (xt f n (4 + 4 * c_))) ⟨by omega, by omega⟩ w hI hd _) (lw_V q769 q771 qs25 q68 q772) (by decide +kernel) ⟨Nat.le_of_ble_eq_true rfl, Nat.le_of_ble_eq_true rfl⟩ (wU_l hI.x) rfl rfl rfl hl.1 rfl (Nat.le_of_ble_eq_true rfl) dX0_leftIn_159 ⟨(show (7 - 1 * n4) + 1 ≤ 7 by omega), (show (35 - 5 * n4) + 5 ≤ 35 by omega)⟩) (fun z104 Ad105 I106 F107 X108 H locs hp110 hB => ?_)
                obtain ⟨rfl, rfl, rfl, q111, rfl, hq112, rfl⟩ := hp110
                have hne113 : q ≠ q111 := fun e => by cases (hq112.symm.trans ((congrArg _ e.symm).trans hq1))
                have hne114 : t ≠ q111 := fun e => by cases (hq112.symm.trans ((congrArg _ e.symm).trans hxt))
                have hne115 : te ≠ q111 := fun e => by cases (hq112.symm.trans ((congrArg _ e.symm).trans hxe))
                replace hB : xBB E (xA (wU w X) sz) s o Ad I F (va_up X1 q111 (some (plE o (kOf (xt f n (2 + 4 * c_))) (lOf (xt f n (3 + 4 * c_))) (aOf (xt f n (4 + 4 * c_)))))) _ _ := hB
                refine t_ladd7 C hZ hB ((va_up_n _ _ hne114).trans hxt) ((va_up_n _ _ hne115).trans hxe) (plE_any (va_up_s _ _ _)) htte (by omega) (by decide) q673 ⟨Nat.le_of_ble_eq_true rfl, Nat.le_of_ble_eq_true rfl⟩ hl.1 (Nat.le_of_ble_eq_true rfl) dX0_leftIn_162 ⟨(show (7 - 1 * n4) + 1 ≤ 7 by omega), (show (35 - 5 * n4) + 5 ≤ 35 by omega)⟩ (fun z116 H locs hB => ?_)
                replace hB : xBB E (xA (wU w X) sz) s o Ad I F (va_up (va_up (va_up X1 q111 (some (plE o (kOf (xt f n (2 + 4 * c_))) (lOf (xt f n (3 + 4 * c_))) (aOf (xt f n (4 + 4 * c_)))))) te (some (xR E 3 7 ((va_up ((lfE g_ 0 (c_ : Int))) c_ (some q111)))))) t (some (xO 18 [.int (iI (mm + 1)), .ref te, .int (iI ((c_ : Int) + 1))]))) _ _ := hB
                refine lv_pop hx hb dX0_leftIn_167 rfl ?_
                refine lv_iinc (v := iI (4 * (c_ : Int) + 1 + 4)) (lv' := [(4, .int (iI (4 * (c_ : Int) + 1 + 4))), (8, .int (iI (aOf (xt f n (4 + 4 * c_))))), (7, .int (iI (lOf (xt f n (3 + 4 * c_))))), (6, .int (iI (kOf (xt f n (2 + 4 * c_))))), (5, .int (iI (xt f n (2 + 4 * c_)))), (0, .ref o), (1, .ref q), (3, .ref t)]) hx hb dX0_leftIn_168 hl (k := 7) rfl (iI_add _ _) (by decide) rfl (fun ls hl => ?_)
                rw [show (4 * (c_ : Int) + 1 + 4 : Int) = 4 * (c_ : Int) + 5 by omega] at hl
                refine lv_goto (tgt := 3) hx hb dX0_leftIn_171 (by decide) ?_
                refine x_up (c2 := 7 - 1 * (7 - (c_ + 1))) (s2 := 35 - 5 * (7 - (c_ + 1))) (by omega) (by omega) ?_
                exact ih1 _ _ _ _ (by omega) ⟨c_ + 1, _, va_up g_ (0 + c_) q111, _, rfl, ((va_up_n _ _ hqt).trans ((va_up_n _ _ hqte).trans ((va_up_n _ _ hne113).trans hq1))), by omega, (va_up_s _ _ _), (by rw [show ((c_ + 1 : Nat) : Int) = (c_ : Int) + 1 from rfl, lfE_upb]; exact ((va_up_n _ _ (Ne.symm htte)).trans (va_up_s _ _ _))), told_up (p := fun k => plE o (kOf (xt f n (2 + 4 * k))) (lOf (xt f n (3 + 4 * k))) (aOf (xt f n (4 + 4 * k)))) hxp hxi hxt hxe hq112 (fun k => ⟨plE_nL _, plE_nX E _ _⟩), told_up2 (p := fun k => plE o (kOf (xt f n (2 + 4 * k))) (lOf (xt f n (3 + 4 * k))) (aOf (xt f n (4 + 4 * k)))) hxp hxi hq112, fun a e h1 h2 h3 => by have h4 := hxk a e h1 h2 h3; rw [va_up_n _ _ h1, va_up_n _ _ h2, va_up_n _ _ (fun z => by rw [z, hq112] at h4; cases h4)]; exact h4, fun k h => by
                      by_cases e : k = c_
                      · subst e; exact ⟨by omega, by omega, by omega⟩
                      · exact hcd k (by omega), by rw [hlf, hrs, if_pos (by omega), if_neg (by omega), if_neg (by omega), if_neg (by omega), if_neg (by omega), show 8 - (c_ + 1) = 7 - c_ by omega], hB, lv_sub hl [5, 6, 7, 0] rfl⟩
              · refine lv_bipush (v := iI (-103)) hx hb dX0_leftIn_145 rfl ?_
                refine lv_iload hx hb dX0_leftIn_147 (lv_at hl 7 rfl) ?_
                refine x_isub (z := -(4 * (c_ : Int)) - 104) hx hb dX0_leftIn_149 (by omega) ?_
                exact b_iret C hB hr hlocks rfl dX0_leftIn_150 (by omega) (by omega) ⟨by omega, by omega⟩ ⟨rfl, rfl, rfl, ⟨_, c_, g_, hc7, hxt, hxe, hxp, hxi, fun h => absurd h (by omega)⟩, hxk, by rw [hlf, hrs, if_pos (by omega), if_neg (by omega), if_neg (by omega), if_neg (by omega), if_pos (by omega)]; omega⟩
            · refine lv_bipush (v := iI (-102)) hx hb dX0_leftIn_124 rfl ?_
              refine lv_iload hx hb dX0_leftIn_126 (lv_at hl 6 rfl) ?_
              refine x_isub (z := -(4 * (c_ : Int)) - 103) hx hb dX0_leftIn_128 (by omega) ?_
              exact b_iret C hB hr hlocks rfl dX0_leftIn_129 (by omega) (by omega) ⟨by omega, by omega⟩ ⟨rfl, rfl, rfl, ⟨_, c_, g_, hc7, hxt, hxe, hxp, hxi, fun h => absurd h (by omega)⟩, hxk, by rw [hlf, hrs, if_pos (by omega), if_neg (by omega), if_neg (by omega), if_pos (by omega)]; omega⟩
          · refine lv_bipush (v := iI (-101)) hx hb dX0_leftIn_103 rfl ?_
            refine lv_iload hx hb dX0_leftIn_105 (lv_at hl 5 rfl) ?_
            refine x_isub (z := -(4 * (c_ : Int)) - 102) hx hb dX0_leftIn_107 (by omega) ?_
            exact b_iret C hB hr hlocks rfl dX0_leftIn_108 (by omega) (by omega) ⟨by omega, by omega⟩ ⟨rfl, rfl, rfl, ⟨_, c_, g_, hc7, hxt, hxe, hxp, hxi, fun h => absurd h (by omega)⟩, hxk, by rw [hlf, hrs, if_pos (by omega), if_neg (by omega), if_pos (by omega)]; omega⟩
      · refine lv_bipush (v := iI (-100)) hx hb dX0_leftIn_45 rfl ?_
        refine lv_iload hx hb dX0_leftIn_47 (lv_at hl 3 rfl) ?_
        refine x_isub (z := -(4 * (c_ : Int)) - 101) hx hb dX0_leftIn_49 (by omega) ?_
        exact b_iret C hB hr hlocks rfl dX0_leftIn_50 (by omega) (by omega) ⟨by omega, by omega⟩ ⟨rfl, rfl, rfl, ⟨_, c_, g_, hc7, hxt, hxe, hxp, hxi, fun h => absurd h (by omega)⟩, hxk, by rw [hlf, hrs, if_pos (by omega), if_pos (by omega)]; omega⟩
  · refine x_if_ne (tgt := 23) hx hb dX0_leftIn_9 (by decide) ⟨by decide, by decide⟩ (fun c117 => by exfalso; omega) (fun c117 => ?_)
    refine lv_aload_n hx hb dX0_leftIn_12 rfl (lv_at hl 1 rfl) ?_
    refine lv_iload hx hb dX0_leftIn_13 (lv_at hl 3 rfl) ?_
    obtain ⟨wq, hIq, hdq, hB⟩ := hB
    refine g_calli ((7 - 1 * n4)) ((35 - 5 * n4)) (by omega) (by omega) hB (rS (As := [.ref q, .int (iI (4 * (c_ : Int) + 1))]) (n := 2) C hZ hB (kX0_codeAt l E (wU wq X1) q n f (4 * c_ + 1) (wU_r hdq hq1) hn hfr (by omega) _) (lw_S q1058 q1059 q68 q1060) (by decide +kernel) ⟨Nat.le_of_ble_eq_true rfl, Nat.le_of_ble_eq_true rfl⟩ rfl hl.1 rfl (Nat.le_of_ble_eq_true rfl) dX0_leftIn_15 ⟨(show (7 - 1 * n4) + 0 ≤ 7 by omega), (show (35 - 5 * n4) + 0 ≤ 35 by omega)⟩) (fun z118 w119 H locs hz120 hp121 hB => ?_)
    obtain ⟨hz120a, hz120b⟩ := hz120
    obtain ⟨rfl, hp121⟩ := hp121
    replace hB : xBB E (xA (wU w X) sz) s o Ad I F X1 _ _ := ⟨wq, hIq, hdq, hB⟩
    subst hp121
    refine x_nm (b := xt f n (4 * c_ + 1)) rfl ?_
    have hrx := xt_rg hfr n (4 * c_ + 1)
    obtain ⟨hrx1, hrx2⟩ := hrx
    refine x_nm (show xt f n (4 * c_ + 1) = xt f n (1 + 4 * c_) from congrArg (xt f n) (by omega)) ?_
    have hrx1 := xt_rg hfr n (1 + 4 * c_)
    obtain ⟨hrx1a, hrx1b⟩ := hrx1
    refine lv_bipush (v := iI 59) hx hb dX0_leftIn_18 rfl ?_
    refine x_icmp_ne (tgt := 174) hx hb dX0_leftIn_20 (by decide) ⟨by omega, by omega⟩ ⟨by decide, by decide⟩ (fun c122 => ?_) (fun c122 => ?_)
    · refine lv_iload hx hb dX0_leftIn_174 (lv_at hl 3 rfl) ?_
      exact b_iret C hB hr hlocks rfl dX0_leftIn_176 (by omega) (by omega) ⟨by omega, by omega⟩ ⟨rfl, rfl, rfl, ⟨_, c_, g_, hc7, hxt, hxe, hxp, hxi, fun h => ⟨by omega, by omega, hcd⟩⟩, hxk, by rw [hlf, hrs, if_neg (by omega)]; omega⟩
    · refine lv_aload_n hx hb dX0_leftIn_23 rfl (lv_at hl 2 rfl) ?_
      refine b_size C hZ hB (n := (c_ : Int)) (ed := te) (fun w _ hd => wU_r hd hxt) (by omega) q242 ⟨Nat.le_of_ble_eq_true rfl, Nat.le_of_ble_eq_true rfl⟩ hl.1 (Nat.le_of_ble_eq_true rfl) dX0_leftIn_24 ⟨(show (7 - 1 * n4) ≤ 7 by omega), (show (35 - 5 * n4) ≤ 35 by omega)⟩ (fun H locs hB => ?_)
      refine lv_bipush (v := iI 7) hx hb dX0_leftIn_29 rfl ?_
      refine x_icmp_eq (tgt := 45) hx hb dX0_leftIn_31 (by decide) ⟨by omega, by omega⟩ ⟨by decide, by decide⟩ (fun c123 => ?_) (fun c123 => ?_)
      · refine lv_bipush (v := iI (-100)) hx hb dX0_leftIn_45 rfl ?_
        refine lv_iload hx hb dX0_leftIn_47 (lv_at hl 3 rfl) ?_
        refine x_isub (z := -(4 * (c_ : Int)) - 101) hx hb dX0_leftIn_49 (by omega) ?_
        exact b_iret C hB hr hlocks rfl dX0_leftIn_50 (by omega) (by omega) ⟨by omega, by omega⟩ ⟨rfl, rfl, rfl, ⟨_, c_, g_, hc7, hxt, hxe, hxp, hxi, fun h => absurd h (by omega)⟩, hxk, by rw [hlf, hrs, if_pos (by omega), if_pos (by omega)]; omega⟩
      · refine lv_aload_n hx hb dX0_leftIn_34 rfl (lv_at hl 1 rfl) ?_
        refine lv_iload hx hb dX0_leftIn_35 (lv_at hl 3 rfl) ?_
        obtain ⟨wq, hIq, hdq, hB⟩ := hB
        refine g_calli ((7 - 1 * n4)) ((35 - 5 * n4)) (by omega) (by omega) hB (rS (As := [.ref q, .int (iI (4 * (c_ : Int) + 1))]) (n := 2) C hZ hB (kX0_codeAt l E (wU wq X1) q n f (4 * c_ + 1) (wU_r hdq hq1) hn hfr (by omega) _) (lw_S q1058 q1059 q68 q1060) (by decide +kernel) ⟨Nat.le_of_ble_eq_true rfl, Nat.le_of_ble_eq_true rfl⟩ rfl hl.1 rfl (Nat.le_of_ble_eq_true rfl) dX0_leftIn_37 ⟨(show (7 - 1 * n4) + 0 ≤ 7 by omega), (show (35 - 5 * n4) + 0 ≤ 35 by omega)⟩) (fun z124 w125 H locs hz126 hp127 hB => ?_)
        obtain ⟨hz126a, hz126b⟩ := hz126
        obtain ⟨rfl, hp127⟩ := hp127
        replace hB : xBB E (xA (wU w X) sz) s o Ad I F X1 _ _ := ⟨wq, hIq, hdq, hB⟩
        subst hp127
        refine x_nm (b := xt f n (4 * c_ + 1)) rfl ?_
        have hrx := xt_rg hfr n (4 * c_ + 1)
        obtain ⟨hrx1, hrx2⟩ := hrx
        refine x_nm (show xt f n (4 * c_ + 1) = xt f n (1 + 4 * c_) from congrArg (xt f n) (by omega)) ?_
        have hrx1 := xt_rg hfr n (1 + 4 * c_)
        obtain ⟨hrx1a, hrx1b⟩ := hrx1
        refine lv_bipush (v := iI 59) hx hb dX0_leftIn_40 rfl ?_
        refine x_icmp_eq (tgt := 51) hx hb dX0_leftIn_42 (by decide) ⟨by omega, by omega⟩ ⟨by decide, by decide⟩ (fun c128 => ?_) (fun c128 => ?_)
        · refine lv_aload_n hx hb dX0_leftIn_51 rfl (lv_at hl 1 rfl) ?_
          refine lv_iload hx hb dX0_leftIn_52 (lv_at hl 3 rfl) ?_
          refine lv_iconst (v := iI 1) hx hb dX0_leftIn_54 rfl ?_
          refine x_iadd (z := 4 * (c_ : Int) + 2) hx hb dX0_leftIn_55 (by omega) ?_
          obtain ⟨wq, hIq, hdq, hB⟩ := hB
          refine g_calli ((7 - 1 * n4)) ((35 - 5 * n4)) (by omega) (by omega) hB (rS (As := [.ref q, .int (iI (4 * (c_ : Int) + 2))]) (n := 2) C hZ hB (kX0_codeAt l E (wU wq X1) q n f (4 * c_ + 2) (wU_r hdq hq1) hn hfr (by omega) _) (lw_S q1058 q1059 q68 q1060) (by decide +kernel) ⟨Nat.le_of_ble_eq_true rfl, Nat.le_of_ble_eq_true rfl⟩ rfl hl.1 rfl (Nat.le_of_ble_eq_true rfl) dX0_leftIn_56 ⟨(show (7 - 1 * n4) + 0 ≤ 7 by omega), (show (35 - 5 * n4) + 0 ≤ 35 by omega)⟩) (fun z129 w130 H locs hz131 hp132 hB => ?_)
          obtain ⟨hz131a, hz131b⟩ := hz131
          obtain ⟨rfl, hp132⟩ := hp132
          replace hB : xBB E (xA (wU w X) sz) s o Ad I F X1 _ _ := ⟨wq, hIq, hdq, hB⟩
          subst hp132
          refine x_nm (b := xt f n (4 * c_ + 2)) rfl ?_
          have hrx := xt_rg hfr n (4 * c_ + 2)
          obtain ⟨hrx1, hrx2⟩ := hrx
          refine x_nm (show xt f n (4 * c_ + 2) = xt f n (2 + 4 * c_) from congrArg (xt f n) (by omega)) ?_
          have hrx2 := xt_rg hfr n (2 + 4 * c_)
          obtain ⟨hrx2a, hrx2b⟩ := hrx2
          refine lv_istore (lv' := [(5, .int (iI (xt f n (2 + 4 * c_)))), (0, .ref o), (1, .ref q), (3, .ref t), (4, .int (iI (4 * (c_ : Int) + 1)))]) hx hb dX0_leftIn_59 hl (by decide) rfl (fun ls hl => ?_)
          refine lv_iload hx hb dX0_leftIn_61 (lv_at hl 0 rfl) ?_
          refine lv_bipush (v := iI 80) hx hb dX0_leftIn_63 rfl ?_
          refine x_icmp_ne (tgt := 72) hx hb dX0_leftIn_65 (by decide) ⟨by omega, by omega⟩ ⟨by decide, by decide⟩ (fun c133 => ?_) (fun c133 => ?_)
          · refine lv_iload hx hb dX0_leftIn_72 (lv_at hl 0 rfl) ?_
            refine lv_bipush (v := iI 76) hx hb dX0_leftIn_74 rfl ?_
            refine x_icmp_ne (tgt := 83) hx hb dX0_leftIn_76 (by decide) ⟨by omega, by omega⟩ ⟨by decide, by decide⟩ (fun c134 => ?_) (fun c134 => ?_)
            · refine lv_iload hx hb dX0_leftIn_83 (lv_at hl 0 rfl) ?_
              refine lv_bipush (v := iI 68) hx hb dX0_leftIn_85 rfl ?_
              refine x_icmp_ne (tgt := 94) hx hb dX0_leftIn_87 (by decide) ⟨by omega, by omega⟩ ⟨by decide, by decide⟩ (fun c135 => ?_) (fun c135 => ?_)
              · refine lv_bipush (v := iI (-9)) hx hb dX0_leftIn_94 rfl ?_
                have hko : kOf (xt f n (2 + 4 * c_)) = -9 := by unfold kOf; (repeat' split) <;> omega
                refine x_nm (b := kOf (xt f n (2 + 4 * c_))) hko.symm ?_
                refine lv_istore (lv' := [(6, .int (iI (kOf (xt f n (2 + 4 * c_))))), (5, .int (iI (xt f n (2 + 4 * c_)))), (0, .ref o), (1, .ref q), (3, .ref t), (4, .int (iI (4 * (c_ : Int) + 1)))]) hx hb dX0_leftIn_96 hl (by decide) rfl (fun ls hl => ?_)
                refine lv_iload hx hb dX0_leftIn_98 (lv_at hl 0 rfl) ?_
                refine x_if_ge (tgt := 109) hx hb dX0_leftIn_100 (by decide) ⟨by omega, by omega⟩ (fun c136 => ?_) (fun c136 => ?_)
                · refine lv_aload_n hx hb dX0_leftIn_109 rfl (lv_at hl 3 rfl) ?_
                  refine lv_iload hx hb dX0_leftIn_110 (lv_at hl 5 rfl) ?_
                  refine lv_iconst (v := iI 2) hx hb dX0_leftIn_112 rfl ?_
                  refine x_iadd (z := 4 * (c_ : Int) + 3) hx hb dX0_leftIn_113 (by omega) ?_
                  obtain ⟨wq, hIq, hdq, hB⟩ := hB
                  refine g_calli ((7 - 1 * n4)) ((35 - 5 * n4)) (by omega) (by omega) hB (rS (As := [.ref q, .int (iI (4 * (c_ : Int) + 3))]) (n := 2) C hZ hB (kX0_lettersAt l E (wU wq X1) q n f (4 * c_ + 3) (wU_r hdq hq1) hn hfr (by omega) _) (lw_S q1070 q1071 q68 q1072) (by decide +kernel) ⟨Nat.le_of_ble_eq_true rfl, Nat.le_of_ble_eq_true rfl⟩ rfl hl.1 rfl (Nat.le_of_ble_eq_true rfl) dX0_leftIn_114 ⟨(show (7 - 1 * n4) + 0 ≤ 7 by omega), (show (35 - 5 * n4) + 0 ≤ 35 by omega)⟩) (fun z137 w138 H locs hz139 hp140 hB => ?_)
                  obtain ⟨hz139a, hz139b⟩ := hz139
                  obtain ⟨rfl, hp140⟩ := hp140
                  replace hB : xBB E (xA (wU w X) sz) s o Ad I F X1 _ _ := ⟨wq, hIq, hdq, hB⟩
                  subst hp140
                  refine x_nm (b := lOf (xt f n (4 * c_ + 3))) rfl ?_
                  have hrx := lOf_c (xt f n (4 * c_ + 3))
                  refine x_nm (show lOf (xt f n (4 * c_ + 3)) = lOf (xt f n (3 + 4 * c_)) from congrArg (fun j => lOf (xt f n j)) (by omega)) ?_
                  rw [show lOf (xt f n (4 * c_ + 3)) = lOf (xt f n (3 + 4 * c_)) from congrArg (fun j => lOf (xt f n j)) (by omega)] at hrx
                  have hrxl := hrx
                  refine lv_istore (lv' := [(7, .int (iI (lOf (xt f n (3 + 4 * c_))))), (6, .int (iI (kOf (xt f n (2 + 4 * c_))))), (5, .int (iI (xt f n (2 + 4 * c_)))), (0, .ref o), (1, .ref q), (3, .ref t), (4, .int (iI (4 * (c_ : Int) + 1)))]) hx hb dX0_leftIn_117 hl (by decide) rfl (fun ls hl => ?_)
                  refine lv_iload hx hb dX0_leftIn_119 (lv_at hl 0 rfl) ?_
                  refine x_if_ge (tgt := 130) hx hb dX0_leftIn_121 (by decide) ⟨by omega, by omega⟩ (fun c141 => ?_) (fun c141 => ?_)
                  · refine lv_aload_n hx hb dX0_leftIn_130 rfl (lv_at hl 4 rfl) ?_
                    refine lv_iload hx hb dX0_leftIn_131 (lv_at hl 6 rfl) ?_
                    refine lv_iconst (v := iI 3) hx hb dX0_leftIn_133 rfl ?_
                    refine x_iadd (z := 4 * (c_ : Int) + 4) hx hb dX0_leftIn_134 (by omega) ?_
                    obtain ⟨wq, hIq, hdq, hB⟩ := hB
                    refine g_calli ((7 - 1 * n4)) ((35 - 5 * n4)) (by omega) (by omega) hB (rS (As := [.ref q, .int (iI (4 * (c_ : Int) + 4))]) (n := 2) C hZ hB (kX0_anchorAt l E (wU wq X1) q n f (4 * c_ + 4) (wU_r hdq hq1) hn hfr (by omega) _) (lw_S q1073 q1074 q68 q1075) (by decide +kernel) ⟨Nat.le_of_ble_eq_true rfl, Nat.le_of_ble_eq_true rfl⟩ rfl hl.1 rfl (Nat.le_of_ble_eq_true rfl) dX0_leftIn_135 ⟨(show (7 - 1 * n4) + 0 ≤ 7 by omega), (show (35 - 5 * n4) + 0 ≤ 35 by omega)⟩) (fun z142 w143 H locs hz144 hp145 hB => ?_)
                    obtain ⟨hz144a, hz144b⟩ := hz144
                    obtain ⟨rfl, hp145⟩ := hp145
                    replace hB : xBB E (xA (wU w X) sz) s o Ad I F X1 _ _ := ⟨wq, hIq, hdq, hB⟩
                    subst hp145
                    refine x_nm (b := aOf (xt f n (4 * c_ + 4))) rfl ?_
                    have hrx := aOf_c (xt f n (4 * c_ + 4))
                    refine x_nm (show aOf (xt f n (4 * c_ + 4)) = aOf (xt f n (4 + 4 * c_)) from congrArg (fun j => aOf (xt f n j)) (by omega)) ?_
                    rw [show aOf (xt f n (4 * c_ + 4)) = aOf (xt f n (4 + 4 * c_)) from congrArg (fun j => aOf (xt f n j)) (by omega)] at hrx
                    have hrxa := hrx
                    refine lv_istore (lv' := [(8, .int (iI (aOf (xt f n (4 + 4 * c_))))), (7, .int (iI (lOf (xt f n (3 + 4 * c_))))), (6, .int (iI (kOf (xt f n (2 + 4 * c_))))), (5, .int (iI (xt f n (2 + 4 * c_)))), (0, .ref o), (1, .ref q), (3, .ref t), (4, .int (iI (4 * (c_ : Int) + 1)))]) hx hb dX0_leftIn_138 hl (by decide) rfl (fun ls hl => ?_)
                    refine lv_iload hx hb dX0_leftIn_140 (lv_at hl 0 rfl) ?_
                    refine x_if_ge (tgt := 151) hx hb dX0_leftIn_142 (by decide) ⟨by omega, by omega⟩ (fun c146 => ?_) (fun c146 => ?_)
                    · refine lv_aload_n hx hb dX0_leftIn_151 rfl (lv_at hl 6 rfl) ?_
                      refine lv_aload_n hx hb dX0_leftIn_152 rfl (lv_at hl 4 rfl) ?_
                      refine lv_iload hx hb dX0_leftIn_153 (lv_at hl 2 rfl) ?_
                      refine lv_iload hx hb dX0_leftIn_155 (lv_at hl 1 rfl) ?_
                      refine lv_iload hx hb dX0_leftIn_157 (lv_at hl 0 rfl) ?_
                      refine b_callq ((7 - 1 * n4) + 1) ((35 - 5 * n4) + 5) (by omega) (by omega) hB (fun w hI hd hB => rV (As := [.int (iI (kOf (xt f n (2 + 4 * c_)))), .int (iI (lOf (xt f n (3 + 4 * c_)))), .int (iI (aOf (xt f n (4 + 4 * c_))))]) (n := 3) C hZ hB (kX0_madeOf l E o Ad I F X1 (kOf (xt f n (2 + 4 * c_))) (lOf (xt f n (3 + 4 * c_))) (aOf (xt f n (4 + 4 * c_))) ⟨by omega, by omega⟩ w hI hd _) (lw_V q769 q771 qs25 q68 q772) (by decide +kernel) ⟨Nat.le_of_ble_eq_true rfl, Nat.le_of_ble_eq_true rfl⟩ (wU_l hI.x) rfl rfl rfl hl.1 rfl (Nat.le_of_ble_eq_true rfl) dX0_leftIn_159 ⟨(show (7 - 1 * n4) + 1 ≤ 7 by omega), (show (35 - 5 * n4) + 5 ≤ 35 by omega)⟩) (fun z147 Ad148 I149 F150 X151 H locs hp153 hB => ?_)
                      obtain ⟨rfl, rfl, rfl, q154, rfl, hq155, rfl⟩ := hp153
                      have hne156 : q ≠ q154 := fun e => by cases (hq155.symm.trans ((congrArg _ e.symm).trans hq1))
                      have hne157 : t ≠ q154 := fun e => by cases (hq155.symm.trans ((congrArg _ e.symm).trans hxt))
                      have hne158 : te ≠ q154 := fun e => by cases (hq155.symm.trans ((congrArg _ e.symm).trans hxe))
                      replace hB : xBB E (xA (wU w X) sz) s o Ad I F (va_up X1 q154 (some (plE o (kOf (xt f n (2 + 4 * c_))) (lOf (xt f n (3 + 4 * c_))) (aOf (xt f n (4 + 4 * c_)))))) _ _ := hB
                      refine t_ladd7 C hZ hB ((va_up_n _ _ hne157).trans hxt) ((va_up_n _ _ hne158).trans hxe) (plE_any (va_up_s _ _ _)) htte (by omega) (by decide) q673 ⟨Nat.le_of_ble_eq_true rfl, Nat.le_of_ble_eq_true rfl⟩ hl.1 (Nat.le_of_ble_eq_true rfl) dX0_leftIn_162 ⟨(show (7 - 1 * n4) + 1 ≤ 7 by omega), (show (35 - 5 * n4) + 5 ≤ 35 by omega)⟩ (fun z159 H locs hB => ?_)
                      replace hB : xBB E (xA (wU w X) sz) s o Ad I F (va_up (va_up (va_up X1 q154 (some (plE o (kOf (xt f n (2 + 4 * c_))) (lOf (xt f n (3 + 4 * c_))) (aOf (xt f n (4 + 4 * c_)))))) te (some (xR E 3 7 ((va_up ((lfE g_ 0 (c_ : Int))) c_ (some q154)))))) t (some (xO 18 [.int (iI (mm + 1)), .ref te, .int (iI ((c_ : Int) + 1))]))) _ _ := hB
                      refine lv_pop hx hb dX0_leftIn_167 rfl ?_
                      refine lv_iinc (v := iI (4 * (c_ : Int) + 1 + 4)) (lv' := [(4, .int (iI (4 * (c_ : Int) + 1 + 4))), (8, .int (iI (aOf (xt f n (4 + 4 * c_))))), (7, .int (iI (lOf (xt f n (3 + 4 * c_))))), (6, .int (iI (kOf (xt f n (2 + 4 * c_))))), (5, .int (iI (xt f n (2 + 4 * c_)))), (0, .ref o), (1, .ref q), (3, .ref t)]) hx hb dX0_leftIn_168 hl (k := 7) rfl (iI_add _ _) (by decide) rfl (fun ls hl => ?_)
                      rw [show (4 * (c_ : Int) + 1 + 4 : Int) = 4 * (c_ : Int) + 5 by omega] at hl
                      refine lv_goto (tgt := 3) hx hb dX0_leftIn_171 (by decide) ?_
                      refine x_up (c2 := 7 - 1 * (7 - (c_ + 1))) (s2 := 35 - 5 * (7 - (c_ + 1))) (by omega) (by omega) ?_
                      exact ih1 _ _ _ _ (by omega) ⟨c_ + 1, _, va_up g_ (0 + c_) q154, _, rfl, ((va_up_n _ _ hqt).trans ((va_up_n _ _ hqte).trans ((va_up_n _ _ hne156).trans hq1))), by omega, (va_up_s _ _ _), (by rw [show ((c_ + 1 : Nat) : Int) = (c_ : Int) + 1 from rfl, lfE_upb]; exact ((va_up_n _ _ (Ne.symm htte)).trans (va_up_s _ _ _))), told_up (p := fun k => plE o (kOf (xt f n (2 + 4 * k))) (lOf (xt f n (3 + 4 * k))) (aOf (xt f n (4 + 4 * k)))) hxp hxi hxt hxe hq155 (fun k => ⟨plE_nL _, plE_nX E _ _⟩), told_up2 (p := fun k => plE o (kOf (xt f n (2 + 4 * k))) (lOf (xt f n (3 + 4 * k))) (aOf (xt f n (4 + 4 * k)))) hxp hxi hq155, fun a e h1 h2 h3 => by have h4 := hxk a e h1 h2 h3; rw [va_up_n _ _ h1, va_up_n _ _ h2, va_up_n _ _ (fun z => by rw [z, hq155] at h4; cases h4)]; exact h4, fun k h => by
                            by_cases e : k = c_
                            · subst e; exact ⟨by omega, by omega, by omega⟩
                            · exact hcd k (by omega), by rw [hlf, hrs, if_pos (by omega), if_neg (by omega), if_neg (by omega), if_neg (by omega), if_neg (by omega), show 8 - (c_ + 1) = 7 - c_ by omega], hB, lv_sub hl [5, 6, 7, 0] rfl⟩
                    · refine lv_bipush (v := iI (-103)) hx hb dX0_leftIn_145 rfl ?_
                      refine lv_iload hx hb dX0_leftIn_147 (lv_at hl 7 rfl) ?_
                      refine x_isub (z := -(4 * (c_ : Int)) - 104) hx hb dX0_leftIn_149 (by omega) ?_
                      exact b_iret C hB hr hlocks rfl dX0_leftIn_150 (by omega) (by omega) ⟨by omega, by omega⟩ ⟨rfl, rfl, rfl, ⟨_, c_, g_, hc7, hxt, hxe, hxp, hxi, fun h => absurd h (by omega)⟩, hxk, by rw [hlf, hrs, if_pos (by omega), if_neg (by omega), if_neg (by omega), if_neg (by omega), if_pos (by omega)]; omega⟩
                  · refine lv_bipush (v := iI (-102)) hx hb dX0_leftIn_124 rfl ?_
                    refine lv_iload hx hb dX0_leftIn_126 (lv_at hl 6 rfl) ?_
                    refine x_isub (z := -(4 * (c_ : Int)) - 103) hx hb dX0_leftIn_128 (by omega) ?_
                    exact b_iret C hB hr hlocks rfl dX0_leftIn_129 (by omega) (by omega) ⟨by omega, by omega⟩ ⟨rfl, rfl, rfl, ⟨_, c_, g_, hc7, hxt, hxe, hxp, hxi, fun h => absurd h (by omega)⟩, hxk, by rw [hlf, hrs, if_pos (by omega), if_neg (by omega), if_neg (by omega), if_pos (by omega)]; omega⟩
                · refine lv_bipush (v := iI (-101)) hx hb dX0_leftIn_103 rfl ?_
                  refine lv_iload hx hb dX0_leftIn_105 (lv_at hl 5 rfl) ?_
                  refine x_isub (z := -(4 * (c_ : Int)) - 102) hx hb dX0_leftIn_107 (by omega) ?_
                  exact b_iret C hB hr hlocks rfl dX0_leftIn_108 (by omega) (by omega) ⟨by omega, by omega⟩ ⟨rfl, rfl, rfl, ⟨_, c_, g_, hc7, hxt, hxe, hxp, hxi, fun h => absurd h (by omega)⟩, hxk, by rw [hlf, hrs, if_pos (by omega), if_neg (by omega), if_pos (by omega)]; omega⟩
              · refine lv_iconst (v := iI 2) hx hb dX0_leftIn_90 rfl ?_
                refine lv_goto (tgt := 96) hx hb dX0_leftIn_91 (by decide) ?_
                have hko : kOf (xt f n (2 + 4 * c_)) = 2 := by unfold kOf; (repeat' split) <;> omega
                refine x_nm (b := kOf (xt f n (2 + 4 * c_))) hko.symm ?_
                refine lv_istore (lv' := [(6, .int (iI (kOf (xt f n (2 + 4 * c_))))), (5, .int (iI (xt f n (2 + 4 * c_)))), (0, .ref o), (1, .ref q), (3, .ref t), (4, .int (iI (4 * (c_ : Int) + 1)))]) hx hb dX0_leftIn_96 hl (by decide) rfl (fun ls hl => ?_)
                refine lv_iload hx hb dX0_leftIn_98 (lv_at hl 0 rfl) ?_
                refine x_if_ge (tgt := 109) hx hb dX0_leftIn_100 (by decide) ⟨by omega, by omega⟩ (fun c160 => ?_) (fun c160 => ?_)
                · refine lv_aload_n hx hb dX0_leftIn_109 rfl (lv_at hl 3 rfl) ?_
                  refine lv_iload hx hb dX0_leftIn_110 (lv_at hl 5 rfl) ?_
                  refine lv_iconst (v := iI 2) hx hb dX0_leftIn_112 rfl ?_
                  refine x_iadd (z := 4 * (c_ : Int) + 3) hx hb dX0_leftIn_113 (by omega) ?_
                  obtain ⟨wq, hIq, hdq, hB⟩ := hB
                  refine g_calli ((7 - 1 * n4)) ((35 - 5 * n4)) (by omega) (by omega) hB (rS (As := [.ref q, .int (iI (4 * (c_ : Int) + 3))]) (n := 2) C hZ hB (kX0_lettersAt l E (wU wq X1) q n f (4 * c_ + 3) (wU_r hdq hq1) hn hfr (by omega) _) (lw_S q1070 q1071 q68 q1072) (by decide +kernel) ⟨Nat.le_of_ble_eq_true rfl, Nat.le_of_ble_eq_true rfl⟩ rfl hl.1 rfl (Nat.le_of_ble_eq_true rfl) dX0_leftIn_114 ⟨(show (7 - 1 * n4) + 0 ≤ 7 by omega), (show (35 - 5 * n4) + 0 ≤ 35 by omega)⟩) (fun z161 w162 H locs hz163 hp164 hB => ?_)
                  obtain ⟨hz163a, hz163b⟩ := hz163
                  obtain ⟨rfl, hp164⟩ := hp164
                  replace hB : xBB E (xA (wU w X) sz) s o Ad I F X1 _ _ := ⟨wq, hIq, hdq, hB⟩
                  subst hp164
                  refine x_nm (b := lOf (xt f n (4 * c_ + 3))) rfl ?_
                  have hrx := lOf_c (xt f n (4 * c_ + 3))
                  refine x_nm (show lOf (xt f n (4 * c_ + 3)) = lOf (xt f n (3 + 4 * c_)) from congrArg (fun j => lOf (xt f n j)) (by omega)) ?_
                  rw [show lOf (xt f n (4 * c_ + 3)) = lOf (xt f n (3 + 4 * c_)) from congrArg (fun j => lOf (xt f n j)) (by omega)] at hrx
                  have hrxl := hrx
                  refine lv_istore (lv' := [(7, .int (iI (lOf (xt f n (3 + 4 * c_))))), (6, .int (iI (kOf (xt f n (2 + 4 * c_))))), (5, .int (iI (xt f n (2 + 4 * c_)))), (0, .ref o), (1, .ref q), (3, .ref t), (4, .int (iI (4 * (c_ : Int) + 1)))]) hx hb dX0_leftIn_117 hl (by decide) rfl (fun ls hl => ?_)
                  refine lv_iload hx hb dX0_leftIn_119 (lv_at hl 0 rfl) ?_
                  refine x_if_ge (tgt := 130) hx hb dX0_leftIn_121 (by decide) ⟨by omega, by omega⟩ (fun c165 => ?_) (fun c165 => ?_)
                  · refine lv_aload_n hx hb dX0_leftIn_130 rfl (lv_at hl 4 rfl) ?_
                    refine lv_iload hx hb dX0_leftIn_131 (lv_at hl 6 rfl) ?_
                    refine lv_iconst (v := iI 3) hx hb dX0_leftIn_133 rfl ?_
                    refine x_iadd (z := 4 * (c_ : Int) + 4) hx hb dX0_leftIn_134 (by omega) ?_
                    obtain ⟨wq, hIq, hdq, hB⟩ := hB
                    refine g_calli ((7 - 1 * n4)) ((35 - 5 * n4)) (by omega) (by omega) hB (rS (As := [.ref q, .int (iI (4 * (c_ : Int) + 4))]) (n := 2) C hZ hB (kX0_anchorAt l E (wU wq X1) q n f (4 * c_ + 4) (wU_r hdq hq1) hn hfr (by omega) _) (lw_S q1073 q1074 q68 q1075) (by decide +kernel) ⟨Nat.le_of_ble_eq_true rfl, Nat.le_of_ble_eq_true rfl⟩ rfl hl.1 rfl (Nat.le_of_ble_eq_true rfl) dX0_leftIn_135 ⟨(show (7 - 1 * n4) + 0 ≤ 7 by omega), (show (35 - 5 * n4) + 0 ≤ 35 by omega)⟩) (fun z166 w167 H locs hz168 hp169 hB => ?_)
                    obtain ⟨hz168a, hz168b⟩ := hz168
                    obtain ⟨rfl, hp169⟩ := hp169
                    replace hB : xBB E (xA (wU w X) sz) s o Ad I F X1 _ _ := ⟨wq, hIq, hdq, hB⟩
                    subst hp169
                    refine x_nm (b := aOf (xt f n (4 * c_ + 4))) rfl ?_
                    have hrx := aOf_c (xt f n (4 * c_ + 4))
                    refine x_nm (show aOf (xt f n (4 * c_ + 4)) = aOf (xt f n (4 + 4 * c_)) from congrArg (fun j => aOf (xt f n j)) (by omega)) ?_
                    rw [show aOf (xt f n (4 * c_ + 4)) = aOf (xt f n (4 + 4 * c_)) from congrArg (fun j => aOf (xt f n j)) (by omega)] at hrx
                    have hrxa := hrx
                    refine lv_istore (lv' := [(8, .int (iI (aOf (xt f n (4 + 4 * c_))))), (7, .int (iI (lOf (xt f n (3 + 4 * c_))))), (6, .int (iI (kOf (xt f n (2 + 4 * c_))))), (5, .int (iI (xt f n (2 + 4 * c_)))), (0, .ref o), (1, .ref q), (3, .ref t), (4, .int (iI (4 * (c_ : Int) + 1)))]) hx hb dX0_leftIn_138 hl (by decide) rfl (fun ls hl => ?_)
                    refine lv_iload hx hb dX0_leftIn_140 (lv_at hl 0 rfl) ?_
                    refine x_if_ge (tgt := 151) hx hb dX0_leftIn_142 (by decide) ⟨by omega, by omega⟩ (fun c170 => ?_) (fun c170 => ?_)
                    · refine lv_aload_n hx hb dX0_leftIn_151 rfl (lv_at hl 6 rfl) ?_
                      refine lv_aload_n hx hb dX0_leftIn_152 rfl (lv_at hl 4 rfl) ?_
                      refine lv_iload hx hb dX0_leftIn_153 (lv_at hl 2 rfl) ?_
                      refine lv_iload hx hb dX0_leftIn_155 (lv_at hl 1 rfl) ?_
                      refine lv_iload hx hb dX0_leftIn_157 (lv_at hl 0 rfl) ?_
                      refine b_callq ((7 - 1 * n4) + 1) ((35 - 5 * n4) + 5) (by omega) (by omega) hB (fun w hI hd hB => rV (As := [.int (iI (kOf (xt f n (2 + 4 * c_)))), .int (iI (lOf (xt f n (3 + 4 * c_)))), .int (iI (aOf (xt f n (4 + 4 * c_))))]) (n := 3) C hZ hB (kX0_madeOf l E o Ad I F X1 (kOf (xt f n (2 + 4 * c_))) (lOf (xt f n (3 + 4 * c_))) (aOf (xt f n (4 + 4 * c_))) ⟨by omega, by omega⟩ w hI hd _) (lw_V q769 q771 qs25 q68 q772) (by decide +kernel) ⟨Nat.le_of_ble_eq_true rfl, Nat.le_of_ble_eq_true rfl⟩ (wU_l hI.x) rfl rfl rfl hl.1 rfl (Nat.le_of_ble_eq_true rfl) dX0_leftIn_159 ⟨(show (7 - 1 * n4) + 1 ≤ 7 by omega), (show (35 - 5 * n4) + 5 ≤ 35 by omega)⟩) (fun z171 Ad172 I173 F174 X175 H locs hp177 hB => ?_)
                      obtain ⟨rfl, rfl, rfl, q178, rfl, hq179, rfl⟩ := hp177
                      have hne180 : q ≠ q178 := fun e => by cases (hq179.symm.trans ((congrArg _ e.symm).trans hq1))
                      have hne181 : t ≠ q178 := fun e => by cases (hq179.symm.trans ((congrArg _ e.symm).trans hxt))
                      have hne182 : te ≠ q178 := fun e => by cases (hq179.symm.trans ((congrArg _ e.symm).trans hxe))
                      replace hB : xBB E (xA (wU w X) sz) s o Ad I F (va_up X1 q178 (some (plE o (kOf (xt f n (2 + 4 * c_))) (lOf (xt f n (3 + 4 * c_))) (aOf (xt f n (4 + 4 * c_)))))) _ _ := hB
                      refine t_ladd7 C hZ hB ((va_up_n _ _ hne181).trans hxt) ((va_up_n _ _ hne182).trans hxe) (plE_any (va_up_s _ _ _)) htte (by omega) (by decide) q673 ⟨Nat.le_of_ble_eq_true rfl, Nat.le_of_ble_eq_true rfl⟩ hl.1 (Nat.le_of_ble_eq_true rfl) dX0_leftIn_162 ⟨(show (7 - 1 * n4) + 1 ≤ 7 by omega), (show (35 - 5 * n4) + 5 ≤ 35 by omega)⟩ (fun z183 H locs hB => ?_)
                      replace hB : xBB E (xA (wU w X) sz) s o Ad I F (va_up (va_up (va_up X1 q178 (some (plE o (kOf (xt f n (2 + 4 * c_))) (lOf (xt f n (3 + 4 * c_))) (aOf (xt f n (4 + 4 * c_)))))) te (some (xR E 3 7 ((va_up ((lfE g_ 0 (c_ : Int))) c_ (some q178)))))) t (some (xO 18 [.int (iI (mm + 1)), .ref te, .int (iI ((c_ : Int) + 1))]))) _ _ := hB
                      refine lv_pop hx hb dX0_leftIn_167 rfl ?_
                      refine lv_iinc (v := iI (4 * (c_ : Int) + 1 + 4)) (lv' := [(4, .int (iI (4 * (c_ : Int) + 1 + 4))), (8, .int (iI (aOf (xt f n (4 + 4 * c_))))), (7, .int (iI (lOf (xt f n (3 + 4 * c_))))), (6, .int (iI (kOf (xt f n (2 + 4 * c_))))), (5, .int (iI (xt f n (2 + 4 * c_)))), (0, .ref o), (1, .ref q), (3, .ref t)]) hx hb dX0_leftIn_168 hl (k := 7) rfl (iI_add _ _) (by decide) rfl (fun ls hl => ?_)
                      rw [show (4 * (c_ : Int) + 1 + 4 : Int) = 4 * (c_ : Int) + 5 by omega] at hl
                      refine lv_goto (tgt := 3) hx hb dX0_leftIn_171 (by decide) ?_
                      refine x_up (c2 := 7 - 1 * (7 - (c_ + 1))) (s2 := 35 - 5 * (7 - (c_ + 1))) (by omega) (by omega) ?_
                      exact ih1 _ _ _ _ (by omega) ⟨c_ + 1, _, va_up g_ (0 + c_) q178, _, rfl, ((va_up_n _ _ hqt).trans ((va_up_n _ _ hqte).trans ((va_up_n _ _ hne180).trans hq1))), by omega, (va_up_s _ _ _), (by rw [show ((c_ + 1 : Nat) : Int) = (c_ : Int) + 1 from rfl, lfE_upb]; exact ((va_up_n _ _ (Ne.symm htte)).trans (va_up_s _ _ _))), told_up (p := fun k => plE o (kOf (xt f n (2 + 4 * k))) (lOf (xt f n (3 + 4 * k))) (aOf (xt f n (4 + 4 * k)))) hxp hxi hxt hxe hq179 (fun k => ⟨plE_nL _, plE_nX E _ _⟩), told_up2 (p := fun k => plE o (kOf (xt f n (2 + 4 * k))) (lOf (xt f n (3 + 4 * k))) (aOf (xt f n (4 + 4 * k)))) hxp hxi hq179, fun a e h1 h2 h3 => by have h4 := hxk a e h1 h2 h3; rw [va_up_n _ _ h1, va_up_n _ _ h2, va_up_n _ _ (fun z => by rw [z, hq179] at h4; cases h4)]; exact h4, fun k h => by
                            by_cases e : k = c_
                            · subst e; exact ⟨by omega, by omega, by omega⟩
                            · exact hcd k (by omega), by rw [hlf, hrs, if_pos (by omega), if_neg (by omega), if_neg (by omega), if_neg (by omega), if_neg (by omega), show 8 - (c_ + 1) = 7 - c_ by omega], hB, lv_sub hl [5, 6, 7, 0] rfl⟩
                    · refine lv_bipush (v := iI (-103)) hx hb dX0_leftIn_145 rfl ?_
                      refine lv_iload hx hb dX0_leftIn_147 (lv_at hl 7 rfl) ?_
                      refine x_isub (z := -(4 * (c_ : Int)) - 104) hx hb dX0_leftIn_149 (by omega) ?_
                      exact b_iret C hB hr hlocks rfl dX0_leftIn_150 (by omega) (by omega) ⟨by omega, by omega⟩ ⟨rfl, rfl, rfl, ⟨_, c_, g_, hc7, hxt, hxe, hxp, hxi, fun h => absurd h (by omega)⟩, hxk, by rw [hlf, hrs, if_pos (by omega), if_neg (by omega), if_neg (by omega), if_neg (by omega), if_pos (by omega)]; omega⟩
                  · refine lv_bipush (v := iI (-102)) hx hb dX0_leftIn_124 rfl ?_
                    refine lv_iload hx hb dX0_leftIn_126 (lv_at hl 6 rfl) ?_
                    refine x_isub (z := -(4 * (c_ : Int)) - 103) hx hb dX0_leftIn_128 (by omega) ?_
                    exact b_iret C hB hr hlocks rfl dX0_leftIn_129 (by omega) (by omega) ⟨by omega, by omega⟩ ⟨rfl, rfl, rfl, ⟨_, c_, g_, hc7, hxt, hxe, hxp, hxi, fun h => absurd h (by omega)⟩, hxk, by rw [hlf, hrs, if_pos (by omega), if_neg (by omega), if_neg (by omega), if_pos (by omega)]; omega⟩
                · refine lv_bipush (v := iI (-101)) hx hb dX0_leftIn_103 rfl ?_
                  refine lv_iload hx hb dX0_leftIn_105 (lv_at hl 5 rfl) ?_
                  refine x_isub (z := -(4 * (c_ : Int)) - 102) hx hb dX0_leftIn_107 (by omega) ?_
                  exact b_iret C hB hr hlocks rfl dX0_leftIn_108 (by omega) (by omega) ⟨by omega, by omega⟩ ⟨rfl, rfl, rfl, ⟨_, c_, g_, hc7, hxt, hxe, hxp, hxi, fun h => absurd h (by omega)⟩, hxk, by rw [hlf, hrs, if_pos (by omega), if_neg (by omega), if_pos (by omega)]; omega⟩
            · refine lv_iconst (v := iI 1) hx hb dX0_leftIn_79 rfl ?_
              refine lv_goto (tgt := 96) hx hb dX0_leftIn_80 (by decide) ?_
              have hko : kOf (xt f n (2 + 4 * c_)) = 1 := by unfold kOf; (repeat' split) <;> omega
              refine x_nm (b := kOf (xt f n (2 + 4 * c_))) hko.symm ?_
              refine lv_istore (lv' := [(6, .int (iI (kOf (xt f n (2 + 4 * c_))))), (5, .int (iI (xt f n (2 + 4 * c_)))), (0, .ref o), (1, .ref q), (3, .ref t), (4, .int (iI (4 * (c_ : Int) + 1)))]) hx hb dX0_leftIn_96 hl (by decide) rfl (fun ls hl => ?_)
              refine lv_iload hx hb dX0_leftIn_98 (lv_at hl 0 rfl) ?_
              refine x_if_ge (tgt := 109) hx hb dX0_leftIn_100 (by decide) ⟨by omega, by omega⟩ (fun c184 => ?_) (fun c184 => ?_)
              · refine lv_aload_n hx hb dX0_leftIn_109 rfl (lv_at hl 3 rfl) ?_
                refine lv_iload hx hb dX0_leftIn_110 (lv_at hl 5 rfl) ?_
                refine lv_iconst (v := iI 2) hx hb dX0_leftIn_112 rfl ?_
                refine x_iadd (z := 4 * (c_ : Int) + 3) hx hb dX0_leftIn_113 (by omega) ?_
                obtain ⟨wq, hIq, hdq, hB⟩ := hB
                refine g_calli ((7 - 1 * n4)) ((35 - 5 * n4)) (by omega) (by omega) hB (rS (As := [.ref q, .int (iI (4 * (c_ : Int) + 3))]) (n := 2) C hZ hB (kX0_lettersAt l E (wU wq X1) q n f (4 * c_ + 3) (wU_r hdq hq1) hn hfr (by omega) _) (lw_S q1070 q1071 q68 q1072) (by decide +kernel) ⟨Nat.le_of_ble_eq_true rfl, Nat.le_of_ble_eq_true rfl⟩ rfl hl.1 rfl (Nat.le_of_ble_eq_true rfl) dX0_leftIn_114 ⟨(show (7 - 1 * n4) + 0 ≤ 7 by omega), (show (35 - 5 * n4) + 0 ≤ 35 by omega)⟩) (fun z185 w186 H locs hz187 hp188 hB => ?_)
                obtain ⟨hz187a, hz187b⟩ := hz187
                obtain ⟨rfl, hp188⟩ := hp188
                replace hB : xBB E (xA (wU w X) sz) s o Ad I F X1 _ _ := ⟨wq, hIq, hdq, hB⟩
                subst hp188
                refine x_nm (b := lOf (xt f n (4 * c_ + 3))) rfl ?_
                have hrx := lOf_c (xt f n (4 * c_ + 3))
                refine x_nm (show lOf (xt f n (4 * c_ + 3)) = lOf (xt f n (3 + 4 * c_)) from congrArg (fun j => lOf (xt f n j)) (by omega)) ?_
                rw [show lOf (xt f n (4 * c_ + 3)) = lOf (xt f n (3 + 4 * c_)) from congrArg (fun j => lOf (xt f n j)) (by omega)] at hrx
                have hrxl := hrx
                refine lv_istore (lv' := [(7, .int (iI (lOf (xt f n (3 + 4 * c_))))), (6, .int (iI (kOf (xt f n (2 + 4 * c_))))), (5, .int (iI (xt f n (2 + 4 * c_)))), (0, .ref o), (1, .ref q), (3, .ref t), (4, .int (iI (4 * (c_ : Int) + 1)))]) hx hb dX0_leftIn_117 hl (by decide) rfl (fun ls hl => ?_)
                refine lv_iload hx hb dX0_leftIn_119 (lv_at hl 0 rfl) ?_
                refine x_if_ge (tgt := 130) hx hb dX0_leftIn_121 (by decide) ⟨by omega, by omega⟩ (fun c189 => ?_) (fun c189 => ?_)
                · refine lv_aload_n hx hb dX0_leftIn_130 rfl (lv_at hl 4 rfl) ?_
                  refine lv_iload hx hb dX0_leftIn_131 (lv_at hl 6 rfl) ?_
                  refine lv_iconst (v := iI 3) hx hb dX0_leftIn_133 rfl ?_
                  refine x_iadd (z := 4 * (c_ : Int) + 4) hx hb dX0_leftIn_134 (by omega) ?_
                  obtain ⟨wq, hIq, hdq, hB⟩ := hB
                  refine g_calli ((7 - 1 * n4)) ((35 - 5 * n4)) (by omega) (by omega) hB (rS (As := [.ref q, .int (iI (4 * (c_ : Int) + 4))]) (n := 2) C hZ hB (kX0_anchorAt l E (wU wq X1) q n f (4 * c_ + 4) (wU_r hdq hq1) hn hfr (by omega) _) (lw_S q1073 q1074 q68 q1075) (by decide +kernel) ⟨Nat.le_of_ble_eq_true rfl, Nat.le_of_ble_eq_true rfl⟩ rfl hl.1 rfl (Nat.le_of_ble_eq_true rfl) dX0_leftIn_135 ⟨(show (7 - 1 * n4) + 0 ≤ 7 by omega), (show (35 - 5 * n4) + 0 ≤ 35 by omega)⟩) (fun z190 w191 H locs hz192 hp193 hB => ?_)
                  obtain ⟨hz192a, hz192b⟩ := hz192
                  obtain ⟨rfl, hp193⟩ := hp193
                  replace hB : xBB E (xA (wU w X) sz) s o Ad I F X1 _ _ := ⟨wq, hIq, hdq, hB⟩
                  subst hp193
                  refine x_nm (b := aOf (xt f n (4 * c_ + 4))) rfl ?_
                  have hrx := aOf_c (xt f n (4 * c_ + 4))
                  refine x_nm (show aOf (xt f n (4 * c_ + 4)) = aOf (xt f n (4 + 4 * c_)) from congrArg (fun j => aOf (xt f n j)) (by omega)) ?_
                  rw [show aOf (xt f n (4 * c_ + 4)) = aOf (xt f n (4 + 4 * c_)) from congrArg (fun j => aOf (xt f n j)) (by omega)] at hrx
                  have hrxa := hrx
                  refine lv_istore (lv' := [(8, .int (iI (aOf (xt f n (4 + 4 * c_))))), (7, .int (iI (lOf (xt f n (3 + 4 * c_))))), (6, .int (iI (kOf (xt f n (2 + 4 * c_))))), (5, .int (iI (xt f n (2 + 4 * c_)))), (0, .ref o), (1, .ref q), (3, .ref t), (4, .int (iI (4 * (c_ : Int) + 1)))]) hx hb dX0_leftIn_138 hl (by decide) rfl (fun ls hl => ?_)
                  refine lv_iload hx hb dX0_leftIn_140 (lv_at hl 0 rfl) ?_
                  refine x_if_ge (tgt := 151) hx hb dX0_leftIn_142 (by decide) ⟨by omega, by omega⟩ (fun c194 => ?_) (fun c194 => ?_)
                  · refine lv_aload_n hx hb dX0_leftIn_151 rfl (lv_at hl 6 rfl) ?_
                    refine lv_aload_n hx hb dX0_leftIn_152 rfl (lv_at hl 4 rfl) ?_
                    refine lv_iload hx hb dX0_leftIn_153 (lv_at hl 2 rfl) ?_
                    refine lv_iload hx hb dX0_leftIn_155 (lv_at hl 1 rfl) ?_
                    refine lv_iload hx hb dX0_leftIn_157 (lv_at hl 0 rfl) ?_
                    refine b_callq ((7 - 1 * n4) + 1) ((35 - 5 * n4) + 5) (by omega) (by omega) hB (fun w hI hd hB => rV (As := [.int (iI (kOf (xt f n (2 + 4 * c_)))), .int (iI (lOf (xt f n (3 + 4 * c_)))), .int (iI (aOf (xt f n (4 + 4 * c_))))]) (n := 3) C hZ hB (kX0_madeOf l E o Ad I F X1 (kOf (xt f n (2 + 4 * c_))) (lOf (xt f n (3 + 4 * c_))) (aOf (xt f n (4 + 4 * c_))) ⟨by omega, by omega⟩ w hI hd _) (lw_V q769 q771 qs25 q68 q772) (by decide +kernel) ⟨Nat.le_of_ble_eq_true rfl, Nat.le_of_ble_eq_true rfl⟩ (wU_l hI.x) rfl rfl rfl hl.1 rfl (Nat.le_of_ble_eq_true rfl) dX0_leftIn_159 ⟨(show (7 - 1 * n4) + 1 ≤ 7 by omega), (show (35 - 5 * n4) + 5 ≤ 35 by omega)⟩) (fun z195 Ad196 I197 F198 X199 H locs hp201 hB => ?_)
                    obtain ⟨rfl, rfl, rfl, q202, rfl, hq203, rfl⟩ := hp201
                    have hne204 : q ≠ q202 := fun e => by cases (hq203.symm.trans ((congrArg _ e.symm).trans hq1))
                    have hne205 : t ≠ q202 := fun e => by cases (hq203.symm.trans ((congrArg _ e.symm).trans hxt))
                    have hne206 : te ≠ q202 := fun e => by cases (hq203.symm.trans ((congrArg _ e.symm).trans hxe))
                    replace hB : xBB E (xA (wU w X) sz) s o Ad I F (va_up X1 q202 (some (plE o (kOf (xt f n (2 + 4 * c_))) (lOf (xt f n (3 + 4 * c_))) (aOf (xt f n (4 + 4 * c_)))))) _ _ := hB
                    refine t_ladd7 C hZ hB ((va_up_n _ _ hne205).trans hxt) ((va_up_n _ _ hne206).trans hxe) (plE_any (va_up_s _ _ _)) htte (by omega) (by decide) q673 ⟨Nat.le_of_ble_eq_true rfl, Nat.le_of_ble_eq_true rfl⟩ hl.1 (Nat.le_of_ble_eq_true rfl) dX0_leftIn_162 ⟨(show (7 - 1 * n4) + 1 ≤ 7 by omega), (show (35 - 5 * n4) + 5 ≤ 35 by omega)⟩ (fun z207 H locs hB => ?_)
                    replace hB : xBB E (xA (wU w X) sz) s o Ad I F (va_up (va_up (va_up X1 q202 (some (plE o (kOf (xt f n (2 + 4 * c_))) (lOf (xt f n (3 + 4 * c_))) (aOf (xt f n (4 + 4 * c_)))))) te (some (xR E 3 7 ((va_up ((lfE g_ 0 (c_ : Int))) c_ (some q202)))))) t (some (xO 18 [.int (iI (mm + 1)), .ref te, .int (iI ((c_ : Int) + 1))]))) _ _ := hB
                    refine lv_pop hx hb dX0_leftIn_167 rfl ?_
                    refine lv_iinc (v := iI (4 * (c_ : Int) + 1 + 4)) (lv' := [(4, .int (iI (4 * (c_ : Int) + 1 + 4))), (8, .int (iI (aOf (xt f n (4 + 4 * c_))))), (7, .int (iI (lOf (xt f n (3 + 4 * c_))))), (6, .int (iI (kOf (xt f n (2 + 4 * c_))))), (5, .int (iI (xt f n (2 + 4 * c_)))), (0, .ref o), (1, .ref q), (3, .ref t)]) hx hb dX0_leftIn_168 hl (k := 7) rfl (iI_add _ _) (by decide) rfl (fun ls hl => ?_)
                    rw [show (4 * (c_ : Int) + 1 + 4 : Int) = 4 * (c_ : Int) + 5 by omega] at hl
                    refine lv_goto (tgt := 3) hx hb dX0_leftIn_171 (by decide) ?_
                    refine x_up (c2 := 7 - 1 * (7 - (c_ + 1))) (s2 := 35 - 5 * (7 - (c_ + 1))) (by omega) (by omega) ?_
                    exact ih1 _ _ _ _ (by omega) ⟨c_ + 1, _, va_up g_ (0 + c_) q202, _, rfl, ((va_up_n _ _ hqt).trans ((va_up_n _ _ hqte).trans ((va_up_n _ _ hne204).trans hq1))), by omega, (va_up_s _ _ _), (by rw [show ((c_ + 1 : Nat) : Int) = (c_ : Int) + 1 from rfl, lfE_upb]; exact ((va_up_n _ _ (Ne.symm htte)).trans (va_up_s _ _ _))), told_up (p := fun k => plE o (kOf (xt f n (2 + 4 * k))) (lOf (xt f n (3 + 4 * k))) (aOf (xt f n (4 + 4 * k)))) hxp hxi hxt hxe hq203 (fun k => ⟨plE_nL _, plE_nX E _ _⟩), told_up2 (p := fun k => plE o (kOf (xt f n (2 + 4 * k))) (lOf (xt f n (3 + 4 * k))) (aOf (xt f n (4 + 4 * k)))) hxp hxi hq203, fun a e h1 h2 h3 => by have h4 := hxk a e h1 h2 h3; rw [va_up_n _ _ h1, va_up_n _ _ h2, va_up_n _ _ (fun z => by rw [z, hq203] at h4; cases h4)]; exact h4, fun k h => by
                          by_cases e : k = c_
                          · subst e; exact ⟨by omega, by omega, by omega⟩
                          · exact hcd k (by omega), by rw [hlf, hrs, if_pos (by omega), if_neg (by omega), if_neg (by omega), if_neg (by omega), if_neg (by omega), show 8 - (c_ + 1) = 7 - c_ by omega], hB, lv_sub hl [5, 6, 7, 0] rfl⟩
                  · refine lv_bipush (v := iI (-103)) hx hb dX0_leftIn_145 rfl ?_
                    refine lv_iload hx hb dX0_leftIn_147 (lv_at hl 7 rfl) ?_
                    refine x_isub (z := -(4 * (c_ : Int)) - 104) hx hb dX0_leftIn_149 (by omega) ?_
                    exact b_iret C hB hr hlocks rfl dX0_leftIn_150 (by omega) (by omega) ⟨by omega, by omega⟩ ⟨rfl, rfl, rfl, ⟨_, c_, g_, hc7, hxt, hxe, hxp, hxi, fun h => absurd h (by omega)⟩, hxk, by rw [hlf, hrs, if_pos (by omega), if_neg (by omega), if_neg (by omega), if_neg (by omega), if_pos (by omega)]; omega⟩
                · refine lv_bipush (v := iI (-102)) hx hb dX0_leftIn_124 rfl ?_
                  refine lv_iload hx hb dX0_leftIn_126 (lv_at hl 6 rfl) ?_
                  refine x_isub (z := -(4 * (c_ : Int)) - 103) hx hb dX0_leftIn_128 (by omega) ?_
                  exact b_iret C hB hr hlocks rfl dX0_leftIn_129 (by omega) (by omega) ⟨by omega, by omega⟩ ⟨rfl, rfl, rfl, ⟨_, c_, g_, hc7, hxt, hxe, hxp, hxi, fun h => absurd h (by omega)⟩, hxk, by rw [hlf, hrs, if_pos (by omega), if_neg (by omega), if_neg (by omega), if_pos (by omega)]; omega⟩
              · refine lv_bipush (v := iI (-101)) hx hb dX0_leftIn_103 rfl ?_
                refine lv_iload hx hb dX0_leftIn_105 (lv_at hl 5 rfl) ?_
                refine x_isub (z := -(4 * (c_ : Int)) - 102) hx hb dX0_leftIn_107 (by omega) ?_
                exact b_iret C hB hr hlocks rfl dX0_leftIn_108 (by omega) (by omega) ⟨by omega, by omega⟩ ⟨rfl, rfl, rfl, ⟨_, c_, g_, hc7, hxt, hxe, hxp, hxi, fun h => absurd h (by omega)⟩, hxk, by rw [hlf, hrs, if_pos (by omega), if_neg (by omega), if_pos (by omega)]; omega⟩
          · refine lv_iconst (v := iI 0) hx hb dX0_leftIn_68 rfl ?_
            refine lv_goto (tgt := 96) hx hb dX0_leftIn_69 (by decide) ?_
            have hko : kOf (xt f n (2 + 4 * c_)) = 0 := by unfold kOf; (repeat' split) <;> omega
            refine x_nm (b := kOf (xt f n (2 + 4 * c_))) hko.symm ?_
            refine lv_istore (lv' := [(6, .int (iI (kOf (xt f n (2 + 4 * c_))))), (5, .int (iI (xt f n (2 + 4 * c_)))), (0, .ref o), (1, .ref q), (3, .ref t), (4, .int (iI (4 * (c_ : Int) + 1)))]) hx hb dX0_leftIn_96 hl (by decide) rfl (fun ls hl => ?_)
            refine lv_iload hx hb dX0_leftIn_98 (lv_at hl 0 rfl) ?_
            refine x_if_ge (tgt := 109) hx hb dX0_leftIn_100 (by decide) ⟨by omega, by omega⟩ (fun c208 => ?_) (fun c208 => ?_)
            · refine lv_aload_n hx hb dX0_leftIn_109 rfl (lv_at hl 3 rfl) ?_
              refine lv_iload hx hb dX0_leftIn_110 (lv_at hl 5 rfl) ?_
              refine lv_iconst (v := iI 2) hx hb dX0_leftIn_112 rfl ?_
              refine x_iadd (z := 4 * (c_ : Int) + 3) hx hb dX0_leftIn_113 (by omega) ?_
              obtain ⟨wq, hIq, hdq, hB⟩ := hB
              refine g_calli ((7 - 1 * n4)) ((35 - 5 * n4)) (by omega) (by omega) hB (rS (As := [.ref q, .int (iI (4 * (c_ : Int) + 3))]) (n := 2) C hZ hB (kX0_lettersAt l E (wU wq X1) q n f (4 * c_ + 3) (wU_r hdq hq1) hn hfr (by omega) _) (lw_S q1070 q1071 q68 q1072) (by decide +kernel) ⟨Nat.le_of_ble_eq_true rfl, Nat.le_of_ble_eq_true rfl⟩ rfl hl.1 rfl (Nat.le_of_ble_eq_true rfl) dX0_leftIn_114 ⟨(show (7 - 1 * n4) + 0 ≤ 7 by omega), (show (35 - 5 * n4) + 0 ≤ 35 by omega)⟩) (fun z209 w210 H locs hz211 hp212 hB => ?_)
              obtain ⟨hz211a, hz211b⟩ := hz211
              obtain ⟨rfl, hp212⟩ := hp212
              replace hB : xBB E (xA (wU w X) sz) s o Ad I F X1 _ _ := ⟨wq, hIq, hdq, hB⟩
              subst hp212
              refine x_nm (b := lOf (xt f n (4 * c_ + 3))) rfl ?_
              have hrx := lOf_c (xt f n (4 * c_ + 3))
              refine x_nm (show lOf (xt f n (4 * c_ + 3)) = lOf (xt f n (3 + 4 * c_)) from congrArg (fun j => lOf (xt f n j)) (by omega)) ?_
              rw [show lOf (xt f n (4 * c_ + 3)) = lOf (xt f n (3 + 4 * c_)) from congrArg (fun j => lOf (xt f n j)) (by omega)] at hrx
              have hrxl := hrx
              refine lv_istore (lv' := [(7, .int (iI (lOf (xt f n (3 + 4 * c_))))), (6, .int (iI (kOf (xt f n (2 + 4 * c_))))), (5, .int (iI (xt f n (2 + 4 * c_)))), (0, .ref o), (1, .ref q), (3, .ref t), (4, .int (iI (4 * (c_ : Int) + 1)))]) hx hb dX0_leftIn_117 hl (by decide) rfl (fun ls hl => ?_)
              refine lv_iload hx hb dX0_leftIn_119 (lv_at hl 0 rfl) ?_
              refine x_if_ge (tgt := 130) hx hb dX0_leftIn_121 (by decide) ⟨by omega, by omega⟩ (fun c213 => ?_) (fun c213 => ?_)
              · refine lv_aload_n hx hb dX0_leftIn_130 rfl (lv_at hl 4 rfl) ?_
                refine lv_iload hx hb dX0_leftIn_131 (lv_at hl 6 rfl) ?_
                refine lv_iconst (v := iI 3) hx hb dX0_leftIn_133 rfl ?_
                refine x_iadd (z := 4 * (c_ : Int) + 4) hx hb dX0_leftIn_134 (by omega) ?_
                obtain ⟨wq, hIq, hdq, hB⟩ := hB
                refine g_calli ((7 - 1 * n4)) ((35 - 5 * n4)) (by omega) (by omega) hB (rS (As := [.ref q, .int (iI (4 * (c_ : Int) + 4))]) (n := 2) C hZ hB (kX0_anchorAt l E (wU wq X1) q n f (4 * c_ + 4) (wU_r hdq hq1) hn hfr (by omega) _) (lw_S q1073 q1074 q68 q1075) (by decide +kernel) ⟨Nat.le_of_ble_eq_true rfl, Nat.le_of_ble_eq_true rfl⟩ rfl hl.1 rfl (Nat.le_of_ble_eq_true rfl) dX0_leftIn_135 ⟨(show (7 - 1 * n4) + 0 ≤ 7 by omega), (show (35 - 5 * n4) + 0 ≤ 35 by omega)⟩) (fun z214 w215 H locs hz216 hp217 hB => ?_)
                obtain ⟨hz216a, hz216b⟩ := hz216
                obtain ⟨rfl, hp217⟩ := hp217
                replace hB : xBB E (xA (wU w X) sz) s o Ad I F X1 _ _ := ⟨wq, hIq, hdq, hB⟩
                subst hp217
                refine x_nm (b := aOf (xt f n (4 * c_ + 4))) rfl ?_
                have hrx := aOf_c (xt f n (4 * c_ + 4))
                refine x_nm (show aOf (xt f n (4 * c_ + 4)) = aOf (xt f n (4 + 4 * c_)) from congrArg (fun j => aOf (xt f n j)) (by omega)) ?_
                rw [show aOf (xt f n (4 * c_ + 4)) = aOf (xt f n (4 + 4 * c_)) from congrArg (fun j => aOf (xt f n j)) (by omega)] at hrx
                have hrxa := hrx
                refine lv_istore (lv' := [(8, .int (iI (aOf (xt f n (4 + 4 * c_))))), (7, .int (iI (lOf (xt f n (3 + 4 * c_))))), (6, .int (iI (kOf (xt f n (2 + 4 * c_))))), (5, .int (iI (xt f n (2 + 4 * c_)))), (0, .ref o), (1, .ref q), (3, .ref t), (4, .int (iI (4 * (c_ : Int) + 1)))]) hx hb dX0_leftIn_138 hl (by decide) rfl (fun ls hl => ?_)
                refine lv_iload hx hb dX0_leftIn_140 (lv_at hl 0 rfl) ?_
                refine x_if_ge (tgt := 151) hx hb dX0_leftIn_142 (by decide) ⟨by omega, by omega⟩ (fun c218 => ?_) (fun c218 => ?_)
                · refine lv_aload_n hx hb dX0_leftIn_151 rfl (lv_at hl 6 rfl) ?_
                  refine lv_aload_n hx hb dX0_leftIn_152 rfl (lv_at hl 4 rfl) ?_
                  refine lv_iload hx hb dX0_leftIn_153 (lv_at hl 2 rfl) ?_
                  refine lv_iload hx hb dX0_leftIn_155 (lv_at hl 1 rfl) ?_
                  refine lv_iload hx hb dX0_leftIn_157 (lv_at hl 0 rfl) ?_
                  refine b_callq ((7 - 1 * n4) + 1) ((35 - 5 * n4) + 5) (by omega) (by omega) hB (fun w hI hd hB => rV (As := [.int (iI (kOf (xt f n (2 + 4 * c_)))), .int (iI (lOf (xt f n (3 + 4 * c_)))), .int (iI (aOf (xt f n (4 + 4 * c_))))]) (n := 3) C hZ hB (kX0_madeOf l E o Ad I F X1 (kOf (xt f n (2 + 4 * c_))) (lOf (xt f n (3 + 4 * c_))) (aOf (xt f n (4 + 4 * c_))) ⟨by omega, by omega⟩ w hI hd _) (lw_V q769 q771 qs25 q68 q772) (by decide +kernel) ⟨Nat.le_of_ble_eq_true rfl, Nat.le_of_ble_eq_true rfl⟩ (wU_l hI.x) rfl rfl rfl hl.1 rfl (Nat.le_of_ble_eq_true rfl) dX0_leftIn_159 ⟨(show (7 - 1 * n4) + 1 ≤ 7 by omega), (show (35 - 5 * n4) + 5 ≤ 35 by omega)⟩) (fun z219 Ad220 I221 F222 X223 H locs hp225 hB => ?_)
                  obtain ⟨rfl, rfl, rfl, q226, rfl, hq227, rfl⟩ := hp225
                  have hne228 : q ≠ q226 := fun e => by cases (hq227.symm.trans ((congrArg _ e.symm).trans hq1))
                  have hne229 : t ≠ q226 := fun e => by cases (hq227.symm.trans ((congrArg _ e.symm).trans hxt))
                  have hne230 : te ≠ q226 := fun e => by cases (hq227.symm.trans ((congrArg _ e.symm).trans hxe))
                  replace hB : xBB E (xA (wU w X) sz) s o Ad I F (va_up X1 q226 (some (plE o (kOf (xt f n (2 + 4 * c_))) (lOf (xt f n (3 + 4 * c_))) (aOf (xt f n (4 + 4 * c_)))))) _ _ := hB
                  refine t_ladd7 C hZ hB ((va_up_n _ _ hne229).trans hxt) ((va_up_n _ _ hne230).trans hxe) (plE_any (va_up_s _ _ _)) htte (by omega) (by decide) q673 ⟨Nat.le_of_ble_eq_true rfl, Nat.le_of_ble_eq_true rfl⟩ hl.1 (Nat.le_of_ble_eq_true rfl) dX0_leftIn_162 ⟨(show (7 - 1 * n4) + 1 ≤ 7 by omega), (show (35 - 5 * n4) + 5 ≤ 35 by omega)⟩ (fun z231 H locs hB => ?_)
                  replace hB : xBB E (xA (wU w X) sz) s o Ad I F (va_up (va_up (va_up X1 q226 (some (plE o (kOf (xt f n (2 + 4 * c_))) (lOf (xt f n (3 + 4 * c_))) (aOf (xt f n (4 + 4 * c_)))))) te (some (xR E 3 7 ((va_up ((lfE g_ 0 (c_ : Int))) c_ (some q226)))))) t (some (xO 18 [.int (iI (mm + 1)), .ref te, .int (iI ((c_ : Int) + 1))]))) _ _ := hB
                  refine lv_pop hx hb dX0_leftIn_167 rfl ?_
                  refine lv_iinc (v := iI (4 * (c_ : Int) + 1 + 4)) (lv' := [(4, .int (iI (4 * (c_ : Int) + 1 + 4))), (8, .int (iI (aOf (xt f n (4 + 4 * c_))))), (7, .int (iI (lOf (xt f n (3 + 4 * c_))))), (6, .int (iI (kOf (xt f n (2 + 4 * c_))))), (5, .int (iI (xt f n (2 + 4 * c_)))), (0, .ref o), (1, .ref q), (3, .ref t)]) hx hb dX0_leftIn_168 hl (k := 7) rfl (iI_add _ _) (by decide) rfl (fun ls hl => ?_)
                  rw [show (4 * (c_ : Int) + 1 + 4 : Int) = 4 * (c_ : Int) + 5 by omega] at hl
                  refine lv_goto (tgt := 3) hx hb dX0_leftIn_171 (by decide) ?_
                  refine x_up (c2 := 7 - 1 * (7 - (c_ + 1))) (s2 := 35 - 5 * (7 - (c_ + 1))) (by omega) (by omega) ?_
                  exact ih1 _ _ _ _ (by omega) ⟨c_ + 1, _, va_up g_ (0 + c_) q226, _, rfl, ((va_up_n _ _ hqt).trans ((va_up_n _ _ hqte).trans ((va_up_n _ _ hne228).trans hq1))), by omega, (va_up_s _ _ _), (by rw [show ((c_ + 1 : Nat) : Int) = (c_ : Int) + 1 from rfl, lfE_upb]; exact ((va_up_n _ _ (Ne.symm htte)).trans (va_up_s _ _ _))), told_up (p := fun k => plE o (kOf (xt f n (2 + 4 * k))) (lOf (xt f n (3 + 4 * k))) (aOf (xt f n (4 + 4 * k)))) hxp hxi hxt hxe hq227 (fun k => ⟨plE_nL _, plE_nX E _ _⟩), told_up2 (p := fun k => plE o (kOf (xt f n (2 + 4 * k))) (lOf (xt f n (3 + 4 * k))) (aOf (xt f n (4 + 4 * k)))) hxp hxi hq227, fun a e h1 h2 h3 => by have h4 := hxk a e h1 h2 h3; rw [va_up_n _ _ h1, va_up_n _ _ h2, va_up_n _ _ (fun z => by rw [z, hq227] at h4; cases h4)]; exact h4, fun k h => by
                        by_cases e : k = c_
                        · subst e; exact ⟨by omega, by omega, by omega⟩
                        · exact hcd k (by omega), by rw [hlf, hrs, if_pos (by omega), if_neg (by omega), if_neg (by omega), if_neg (by omega), if_neg (by omega), show 8 - (c_ + 1) = 7 - c_ by omega], hB, lv_sub hl [5, 6, 7, 0] rfl⟩
                · refine lv_bipush (v := iI (-103)) hx hb dX0_leftIn_145 rfl ?_
                  refine lv_iload hx hb dX0_leftIn_147 (lv_at hl 7 rfl) ?_
                  refine x_isub (z := -(4 * (c_ : Int)) - 104) hx hb dX0_leftIn_149 (by omega) ?_
                  exact b_iret C hB hr hlocks rfl dX0_leftIn_150 (by omega) (by omega) ⟨by omega, by omega⟩ ⟨rfl, rfl, rfl, ⟨_, c_, g_, hc7, hxt, hxe, hxp, hxi, fun h => absurd h (by omega)⟩, hxk, by rw [hlf, hrs, if_pos (by omega), if_neg (by omega), if_neg (by omega), if_neg (by omega), if_pos (by omega)]; omega⟩
              · refine lv_bipush (v := iI (-102)) hx hb dX0_leftIn_124 rfl ?_
                refine lv_iload hx hb dX0_leftIn_126 (lv_at hl 6 rfl) ?_
                refine x_isub (z := -(4 * (c_ : Int)) - 103) hx hb dX0_leftIn_128 (by omega) ?_
                exact b_iret C hB hr hlocks rfl dX0_leftIn_129 (by omega) (by omega) ⟨by omega, by omega⟩ ⟨rfl, rfl, rfl, ⟨_, c_, g_, hc7, hxt, hxe, hxp, hxi, fun h => absurd h (by omega)⟩, hxk, by rw [hlf, hrs, if_pos (by omega), if_neg (by omega), if_neg (by omega), if_pos (by omega)]; omega⟩
            · refine lv_bipush (v := iI (-101)) hx hb dX0_leftIn_103 rfl ?_
              refine lv_iload hx hb dX0_leftIn_105 (lv_at hl 5 rfl) ?_
              refine x_isub (z := -(4 * (c_ : Int)) - 102) hx hb dX0_leftIn_107 (by omega) ?_
              exact b_iret C hB hr hlocks rfl dX0_leftIn_108 (by omega) (by omega) ⟨by omega, by omega⟩ ⟨rfl, rfl, rfl, ⟨_, c_, g_, hc7, hxt, hxe, hxp, hxi, fun h => absurd h (by omega)⟩, hxk, by rw [hlf, hrs, if_pos (by omega), if_neg (by omega), if_pos (by omega)]; omega⟩
        · refine lv_bipush (v := iI (-100)) hx hb dX0_leftIn_45 rfl ?_
          refine lv_iload hx hb dX0_leftIn_47 (lv_at hl 3 rfl) ?_
          refine x_isub (z := -(4 * (c_ : Int)) - 101) hx hb dX0_leftIn_49 (by omega) ?_
          exact b_iret C hB hr hlocks rfl dX0_leftIn_50 (by omega) (by omega) ⟨by omega, by omega⟩ ⟨rfl, rfl, rfl, ⟨_, c_, g_, hc7, hxt, hxe, hxp, hxi, fun h => absurd h (by omega)⟩, hxk, by rw [hlf, hrs, if_pos (by omega), if_pos (by omega)]; omega⟩
