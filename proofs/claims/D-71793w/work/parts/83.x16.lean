/-! THE COMPONENT: sentences moved -/
set_option maxRecDepth 100000
/-- whither the one at j comes, when n from b on have come to t -/
def mdst (b n t j : Nat) : Nat := if b ≤ j ∧ j < b + n then t + (j - b) else if (if j < b then j else j - n) < t then (if j < b then j else j - n) else (if j < b then j else j - n) + n
theorem mdst_inj {b n t i j : Nat} (h : i ≠ j) : mdst b n t i ≠ mdst b n t j := by
  unfold mdst
  (repeat' split) <;> omega
theorem mdst_lt {b n t N j : Nat} (h1 : b + n ≤ N) (h2 : t + n ≤ N) (h : j < N) : mdst b n t j < N := by
  unfold mdst
  (repeat' split) <;> omega
theorem mdst_src (b n t p : Nat) : mdst b n t (msrc b n t p) = p := by
  unfold mdst msrc
  (repeat' split) <;> omega
theorem msrc_lt {b n t N p : Nat} (h1 : b + n ≤ N) (h2 : t + n ≤ N) (h : p < N) : msrc b n t p < N := by
  unfold msrc
  (repeat' split) <;> omega
theorem mdst_up {b n t i : Nat} {f g : Nat → Int} (h : ∀ j, j < i → g (mdst b n t j) = f j) : ∀ j, j < i + 1 → va_up g (mdst b n t i) (f i) (mdst b n t j) = f j := by
  intro j hj
  by_cases q : j = i
  · rw [q, va_up_s]
  · rw [va_up_n _ _ (mdst_inj q)]
    exact h j (by omega)
theorem mdst_all {I6 : Int} {b n t i : Nat} {f g : Nat → Int} (h1 : (b : Int) + n ≤ I6) (h2 : (t : Int) + n ≤ I6) (hi : i = I6.toNat) (h : ∀ j, j < i → g (mdst b n t j) = f j) : ∀ k, k < I6.toNat → g k = mov f b n t k := by
  intro k hk
  have := h (msrc b n t k) (by have := msrc_lt (b := b) (n := n) (t := t) (N := I6.toNat) (p := k) (by omega) (by omega) hk; omega)
  rw [mdst_src] at this
  exact this
theorem nMove_neg {I : Nat → Int} (F : Nat → Nat → Int) {b n t v : Int} (h : rMove I b n t = v) (hv : v < 0) : mAg I (nMove I F b n t) I F := by
  unfold nMove
  rw [h, if_neg (by omega)]
  exact mAg_rfl I F
theorem nMove_mag {I : Nat → Int} {F : Nat → Nat → Int} {g1 g2 : Nat → Int} {b n t : Nat} (h : rMove I b n t = (n : Int)) (h1 : ∀ k : Nat, (k : Int) < I 6 → g1 k = mov (F 13) b n t k) (h2 : ∀ k : Nat, (k : Int) < I 6 → g2 k = mov (F 14) b n t k) : mAg I (nMove I F b n t) I (va_up (va_up F 13 g1) 14 g2) := by
  unfold nMove
  rw [h, if_pos (by omega)]
  simp only [Int.toNat_natCast]
  exact ⟨rfl, rfl, rfl, rfl, rfl, rfl, rfl, rfl, fun _ _ => ⟨rfl, rfl, rfl⟩, fun k hk => ⟨h1 k hk, h2 k hk⟩, fun _ _ => ⟨rfl, rfl⟩, fun _ _ => ⟨rfl, rfl⟩, fun _ _ => rfl⟩
set_option maxHeartbeats 800000 in
set_option maxRecDepth 100000 in
theorem kX0_movedIn_6 (l : Launch) (E : xE) (o : Nat) (Ad : Nat → Nat) (I : Nat → Int) (F : Nat → Nat → Int) (X : xw) (kb : Nat) (kn : Nat) (kt : Nat) (h67 : 0 ≤ I 6 ∧ I 6 ≤ 7) (hb1 : (kb : Int) + kn ≤ I 6) (hb2 : (kt : Int) + kn ≤ I 6) : cq_ l E yX0_movedIn cX0_movedIn 10 (some (.array .int)) 0 0 1 7 [.ref o, .ref (Ad 6), .int (iI ((kb : Int))), .int (iI ((kn : Int))), .int (iI ((kt : Int)))] o Ad I F X (fun z Ad' I' F' X' => Ad = Ad' ∧ I = I' ∧ F = F' ∧ xS X X' ∧ ∃ (q : Nat) (g : Nat → Int), z = some q ∧ X' q = some (xI E 7 g) ∧ ∀ k : Nat, (k : Int) < I 6 → g k = mov (F 13) kb kn kt k) := by
  intro w hI hd sz
  refine x_bodyz (by decide) (Nat.le_of_ble_eq_true rfl) ?_
  intro p e s m args below meth c ls hx hb C hr hlocks hin hsz hZ hB hl
  have C : xC E p s m args c cX0_movedIn 10 RX0 := C
  replace hB : xBB E (xA (wU w X) sz) s o Ad I F X s.heap [] := ⟨w, hI, hd, hB⟩
  have hl : lv_has ls 10 [(0, .ref o), (1, .ref (Ad 6)), (2, .int (iI ((kb : Int)))), (3, .int (iI ((kn : Int)))), (4, .int (iI ((kt : Int))))] := hl
  have hR : ∀ k : Nat, k < 99 → True := fun _ _ => trivial
  refine lv_bipush (v := iI 7) hx hb dX0_movedIn_0 rfl ?_
  refine t_newp C hB (atype := .int) 0 rfl rfl (by decide) q213 7 rfl (by omega) (Nat.le_of_ble_eq_true rfl) (Nat.le_of_ble_eq_true rfl) dX0_movedIn_2 (fun q1 H hq2 hs3 hB => ?_)
  refine x_up (c2 := 1) (s2 := 7) (Nat.le_of_ble_eq_true rfl) (Nat.le_of_ble_eq_true rfl) ?_
  replace hB : xBB E (xA (wU w X) sz) s o Ad I F (va_up X q1 (some (xI E 7 ((fun _ => 0))))) _ _ := hB
  refine lv_astore (lv' := [(5, .ref q1), (0, .ref o), (1, .ref (Ad 6)), (2, .int (iI ((kb : Int)))), (3, .int (iI ((kn : Int)))), (4, .int (iI ((kt : Int))))]) hx hb dX0_movedIn_4 hl (by decide) rfl (fun ls hl => ?_)
  refine lv_iconst (v := iI 0) hx hb dX0_movedIn_6 rfl ?_
  refine lv_istore (lv' := [(6, .int (iI 0)), (5, .ref q1), (0, .ref o), (1, .ref (Ad 6)), (2, .int (iI ((kb : Int)))), (3, .int (iI ((kn : Int)))), (4, .int (iI ((kt : Int))))]) hx hb dX0_movedIn_7 hl (by decide) rfl (fun ls hl => ?_)
  refine lv_iconst (v := iI 0) hx hb dX0_movedIn_9 rfl ?_
  refine lv_istore (lv' := [(7, .int (iI 0)), (6, .int (iI 0)), (5, .ref q1), (0, .ref o), (1, .ref (Ad 6)), (2, .int (iI ((kb : Int)))), (3, .int (iI ((kn : Int)))), (4, .int (iI ((kt : Int))))]) hx hb dX0_movedIn_10 hl (by decide) rfl (fun ls hl => ?_)
  refine w_loop (fun n7 H locs ls => ∃ (i_ : Nat) (c_ : Nat) (g : Nat → Int), n7 = (I 6 - i_).toNat ∧ ((i_ : Int) ≤ I 6) ∧ ((i_ ≤ kb ∧ c_ = i_) ∨ (kb ≤ i_ ∧ i_ ≤ kb + kn ∧ c_ = kb) ∨ (kb + kn ≤ i_ ∧ c_ = i_ - kn)) ∧ (∀ j, j < i_ → g (mdst kb kn kt j) = F 13 j) ∧ xBB E (xA (wU w X) sz) s o Ad I F (va_up X q1 (some (xI E 7 g))) H locs ∧ lv_has ls 10 [(0, .ref o), (1, .ref (Ad 6)), (2, .int (iI ((kb : Int)))), (3, .int (iI ((kn : Int)))), (4, .int (iI ((kt : Int)))), (5, .ref q1), (6, .int (iI ((c_ : Int)))), (7, .int (iI ((i_ : Int))))]) _ ⟨0, 0, _, rfl, by omega, by omega, fun j h => absurd h (Nat.not_lt_zero j), hB, lv_sub hl [3, 4, 5, 6, 7, 2, 1, 0] rfl⟩ ?_
  intro n7 H locs ls hI6 ih4
  obtain ⟨i_, c_, g, hn5, hi7, hcc, hg, hB, hl⟩ := hI6
  refine lv_iload hx hb dX0_movedIn_12 (lv_at hl 7 rfl) ?_
  refine lv_aload_n hx hb dX0_movedIn_14 rfl (lv_at hl 0 rfl) ?_
  refine b_get C hB 4 (by decide) q298 (v := .int (iI (I 6))) rfl rfl dX0_movedIn_15 ?_
  refine x_icmp_ge (tgt := 105) hx hb dX0_movedIn_18 (by decide) ⟨by omega, by omega⟩ ⟨by omega, by omega⟩ (fun c8 => ?_) (fun c8 => ?_)
  · refine lv_aload hx hb dX0_movedIn_105 (lv_at hl 5 rfl) ?_
    exact b_qret C hB hr (Or.inr ⟨_, rfl⟩) hlocks ((some q1)) dX0_movedIn_107 (Nat.le_of_ble_eq_true rfl) (Nat.le_of_ble_eq_true rfl) ⟨rfl, rfl, rfl, fun a e h => by rw [va_up_n _ _ (fun z => by rw [z, hq2] at h; cases h)]; exact h, q1, g, rfl, va_up_s _ _ _, fun k hk => mdst_all hb1 hb2 (show i_ = (I 6).toNat by omega) hg k (by omega)⟩
  · refine lv_iload hx hb dX0_movedIn_21 (lv_at hl 7 rfl) ?_
    refine lv_iload_n hx hb dX0_movedIn_23 rfl (lv_at hl 2 rfl) ?_
    refine x_icmp_lt (tgt := 39) hx hb dX0_movedIn_24 (by decide) ⟨by omega, by omega⟩ ⟨by omega, by omega⟩ (fun c9 => ?_) (fun c9 => ?_)
    · refine lv_iconst (v := iI 0) hx hb dX0_movedIn_39 rfl ?_
      refine lv_istore (lv' := [(8, .int (iI 0)), (0, .ref o), (1, .ref (Ad 6)), (2, .int (iI ((kb : Int)))), (3, .int (iI ((kn : Int)))), (4, .int (iI ((kt : Int)))), (5, .ref q1), (6, .int (iI ((c_ : Int)))), (7, .int (iI ((i_ : Int))))]) hx hb dX0_movedIn_40 hl (by decide) rfl (fun ls hl => ?_)
      refine lv_iload hx hb dX0_movedIn_42 (lv_at hl 0 rfl) ?_
      refine x_if_eq (tgt := 57) hx hb dX0_movedIn_44 (by decide) ⟨by decide, by decide⟩ (fun c10 => ?_) (fun c10 => by exfalso; omega)
      refine lv_iload hx hb dX0_movedIn_57 (lv_at hl 7 rfl) ?_
      refine lv_iload hx hb dX0_movedIn_59 (lv_at hl 5 rfl) ?_
      refine x_icmp_ge (tgt := 69) hx hb dX0_movedIn_61 (by decide) ⟨by omega, by omega⟩ ⟨by omega, by omega⟩ (fun c11 => ?_) (fun c11 => ?_)
      · refine lv_iload hx hb dX0_movedIn_69 (lv_at hl 7 rfl) ?_
        refine lv_iload_n hx hb dX0_movedIn_71 rfl (lv_at hl 4 rfl) ?_
        refine x_iadd (z := (c_ : Int) + (kn : Int)) hx hb dX0_movedIn_72 (by omega) ?_
        refine lv_istore (lv' := [(9, .int (iI ((c_ : Int) + (kn : Int)))), (8, .int (iI 0)), (0, .ref o), (1, .ref (Ad 6)), (2, .int (iI ((kb : Int)))), (3, .int (iI ((kn : Int)))), (4, .int (iI ((kt : Int)))), (5, .ref q1), (6, .int (iI ((c_ : Int)))), (7, .int (iI ((i_ : Int))))]) hx hb dX0_movedIn_73 hl (by decide) rfl (fun ls hl => ?_)
        have hmd : mdst kb kn kt i_ < 7 := by have := mdst_lt (b := kb) (n := kn) (t := kt) (N := (I 6).toNat) (j := i_) (by omega) (by omega) (by omega); omega
        refine lv_aload hx hb dX0_movedIn_75 (lv_at hl 7 rfl) ?_
        refine lv_iload hx hb dX0_movedIn_77 (lv_at hl 0 rfl) ?_
        refine lv_aload_n hx hb dX0_movedIn_79 rfl (lv_at hl 3 rfl) ?_
        refine lv_iload hx hb dX0_movedIn_80 (lv_at hl 9 rfl) ?_
        refine b_ald C hB 6 13 7 rfl (v := (F 13) i_) i_ rfl (by omega) (by omega) rfl dX0_movedIn_82 ?_
        have := hR i_ (by omega)
        refine t_ast C hB (va_up_s _ _ _) (mdst kb kn kt i_) (by unfold mdst; (repeat' split) <;> omega) (by omega) (by omega) dX0_movedIn_83 (fun H locs hB => ?_)
        rw [bx_uu] at hB
        replace hB : xBB E (xA (wU w X) sz) s o Ad I F (va_up X q1 (some (xI E 7 ((va_up g (mdst kb kn kt i_) ((F 13) i_)))))) _ _ := hB
        refine lv_iload hx hb dX0_movedIn_84 (lv_at hl 8 rfl) ?_
        refine lv_iload hx hb dX0_movedIn_86 (lv_at hl 1 rfl) ?_
        refine x_if_eq (tgt := 95) hx hb dX0_movedIn_88 (by decide) ⟨by decide, by decide⟩ (fun c12 => ?_) (fun c12 => by exfalso; omega)
        refine lv_iconst (v := iI 1) hx hb dX0_movedIn_95 rfl ?_
        refine x_iadd (z := (c_ : Int) + 1) hx hb dX0_movedIn_96 (by omega) ?_
        refine lv_istore (lv' := [(6, .int (iI ((c_ : Int) + 1))), (9, .int (iI ((c_ : Int) + (kn : Int)))), (8, .int (iI 0)), (0, .ref o), (1, .ref (Ad 6)), (2, .int (iI ((kb : Int)))), (3, .int (iI ((kn : Int)))), (4, .int (iI ((kt : Int)))), (5, .ref q1), (7, .int (iI ((i_ : Int))))]) hx hb dX0_movedIn_97 hl (by decide) rfl (fun ls hl => ?_)
        refine lv_iinc (v := iI ((i_ : Int) + 1)) (lv' := [(7, .int (iI ((i_ : Int) + 1))), (6, .int (iI ((c_ : Int) + 1))), (9, .int (iI ((c_ : Int) + (kn : Int)))), (8, .int (iI 0)), (0, .ref o), (1, .ref (Ad 6)), (2, .int (iI ((kb : Int)))), (3, .int (iI ((kn : Int)))), (4, .int (iI ((kt : Int)))), (5, .ref q1)]) hx hb dX0_movedIn_99 hl (k := 9) rfl (iI_add _ _) (by decide) rfl (fun ls hl => ?_)
        refine lv_goto (tgt := 12) hx hb dX0_movedIn_102 (by decide) ?_
        exact ih4 _ _ _ _ (by omega) ⟨i_ + 1, c_ + 1, _, rfl, by omega, by omega, fun j h => mdst_up hg j h, hB, lv_sub hl [4, 5, 6, 7, 8, 9, 1, 0] rfl⟩
      · refine lv_iload hx hb dX0_movedIn_64 (lv_at hl 7 rfl) ?_
        refine lv_goto (tgt := 73) hx hb dX0_movedIn_66 (by decide) ?_
        refine lv_istore (lv' := [(9, .int (iI ((c_ : Int)))), (8, .int (iI 0)), (0, .ref o), (1, .ref (Ad 6)), (2, .int (iI ((kb : Int)))), (3, .int (iI ((kn : Int)))), (4, .int (iI ((kt : Int)))), (5, .ref q1), (6, .int (iI ((c_ : Int)))), (7, .int (iI ((i_ : Int))))]) hx hb dX0_movedIn_73 hl (by decide) rfl (fun ls hl => ?_)
        have hmd : mdst kb kn kt i_ < 7 := by have := mdst_lt (b := kb) (n := kn) (t := kt) (N := (I 6).toNat) (j := i_) (by omega) (by omega) (by omega); omega
        refine lv_aload hx hb dX0_movedIn_75 (lv_at hl 7 rfl) ?_
        refine lv_iload hx hb dX0_movedIn_77 (lv_at hl 0 rfl) ?_
        refine lv_aload_n hx hb dX0_movedIn_79 rfl (lv_at hl 3 rfl) ?_
        refine lv_iload hx hb dX0_movedIn_80 (lv_at hl 9 rfl) ?_
        refine b_ald C hB 6 13 7 rfl (v := (F 13) i_) i_ rfl (by omega) (by omega) rfl dX0_movedIn_82 ?_
        have := hR i_ (by omega)
        refine t_ast C hB (va_up_s _ _ _) (mdst kb kn kt i_) (by unfold mdst; (repeat' split) <;> omega) (by omega) (by omega) dX0_movedIn_83 (fun H locs hB => ?_)
        rw [bx_uu] at hB
        replace hB : xBB E (xA (wU w X) sz) s o Ad I F (va_up X q1 (some (xI E 7 ((va_up g (mdst kb kn kt i_) ((F 13) i_)))))) _ _ := hB
        refine lv_iload hx hb dX0_movedIn_84 (lv_at hl 8 rfl) ?_
        refine lv_iload hx hb dX0_movedIn_86 (lv_at hl 1 rfl) ?_
        refine x_if_eq (tgt := 95) hx hb dX0_movedIn_88 (by decide) ⟨by decide, by decide⟩ (fun c13 => ?_) (fun c13 => by exfalso; omega)
        refine lv_iconst (v := iI 1) hx hb dX0_movedIn_95 rfl ?_
        refine x_iadd (z := (c_ : Int) + 1) hx hb dX0_movedIn_96 (by omega) ?_
        refine lv_istore (lv' := [(6, .int (iI ((c_ : Int) + 1))), (9, .int (iI ((c_ : Int)))), (8, .int (iI 0)), (0, .ref o), (1, .ref (Ad 6)), (2, .int (iI ((kb : Int)))), (3, .int (iI ((kn : Int)))), (4, .int (iI ((kt : Int)))), (5, .ref q1), (7, .int (iI ((i_ : Int))))]) hx hb dX0_movedIn_97 hl (by decide) rfl (fun ls hl => ?_)
        refine lv_iinc (v := iI ((i_ : Int) + 1)) (lv' := [(7, .int (iI ((i_ : Int) + 1))), (6, .int (iI ((c_ : Int) + 1))), (9, .int (iI ((c_ : Int)))), (8, .int (iI 0)), (0, .ref o), (1, .ref (Ad 6)), (2, .int (iI ((kb : Int)))), (3, .int (iI ((kn : Int)))), (4, .int (iI ((kt : Int)))), (5, .ref q1)]) hx hb dX0_movedIn_99 hl (k := 9) rfl (iI_add _ _) (by decide) rfl (fun ls hl => ?_)
        refine lv_goto (tgt := 12) hx hb dX0_movedIn_102 (by decide) ?_
        exact ih4 _ _ _ _ (by omega) ⟨i_ + 1, c_ + 1, _, rfl, by omega, by omega, fun j h => mdst_up hg j h, hB, lv_sub hl [4, 5, 6, 7, 8, 9, 1, 0] rfl⟩
    · refine lv_iload hx hb dX0_movedIn_27 (lv_at hl 7 rfl) ?_
      refine lv_iload_n hx hb dX0_movedIn_29 rfl (lv_at hl 2 rfl) ?_
      refine lv_iload_n hx hb dX0_movedIn_30 rfl (lv_at hl 3 rfl) ?_
      refine x_iadd (z := (kb : Int) + (kn : Int)) hx hb dX0_movedIn_31 (by omega) ?_
      refine x_icmp_ge (tgt := 39) hx hb dX0_movedIn_32 (by decide) ⟨by omega, by omega⟩ ⟨by omega, by omega⟩ (fun c14 => ?_) (fun c14 => ?_)
      · refine lv_iconst (v := iI 0) hx hb dX0_movedIn_39 rfl ?_
        refine lv_istore (lv' := [(8, .int (iI 0)), (0, .ref o), (1, .ref (Ad 6)), (2, .int (iI ((kb : Int)))), (3, .int (iI ((kn : Int)))), (4, .int (iI ((kt : Int)))), (5, .ref q1), (6, .int (iI ((c_ : Int)))), (7, .int (iI ((i_ : Int))))]) hx hb dX0_movedIn_40 hl (by decide) rfl (fun ls hl => ?_)
        refine lv_iload hx hb dX0_movedIn_42 (lv_at hl 0 rfl) ?_
        refine x_if_eq (tgt := 57) hx hb dX0_movedIn_44 (by decide) ⟨by decide, by decide⟩ (fun c15 => ?_) (fun c15 => by exfalso; omega)
        refine lv_iload hx hb dX0_movedIn_57 (lv_at hl 7 rfl) ?_
        refine lv_iload hx hb dX0_movedIn_59 (lv_at hl 5 rfl) ?_
        refine x_icmp_ge (tgt := 69) hx hb dX0_movedIn_61 (by decide) ⟨by omega, by omega⟩ ⟨by omega, by omega⟩ (fun c16 => ?_) (fun c16 => ?_)
        · refine lv_iload hx hb dX0_movedIn_69 (lv_at hl 7 rfl) ?_
          refine lv_iload_n hx hb dX0_movedIn_71 rfl (lv_at hl 4 rfl) ?_
          refine x_iadd (z := (c_ : Int) + (kn : Int)) hx hb dX0_movedIn_72 (by omega) ?_
          refine lv_istore (lv' := [(9, .int (iI ((c_ : Int) + (kn : Int)))), (8, .int (iI 0)), (0, .ref o), (1, .ref (Ad 6)), (2, .int (iI ((kb : Int)))), (3, .int (iI ((kn : Int)))), (4, .int (iI ((kt : Int)))), (5, .ref q1), (6, .int (iI ((c_ : Int)))), (7, .int (iI ((i_ : Int))))]) hx hb dX0_movedIn_73 hl (by decide) rfl (fun ls hl => ?_)
          have hmd : mdst kb kn kt i_ < 7 := by have := mdst_lt (b := kb) (n := kn) (t := kt) (N := (I 6).toNat) (j := i_) (by omega) (by omega) (by omega); omega
          refine lv_aload hx hb dX0_movedIn_75 (lv_at hl 7 rfl) ?_
          refine lv_iload hx hb dX0_movedIn_77 (lv_at hl 0 rfl) ?_
          refine lv_aload_n hx hb dX0_movedIn_79 rfl (lv_at hl 3 rfl) ?_
          refine lv_iload hx hb dX0_movedIn_80 (lv_at hl 9 rfl) ?_
          refine b_ald C hB 6 13 7 rfl (v := (F 13) i_) i_ rfl (by omega) (by omega) rfl dX0_movedIn_82 ?_
          have := hR i_ (by omega)
          refine t_ast C hB (va_up_s _ _ _) (mdst kb kn kt i_) (by unfold mdst; (repeat' split) <;> omega) (by omega) (by omega) dX0_movedIn_83 (fun H locs hB => ?_)
          rw [bx_uu] at hB
          replace hB : xBB E (xA (wU w X) sz) s o Ad I F (va_up X q1 (some (xI E 7 ((va_up g (mdst kb kn kt i_) ((F 13) i_)))))) _ _ := hB
          refine lv_iload hx hb dX0_movedIn_84 (lv_at hl 8 rfl) ?_
          refine lv_iload hx hb dX0_movedIn_86 (lv_at hl 1 rfl) ?_
          refine x_if_eq (tgt := 95) hx hb dX0_movedIn_88 (by decide) ⟨by decide, by decide⟩ (fun c17 => ?_) (fun c17 => by exfalso; omega)
          refine lv_iconst (v := iI 1) hx hb dX0_movedIn_95 rfl ?_
          refine x_iadd (z := (c_ : Int) + 1) hx hb dX0_movedIn_96 (by omega) ?_
          refine lv_istore (lv' := [(6, .int (iI ((c_ : Int) + 1))), (9, .int (iI ((c_ : Int) + (kn : Int)))), (8, .int (iI 0)), (0, .ref o), (1, .ref (Ad 6)), (2, .int (iI ((kb : Int)))), (3, .int (iI ((kn : Int)))), (4, .int (iI ((kt : Int)))), (5, .ref q1), (7, .int (iI ((i_ : Int))))]) hx hb dX0_movedIn_97 hl (by decide) rfl (fun ls hl => ?_)
          refine lv_iinc (v := iI ((i_ : Int) + 1)) (lv' := [(7, .int (iI ((i_ : Int) + 1))), (6, .int (iI ((c_ : Int) + 1))), (9, .int (iI ((c_ : Int) + (kn : Int)))), (8, .int (iI 0)), (0, .ref o), (1, .ref (Ad 6)), (2, .int (iI ((kb : Int)))), (3, .int (iI ((kn : Int)))), (4, .int (iI ((kt : Int)))), (5, .ref q1)]) hx hb dX0_movedIn_99 hl (k := 9) rfl (iI_add _ _) (by decide) rfl (fun ls hl => ?_)
          refine lv_goto (tgt := 12) hx hb dX0_movedIn_102 (by decide) ?_
          exact ih4 _ _ _ _ (by omega) ⟨i_ + 1, c_ + 1, _, rfl, by omega, by omega, fun j h => mdst_up hg j h, hB, lv_sub hl [4, 5, 6, 7, 8, 9, 1, 0] rfl⟩
        · refine lv_iload hx hb dX0_movedIn_64 (lv_at hl 7 rfl) ?_
          refine lv_goto (tgt := 73) hx hb dX0_movedIn_66 (by decide) ?_
          refine lv_istore (lv' := [(9, .int (iI ((c_ : Int)))), (8, .int (iI 0)), (0, .ref o), (1, .ref (Ad 6)), (2, .int (iI ((kb : Int)))), (3, .int (iI ((kn : Int)))), (4, .int (iI ((kt : Int)))), (5, .ref q1), (6, .int (iI ((c_ : Int)))), (7, .int (iI ((i_ : Int))))]) hx hb dX0_movedIn_73 hl (by decide) rfl (fun ls hl => ?_)
          have hmd : mdst kb kn kt i_ < 7 := by have := mdst_lt (b := kb) (n := kn) (t := kt) (N := (I 6).toNat) (j := i_) (by omega) (by omega) (by omega); omega
          refine lv_aload hx hb dX0_movedIn_75 (lv_at hl 7 rfl) ?_
          refine lv_iload hx hb dX0_movedIn_77 (lv_at hl 0 rfl) ?_
          refine lv_aload_n hx hb dX0_movedIn_79 rfl (lv_at hl 3 rfl) ?_
          refine lv_iload hx hb dX0_movedIn_80 (lv_at hl 9 rfl) ?_
          refine b_ald C hB 6 13 7 rfl (v := (F 13) i_) i_ rfl (by omega) (by omega) rfl dX0_movedIn_82 ?_
          have := hR i_ (by omega)
          refine t_ast C hB (va_up_s _ _ _) (mdst kb kn kt i_) (by unfold mdst; (repeat' split) <;> omega) (by omega) (by omega) dX0_movedIn_83 (fun H locs hB => ?_)
          rw [bx_uu] at hB
          replace hB : xBB E (xA (wU w X) sz) s o Ad I F (va_up X q1 (some (xI E 7 ((va_up g (mdst kb kn kt i_) ((F 13) i_)))))) _ _ := hB
          refine lv_iload hx hb dX0_movedIn_84 (lv_at hl 8 rfl) ?_
          refine lv_iload hx hb dX0_movedIn_86 (lv_at hl 1 rfl) ?_
          refine x_if_eq (tgt := 95) hx hb dX0_movedIn_88 (by decide) ⟨by decide, by decide⟩ (fun c18 => ?_) (fun c18 => by exfalso; omega)
          refine lv_iconst (v := iI 1) hx hb dX0_movedIn_95 rfl ?_
          refine x_iadd (z := (c_ : Int) + 1) hx hb dX0_movedIn_96 (by omega) ?_
          refine lv_istore (lv' := [(6, .int (iI ((c_ : Int) + 1))), (9, .int (iI ((c_ : Int)))), (8, .int (iI 0)), (0, .ref o), (1, .ref (Ad 6)), (2, .int (iI ((kb : Int)))), (3, .int (iI ((kn : Int)))), (4, .int (iI ((kt : Int)))), (5, .ref q1), (7, .int (iI ((i_ : Int))))]) hx hb dX0_movedIn_97 hl (by decide) rfl (fun ls hl => ?_)
          refine lv_iinc (v := iI ((i_ : Int) + 1)) (lv' := [(7, .int (iI ((i_ : Int) + 1))), (6, .int (iI ((c_ : Int) + 1))), (9, .int (iI ((c_ : Int)))), (8, .int (iI 0)), (0, .ref o), (1, .ref (Ad 6)), (2, .int (iI ((kb : Int)))), (3, .int (iI ((kn : Int)))), (4, .int (iI ((kt : Int)))), (5, .ref q1)]) hx hb dX0_movedIn_99 hl (k := 9) rfl (iI_add _ _) (by decide) rfl (fun ls hl => ?_)
          refine lv_goto (tgt := 12) hx hb dX0_movedIn_102 (by decide) ?_
          exact ih4 _ _ _ _ (by omega) ⟨i_ + 1, c_ + 1, _, rfl, by omega, by omega, fun j h => mdst_up hg j h, hB, lv_sub hl [4, 5, 6, 7, 8, 9, 1, 0] rfl⟩
      · refine lv_iconst (v := iI 1) hx hb dX0_movedIn_35 rfl ?_
        refine lv_goto (tgt := 40) hx hb dX0_movedIn_36 (by decide) ?_
        refine lv_istore (lv' := [(8, .int (iI 1)), (0, .ref o), (1, .ref (Ad 6)), (2, .int (iI ((kb : Int)))), (3, .int (iI ((kn : Int)))), (4, .int (iI ((kt : Int)))), (5, .ref q1), (6, .int (iI ((c_ : Int)))), (7, .int (iI ((i_ : Int))))]) hx hb dX0_movedIn_40 hl (by decide) rfl (fun ls hl => ?_)
        refine lv_iload hx hb dX0_movedIn_42 (lv_at hl 0 rfl) ?_
        refine x_if_eq (tgt := 57) hx hb dX0_movedIn_44 (by decide) ⟨by decide, by decide⟩ (fun c19 => by exfalso; omega) (fun c19 => ?_)
        refine lv_iload hx hb dX0_movedIn_47 (lv_at hl 5 rfl) ?_
        refine lv_iload hx hb dX0_movedIn_49 (lv_at hl 8 rfl) ?_
        refine x_iadd (z := (kt : Int) + (i_ : Int)) hx hb dX0_movedIn_51 (by omega) ?_
        refine lv_iload_n hx hb dX0_movedIn_52 rfl (lv_at hl 3 rfl) ?_
        refine x_isub (z := (kt : Int) + (i_ : Int) - (kb : Int)) hx hb dX0_movedIn_53 (by omega) ?_
        refine lv_goto (tgt := 73) hx hb dX0_movedIn_54 (by decide) ?_
        refine lv_istore (lv' := [(9, .int (iI ((kt : Int) + (i_ : Int) - (kb : Int)))), (8, .int (iI 1)), (0, .ref o), (1, .ref (Ad 6)), (2, .int (iI ((kb : Int)))), (3, .int (iI ((kn : Int)))), (4, .int (iI ((kt : Int)))), (5, .ref q1), (6, .int (iI ((c_ : Int)))), (7, .int (iI ((i_ : Int))))]) hx hb dX0_movedIn_73 hl (by decide) rfl (fun ls hl => ?_)
        have hmd : mdst kb kn kt i_ < 7 := by have := mdst_lt (b := kb) (n := kn) (t := kt) (N := (I 6).toNat) (j := i_) (by omega) (by omega) (by omega); omega
        refine lv_aload hx hb dX0_movedIn_75 (lv_at hl 7 rfl) ?_
        refine lv_iload hx hb dX0_movedIn_77 (lv_at hl 0 rfl) ?_
        refine lv_aload_n hx hb dX0_movedIn_79 rfl (lv_at hl 3 rfl) ?_
        refine lv_iload hx hb dX0_movedIn_80 (lv_at hl 9 rfl) ?_
        refine b_ald C hB 6 13 7 rfl (v := (F 13) i_) i_ rfl (by omega) (by omega) rfl dX0_movedIn_82 ?_
        have := hR i_ (by omega)
        refine t_ast C hB (va_up_s _ _ _) (mdst kb kn kt i_) (by unfold mdst; (repeat' split) <;> omega) (by omega) (by omega) dX0_movedIn_83 (fun H locs hB => ?_)
        rw [bx_uu] at hB
        replace hB : xBB E (xA (wU w X) sz) s o Ad I F (va_up X q1 (some (xI E 7 ((va_up g (mdst kb kn kt i_) ((F 13) i_)))))) _ _ := hB
        refine lv_iload hx hb dX0_movedIn_84 (lv_at hl 8 rfl) ?_
        refine lv_iload hx hb dX0_movedIn_86 (lv_at hl 1 rfl) ?_
        refine x_if_eq (tgt := 95) hx hb dX0_movedIn_88 (by decide) ⟨by decide, by decide⟩ (fun c20 => by exfalso; omega) (fun c20 => ?_)
        refine lv_iconst (v := iI 0) hx hb dX0_movedIn_91 rfl ?_
        refine lv_goto (tgt := 96) hx hb dX0_movedIn_92 (by decide) ?_
        refine x_iadd (z := (c_ : Int)) hx hb dX0_movedIn_96 (by omega) ?_
        refine lv_istore (lv' := [(6, .int (iI ((c_ : Int)))), (9, .int (iI ((kt : Int) + (i_ : Int) - (kb : Int)))), (8, .int (iI 1)), (0, .ref o), (1, .ref (Ad 6)), (2, .int (iI ((kb : Int)))), (3, .int (iI ((kn : Int)))), (4, .int (iI ((kt : Int)))), (5, .ref q1), (7, .int (iI ((i_ : Int))))]) hx hb dX0_movedIn_97 hl (by decide) rfl (fun ls hl => ?_)
        refine lv_iinc (v := iI ((i_ : Int) + 1)) (lv' := [(7, .int (iI ((i_ : Int) + 1))), (6, .int (iI ((c_ : Int)))), (9, .int (iI ((kt : Int) + (i_ : Int) - (kb : Int)))), (8, .int (iI 1)), (0, .ref o), (1, .ref (Ad 6)), (2, .int (iI ((kb : Int)))), (3, .int (iI ((kn : Int)))), (4, .int (iI ((kt : Int)))), (5, .ref q1)]) hx hb dX0_movedIn_99 hl (k := 9) rfl (iI_add _ _) (by decide) rfl (fun ls hl => ?_)
        refine lv_goto (tgt := 12) hx hb dX0_movedIn_102 (by decide) ?_
        exact ih4 _ _ _ _ (by omega) ⟨i_ + 1, c_, _, rfl, by omega, by omega, fun j h => mdst_up hg j h, hB, lv_sub hl [4, 5, 6, 7, 8, 9, 1, 0] rfl⟩
set_option maxHeartbeats 800000 in
set_option maxRecDepth 100000 in
theorem kX0_movedIn_7 (l : Launch) (E : xE) (o : Nat) (Ad : Nat → Nat) (I : Nat → Int) (F : Nat → Nat → Int) (X : xw) (kb : Nat) (kn : Nat) (kt : Nat) (h67 : 0 ≤ I 6 ∧ I 6 ≤ 7) (hb1 : (kb : Int) + kn ≤ I 6) (hb2 : (kt : Int) + kn ≤ I 6) : cq_ l E yX0_movedIn cX0_movedIn 10 (some (.array .int)) 0 0 1 7 [.ref o, .ref (Ad 7), .int (iI ((kb : Int))), .int (iI ((kn : Int))), .int (iI ((kt : Int)))] o Ad I F X (fun z Ad' I' F' X' => Ad = Ad' ∧ I = I' ∧ F = F' ∧ xS X X' ∧ ∃ (q : Nat) (g : Nat → Int), z = some q ∧ X' q = some (xI E 7 g) ∧ ∀ k : Nat, (k : Int) < I 6 → g k = mov (F 14) kb kn kt k) := by
  intro w hI hd sz
  refine x_bodyz (by decide) (Nat.le_of_ble_eq_true rfl) ?_
  intro p e s m args below meth c ls hx hb C hr hlocks hin hsz hZ hB hl
  have C : xC E p s m args c cX0_movedIn 10 RX0 := C
  replace hB : xBB E (xA (wU w X) sz) s o Ad I F X s.heap [] := ⟨w, hI, hd, hB⟩
  have hl : lv_has ls 10 [(0, .ref o), (1, .ref (Ad 7)), (2, .int (iI ((kb : Int)))), (3, .int (iI ((kn : Int)))), (4, .int (iI ((kt : Int))))] := hl
  have hR : ∀ k : Nat, k < 99 → True := fun _ _ => trivial
  refine lv_bipush (v := iI 7) hx hb dX0_movedIn_0 rfl ?_
  refine t_newp C hB (atype := .int) 0 rfl rfl (by decide) q213 7 rfl (by omega) (Nat.le_of_ble_eq_true rfl) (Nat.le_of_ble_eq_true rfl) dX0_movedIn_2 (fun q1 H hq2 hs3 hB => ?_)
  refine x_up (c2 := 1) (s2 := 7) (Nat.le_of_ble_eq_true rfl) (Nat.le_of_ble_eq_true rfl) ?_
  replace hB : xBB E (xA (wU w X) sz) s o Ad I F (va_up X q1 (some (xI E 7 ((fun _ => 0))))) _ _ := hB
  refine lv_astore (lv' := [(5, .ref q1), (0, .ref o), (1, .ref (Ad 7)), (2, .int (iI ((kb : Int)))), (3, .int (iI ((kn : Int)))), (4, .int (iI ((kt : Int))))]) hx hb dX0_movedIn_4 hl (by decide) rfl (fun ls hl => ?_)
  refine lv_iconst (v := iI 0) hx hb dX0_movedIn_6 rfl ?_
  refine lv_istore (lv' := [(6, .int (iI 0)), (5, .ref q1), (0, .ref o), (1, .ref (Ad 7)), (2, .int (iI ((kb : Int)))), (3, .int (iI ((kn : Int)))), (4, .int (iI ((kt : Int))))]) hx hb dX0_movedIn_7 hl (by decide) rfl (fun ls hl => ?_)
  refine lv_iconst (v := iI 0) hx hb dX0_movedIn_9 rfl ?_
  refine lv_istore (lv' := [(7, .int (iI 0)), (6, .int (iI 0)), (5, .ref q1), (0, .ref o), (1, .ref (Ad 7)), (2, .int (iI ((kb : Int)))), (3, .int (iI ((kn : Int)))), (4, .int (iI ((kt : Int))))]) hx hb dX0_movedIn_10 hl (by decide) rfl (fun ls hl => ?_)
  refine w_loop (fun n7 H locs ls => ∃ (i_ : Nat) (c_ : Nat) (g : Nat → Int), n7 = (I 6 - i_).toNat ∧ ((i_ : Int) ≤ I 6) ∧ ((i_ ≤ kb ∧ c_ = i_) ∨ (kb ≤ i_ ∧ i_ ≤ kb + kn ∧ c_ = kb) ∨ (kb + kn ≤ i_ ∧ c_ = i_ - kn)) ∧ (∀ j, j < i_ → g (mdst kb kn kt j) = F 14 j) ∧ xBB E (xA (wU w X) sz) s o Ad I F (va_up X q1 (some (xI E 7 g))) H locs ∧ lv_has ls 10 [(0, .ref o), (1, .ref (Ad 7)), (2, .int (iI ((kb : Int)))), (3, .int (iI ((kn : Int)))), (4, .int (iI ((kt : Int)))), (5, .ref q1), (6, .int (iI ((c_ : Int)))), (7, .int (iI ((i_ : Int))))]) _ ⟨0, 0, _, rfl, by omega, by omega, fun j h => absurd h (Nat.not_lt_zero j), hB, lv_sub hl [3, 4, 5, 6, 7, 2, 1, 0] rfl⟩ ?_
  intro n7 H locs ls hI6 ih4
  obtain ⟨i_, c_, g, hn5, hi7, hcc, hg, hB, hl⟩ := hI6
  refine lv_iload hx hb dX0_movedIn_12 (lv_at hl 7 rfl) ?_
  refine lv_aload_n hx hb dX0_movedIn_14 rfl (lv_at hl 0 rfl) ?_
  refine b_get C hB 4 (by decide) q298 (v := .int (iI (I 6))) rfl rfl dX0_movedIn_15 ?_
  refine x_icmp_ge (tgt := 105) hx hb dX0_movedIn_18 (by decide) ⟨by omega, by omega⟩ ⟨by omega, by omega⟩ (fun c8 => ?_) (fun c8 => ?_)
  · refine lv_aload hx hb dX0_movedIn_105 (lv_at hl 5 rfl) ?_
    exact b_qret C hB hr (Or.inr ⟨_, rfl⟩) hlocks ((some q1)) dX0_movedIn_107 (Nat.le_of_ble_eq_true rfl) (Nat.le_of_ble_eq_true rfl) ⟨rfl, rfl, rfl, fun a e h => by rw [va_up_n _ _ (fun z => by rw [z, hq2] at h; cases h)]; exact h, q1, g, rfl, va_up_s _ _ _, fun k hk => mdst_all hb1 hb2 (show i_ = (I 6).toNat by omega) hg k (by omega)⟩
  · refine lv_iload hx hb dX0_movedIn_21 (lv_at hl 7 rfl) ?_
    refine lv_iload_n hx hb dX0_movedIn_23 rfl (lv_at hl 2 rfl) ?_
    refine x_icmp_lt (tgt := 39) hx hb dX0_movedIn_24 (by decide) ⟨by omega, by omega⟩ ⟨by omega, by omega⟩ (fun c9 => ?_) (fun c9 => ?_)
    · refine lv_iconst (v := iI 0) hx hb dX0_movedIn_39 rfl ?_
      refine lv_istore (lv' := [(8, .int (iI 0)), (0, .ref o), (1, .ref (Ad 7)), (2, .int (iI ((kb : Int)))), (3, .int (iI ((kn : Int)))), (4, .int (iI ((kt : Int)))), (5, .ref q1), (6, .int (iI ((c_ : Int)))), (7, .int (iI ((i_ : Int))))]) hx hb dX0_movedIn_40 hl (by decide) rfl (fun ls hl => ?_)
      refine lv_iload hx hb dX0_movedIn_42 (lv_at hl 0 rfl) ?_
      refine x_if_eq (tgt := 57) hx hb dX0_movedIn_44 (by decide) ⟨by decide, by decide⟩ (fun c10 => ?_) (fun c10 => by exfalso; omega)
      refine lv_iload hx hb dX0_movedIn_57 (lv_at hl 7 rfl) ?_
      refine lv_iload hx hb dX0_movedIn_59 (lv_at hl 5 rfl) ?_
      refine x_icmp_ge (tgt := 69) hx hb dX0_movedIn_61 (by decide) ⟨by omega, by omega⟩ ⟨by omega, by omega⟩ (fun c11 => ?_) (fun c11 => ?_)
      · refine lv_iload hx hb dX0_movedIn_69 (lv_at hl 7 rfl) ?_
        refine lv_iload_n hx hb dX0_movedIn_71 rfl (lv_at hl 4 rfl) ?_
        refine x_iadd (z := (c_ : Int) + (kn : Int)) hx hb dX0_movedIn_72 (by omega) ?_
        refine lv_istore (lv' := [(9, .int (iI ((c_ : Int) + (kn : Int)))), (8, .int (iI 0)), (0, .ref o), (1, .ref (Ad 7)), (2, .int (iI ((kb : Int)))), (3, .int (iI ((kn : Int)))), (4, .int (iI ((kt : Int)))), (5, .ref q1), (6, .int (iI ((c_ : Int)))), (7, .int (iI ((i_ : Int))))]) hx hb dX0_movedIn_73 hl (by decide) rfl (fun ls hl => ?_)
        have hmd : mdst kb kn kt i_ < 7 := by have := mdst_lt (b := kb) (n := kn) (t := kt) (N := (I 6).toNat) (j := i_) (by omega) (by omega) (by omega); omega
        refine lv_aload hx hb dX0_movedIn_75 (lv_at hl 7 rfl) ?_
        refine lv_iload hx hb dX0_movedIn_77 (lv_at hl 0 rfl) ?_
        refine lv_aload_n hx hb dX0_movedIn_79 rfl (lv_at hl 3 rfl) ?_
        refine lv_iload hx hb dX0_movedIn_80 (lv_at hl 9 rfl) ?_
        refine b_ald C hB 7 14 7 rfl (v := (F 14) i_) i_ rfl (by omega) (by omega) rfl dX0_movedIn_82 ?_
        have := hR i_ (by omega)
        refine t_ast C hB (va_up_s _ _ _) (mdst kb kn kt i_) (by unfold mdst; (repeat' split) <;> omega) (by omega) (by omega) dX0_movedIn_83 (fun H locs hB => ?_)
        rw [bx_uu] at hB
        replace hB : xBB E (xA (wU w X) sz) s o Ad I F (va_up X q1 (some (xI E 7 ((va_up g (mdst kb kn kt i_) ((F 14) i_)))))) _ _ := hB
        refine lv_iload hx hb dX0_movedIn_84 (lv_at hl 8 rfl) ?_
        refine lv_iload hx hb dX0_movedIn_86 (lv_at hl 1 rfl) ?_
        refine x_if_eq (tgt := 95) hx hb dX0_movedIn_88 (by decide) ⟨by decide, by decide⟩ (fun c12 => ?_) (fun c12 => by exfalso; omega)
        refine lv_iconst (v := iI 1) hx hb dX0_movedIn_95 rfl ?_
        refine x_iadd (z := (c_ : Int) + 1) hx hb dX0_movedIn_96 (by omega) ?_
        refine lv_istore (lv' := [(6, .int (iI ((c_ : Int) + 1))), (9, .int (iI ((c_ : Int) + (kn : Int)))), (8, .int (iI 0)), (0, .ref o), (1, .ref (Ad 7)), (2, .int (iI ((kb : Int)))), (3, .int (iI ((kn : Int)))), (4, .int (iI ((kt : Int)))), (5, .ref q1), (7, .int (iI ((i_ : Int))))]) hx hb dX0_movedIn_97 hl (by decide) rfl (fun ls hl => ?_)
        refine lv_iinc (v := iI ((i_ : Int) + 1)) (lv' := [(7, .int (iI ((i_ : Int) + 1))), (6, .int (iI ((c_ : Int) + 1))), (9, .int (iI ((c_ : Int) + (kn : Int)))), (8, .int (iI 0)), (0, .ref o), (1, .ref (Ad 7)), (2, .int (iI ((kb : Int)))), (3, .int (iI ((kn : Int)))), (4, .int (iI ((kt : Int)))), (5, .ref q1)]) hx hb dX0_movedIn_99 hl (k := 9) rfl (iI_add _ _) (by decide) rfl (fun ls hl => ?_)
        refine lv_goto (tgt := 12) hx hb dX0_movedIn_102 (by decide) ?_
        exact ih4 _ _ _ _ (by omega) ⟨i_ + 1, c_ + 1, _, rfl, by omega, by omega, fun j h => mdst_up hg j h, hB, lv_sub hl [4, 5, 6, 7, 8, 9, 1, 0] rfl⟩
      · refine lv_iload hx hb dX0_movedIn_64 (lv_at hl 7 rfl) ?_
        refine lv_goto (tgt := 73) hx hb dX0_movedIn_66 (by decide) ?_
        refine lv_istore (lv' := [(9, .int (iI ((c_ : Int)))), (8, .int (iI 0)), (0, .ref o), (1, .ref (Ad 7)), (2, .int (iI ((kb : Int)))), (3, .int (iI ((kn : Int)))), (4, .int (iI ((kt : Int)))), (5, .ref q1), (6, .int (iI ((c_ : Int)))), (7, .int (iI ((i_ : Int))))]) hx hb dX0_movedIn_73 hl (by decide) rfl (fun ls hl => ?_)
        have hmd : mdst kb kn kt i_ < 7 := by have := mdst_lt (b := kb) (n := kn) (t := kt) (N := (I 6).toNat) (j := i_) (by omega) (by omega) (by omega); omega
        refine lv_aload hx hb dX0_movedIn_75 (lv_at hl 7 rfl) ?_
        refine lv_iload hx hb dX0_movedIn_77 (lv_at hl 0 rfl) ?_
        refine lv_aload_n hx hb dX0_movedIn_79 rfl (lv_at hl 3 rfl) ?_
        refine lv_iload hx hb dX0_movedIn_80 (lv_at hl 9 rfl) ?_
        refine b_ald C hB 7 14 7 rfl (v := (F 14) i_) i_ rfl (by omega) (by omega) rfl dX0_movedIn_82 ?_
        have := hR i_ (by omega)
        refine t_ast C hB (va_up_s _ _ _) (mdst kb kn kt i_) (by unfold mdst; (repeat' split) <;> omega) (by omega) (by omega) dX0_movedIn_83 (fun H locs hB => ?_)
        rw [bx_uu] at hB
        replace hB : xBB E (xA (wU w X) sz) s o Ad I F (va_up X q1 (some (xI E 7 ((va_up g (mdst kb kn kt i_) ((F 14) i_)))))) _ _ := hB
        refine lv_iload hx hb dX0_movedIn_84 (lv_at hl 8 rfl) ?_
        refine lv_iload hx hb dX0_movedIn_86 (lv_at hl 1 rfl) ?_
        refine x_if_eq (tgt := 95) hx hb dX0_movedIn_88 (by decide) ⟨by decide, by decide⟩ (fun c13 => ?_) (fun c13 => by exfalso; omega)
        refine lv_iconst (v := iI 1) hx hb dX0_movedIn_95 rfl ?_
        refine x_iadd (z := (c_ : Int) + 1) hx hb dX0_movedIn_96 (by omega) ?_
        refine lv_istore (lv' := [(6, .int (iI ((c_ : Int) + 1))), (9, .int (iI ((c_ : Int)))), (8, .int (iI 0)), (0, .ref o), (1, .ref (Ad 7)), (2, .int (iI ((kb : Int)))), (3, .int (iI ((kn : Int)))), (4, .int (iI ((kt : Int)))), (5, .ref q1), (7, .int (iI ((i_ : Int))))]) hx hb dX0_movedIn_97 hl (by decide) rfl (fun ls hl => ?_)
        refine lv_iinc (v := iI ((i_ : Int) + 1)) (lv' := [(7, .int (iI ((i_ : Int) + 1))), (6, .int (iI ((c_ : Int) + 1))), (9, .int (iI ((c_ : Int)))), (8, .int (iI 0)), (0, .ref o), (1, .ref (Ad 7)), (2, .int (iI ((kb : Int)))), (3, .int (iI ((kn : Int)))), (4, .int (iI ((kt : Int)))), (5, .ref q1)]) hx hb dX0_movedIn_99 hl (k := 9) rfl (iI_add _ _) (by decide) rfl (fun ls hl => ?_)
        refine lv_goto (tgt := 12) hx hb dX0_movedIn_102 (by decide) ?_
        exact ih4 _ _ _ _ (by omega) ⟨i_ + 1, c_ + 1, _, rfl, by omega, by omega, fun j h => mdst_up hg j h, hB, lv_sub hl [4, 5, 6, 7, 8, 9, 1, 0] rfl⟩
    · refine lv_iload hx hb dX0_movedIn_27 (lv_at hl 7 rfl) ?_
      refine lv_iload_n hx hb dX0_movedIn_29 rfl (lv_at hl 2 rfl) ?_
      refine lv_iload_n hx hb dX0_movedIn_30 rfl (lv_at hl 3 rfl) ?_
      refine x_iadd (z := (kb : Int) + (kn : Int)) hx hb dX0_movedIn_31 (by omega) ?_
      refine x_icmp_ge (tgt := 39) hx hb dX0_movedIn_32 (by decide) ⟨by omega, by omega⟩ ⟨by omega, by omega⟩ (fun c14 => ?_) (fun c14 => ?_)
      · refine lv_iconst (v := iI 0) hx hb dX0_movedIn_39 rfl ?_
        refine lv_istore (lv' := [(8, .int (iI 0)), (0, .ref o), (1, .ref (Ad 7)), (2, .int (iI ((kb : Int)))), (3, .int (iI ((kn : Int)))), (4, .int (iI ((kt : Int)))), (5, .ref q1), (6, .int (iI ((c_ : Int)))), (7, .int (iI ((i_ : Int))))]) hx hb dX0_movedIn_40 hl (by decide) rfl (fun ls hl => ?_)
        refine lv_iload hx hb dX0_movedIn_42 (lv_at hl 0 rfl) ?_
        refine x_if_eq (tgt := 57) hx hb dX0_movedIn_44 (by decide) ⟨by decide, by decide⟩ (fun c15 => ?_) (fun c15 => by exfalso; omega)
        refine lv_iload hx hb dX0_movedIn_57 (lv_at hl 7 rfl) ?_
        refine lv_iload hx hb dX0_movedIn_59 (lv_at hl 5 rfl) ?_
        refine x_icmp_ge (tgt := 69) hx hb dX0_movedIn_61 (by decide) ⟨by omega, by omega⟩ ⟨by omega, by omega⟩ (fun c16 => ?_) (fun c16 => ?_)
        · refine lv_iload hx hb dX0_movedIn_69 (lv_at hl 7 rfl) ?_
          refine lv_iload_n hx hb dX0_movedIn_71 rfl (lv_at hl 4 rfl) ?_
          refine x_iadd (z := (c_ : Int) + (kn : Int)) hx hb dX0_movedIn_72 (by omega) ?_
          refine lv_istore (lv' := [(9, .int (iI ((c_ : Int) + (kn : Int)))), (8, .int (iI 0)), (0, .ref o), (1, .ref (Ad 7)), (2, .int (iI ((kb : Int)))), (3, .int (iI ((kn : Int)))), (4, .int (iI ((kt : Int)))), (5, .ref q1), (6, .int (iI ((c_ : Int)))), (7, .int (iI ((i_ : Int))))]) hx hb dX0_movedIn_73 hl (by decide) rfl (fun ls hl => ?_)
          have hmd : mdst kb kn kt i_ < 7 := by have := mdst_lt (b := kb) (n := kn) (t := kt) (N := (I 6).toNat) (j := i_) (by omega) (by omega) (by omega); omega
          refine lv_aload hx hb dX0_movedIn_75 (lv_at hl 7 rfl) ?_
          refine lv_iload hx hb dX0_movedIn_77 (lv_at hl 0 rfl) ?_
          refine lv_aload_n hx hb dX0_movedIn_79 rfl (lv_at hl 3 rfl) ?_
          refine lv_iload hx hb dX0_movedIn_80 (lv_at hl 9 rfl) ?_
          refine b_ald C hB 7 14 7 rfl (v := (F 14) i_) i_ rfl (by omega) (by omega) rfl dX0_movedIn_82 ?_
          have := hR i_ (by omega)
          refine t_ast C hB (va_up_s _ _ _) (mdst kb kn kt i_) (by unfold mdst; (repeat' split) <;> omega) (by omega) (by omega) dX0_movedIn_83 (fun H locs hB => ?_)
          rw [bx_uu] at hB
          replace hB : xBB E (xA (wU w X) sz) s o Ad I F (va_up X q1 (some (xI E 7 ((va_up g (mdst kb kn kt i_) ((F 14) i_)))))) _ _ := hB
          refine lv_iload hx hb dX0_movedIn_84 (lv_at hl 8 rfl) ?_
          refine lv_iload hx hb dX0_movedIn_86 (lv_at hl 1 rfl) ?_
          refine x_if_eq (tgt := 95) hx hb dX0_movedIn_88 (by decide) ⟨by decide, by decide⟩ (fun c17 => ?_) (fun c17 => by exfalso; omega)
          refine lv_iconst (v := iI 1) hx hb dX0_movedIn_95 rfl ?_
          refine x_iadd (z := (c_ : Int) + 1) hx hb dX0_movedIn_96 (by omega) ?_
          refine lv_istore (lv' := [(6, .int (iI ((c_ : Int) + 1))), (9, .int (iI ((c_ : Int) + (kn : Int)))), (8, .int (iI 0)), (0, .ref o), (1, .ref (Ad 7)), (2, .int (iI ((kb : Int)))), (3, .int (iI ((kn : Int)))), (4, .int (iI ((kt : Int)))), (5, .ref q1), (7, .int (iI ((i_ : Int))))]) hx hb dX0_movedIn_97 hl (by decide) rfl (fun ls hl => ?_)
          refine lv_iinc (v := iI ((i_ : Int) + 1)) (lv' := [(7, .int (iI ((i_ : Int) + 1))), (6, .int (iI ((c_ : Int) + 1))), (9, .int (iI ((c_ : Int) + (kn : Int)))), (8, .int (iI 0)), (0, .ref o), (1, .ref (Ad 7)), (2, .int (iI ((kb : Int)))), (3, .int (iI ((kn : Int)))), (4, .int (iI ((kt : Int)))), (5, .ref q1)]) hx hb dX0_movedIn_99 hl (k := 9) rfl (iI_add _ _) (by decide) rfl (fun ls hl => ?_)
          refine lv_goto (tgt := 12) hx hb dX0_movedIn_102 (by decide) ?_
          exact ih4 _ _ _ _ (by omega) ⟨i_ + 1, c_ + 1, _, rfl, by omega, by omega, fun j h => mdst_up hg j h, hB, lv_sub hl [4, 5, 6, 7, 8, 9, 1, 0] rfl⟩
        · refine lv_iload hx hb dX0_movedIn_64 (lv_at hl 7 rfl) ?_
          refine lv_goto (tgt := 73) hx hb dX0_movedIn_66 (by decide) ?_
          refine lv_istore (lv' := [(9, .int (iI ((c_ : Int)))), (8, .int (iI 0)), (0, .ref o), (1, .ref (Ad 7)), (2, .int (iI ((kb : Int)))), (3, .int (iI ((kn : Int)))), (4, .int (iI ((kt : Int)))), (5, .ref q1), (6, .int (iI ((c_ : Int)))), (7, .int (iI ((i_ : Int))))]) hx hb dX0_movedIn_73 hl (by decide) rfl (fun ls hl => ?_)
          have hmd : mdst kb kn kt i_ < 7 := by have := mdst_lt (b := kb) (n := kn) (t := kt) (N := (I 6).toNat) (j := i_) (by omega) (by omega) (by omega); omega
          refine lv_aload hx hb dX0_movedIn_75 (lv_at hl 7 rfl) ?_
          refine lv_iload hx hb dX0_movedIn_77 (lv_at hl 0 rfl) ?_
          refine lv_aload_n hx hb dX0_movedIn_79 rfl (lv_at hl 3 rfl) ?_
          refine lv_iload hx hb dX0_movedIn_80 (lv_at hl 9 rfl) ?_
          refine b_ald C hB 7 14 7 rfl (v := (F 14) i_) i_ rfl (by omega) (by omega) rfl dX0_movedIn_82 ?_
          have := hR i_ (by omega)
          refine t_ast C hB (va_up_s _ _ _) (mdst kb kn kt i_) (by unfold mdst; (repeat' split) <;> omega) (by omega) (by omega) dX0_movedIn_83 (fun H locs hB => ?_)
          rw [bx_uu] at hB
          replace hB : xBB E (xA (wU w X) sz) s o Ad I F (va_up X q1 (some (xI E 7 ((va_up g (mdst kb kn kt i_) ((F 14) i_)))))) _ _ := hB
          refine lv_iload hx hb dX0_movedIn_84 (lv_at hl 8 rfl) ?_
          refine lv_iload hx hb dX0_movedIn_86 (lv_at hl 1 rfl) ?_
          refine x_if_eq (tgt := 95) hx hb dX0_movedIn_88 (by decide) ⟨by decide, by decide⟩ (fun c18 => ?_) (fun c18 => by exfalso; omega)
          refine lv_iconst (v := iI 1) hx hb dX0_movedIn_95 rfl ?_
          refine x_iadd (z := (c_ : Int) + 1) hx hb dX0_movedIn_96 (by omega) ?_
          refine lv_istore (lv' := [(6, .int (iI ((c_ : Int) + 1))), (9, .int (iI ((c_ : Int)))), (8, .int (iI 0)), (0, .ref o), (1, .ref (Ad 7)), (2, .int (iI ((kb : Int)))), (3, .int (iI ((kn : Int)))), (4, .int (iI ((kt : Int)))), (5, .ref q1), (7, .int (iI ((i_ : Int))))]) hx hb dX0_movedIn_97 hl (by decide) rfl (fun ls hl => ?_)
          refine lv_iinc (v := iI ((i_ : Int) + 1)) (lv' := [(7, .int (iI ((i_ : Int) + 1))), (6, .int (iI ((c_ : Int) + 1))), (9, .int (iI ((c_ : Int)))), (8, .int (iI 0)), (0, .ref o), (1, .ref (Ad 7)), (2, .int (iI ((kb : Int)))), (3, .int (iI ((kn : Int)))), (4, .int (iI ((kt : Int)))), (5, .ref q1)]) hx hb dX0_movedIn_99 hl (k := 9) rfl (iI_add _ _) (by decide) rfl (fun ls hl => ?_)
          refine lv_goto (tgt := 12) hx hb dX0_movedIn_102 (by decide) ?_
          exact ih4 _ _ _ _ (by omega) ⟨i_ + 1, c_ + 1, _, rfl, by omega, by omega, fun j h => mdst_up hg j h, hB, lv_sub hl [4, 5, 6, 7, 8, 9, 1, 0] rfl⟩
      · refine lv_iconst (v := iI 1) hx hb dX0_movedIn_35 rfl ?_
        refine lv_goto (tgt := 40) hx hb dX0_movedIn_36 (by decide) ?_
        refine lv_istore (lv' := [(8, .int (iI 1)), (0, .ref o), (1, .ref (Ad 7)), (2, .int (iI ((kb : Int)))), (3, .int (iI ((kn : Int)))), (4, .int (iI ((kt : Int)))), (5, .ref q1), (6, .int (iI ((c_ : Int)))), (7, .int (iI ((i_ : Int))))]) hx hb dX0_movedIn_40 hl (by decide) rfl (fun ls hl => ?_)
        refine lv_iload hx hb dX0_movedIn_42 (lv_at hl 0 rfl) ?_
        refine x_if_eq (tgt := 57) hx hb dX0_movedIn_44 (by decide) ⟨by decide, by decide⟩ (fun c19 => by exfalso; omega) (fun c19 => ?_)
        refine lv_iload hx hb dX0_movedIn_47 (lv_at hl 5 rfl) ?_
        refine lv_iload hx hb dX0_movedIn_49 (lv_at hl 8 rfl) ?_
        refine x_iadd (z := (kt : Int) + (i_ : Int)) hx hb dX0_movedIn_51 (by omega) ?_
        refine lv_iload_n hx hb dX0_movedIn_52 rfl (lv_at hl 3 rfl) ?_
        refine x_isub (z := (kt : Int) + (i_ : Int) - (kb : Int)) hx hb dX0_movedIn_53 (by omega) ?_
        refine lv_goto (tgt := 73) hx hb dX0_movedIn_54 (by decide) ?_
        refine lv_istore (lv' := [(9, .int (iI ((kt : Int) + (i_ : Int) - (kb : Int)))), (8, .int (iI 1)), (0, .ref o), (1, .ref (Ad 7)), (2, .int (iI ((kb : Int)))), (3, .int (iI ((kn : Int)))), (4, .int (iI ((kt : Int)))), (5, .ref q1), (6, .int (iI ((c_ : Int)))), (7, .int (iI ((i_ : Int))))]) hx hb dX0_movedIn_73 hl (by decide) rfl (fun ls hl => ?_)
        have hmd : mdst kb kn kt i_ < 7 := by have := mdst_lt (b := kb) (n := kn) (t := kt) (N := (I 6).toNat) (j := i_) (by omega) (by omega) (by omega); omega
        refine lv_aload hx hb dX0_movedIn_75 (lv_at hl 7 rfl) ?_
        refine lv_iload hx hb dX0_movedIn_77 (lv_at hl 0 rfl) ?_
        refine lv_aload_n hx hb dX0_movedIn_79 rfl (lv_at hl 3 rfl) ?_
        refine lv_iload hx hb dX0_movedIn_80 (lv_at hl 9 rfl) ?_
        refine b_ald C hB 7 14 7 rfl (v := (F 14) i_) i_ rfl (by omega) (by omega) rfl dX0_movedIn_82 ?_
        have := hR i_ (by omega)
        refine t_ast C hB (va_up_s _ _ _) (mdst kb kn kt i_) (by unfold mdst; (repeat' split) <;> omega) (by omega) (by omega) dX0_movedIn_83 (fun H locs hB => ?_)
        rw [bx_uu] at hB
        replace hB : xBB E (xA (wU w X) sz) s o Ad I F (va_up X q1 (some (xI E 7 ((va_up g (mdst kb kn kt i_) ((F 14) i_)))))) _ _ := hB
        refine lv_iload hx hb dX0_movedIn_84 (lv_at hl 8 rfl) ?_
        refine lv_iload hx hb dX0_movedIn_86 (lv_at hl 1 rfl) ?_
        refine x_if_eq (tgt := 95) hx hb dX0_movedIn_88 (by decide) ⟨by decide, by decide⟩ (fun c20 => by exfalso; omega) (fun c20 => ?_)
        refine lv_iconst (v := iI 0) hx hb dX0_movedIn_91 rfl ?_
        refine lv_goto (tgt := 96) hx hb dX0_movedIn_92 (by decide) ?_
        refine x_iadd (z := (c_ : Int)) hx hb dX0_movedIn_96 (by omega) ?_
        refine lv_istore (lv' := [(6, .int (iI ((c_ : Int)))), (9, .int (iI ((kt : Int) + (i_ : Int) - (kb : Int)))), (8, .int (iI 1)), (0, .ref o), (1, .ref (Ad 7)), (2, .int (iI ((kb : Int)))), (3, .int (iI ((kn : Int)))), (4, .int (iI ((kt : Int)))), (5, .ref q1), (7, .int (iI ((i_ : Int))))]) hx hb dX0_movedIn_97 hl (by decide) rfl (fun ls hl => ?_)
        refine lv_iinc (v := iI ((i_ : Int) + 1)) (lv' := [(7, .int (iI ((i_ : Int) + 1))), (6, .int (iI ((c_ : Int)))), (9, .int (iI ((kt : Int) + (i_ : Int) - (kb : Int)))), (8, .int (iI 1)), (0, .ref o), (1, .ref (Ad 7)), (2, .int (iI ((kb : Int)))), (3, .int (iI ((kn : Int)))), (4, .int (iI ((kt : Int)))), (5, .ref q1)]) hx hb dX0_movedIn_99 hl (k := 9) rfl (iI_add _ _) (by decide) rfl (fun ls hl => ?_)
        refine lv_goto (tgt := 12) hx hb dX0_movedIn_102 (by decide) ?_
        exact ih4 _ _ _ _ (by omega) ⟨i_ + 1, c_, _, rfl, by omega, by omega, fun j h => mdst_up hg j h, hB, lv_sub hl [4, 5, 6, 7, 8, 9, 1, 0] rfl⟩
set_option maxHeartbeats 800000 in
set_option maxRecDepth 100000 in
theorem kX0_move (l : Launch) (E : xE) (o : Nat) (Ad : Nat → Nat) (I : Nat → Int) (F : Nat → Nat → Int) (X : xw) (bx : Int) (nx : Int) (tx : Int) (hbx : rg bx) (hnx : rg nx) (htx : rg tx) (hOK : mOK I F) : ci_ l E yX0_move cX0_move 4 (some .int) 2 46 2 14 [.ref o, .int (iI bx), .int (iI nx), .int (iI tx)] o Ad I F X (fun z Ad' I' F' X' => mAg I (nMove I F bx nx tx) I' F' ∧ z = rMove I bx nx tx) := by
  intro w hI hd sz
  refine x_bodyz (by decide) (Nat.le_of_ble_eq_true rfl) ?_
  intro p e s m args below meth c ls hx hb C hr hlocks hin hsz hZ hB hl
  have C : xC E p s m args c cX0_move 4 RX0 := C
  replace hB : xBB E (xA (wU w X) sz) s o Ad I F X s.heap [] := ⟨w, hI, hd, hB⟩
  have hl : lv_has ls 4 [(0, .ref o), (1, .int (iI bx)), (2, .int (iI nx)), (3, .int (iI tx))] := hl
  have hOK0 := hOK
  obtain ⟨⟨hf1, hf2⟩, ⟨hl1, hl2⟩, ⟨hr1, hr2⟩, hlr, ⟨hs1, hs2⟩, ⟨hj1, hj2⟩, ⟨hb1, hb2⟩, ⟨hn1, hn2⟩, hL, hR, hN, hS, hC⟩ := hOK
  obtain ⟨hbx1, hbx2⟩ := hbx
  obtain ⟨hnx1, hnx2⟩ := hnx
  obtain ⟨htx1, htx2⟩ := htx
  refine lv_iload_n hx hb dX0_move_0 rfl (lv_at hl 2 rfl) ?_
  refine lv_iconst (v := iI 1) hx hb dX0_move_1 rfl ?_
  refine x_icmp_ge (tgt := 8) hx hb dX0_move_2 (by decide) ⟨by omega, by omega⟩ ⟨by decide, by decide⟩ (fun c1 => ?_) (fun c1 => ?_)
  · refine lv_aload_n hx hb dX0_move_8 rfl (lv_at hl 0 rfl) ?_
    refine lv_iload_n hx hb dX0_move_9 rfl (lv_at hl 1 rfl) ?_
    refine b_calli 0 0 (Nat.le_of_ble_eq_true rfl) (Nat.le_of_ble_eq_true rfl) hB (fun w hI hd hB => rV (As := [.int (iI bx)]) (n := 1) C hZ hB (kX0_noRight l E o Ad I F X bx ⟨by omega, by omega⟩ hOK0 w hI hd _) (lw_V q250 q252 qs8 q68 q253) (by decide +kernel) ⟨Nat.le_of_ble_eq_true rfl, Nat.le_of_ble_eq_true rfl⟩ (wU_l hI.x) rfl rfl rfl hl.1 rfl (Nat.le_of_ble_eq_true rfl) dX0_move_10 ⟨Nat.le_of_ble_eq_true rfl, Nat.le_of_ble_eq_true rfl⟩) (fun z2 Ad3 I4 F5 X6 H locs hz7 hp8 hB => ?_)
    obtain ⟨hz7a, hz7b⟩ := hz7
    obtain ⟨rfl, rfl, rfl, rfl, ⟨rfl, h9⟩ | ⟨rfl, h9⟩⟩ := hp8
    · refine x_if_ne (tgt := 26) hx hb dX0_move_13 (by decide) ⟨by decide, by decide⟩ (fun c10 => ?_) (fun c10 => by exfalso; omega)
      refine lv_iconst (v := iI (-1)) hx hb dX0_move_26 rfl ?_
      exact b_iret C hB hr hlocks rfl dX0_move_27 (Nat.le_of_ble_eq_true rfl) (Nat.le_of_ble_eq_true rfl) ⟨by decide, by decide⟩ ⟨nMove_neg F (show rMove I bx nx tx = -1 from by unfold rMove; (repeat' split) <;> omega) (by decide), (by unfold rMove; (repeat' split) <;> omega)⟩
    · refine x_if_ne (tgt := 26) hx hb dX0_move_13 (by decide) ⟨by decide, by decide⟩ (fun c11 => by exfalso; omega) (fun c11 => ?_)
      refine lv_iload_n hx hb dX0_move_16 rfl (lv_at hl 2 rfl) ?_
      refine lv_aload_n hx hb dX0_move_17 rfl (lv_at hl 0 rfl) ?_
      refine b_get C hB 4 (by decide) q298 (v := .int (iI (I 6))) rfl rfl dX0_move_18 ?_
      refine lv_iload_n hx hb dX0_move_21 rfl (lv_at hl 1 rfl) ?_
      refine x_isub (z := I 6 - bx) hx hb dX0_move_22 (by omega) ?_
      refine x_icmp_le (tgt := 28) hx hb dX0_move_23 (by decide) ⟨by omega, by omega⟩ ⟨by omega, by omega⟩ (fun c12 => ?_) (fun c12 => ?_)
      · refine lv_iload_n hx hb dX0_move_28 rfl (lv_at hl 3 rfl) ?_
        refine x_i2l hx hb dX0_move_29 ⟨by omega, by omega⟩ ?_
        refine lv_lconst (v := lI 0) hx hb dX0_move_30 rfl ?_
        refine lv_aload_n hx hb dX0_move_31 rfl (lv_at hl 0 rfl) ?_
        refine b_get C hB 4 (by decide) q298 (v := .int (iI (I 6))) rfl rfl dX0_move_32 ?_
        refine lv_iload_n hx hb dX0_move_35 rfl (lv_at hl 2 rfl) ?_
        refine x_isub (z := I 6 - nx) hx hb dX0_move_36 (by omega) ?_
        refine x_i2l hx hb dX0_move_37 ⟨by omega, by omega⟩ ?_
        refine bs_calli (n := 3) C hB (As := [.long (lI tx), .long (lI 0), .long (lI (I 6 - nx))]) (kX0_in l E tx 0 (I 6 - nx) ⟨by omega, by omega⟩ ⟨by omega, by omega⟩ ⟨by omega, by omega⟩) (lw_S q234 q235 q68 q236) (by decide +kernel) ⟨Nat.le_of_ble_eq_true rfl, Nat.le_of_ble_eq_true rfl⟩ rfl hl.1 rfl (Nat.le_of_ble_eq_true rfl) dX0_move_38 ⟨Nat.le_of_ble_eq_true rfl, Nat.le_of_ble_eq_true rfl⟩ (fun z13 H locs hz14 hp15 hB => ?_)
        obtain ⟨hz14a, hz14b⟩ := hz14
        rcases hp15 with ⟨rfl, h16⟩ | ⟨rfl, h16⟩
        · refine x_if_ne (tgt := 47) hx hb dX0_move_41 (by decide) ⟨by decide, by decide⟩ (fun c17 => ?_) (fun c17 => by exfalso; omega)
          obtain ⟨kb, rfl⟩ : ∃ kb : Nat, bx = (kb : Int) := ⟨bx.toNat, by omega⟩
          obtain ⟨kn, rfl⟩ : ∃ kn : Nat, nx = (kn : Int) := ⟨nx.toNat, by omega⟩
          obtain ⟨kt, rfl⟩ : ∃ kt : Nat, tx = (kt : Int) := ⟨tx.toNat, by omega⟩
          refine lv_aload_n hx hb dX0_move_47 rfl (lv_at hl 0 rfl) ?_
          refine lv_aload_n hx hb dX0_move_48 rfl (lv_at hl 0 rfl) ?_
          refine lv_aload_n hx hb dX0_move_49 rfl (lv_at hl 0 rfl) ?_
          refine b_get C hB 5 (by decide) q299 (v := .ref (Ad 6)) rfl rfl dX0_move_50 ?_
          refine lv_iload_n hx hb dX0_move_53 rfl (lv_at hl 1 rfl) ?_
          refine lv_iload_n hx hb dX0_move_54 rfl (lv_at hl 2 rfl) ?_
          refine lv_iload_n hx hb dX0_move_55 rfl (lv_at hl 3 rfl) ?_
          refine b_callq 1 7 (Nat.le_of_ble_eq_true rfl) (Nat.le_of_ble_eq_true rfl) hB (fun w hI hd hB => rV (As := [.ref (Ad 6), .int (iI ((kb : Int))), .int (iI ((kn : Int))), .int (iI ((kt : Int)))]) (n := 4) C hZ hB (kX0_movedIn_6 l E o Ad I F X kb kn kt ⟨by omega, by omega⟩ (by omega) (by omega) w hI hd _) (lw_V q594 q596 qs19 q68 q597) (by decide +kernel) ⟨Nat.le_of_ble_eq_true rfl, Nat.le_of_ble_eq_true rfl⟩ (wU_l hI.x) rfl rfl rfl hl.1 rfl (Nat.le_of_ble_eq_true rfl) dX0_move_56 ⟨Nat.le_of_ble_eq_true rfl, Nat.le_of_ble_eq_true rfl⟩) (fun z18 Ad19 I20 F21 X22 H locs hp24 hB => ?_)
          obtain ⟨rfl, rfl, rfl, hs25, q26, g27, rfl, hx28, hg29⟩ := hp24
          replace hB : xBB E (xA (wU w X) sz) s o Ad I F X22 _ _ := hB
          refine b_putR C hB 5 6 13 (by decide) q299 hx28 dX0_move_59 (fun H locs Ad30 X31 hx32 hB => ?_)
          replace hB : xBB E (xA (wU w X) sz) s o Ad30 I (va_up F 13 g27) X31 _ _ := hB
          refine lv_aload_n hx hb dX0_move_62 rfl (lv_at hl 0 rfl) ?_
          refine lv_aload_n hx hb dX0_move_63 rfl (lv_at hl 0 rfl) ?_
          refine lv_aload_n hx hb dX0_move_64 rfl (lv_at hl 0 rfl) ?_
          refine b_get C hB 6 (by decide) q300 (v := .ref (Ad30 7)) rfl rfl dX0_move_65 ?_
          refine lv_iload_n hx hb dX0_move_68 rfl (lv_at hl 1 rfl) ?_
          refine lv_iload_n hx hb dX0_move_69 rfl (lv_at hl 2 rfl) ?_
          refine lv_iload_n hx hb dX0_move_70 rfl (lv_at hl 3 rfl) ?_
          refine b_callq 2 14 (Nat.le_of_ble_eq_true rfl) (Nat.le_of_ble_eq_true rfl) hB (fun w hI hd hB => rV (As := [.ref (Ad30 7), .int (iI ((kb : Int))), .int (iI ((kn : Int))), .int (iI ((kt : Int)))]) (n := 4) C hZ hB (kX0_movedIn_7 l E o Ad30 I (va_up F 13 g27) X31 kb kn kt ⟨by omega, by omega⟩ (by omega) (by omega) w hI hd _) (lw_V q594 q596 qs19 q68 q597) (by decide +kernel) ⟨Nat.le_of_ble_eq_true rfl, Nat.le_of_ble_eq_true rfl⟩ (wU_l hI.x) rfl rfl rfl hl.1 rfl (Nat.le_of_ble_eq_true rfl) dX0_move_71 ⟨Nat.le_of_ble_eq_true rfl, Nat.le_of_ble_eq_true rfl⟩) (fun z33 Ad34 I35 F36 X37 H locs hp39 hB => ?_)
          obtain ⟨rfl, rfl, rfl, hs40, q41, g42, rfl, hx43, hg44⟩ := hp39
          replace hB : xBB E (xA (wU w X) sz) s o Ad30 I (va_up F 13 g27) X37 _ _ := hB
          refine b_putR C hB 6 7 14 (by decide) q300 hx43 dX0_move_74 (fun H locs Ad45 X46 hx47 hB => ?_)
          replace hB : xBB E (xA (wU w X) sz) s o Ad45 I (va_up (va_up F 13 g27) 14 g42) X46 _ _ := hB
          refine lv_iload_n hx hb dX0_move_77 rfl (lv_at hl 2 rfl) ?_
          exact b_iret C hB hr hlocks rfl dX0_move_78 (Nat.le_of_ble_eq_true rfl) (Nat.le_of_ble_eq_true rfl) ⟨by omega, by omega⟩ ⟨nMove_mag (by unfold rMove; (repeat' split) <;> omega) hg29 hg44, (by unfold rMove; (repeat' split) <;> omega)⟩
        · refine x_if_ne (tgt := 47) hx hb dX0_move_41 (by decide) ⟨by decide, by decide⟩ (fun c48 => by exfalso; omega) (fun c48 => ?_)
          refine lv_bipush (v := iI (-2)) hx hb dX0_move_44 rfl ?_
          exact b_iret C hB hr hlocks rfl dX0_move_46 (Nat.le_of_ble_eq_true rfl) (Nat.le_of_ble_eq_true rfl) ⟨by decide, by decide⟩ ⟨nMove_neg F (show rMove I bx nx tx = -2 from by unfold rMove; (repeat' split) <;> omega) (by decide), (by unfold rMove; (repeat' split) <;> omega)⟩
      · refine lv_iconst (v := iI (-1)) hx hb dX0_move_26 rfl ?_
        exact b_iret C hB hr hlocks rfl dX0_move_27 (Nat.le_of_ble_eq_true rfl) (Nat.le_of_ble_eq_true rfl) ⟨by decide, by decide⟩ ⟨nMove_neg F (show rMove I bx nx tx = -1 from by unfold rMove; (repeat' split) <;> omega) (by decide), (by unfold rMove; (repeat' split) <;> omega)⟩
  · refine lv_bipush (v := iI (-2)) hx hb dX0_move_5 rfl ?_
    exact b_iret C hB hr hlocks rfl dX0_move_7 (Nat.le_of_ble_eq_true rfl) (Nat.le_of_ble_eq_true rfl) ⟨by decide, by decide⟩ ⟨nMove_neg F (show rMove I bx nx tx = -2 from by unfold rMove; (repeat' split) <;> omega) (by decide), (by unfold rMove; (repeat' split) <;> omega)⟩
