/-! A ROLE CHANGES ITS OBJECT -/
set_option maxRecDepth 100000
def xsw (X : xw) (q p : Nat) (e : xX) : xw := fun a => if a = q then none else if a = p then some e else X a
def wsw (w : xw) (p q c : Nat) (e1 c1 : xX) : xw := fun a => if a = p then none else if a = q then some e1 else if a = c then some c1 else w a
theorem xsw_p {X : xw} {q p : Nat} {e : xX} (h : p ≠ q) : xsw X q p e p = some e := by
  unfold xsw
  rw [if_neg h, if_pos rfl]
theorem xsw_n {X : xw} {q p a : Nat} {e : xX} (h1 : a ≠ q) (h2 : a ≠ p) : xsw X q p e a = X a := by
  unfold xsw
  rw [if_neg h1, if_neg h2]
theorem rW_swap {Ad : Nat → Nat} {C C' : Nat → Option xX} {w : xw} {r rc q : Nat} {e0 e1 c0 c1 : xX} (h : rW Ad C w) (hr : C r = some e0) (hc : C rc = some c0) (hne : rc ≠ r) (hq : w q = none) (hC : ∀ k, k ≠ r → k ≠ rc → C' k = C k) (hCr : C' r = some e1) (hCc : C' rc = some c1) : rW (va_up Ad r q) C' (wsw w (Ad r) q (Ad rc) e1 c1) := by
  have hcr : Ad rc ≠ Ad r := fun z => hne (h.2 _ _ _ _ hc hr z)
  have hqk : ∀ k e, C k = some e → Ad k ≠ q := fun k e hk z => by
    have := h.1 k e hk
    rw [z, hq] at this
    cases this
  have hl : ∀ k e, k ≠ r → C' k = some e → ∃ e', C k = some e' := by
    intro k e h1 h2
    by_cases g : k = rc
    · exact ⟨c0, by rw [g]; exact hc⟩
    · exact ⟨e, by rw [← hC k h1 g]; exact h2⟩
  refine ⟨fun k e hk => ?_, fun k k' e e' h1 h2 z => ?_⟩
  · by_cases g : k = r
    · subst g
      rw [hCr] at hk
      cases hk
      rw [va_up_s]
      unfold wsw
      rw [if_neg (fun z => hqk _ _ hr z.symm), if_pos rfl]
    · rw [va_up_n _ _ g]
      unfold wsw
      by_cases g2 : k = rc
      · subst g2
        rw [hCc] at hk
        cases hk
        rw [if_neg hcr, if_neg (hqk _ _ hc), if_pos rfl]
      · rw [hC k g g2] at hk
        rw [if_neg (fun z => g (h.2 _ _ _ _ hk hr z)), if_neg (hqk _ _ hk), if_neg (fun z => g2 (h.2 _ _ _ _ hk hc z))]
        exact h.1 k e hk
  · by_cases g : k = r
    · by_cases g' : k' = r
      · rw [g, g']
      · obtain ⟨e2, he2⟩ := hl k' e' g' h2
        rw [g, va_up_s, va_up_n _ _ g'] at z
        exact absurd z.symm (hqk _ _ he2)
    · obtain ⟨e1', he1⟩ := hl k e g h1
      by_cases g' : k' = r
      · rw [g', va_up_s, va_up_n _ _ g] at z
        exact absurd z (hqk _ _ he1)
      · obtain ⟨e2, he2⟩ := hl k' e' g' h2
        rw [va_up_n _ _ g, va_up_n _ _ g'] at z
        exact h.2 _ _ _ _ he1 he2 z
theorem wU_swap {w X : xw} {p q c : Nat} {e0 e1 c0 c1 : xX} (hd : wD w X) (hp : w p = some e0) (hc : w c = some c0) (hcp : c ≠ p) (hq : X q = some e1) : wU (wsw w p q c e1 c1) (xsw X q p e0) = va_up (wU w X) c (some c1) ∧ wD (wsw w p q c e1 c1) (xsw X q p e0) := by
  have hwq : w q = none := by
    cases g : w q with
    | none => rfl
    | some x => rw [hd q x g] at hq; cases hq
  have hqp : q ≠ p := fun z => by rw [z, hp] at hwq; cases hwq
  have hqc : q ≠ c := fun z => by rw [z, hc] at hwq; cases hwq
  refine ⟨?_, fun a e ha => ?_⟩
  · funext a
    unfold wU wsw xsw
    by_cases g1 : a = p
    · subst g1
      rw [if_pos rfl, va_up_n _ _ (Ne.symm hcp), if_neg (Ne.symm hqp), if_pos rfl, hp]
    · rw [if_neg g1, if_neg g1]
      by_cases g2 : a = q
      · subst g2
        rw [if_pos rfl, va_up_n _ _ hqc, hwq, hq]
      · rw [if_neg g2, if_neg g2]
        by_cases g3 : a = c
        · subst g3
          rw [if_pos rfl, va_up_s]
        · rw [if_neg g3, va_up_n _ _ g3]
  · unfold wsw at ha
    unfold xsw
    by_cases g1 : a = p
    · rw [if_pos g1] at ha
      cases ha
    · rw [if_neg g1] at ha
      by_cases g2 : a = q
      · rw [if_pos g2]
      · rw [if_neg g2, if_neg g1]
        rw [if_neg g2] at ha
        by_cases g3 : a = c
        · subst g3
          exact hd _ _ hc
        · rw [if_neg g3] at ha
          exact hd _ _ ha
section SW
variable {E : xE} {o : Nat} {Ad : Nat → Nat} {I : Nat → Int} {F : Nat → Nat → Int} {w X : xw}
theorem C0_kd {q i : Nat} (v : Int) (hi : (i : Int) < I 5) (h7 : I 5 ≤ 7) : ∀ k, k ≠ 100 + i → k ≠ 30 → C0 E (va_up Ad (100 + i) q) I (kd F 10 i v) k = C0 E Ad I F k := by
  intro r hr h30
  have hA : ∀ j, j ≠ 100 + i → va_up Ad (100 + i) q j = Ad j := fun j hj => va_up_n _ _ hj
  have hn : ∀ j, j ≠ 10 → kd F 10 i v j = F j := fun j hj => va_up_n _ _ hj
  unfold C0
  by_cases q1 : r < 50
  · rw [if_pos q1, if_pos q1]
    unfold C0a
    split
    · show some (xO 0 [.ref (va_up Ad (100 + i) q 1), .ref (va_up Ad (100 + i) q 2), .int (iI (I 1)), .ref (va_up Ad (100 + i) q 4), .int (iI (I 6)), .ref (va_up Ad (100 + i) q 6), .ref (va_up Ad (100 + i) q 7), .int (iI (I 7)), .int (iI (I 8)), .int (iI (I 9)), .ref (va_up Ad (100 + i) q 11), .ref (va_up Ad (100 + i) q 12), .ref (va_up Ad (100 + i) q 13), .ref (va_up Ad (100 + i) q 14), .ref (va_up Ad (100 + i) q 15), .ref (va_up Ad (100 + i) q 16), .ref (va_up Ad (100 + i) q 17), .int (iI (I 0)), .ref (va_up Ad (100 + i) q 19)]) = _
      rw [hA 1 (by omega), hA 2 (by omega), hA 4 (by omega), hA 6 (by omega), hA 7 (by omega), hA 11 (by omega), hA 12 (by omega), hA 13 (by omega), hA 14 (by omega), hA 15 (by omega), hA 16 (by omega), hA 17 (by omega), hA 19 (by omega)]
    · congr 2
      funext j
      by_cases g : j < 5
      · rw [if_pos g, if_pos g, hA _ (by omega)]
      · rw [if_neg g, if_neg g]
    · congr 2
      funext j
      by_cases g : j < 3
      · rw [if_pos g, if_pos g, hA _ (by omega)]
      · rw [if_neg g, if_neg g]
    · rw [hA 30 (by omega)]
    · rw [hn 13 (by decide)]
    · rw [hn 14 (by decide)]
    · rw [hn 33 (by decide)]
    · rw [hn 34 (by decide)]
    · rw [hn 21 (by decide)]
    · rw [hn 22 (by decide)]
    · rw [hn 23 (by decide)]
    · rw [hn 28 (by decide)]
    · rw [hA 31 (by omega)]
    · rw [hn 2 (by decide)]
      congr 2
      funext j
      rw [hA _ (by omega)]
    · exact absurd rfl h30
    · split
      · rfl
      · congr 2
        funext j
        rw [hA _ (by omega)]
    · rfl
  · rw [if_neg q1, if_neg q1, hn 2 (by decide), hn 3 (by decide), hn 11 (by decide), hn 12 (by decide), hn 30 (by decide), hn 31 (by decide), hA 0 (by omega)]
    unfold rowF
    rw [hn 3 (by decide), hn 4 (by decide)]
    show _ = _
    by_cases q2 : r < 60
    · rw [if_pos q2, if_pos q2, hA _ (by omega)]
    · rw [if_neg q2, if_neg q2]
      by_cases q3 : r < 70
      · rw [if_pos q3, if_pos q3, hA _ (by omega)]
      · rw [if_neg q3, if_neg q3]
        by_cases q4 : r < 100
        · rw [if_pos q4, if_pos q4]
        · rw [if_neg q4, if_neg q4, show kd F 10 i v 10 = va_up (F 10) i v from va_up_s _ _ _, va_up_n _ _ (show r - 100 ≠ i by omega)]
          by_cases q5 : r < 200
          · rw [if_pos q5, if_pos q5]
          · rw [if_neg q5, if_neg q5, hA _ (by omega)]
end SW
