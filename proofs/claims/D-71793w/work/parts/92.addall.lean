/-! THE LEFT BOOK'S LIST, FILLED -/
set_option maxRecDepth 100000
/-- objects beside x become roles b .. b + n - 1 -/
theorem rW.batch {Ad Ad' : Nat → Nat} {C C' : Nat → Option xX} {w W : xw} {b n : Nat} {g : Nat → Nat} {P : Nat → xX} (h : rW Ad C w) (hs : ∀ a e, w a = some e → W a = some e) (hw : ∀ k, k < n → w (g k) = none) (hW : ∀ k, k < n → W (g k) = some (P k)) (hi : ∀ k k', k < n → k' < n → g k = g k' → k = k') (hA : ∀ r, r < b ∨ b + n ≤ r → Ad' r = Ad r) (hA2 : ∀ k, k < n → Ad' (b + k) = g k) (hC : ∀ r e, r < b ∨ b + n ≤ r → C' r = some e → C r = some e) (hC2 : ∀ k e, k < n → C' (b + k) = some e → e = P k) : rW Ad' C' W := by
  have hc : ∀ r, (r < b ∨ b + n ≤ r) ∨ ∃ k, k < n ∧ r = b + k := fun r => by
    by_cases q : r < b ∨ b + n ≤ r
    · exact Or.inl q
    · exact Or.inr ⟨r - b, by omega, by omega⟩
  refine ⟨fun r e hr => ?_, fun r r' e e' h1 h2 q => ?_⟩
  · rcases hc r with g1 | ⟨k, hk, rfl⟩
    · rw [hA r g1]
      exact hs _ _ (h.1 r e (hC r e g1 hr))
    · rw [hA2 k hk, hC2 k e hk hr]
      exact hW k hk
  · rcases hc r with g1 | ⟨k, hk, rfl⟩
    · rcases hc r' with g2 | ⟨k', hk', rfl⟩
      · rw [hA r g1, hA r' g2] at q
        exact h.2 r r' e e' (hC r e g1 h1) (hC r' e' g2 h2) q
      · rw [hA r g1, hA2 k' hk'] at q
        have := h.1 r e (hC r e g1 h1)
        rw [q, hw k' hk'] at this
        cases this
    · rcases hc r' with g2 | ⟨k', hk', rfl⟩
      · rw [hA2 k hk, hA r' g2] at q
        have := h.1 r' e' (hC r' e' g2 h2)
        rw [← q, hw k hk] at this
        cases this
      · rw [hA2 k hk, hA2 k' hk'] at q
        rw [hi k k' hk hk' q]
def adN (Ad : Nat → Nat) (b n : Nat) (g : Nat → Nat) : Nat → Nat := fun r => if b ≤ r ∧ r < b + n then g (r - b) else Ad r
theorem adN_o {Ad : Nat → Nat} {b n r : Nat} {g : Nat → Nat} (h : r < b ∨ b + n ≤ r) : adN Ad b n g r = Ad r := if_neg (by omega)
theorem adN_i {Ad : Nat → Nat} {b n k : Nat} {g : Nat → Nat} (h : k < n) : adN Ad b n g (b + k) = g k := by
  unfold adN
  rw [if_pos (by omega), show b + k - b = k by omega]
/-- all that stands beside x is taken up -/
theorem wU_all (w X : xw) : wU (wU w X) (fun _ => none) = wU w X ∧ wD (wU w X) (fun _ => none) := by
  refine ⟨?_, fun a e _ => rfl⟩
  funext a
  show (match wU w X a with | some e => some e | none => none) = _
  cases wU w X a <;> rfl
