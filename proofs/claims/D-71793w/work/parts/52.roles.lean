/-! ROLES: a world's part whose addresses have names -/
set_option maxRecDepth 100000
section UP
variable {p : Program} {l : Launch} {e : Env} {R : Room} {s : State} {m : MethodId} {args : Array Value} {below : List Frame} {meth : Method} {c : Code} {H : Heap} {locs : List Loc} {cells slots : Nat} {Q : State → Prop}
/-- the counts may be raised -/
theorem x_up {c2 s2 : Nat} {g : JFrame} (h1 : cells ≤ c2) (h2 : slots ≤ s2) (k : W p l e R s m args below meth c H locs c2 s2 Q g) : W p l e R s m args below meth c H locs cells slots Q g :=
  fun T hT X => k T hT { X with same := State.sameButNew.mono X.same h1 h2 }
end UP
/-- every live role stands at its address; no two at one -/
def rW (Ad : Nat → Nat) (C : Nat → Option xX) (w : xw) : Prop := (∀ r e, C r = some e → w (Ad r) = some e) ∧ ∀ r r' e e', C r = some e → C r' = some e' → Ad r = Ad r' → r = r'
theorem rW.put {Ad : Nat → Nat} {C : Nat → Option xX} {w : xw} (h : rW Ad C w) {r : Nat} {e0 : xX} (hr : C r = some e0) (e : xX) : rW Ad (va_up C r (some e)) (va_up w (Ad r) (some e)) := by
  have hl : ∀ j x, va_up C r (some e) j = some x → ∃ y, C j = some y := by
    intro j x hj
    by_cases q : j = r
    · exact ⟨e0, by rw [q]; exact hr⟩
    · rw [va_up_n _ _ q] at hj; exact ⟨x, hj⟩
  refine ⟨fun j x hj => ?_, fun i j x y hi hj q => ?_⟩
  · by_cases q : j = r
    · subst q
      rw [va_up_s] at hj ⊢
      exact hj
    · have hj' := hj
      rw [va_up_n _ _ q] at hj'
      rw [va_up_n _ _ (fun z => q (h.2 j r x e0 hj' hr z))]
      exact h.1 j x hj'
  · obtain ⟨x', hx⟩ := hl i x hi
    obtain ⟨y', hy⟩ := hl j y hj
    exact h.2 i j x' y' hx hy q
theorem rW.new {Ad : Nat → Nat} {C : Nat → Option xX} {w : xw} (h : rW Ad C w) {q : Nat} (hq : w q = none) (r : Nat) (e : xX) : rW (va_up Ad r q) (va_up C r (some e)) (va_up w q (some e)) := by
  have hne : ∀ j x, C j = some x → Ad j ≠ q := fun j x hj z => by
    have := h.1 j x hj
    rw [z, hq] at this
    cases this
  refine ⟨fun j x hj => ?_, fun i j x y hi hj z => ?_⟩
  · by_cases k : j = r
    · subst k
      rw [va_up_s] at hj
      rw [va_up_s, va_up_s]
      exact hj
    · rw [va_up_n _ _ k] at hj ⊢
      rw [va_up_n _ _ (hne j x hj)]
      exact h.1 j x hj
  · by_cases k : i = r
    · by_cases k2 : j = r
      · rw [k, k2]
      · rw [k, va_up_s, va_up_n _ _ k2] at z
        rw [va_up_n _ _ k2] at hj
        exact absurd z.symm (hne j y hj)
    · by_cases k2 : j = r
      · rw [k2, va_up_s, va_up_n _ _ k] at z
        rw [va_up_n _ _ k] at hi
        exact absurd z (hne i x hi)
      · rw [va_up_n _ _ k, va_up_n _ _ k2] at z
        rw [va_up_n _ _ k] at hi
        rw [va_up_n _ _ k2] at hj
        exact h.2 i j x y hi hj z
theorem rW.mono {Ad : Nat → Nat} {C C' : Nat → Option xX} {w : xw} (h : rW Ad C w) (hc : ∀ r e, C' r = some e → C r = some e) : rW Ad C' w := ⟨fun r e hr => h.1 r e (hc r e hr), fun r r' e e' h1 h2 q => h.2 r r' e e' (hc r e h1) (hc r' e' h2) q⟩
theorem rW.ren {Ad Ad' : Nat → Nat} {C : Nat → Option xX} {w : xw} (h : rW Ad C w) (ha : ∀ r e, C r = some e → Ad' r = Ad r) : rW Ad' C w := ⟨fun r e hr => by rw [ha r e hr]; exact h.1 r e hr, fun r r' e e' h1 h2 q => h.2 r r' e e' h1 h2 (by rw [ha r e h1, ha r' e' h2] at q; exact q)⟩
theorem rW.sup {Ad : Nat → Nat} {C : Nat → Option xX} {w w' : xw} (h : rW Ad C w) (hw : ∀ a e, w a = some e → w' a = some e) : rW Ad C w' := ⟨fun r e hr => hw _ _ (h.1 r e hr), h.2⟩
/-! two maps, one beside the other -/
def wU (w X : xw) : xw := fun a => match w a with
  | some e => some e
  | none => X a
def wD (w X : xw) : Prop := ∀ a e, w a = some e → X a = none
theorem wU_l {w X : xw} {a : Nat} {e : xX} (h : w a = some e) : wU w X a = some e := by unfold wU; rw [h]
theorem wU_r {w X : xw} (hd : wD w X) {a : Nat} {e : xX} (h : X a = some e) : wU w X a = some e := by
  unfold wU
  cases hw : w a with
  | none => exact h
  | some x => rw [hd a x hw] at h; cases h
theorem wU_n {w X : xw} {a : Nat} (h : wU w X a = none) : w a = none ∧ X a = none := by
  unfold wU at h
  cases hw : w a with
  | none => rw [hw] at h; exact ⟨rfl, h⟩
  | some x => rw [hw] at h; cases h
theorem wU_e {w X : xw} {a : Nat} {e : xX} (h : wU w X a = some e) : w a = some e ∨ X a = some e := by
  unfold wU at h
  cases hw : w a with
  | none => rw [hw] at h; exact Or.inr h
  | some x => rw [hw] at h; exact Or.inl h
theorem wU_up_l {w X : xw} {a : Nat} {e : xX} : va_up (wU w X) a (some e) = wU (va_up w a (some e)) X := by
  funext q
  by_cases h : q = a
  · subst h; rw [va_up_s, wU_l (va_up_s _ _ _)]
  · rw [va_up_n _ _ h]; unfold wU; rw [va_up_n _ _ h]
theorem wU_up_r {w X : xw} {a : Nat} {e : xX} (h : w a = none) : va_up (wU w X) a (some e) = wU w (va_up X a (some e)) := by
  funext q
  by_cases k : q = a
  · subst k; unfold wU; rw [va_up_s, h, va_up_s]
  · rw [va_up_n _ _ k]; unfold wU; rw [va_up_n _ _ k]
theorem wD.put_l {w X : xw} (hd : wD w X) {a : Nat} {e0 e : xX} (h : w a = some e0) : wD (va_up w a (some e)) X := by
  intro q x hq
  by_cases k : q = a
  · subst k; exact hd _ _ h
  · rw [va_up_n _ _ k] at hq; exact hd _ _ hq
theorem wD.put_r {w X : xw} (hd : wD w X) {a : Nat} {e : xX} (h : w a = none) : wD w (va_up X a (some e)) := by
  intro q x hq
  by_cases k : q = a
  · subst k; rw [h] at hq; cases hq
  · rw [va_up_n _ _ k]; exact hd _ _ hq
theorem wD.new_l {w X : xw} (hd : wD w X) {a : Nat} {e : xX} (h : X a = none) : wD (va_up w a (some e)) X := by
  intro q x hq
  by_cases k : q = a
  · subst k; exact h
  · rw [va_up_n _ _ k] at hq; exact hd _ _ hq
/-- a call on a part of the world: the rest stays -/
theorem xB.callF {E : xE} {A : Nat → Prop} {s : State} {w X w1 : xw} {H H1 : Heap} {locs locs1 : List Loc} {t : State} (h : xB E A s (wU w X) H locs) (hd : wD w X) (ht : t.heap = H1) (hE : xEnd E (xA w H.size) w1 t) (hk : ∀ q : Nat, q < H.size → ¬ xA w H.size q → H1[q]? = H[q]?) (hS : va_S A s.heap H1 locs1) : wD w1 X ∧ xB E A s (wU w1 X) H1 locs1 := by
  obtain ⟨hP, hD, hS0, hA⟩ := h
  have hlt : ∀ a e, X a = some e → a < H.size := fun a e ha => hP.lt (wU_r hd ha)
  have hd1 : wD w1 X := by
    intro a e ha
    cases hX : X a with
    | none => rfl
    | some x =>
      rcases hE.2 a e ha with ⟨e2, h2⟩ | h2
      · rw [hd a e2 h2] at hX; cases hX
      · exact absurd (hlt a x hX) (Nat.not_lt.mpr h2)
  refine ⟨hd1, fun a e ha => ?_, fun a e ha => ?_, hS, hA⟩
  · rcases wU_e ha with h1 | h1
    · rw [← ht]; exact hE.1 a e h1
    · refine (hP a e (wU_r hd h1)).kept (hk a (hlt a e h1) ?_)
      rintro (⟨e2, h2⟩ | h2)
      · rw [hd a e2 h2] at h1; cases h1
      · exact absurd (hlt a e h1) (Nat.not_lt.mpr h2)
  · rcases wU_e ha with h1 | h1
    · rcases hE.2 a e h1 with ⟨e2, h2⟩ | h2
      · exact hD a e2 (wU_l h2)
      · exact hA _ (Nat.le_trans hS0.1 h2)
    · exact hD a e (wU_r hd h1)
