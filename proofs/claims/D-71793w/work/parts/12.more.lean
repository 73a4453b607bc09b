/-! MORE ROWS: bits, switches, longs, loops and cuts -/
set_option maxRecDepth 100000
def bOr (a b : Int) : Int := (iI a ||| iI b).toInt
def bAnd (a b : Int) : Int := (iI a &&& iI b).toInt
def bShl (a b : Int) : Int := (iI a <<< (iI b &&& 31)).toInt
def bShr (a b : Int) : Int := (iI a >>> (iI b &&& 31)).toInt
def bB (a : Int) : Int := (iI a).toInt8.toInt32.toInt
def bS (a : Int) : Int := (iI a).toInt16.toInt32.toInt
theorem rg_or (a b : Int) : rg (bOr a b) := rg_of _
theorem rg_and (a b : Int) : rg (bAnd a b) := rg_of _
theorem rg_shl (a b : Int) : rg (bShl a b) := rg_of _
theorem rg_shr (a b : Int) : rg (bShr a b) := rg_of _
theorem rg_b (a : Int) : rg (bB a) := rg_of _
theorem rg_s (a : Int) : rg (bS a) := rg_of _
theorem lI_lt {a b : Int} (ha : rgl a) (hb : rgl b) : lI a < lI b ↔ a < b := by
  rw [Int64.lt_iff_toInt_lt, lI_toInt ha, lI_toInt hb]
theorem lI_eq {a b : Int} (ha : rgl a) (hb : rgl b) : lI a = lI b ↔ a = b := by
  rw [← Int64.toInt_inj, lI_toInt ha, lI_toInt hb]
theorem lI_add (a b : Int) : lI a + lI b = lI (a + b) := (Int64.ofInt_add a b).symm
theorem lI_sub (a b : Int) : lI a - lI b = lI (a - b) := (Int64.ofInt_sub a b).symm
theorem lI_mul (a b : Int) : lI a * lI b = lI (a * b) := (Int64.ofInt_mul a b).symm
section XM
variable {p : Program} {l : Launch} {e : Env} {R : Room} {s : State} {m : MethodId} {args : Array Value} {below : List Frame} {meth : Method} {c : Code} {H : Heap} {locs : List Loc} {cells slots : Nat} {Q : State → Prop}
variable {cc : ByteArray} {pc nL : Nat} {ls : Array Slot} {rest : List Value} {E : xE} {A : Nat → Prop} {w : xw} {own : String}
theorem x_ior (hx : p.tables.exec = Jvm.exec) (hb : c.code = cc) {a b : Int} (hdg : decode cc pc = .ok (.ior, 1)) (k : W p l e R s m args below meth c H locs cells slots Q (F0 m (pc + 1) ls (.int (iI (bOr a b)) :: rest))) : W p l e R s m args below meth c H locs cells slots Q (F0 m pc ls (.int (iI b) :: .int (iI a) :: rest)) := lv_ior hx hb hdg (x_rw (iI_of _).symm k)
theorem x_iand (hx : p.tables.exec = Jvm.exec) (hb : c.code = cc) {a b : Int} (hdg : decode cc pc = .ok (.iand, 1)) (k : W p l e R s m args below meth c H locs cells slots Q (F0 m (pc + 1) ls (.int (iI (bAnd a b)) :: rest))) : W p l e R s m args below meth c H locs cells slots Q (F0 m pc ls (.int (iI b) :: .int (iI a) :: rest)) := lv_iand hx hb hdg (x_rw (iI_of _).symm k)
theorem x_ishl (hx : p.tables.exec = Jvm.exec) (hb : c.code = cc) {a b : Int} (hdg : decode cc pc = .ok (.ishl, 1)) (k : W p l e R s m args below meth c H locs cells slots Q (F0 m (pc + 1) ls (.int (iI (bShl a b)) :: rest))) : W p l e R s m args below meth c H locs cells slots Q (F0 m pc ls (.int (iI b) :: .int (iI a) :: rest)) := lv_ishl hx hb hdg (x_rw (iI_of _).symm k)
theorem x_ishr (hx : p.tables.exec = Jvm.exec) (hb : c.code = cc) {a b : Int} (hdg : decode cc pc = .ok (.ishr, 1)) (k : W p l e R s m args below meth c H locs cells slots Q (F0 m (pc + 1) ls (.int (iI (bShr a b)) :: rest))) : W p l e R s m args below meth c H locs cells slots Q (F0 m pc ls (.int (iI b) :: .int (iI a) :: rest)) := lv_ishr hx hb hdg (x_rw (iI_of _).symm k)
theorem x_i2b (hx : p.tables.exec = Jvm.exec) (hb : c.code = cc) {a : Int} (hdg : decode cc pc = .ok (.i2b, 1)) (k : W p l e R s m args below meth c H locs cells slots Q (F0 m (pc + 1) ls (.int (iI (bB a)) :: rest))) : W p l e R s m args below meth c H locs cells slots Q (F0 m pc ls (.int (iI a) :: rest)) := lv_i2b hx hb hdg rfl (x_rw (iI_of _).symm k)
theorem x_i2s (hx : p.tables.exec = Jvm.exec) (hb : c.code = cc) {a : Int} (hdg : decode cc pc = .ok (.i2s, 1)) (k : W p l e R s m args below meth c H locs cells slots Q (F0 m (pc + 1) ls (.int (iI (bS a)) :: rest))) : W p l e R s m args below meth c H locs cells slots Q (F0 m pc ls (.int (iI a) :: rest)) := lv_i2s hx hb hdg rfl (x_rw (iI_of _).symm k)
theorem x_i2l (hx : p.tables.exec = Jvm.exec) (hb : c.code = cc) {a : Int} (hdg : decode cc pc = .ok (.i2l, 1)) (ha : rg a) (k : W p l e R s m args below meth c H locs cells slots Q (F0 m (pc + 1) ls (.long (lI a) :: rest))) : W p l e R s m args below meth c H locs cells slots Q (F0 m pc ls (.int (iI a) :: rest)) := lv_i2l hx hb hdg (iI_long ha) k
/-- a number named anew -/
theorem x_nm {a b : Int} (h : a = b) (k : W p l e R s m args below meth c H locs cells slots Q (F0 m pc ls (.int (iI b) :: rest))) : W p l e R s m args below meth c H locs cells slots Q (F0 m pc ls (.int (iI a) :: rest)) := by rw [h]; exact k
theorem x_nml {a b : Int} (h : a = b) (k : W p l e R s m args below meth c H locs cells slots Q (F0 m pc ls (.long (lI b) :: rest))) : W p l e R s m args below meth c H locs cells slots Q (F0 m pc ls (.long (lI a) :: rest)) := by rw [h]; exact k
theorem x_rwl {x y : Int64} (h : x = y) (k : W p l e R s m args below meth c H locs cells slots Q (F0 m pc ls (.long y :: rest))) : W p l e R s m args below meth c H locs cells slots Q (F0 m pc ls (.long x :: rest)) := by rw [h]; exact k
/-- lcmp and the branch behind it -/
theorem x_lcmp (hx : p.tables.exec = Jvm.exec) (hb : c.code = cc) {a b : Int} (hdg : decode cc pc = .ok (.lcmp, 1)) (ha : rgl a) (hb2 : rgl b) (k : ∀ z : Int, (a < b → z = -1) → (a = b → z = 0) → (b < a → z = 1) → W p l e R s m args below meth c H locs cells slots Q (F0 m (pc + 1) ls (.int (iI z) :: rest))) : W p l e R s m args below meth c H locs cells slots Q (F0 m pc ls (.long (lI b) :: .long (lI a) :: rest)) := by
  refine W.lcmp hx hb hdg ?_
  have h1 := lI_lt ha hb2
  have h2 := lI_lt hb2 ha
  have h3 := lI_eq ha hb2
  refine x_rw (iI_of (lg_cmp (lI a) (lI b))).symm (k _ ?_ ?_ ?_)
  · intro h
    unfold lg_cmp
    have q2 : ¬ lI b < lI a := fun q => by have := h2.mp q; omega
    have q3 : ¬ lI a = lI b := fun q => by have := h3.mp q; omega
    rw [if_neg q2, if_neg q3]
    decide
  · intro h
    subst h
    unfold lg_cmp
    simp
  · intro h
    unfold lg_cmp
    rw [if_pos (h2.mpr h)]
    decide
theorem x_tsIn (hx : p.tables.exec = Jvm.exec) (hb : c.code = cc) {dflt lo hi : Int} {offs : Array Int} {len : Nat} {z : Int} {off : Int} {tgt : Nat} (k : Int) (hdg : decode cc pc = .ok (.tableswitch dflt lo hi offs, len)) (hz : z = k) (hr : rg k) (h1 : ¬ k < lo) (h2 : ¬ hi < k) (ho : offs[(k - lo).toNat]? = some off) (ht : (pc : Int) + off = (tgt : Int))
    (kk : W p l e R s m args below meth c H locs cells slots Q (F0 m tgt ls rest)) : W p l e R s m args below meth c H locs cells slots Q (F0 m pc ls (.int (iI z) :: rest)) := by
  subst hz
  exact lv_tableIn hx hb hdg (by rw [iI_toInt hr]; exact h1) (by rw [iI_toInt hr]; exact h2) (by rw [iI_toInt hr]; exact ho) ht kk
theorem x_tsOut (hx : p.tables.exec = Jvm.exec) (hb : c.code = cc) {dflt lo hi : Int} {offs : Array Int} {len : Nat} {z : Int} {tgt : Nat} (hdg : decode cc pc = .ok (.tableswitch dflt lo hi offs, len)) (hr : rg z) (h : z < lo ∨ hi < z) (ht : (pc : Int) + dflt = (tgt : Int))
    (kk : W p l e R s m args below meth c H locs cells slots Q (F0 m tgt ls rest)) : W p l e R s m args below meth c H locs cells slots Q (F0 m pc ls (.int (iI z) :: rest)) := lv_tableOut hx hb hdg (by rw [iI_toInt hr]; exact h) ht kk
/-- a loop, by a measure: Inv n at its head -/
theorem w_loop {st : List Value} (Inv : Nat → Heap → List Loc → Array Slot → Prop) (n0 : Nat) (h0 : Inv n0 H locs ls) (step : ∀ (n : Nat) (H : Heap) (locs : List Loc) (ls : Array Slot), Inv n H locs ls → (∀ (n' : Nat) (H' : Heap) (locs' : List Loc) (ls' : Array Slot), n' < n → Inv n' H' locs' ls' → W p l e R s m args below meth c H' locs' cells slots Q (F0 m pc ls' st)) → W p l e R s m args below meth c H locs cells slots Q (F0 m pc ls st)) : W p l e R s m args below meth c H locs cells slots Q (F0 m pc ls st) := by
  have key : ∀ (k n : Nat), n < k → ∀ (H : Heap) (locs : List Loc) (ls : Array Slot), Inv n H locs ls → W p l e R s m args below meth c H locs cells slots Q (F0 m pc ls st) := by
    intro k
    induction k with
    | zero => intro n h; exact absurd h (Nat.not_lt_zero n)
    | succ k ih =>
      intro n hn H locs ls hI
      exact step n H locs ls hI (fun n' H' locs' ls' h' hI' => ih n' (by omega) H' locs' ls' hI')
  exact key (n0 + 1) n0 (Nat.lt_succ_self _) H locs ls h0
/-- a place that several roads reach -/
theorem w_cut (pj : Nat) {ls0 : Array Slot} {st0 : List Value} (P : Heap → List Loc → Array Slot → List Value → Prop) (tail : ∀ (H : Heap) (locs : List Loc) (ls : Array Slot) (st : List Value), P H locs ls st → W p l e R s m args below meth c H locs cells slots Q (F0 m pj ls st)) (k : (∀ (H : Heap) (locs : List Loc) (ls : Array Slot) (st : List Value), P H locs ls st → W p l e R s m args below meth c H locs cells slots Q (F0 m pj ls st)) → W p l e R s m args below meth c H locs cells slots Q (F0 m pc ls0 st0)) : W p l e R s m args below meth c H locs cells slots Q (F0 m pc ls0 st0) := k tail
end XM
