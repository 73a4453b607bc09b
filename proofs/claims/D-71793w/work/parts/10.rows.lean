/-! THE MAP WORLD: a world is a map from addresses to what stands there; every contract speaks of the whole map. Ints are written iI z, z an Int. -/
set_option maxRecDepth 100000
/-- an Int32 by an Int -/
def iI (z : Int) : Int32 := Int32.ofInt z
abbrev rg (z : Int) : Prop := -2147483648 ≤ z ∧ z ≤ 2147483647
theorem iI_add (a b : Int) : iI a + iI b = iI (a + b) := (Int32.ofInt_add a b).symm
theorem iI_sub (a b : Int) : iI a - iI b = iI (a - b) := (Int32.ofInt_sub a b).symm
theorem iI_mul (a b : Int) : iI a * iI b = iI (a * b) := (Int32.ofInt_mul a b).symm
theorem iI_neg (a : Int) : -iI a = iI (-a) := (Int32.ofInt_neg a).symm
theorem iI_toInt {z : Int} (h : rg z) : (iI z).toInt = z := by
  obtain ⟨h1, h2⟩ := h
  exact Int32.toInt_ofInt_of_le (by omega) (by omega)
theorem iI_of (x : Int32) : iI x.toInt = x := Int32.ofInt_toInt x
theorem rg_of (x : Int32) : rg x.toInt := by
  have h1 := Int32.le_toInt x
  have h2 := Int32.toInt_lt x
  exact ⟨by omega, by omega⟩
theorem iI_lt {a b : Int} (ha : rg a) (hb : rg b) : iI a < iI b ↔ a < b := by
  rw [Int32.lt_iff_toInt_lt, iI_toInt ha, iI_toInt hb]
theorem iI_le {a b : Int} (ha : rg a) (hb : rg b) : iI a ≤ iI b ↔ a ≤ b := by
  rw [Int32.le_iff_toInt_le, iI_toInt ha, iI_toInt hb]
theorem iI_eq {a b : Int} (ha : rg a) (hb : rg b) : iI a = iI b ↔ a = b := by
  rw [← Int32.toInt_inj, iI_toInt ha, iI_toInt hb]
theorem rg_0 : rg 0 := ⟨by omega, by omega⟩
theorem iI_in {z : Int} {n N : Nat} (hz : z = (n : Int)) (hn : n < N) (hN : N < 2 ^ 31) : vp_in (iI z) N ∧ (iI z).toNatClampNeg = n := by
  have hr : rg z := ⟨by omega, by omega⟩
  have h1 : (iI z).toNatClampNeg = n := by
    show (iI z).toInt.toNat = n
    rw [iI_toInt hr]
    omega
  refine ⟨?_, h1⟩
  rintro (h | h)
  · have h2 : iI z < iI 0 := h
    rw [iI_lt hr rg_0] at h2
    omega
  · omega
theorem iI_ofNat (n : Nat) : Int32.ofNat n = iI (n : Int) := rfl
/-- a long by an Int -/
def lI (z : Int) : Int64 := Int64.ofInt z
abbrev rgl (z : Int) : Prop := -9223372036854775808 ≤ z ∧ z ≤ 9223372036854775807
theorem lI_toInt {z : Int} (h : rgl z) : (lI z).toInt = z := by
  obtain ⟨h1, h2⟩ := h
  exact Int64.toInt_ofInt_of_le (by omega) (by omega)
theorem lI_of (x : Int64) : lI x.toInt = x := Int64.ofInt_toInt x
theorem rgl_of (x : Int64) : rgl x.toInt := by
  have h1 := Int64.le_toInt x
  have h2 := Int64.toInt_lt x
  exact ⟨by omega, by omega⟩
theorem iI_long {z : Int} (h : rg z) : (iI z).toInt64 = lI z := by
  have h2 : rgl z := ⟨by have := h.1; omega, by have := h.2; omega⟩
  rw [← Int64.toInt_inj, Int32.toInt_toInt64, iI_toInt h, lI_toInt h2]
/-! ## the classes -/
abbrev vwCl : List vw_C := [(RX0, TX0, 19), (RX1, TX1, 1), (RX2, TX2, 1), (RX3, TX3, 32), (RX6, TX6, 3), (RX7, TX7, 4), (RX8, TX8, 5), (RX5, TX5, 7), (RX10, TX10, 4), (RX11, TX11, 2), (RX12, TX12, 3), (RX13, TX13, 4), (RX14, TX14, 4), (RX15, TX15, 3), (RX16, TX16, 2), (RX17, TX17, 1), (RX18, TX18, 7), (RX19, TX19, 4), (RJ2, TJ2, 3)]
abbrev xE : Type := va_G × (Nat → ClassId)
abbrev xX : Type := va_E ⊕ Cell
abbrev xw : Type := Nat → Option xX
abbrev xO (ci : Nat) (fs : List Value) : xX := .inl (.inr (ci, fs))
abbrev xI (E : xE) (n : Nat) (f : Nat → Int) : xX := .inl (.inl (E.2 0, n, .inl (fun j => iI (f j))))
abbrev xBy (E : xE) (n : Nat) (f : Nat → Int) : xX := .inl (.inl (E.2 1, n, .inl (fun j => iI (f j))))
abbrev xSh (E : xE) (n : Nat) (f : Nat → Int) : xX := .inl (.inl (E.2 2, n, .inl (fun j => iI (f j))))
abbrev xR (E : xE) (k n : Nat) (f : Nat → Option Nat) : xX := .inl (.inl (E.2 k, n, .inr (.inr (.inr (.inr f)))))
abbrev xtys (E : xE) : List (ClassId × FieldType) := [(E.2 0, .int), (E.2 1, .byte), (E.2 2, .short), (E.2 3, .object "java/lang/Object"), (E.2 4, .object "BookPairs$Sort"), (E.2 5, .object "BookPairs$Doing"), (E.2 6, .object "BookPairs$Sheet")]
def xat (D : va_G) (q : Nat × xX) (H : Heap) : Prop := match q.2 with
  | .inl e => va_at D vwCl (q.1, e) H
  | .inr c => H[q.1]? = some c
def xP (E : xE) (w : xw) (H : Heap) : Prop := ∀ (a : Nat) (e : xX), w a = some e → xat E.1 (a, e) H
def xA (w : xw) (sz : Nat) : Nat → Prop := fun q => (∃ e, w q = some e) ∨ sz ≤ q
theorem xat.kept {D : va_G} {q : Nat × xX} {H H1 : Heap} (h : xat D q H) (hq : H1[q.1]? = H[q.1]?) : xat D q H1 := by
  obtain ⟨a, e⟩ := q
  cases e with
  | inl x => exact va_at.kept (q := (a, x)) h hq
  | inr o => exact hq.trans h
theorem xat.lt {D : va_G} {q : Nat × xX} {H : Heap} (h : xat D q H) : q.1 < H.size := by
  obtain ⟨a, e⟩ := q
  cases e with
  | inl x => exact va_at.lt (q := (a, x)) h
  | inr x => exact (Array.getElem?_eq_some_iff.mp h).1
theorem xP.one {E : xE} {w : xw} {H : Heap} (h : xP E w H) {a : Nat} {e : va_E} (ha : w a = some (.inl e)) : va_P E.1 vwCl [(a, e)] H := by
  intro k q hk
  match k, hk with
  | 0, hk => cases hk; exact h a _ ha
  | k + 1, hk => simp at hk
theorem xP.lt {E : xE} {w : xw} {H : Heap} (h : xP E w H) {a : Nat} {e : xX} (ha : w a = some e) : a < H.size := (h a e ha).lt
theorem va_up_s {α : Type} (f : Nat → α) (k : Nat) (v : α) : va_up f k v k = v := if_pos rfl
theorem va_up_n {α : Type} (f : Nat → α) {k j : Nat} (v : α) (h : j ≠ k) : va_up f k v j = f j := if_neg h
theorem xP.set {E : xE} {w : xw} {H H1 : Heap} (h : xP E w H) {a : Nat} {e : xX} (he : xat E.1 (a, e) H1) (oq : ∀ q, q ≠ a → H1[q]? = H[q]?) : xP E (va_up w a (some e)) H1 := by
  intro q e' hq
  by_cases hqa : q = a
  · subst hqa
    rw [va_up_s] at hq
    cases hq
    exact he
  · rw [va_up_n _ _ hqa] at hq
    exact (h q e' hq).kept (oq q hqa)
/-- the body's world: at heap H the world is w; all of it, and all that comes, may be written; since the start nothing else was -/
def xB (E : xE) (A : Nat → Prop) (s : State) (w : xw) (H : Heap) (locs : List Loc) : Prop := xP E w H ∧ (∀ a e, w a = some e → A a) ∧ va_S A s.heap H locs ∧ ∀ q, s.heap.size ≤ q → A q
theorem xB.put {E : xE} {A : Nat → Prop} {s : State} {w : xw} {H H1 : Heap} {locs : List Loc} (h : xB E A s w H locs) {a k : Nat} {e0 e : xX} (ha : w a = some e0) (he : xat E.1 (a, e) H1) (z : H1.size = H.size) (oq : ∀ q, q ≠ a → H1[q]? = H[q]?) : xB E A s (va_up w a (some e)) H1 (locs ++ [⟨a, k⟩]) := by
  obtain ⟨hP, hD, hS, hA⟩ := h
  refine ⟨hP.set he oq, fun q e' hq => ?_, hS.put z oq (hD a _ ha), hA⟩
  by_cases hqa : q = a
  · subst hqa
    exact hD _ _ ha
  · rw [va_up_n _ _ hqa] at hq
    exact hD _ _ hq
theorem xB.fresh {E : xE} {A : Nat → Prop} {s : State} {w : xw} {H : Heap} {locs : List Loc} (h : xB E A s w H locs) : w H.size = none := by
  cases hw : w H.size with
  | none => rfl
  | some e => exact absurd (h.1.lt hw) (Nat.lt_irrefl _)
theorem xB.new {E : xE} {A : Nat → Prop} {s : State} {w : xw} {H H1 : Heap} {locs : List Loc} (h : xB E A s w H locs) {e : xX} (he : xat E.1 (H.size, e) H1) (z : H1.size = H.size + 1) (oq : ∀ q, q < H.size → H1[q]? = H[q]?) : xB E A s (va_up w H.size (some e)) H1 locs := by
  obtain ⟨hP, hD, hS, hA⟩ := h
  refine ⟨fun q e' hq => ?_, fun q e' hq => ?_, ⟨Nat.le_trans hS.1 (by omega), fun x h1 h2 => (oq x (Nat.lt_of_lt_of_le h1 hS.1)).trans (hS.2.1 x h1 h2), hS.2.2⟩, hA⟩
  · by_cases hqa : q = H.size
    · subst hqa
      rw [va_up_s] at hq
      cases hq
      exact he
    · rw [va_up_n _ _ hqa] at hq
      exact (hP q e' hq).kept (oq q (hP.lt hq))
  · by_cases hqa : q = H.size
    · subst hqa
      exact hA _ hS.1
    · rw [va_up_n _ _ hqa] at hq
      exact hD _ _ hq
/-! ## what a state's tables say -/
def nwok : Cond → Bool
  | .fieldLinkNest _ _ _ _ _ _ => true
  | .methodLinkNest _ _ _ _ => true
  | .castable _ _ => true
  | .declares _ => true
  | _ => false
/-- the classes, the arrays' classes, the words that don't ride in the lists -/
def xK (E : xE) (U : State) : Prop := va_K E.1 vwCl (xtys E) U ∧ ∀ w ∈ lw_tbl, nwok w = true → va_Nw w U
theorem xK.moved {E : xE} {s U : State} (hW : s.WarmedH U.vm) (h : xK E s) : xK E U := by
  refine ⟨va_K.moved hW.alike h.1, fun w hw hn => ?_⟩
  have h1 := h.2 w hw hn
  cases w <;> first | exact va_Nw.warmF hW h1 | exact va_Nw.warmM hW h1 | exact va_Nw.warmC hW h1 | exact va_Nw.warmD hW h1 | cases hn
theorem xK.same {E : xE} {s U : State} (hv : s.vm = U.vm) (h : xK E s) : xK E U := by
  refine ⟨va_K.moved (by rw [hv]; exact Vm.Alike.refl _) h.1, fun w hw hn => ?_⟩
  have h1 := h.2 w hw hn
  cases w <;> first | exact va_Nw.same rfl hv h1 | cases hn
/-- a method's fixed things: CallFix, and the tables -/
def xC (E : xE) (p : Program) (s : State) (m : MethodId) (args : Array Value) (c : Code) (cc : ByteArray) (nL : Nat) (own : String) : Prop := CallFix p m c cc nL s args lw_all own ∧ xK E s
/-! ## contracts: av the arguments, w the world, sz the heap's size at the start -/
def xPc (E : xE) (w : xw) (sz : Nat) (av : List Value) : Array Value → State → Prop := va_Pc av (fun U => U.heap.size = sz ∧ xP E w U.heap ∧ xK E U)
def xEnd (E : xE) (A : Nat → Prop) (w : xw) (t : State) : Prop := xP E w t.heap ∧ ∀ a e, w a = some e → A a
theorem xPc.blind {E : xE} {w : xw} {sz : Nat} {av : List Value} : FrameBlind (xPc E w sz av) := fun a U g mk q => ⟨q.1, q.2.1, q.2.2.1, xK.same (s := U) (U := U.calling g mk a) rfl q.2.2.2⟩
theorem xPc.at {E : xE} {w : xw} {H : Heap} {av : List Value} {s U : State} (hP : xP E w H) (hK : xK E s) (hU : U.heap = H) (hW : s.WarmedH U.vm) : xPc E w H.size av av.toArray U := ⟨rfl, by rw [hU], by rw [hU]; exact hP, hK.moved hW⟩
theorem xrecv {E : xE} {s : State} {w : xw} {H : Heap} {a ci : Nat} {fs : List Value} {q : vw_C} (hK : xK E s) (hP : xP E w H) (ha : w a = some (xO ci fs)) (hc : vwCl[ci]? = some q) : ∃ cell : Cell, H[a]? = some cell ∧ cell.vm.isStatics = false ∧ s.vm.findClass q.1 = some cell.cls := va_recv (q0 := 0) hK.1 (hP.one ha) hc rfl
theorem xpreV {E : xE} {s : State} {w : xw} {H : Heap} {b ci : Nat} {fs : List Value} {q : vw_C} {As : List Value} {C : String} (hP : xP E w H) (hK : xK E s) (hb : w b = some (xO ci fs)) (hc : vwCl[ci]? = some q) (hC : q.1 = C) : PreV s H C b (xPc E w H.size (.ref b :: As)) As := by
  subst hC
  exact ⟨xPc.blind, xrecv hK hP hb hc, fun U hU hW => xPc.at hP hK hU hW⟩
theorem xpreS {E : xE} {s : State} {w : xw} {H : Heap} {As : List Value} (hP : xP E w H) (hK : xK E s) : PreS s H (xPc E w H.size As) As := ⟨xPc.blind, fun U hU hW => xPc.at hP hK hU hW⟩
/-- behind a call -/
theorem xB.call {E : xE} {A : Nat → Prop} {s : State} {w w1 : xw} {H H1 : Heap} {locs locs1 : List Loc} {t : State} (h : xB E A s w H locs) (ht : t.heap = H1) (hE : xEnd E (xA w H.size) w1 t) (hS : va_S A s.heap H1 locs1) : xB E A s w1 H1 locs1 := by
  obtain ⟨hP, hD, hS0, hA⟩ := h
  refine ⟨by rw [← ht]; exact hE.1, fun q e hq => ?_, hS, hA⟩
  rcases hE.2 q e hq with ⟨e2, h2⟩ | h2
  · exact hD _ _ h2
  · exact hA _ (Nat.le_trans hS0.1 h2)
theorem xB.sub {E : xE} {A : Nat → Prop} {s : State} {w : xw} {H : Heap} {locs : List Loc} (h : xB E A s w H locs) : ∀ q, xA w H.size q → A q := by
  intro q hq
  rcases hq with ⟨e2, h2⟩ | h2
  · exact h.2.1 _ _ h2
  · exact h.2.2.2 _ (Nat.le_trans h.2.2.1.1 h2)
section XR
variable {p : Program} {l : Launch} {e : Env} {R : Room} {s : State} {m : MethodId} {args : Array Value} {below : List Frame} {meth : Method} {c : Code} {H : Heap} {locs : List Loc} {cells slots : Nat} {Q : State → Prop}
variable {cc : ByteArray} {pc nL : Nat} {ls : Array Slot} {rest : List Value} {E : xE} {A : Nat → Prop} {a : Nat} {w : xw} {own : String}
/-! ## ints -/
theorem x_rw {x y : Int32} (h : x = y) (k : W p l e R s m args below meth c H locs cells slots Q (F0 m pc ls (.int y :: rest))) : W p l e R s m args below meth c H locs cells slots Q (F0 m pc ls (.int x :: rest)) := by rw [h]; exact k
theorem x_iadd (hx : p.tables.exec = Jvm.exec) (hb : c.code = cc) {a b z : Int} (hdg : decode cc pc = .ok (.iadd, 1)) (hz : a + b = z) (k : W p l e R s m args below meth c H locs cells slots Q (F0 m (pc + 1) ls (.int (iI z) :: rest))) : W p l e R s m args below meth c H locs cells slots Q (F0 m pc ls (.int (iI b) :: .int (iI a) :: rest)) := lv_iadd hx hb hdg (x_rw (by rw [iI_add, hz]) k)
theorem x_isub (hx : p.tables.exec = Jvm.exec) (hb : c.code = cc) {a b z : Int} (hdg : decode cc pc = .ok (.isub, 1)) (hz : a - b = z) (k : W p l e R s m args below meth c H locs cells slots Q (F0 m (pc + 1) ls (.int (iI z) :: rest))) : W p l e R s m args below meth c H locs cells slots Q (F0 m pc ls (.int (iI b) :: .int (iI a) :: rest)) := lv_isub hx hb hdg (x_rw (by rw [iI_sub, hz]) k)
theorem x_imul (hx : p.tables.exec = Jvm.exec) (hb : c.code = cc) {a b z : Int} (hdg : decode cc pc = .ok (.imul, 1)) (hz : a * b = z) (k : W p l e R s m args below meth c H locs cells slots Q (F0 m (pc + 1) ls (.int (iI z) :: rest))) : W p l e R s m args below meth c H locs cells slots Q (F0 m pc ls (.int (iI b) :: .int (iI a) :: rest)) := lv_imul hx hb hdg (x_rw (by rw [iI_mul, hz]) k)
theorem x_ineg (hx : p.tables.exec = Jvm.exec) (hb : c.code = cc) {a z : Int} (hdg : decode cc pc = .ok (.ineg, 1)) (hz : -a = z) (k : W p l e R s m args below meth c H locs cells slots Q (F0 m (pc + 1) ls (.int (iI z) :: rest))) : W p l e R s m args below meth c H locs cells slots Q (F0 m pc ls (.int (iI a) :: rest)) := lv_ineg hx hb hdg (x_rw (by rw [iI_neg, hz]) k)
theorem x_icmp_eq (hx : p.tables.exec = Jvm.exec) (hb : c.code = cc) {a b : Int} {off : Int} {tgt : Nat} (hdg : decode cc pc = .ok (.if_icmp .eq off, 3)) (ht : (pc : Int) + off = (tgt : Int)) (ha : rg a) (hb2 : rg b) (kt : a = b → W p l e R s m args below meth c H locs cells slots Q (F0 m tgt ls rest)) (kf : ¬ a = b → W p l e R s m args below meth c H locs cells slots Q (F0 m (pc + 3) ls rest)) : W p l e R s m args below meth c H locs cells slots Q (F0 m pc ls (.int (iI b) :: .int (iI a) :: rest)) := lv_icmp_eq hx hb hdg ht (fun h => kt ((iI_eq ha hb2).mp h)) (fun h => kf (fun q => h ((iI_eq ha hb2).mpr q)))
theorem x_icmp_ne (hx : p.tables.exec = Jvm.exec) (hb : c.code = cc) {a b : Int} {off : Int} {tgt : Nat} (hdg : decode cc pc = .ok (.if_icmp .ne off, 3)) (ht : (pc : Int) + off = (tgt : Int)) (ha : rg a) (hb2 : rg b) (kt : ¬ a = b → W p l e R s m args below meth c H locs cells slots Q (F0 m tgt ls rest)) (kf : a = b → W p l e R s m args below meth c H locs cells slots Q (F0 m (pc + 3) ls rest)) : W p l e R s m args below meth c H locs cells slots Q (F0 m pc ls (.int (iI b) :: .int (iI a) :: rest)) := by
  by_cases h : a = b
  · exact lv_icmp_ne hx hb hdg ht (fun q => absurd ((iI_eq ha hb2).mpr h) q) (fun _ => kf h)
  · exact lv_icmp_ne hx hb hdg ht (fun _ => kt h) (fun q => absurd ((iI_eq ha hb2).mp q) h)
theorem x_icmp_lt (hx : p.tables.exec = Jvm.exec) (hb : c.code = cc) {a b : Int} {off : Int} {tgt : Nat} (hdg : decode cc pc = .ok (.if_icmp .lt off, 3)) (ht : (pc : Int) + off = (tgt : Int)) (ha : rg a) (hb2 : rg b) (kt : a < b → W p l e R s m args below meth c H locs cells slots Q (F0 m tgt ls rest)) (kf : ¬ a < b → W p l e R s m args below meth c H locs cells slots Q (F0 m (pc + 3) ls rest)) : W p l e R s m args below meth c H locs cells slots Q (F0 m pc ls (.int (iI b) :: .int (iI a) :: rest)) := lv_icmp_lt hx hb hdg ht (fun h => kt ((iI_lt ha hb2).mp h)) (fun h => kf (fun q => h ((iI_lt ha hb2).mpr q)))
theorem x_icmp_ge (hx : p.tables.exec = Jvm.exec) (hb : c.code = cc) {a b : Int} {off : Int} {tgt : Nat} (hdg : decode cc pc = .ok (.if_icmp .ge off, 3)) (ht : (pc : Int) + off = (tgt : Int)) (ha : rg a) (hb2 : rg b) (kt : b ≤ a → W p l e R s m args below meth c H locs cells slots Q (F0 m tgt ls rest)) (kf : ¬ b ≤ a → W p l e R s m args below meth c H locs cells slots Q (F0 m (pc + 3) ls rest)) : W p l e R s m args below meth c H locs cells slots Q (F0 m pc ls (.int (iI b) :: .int (iI a) :: rest)) := lv_icmp_ge hx hb hdg ht (fun h => kt ((iI_le hb2 ha).mp h)) (fun h => kf (fun q => h ((iI_le hb2 ha).mpr q)))
theorem x_icmp_gt (hx : p.tables.exec = Jvm.exec) (hb : c.code = cc) {a b : Int} {off : Int} {tgt : Nat} (hdg : decode cc pc = .ok (.if_icmp .gt off, 3)) (ht : (pc : Int) + off = (tgt : Int)) (ha : rg a) (hb2 : rg b) (kt : b < a → W p l e R s m args below meth c H locs cells slots Q (F0 m tgt ls rest)) (kf : ¬ b < a → W p l e R s m args below meth c H locs cells slots Q (F0 m (pc + 3) ls rest)) : W p l e R s m args below meth c H locs cells slots Q (F0 m pc ls (.int (iI b) :: .int (iI a) :: rest)) := lv_icmp_gt hx hb hdg ht (fun h => kt ((iI_lt hb2 ha).mp h)) (fun h => kf (fun q => h ((iI_lt hb2 ha).mpr q)))
theorem x_icmp_le (hx : p.tables.exec = Jvm.exec) (hb : c.code = cc) {a b : Int} {off : Int} {tgt : Nat} (hdg : decode cc pc = .ok (.if_icmp .le off, 3)) (ht : (pc : Int) + off = (tgt : Int)) (ha : rg a) (hb2 : rg b) (kt : a ≤ b → W p l e R s m args below meth c H locs cells slots Q (F0 m tgt ls rest)) (kf : ¬ a ≤ b → W p l e R s m args below meth c H locs cells slots Q (F0 m (pc + 3) ls rest)) : W p l e R s m args below meth c H locs cells slots Q (F0 m pc ls (.int (iI b) :: .int (iI a) :: rest)) := lv_icmp_le hx hb hdg ht (fun h => kt ((iI_le ha hb2).mp h)) (fun h => kf (fun q => h ((iI_le ha hb2).mpr q)))
theorem x_if_eq (hx : p.tables.exec = Jvm.exec) (hb : c.code = cc) {a : Int} {off : Int} {tgt : Nat} (hdg : decode cc pc = .ok (.ifCond .eq off, 3)) (ht : (pc : Int) + off = (tgt : Int)) (ha : rg a) (kt : a = 0 → W p l e R s m args below meth c H locs cells slots Q (F0 m tgt ls rest)) (kf : ¬ a = 0 → W p l e R s m args below meth c H locs cells slots Q (F0 m (pc + 3) ls rest)) : W p l e R s m args below meth c H locs cells slots Q (F0 m pc ls (.int (iI a) :: rest)) := lv_if_eq hx hb hdg ht (fun h => kt ((iI_eq ha rg_0).mp h)) (fun h => kf (fun q => h ((iI_eq ha rg_0).mpr q)))
theorem x_if_ne (hx : p.tables.exec = Jvm.exec) (hb : c.code = cc) {a : Int} {off : Int} {tgt : Nat} (hdg : decode cc pc = .ok (.ifCond .ne off, 3)) (ht : (pc : Int) + off = (tgt : Int)) (ha : rg a) (kt : ¬ a = 0 → W p l e R s m args below meth c H locs cells slots Q (F0 m tgt ls rest)) (kf : a = 0 → W p l e R s m args below meth c H locs cells slots Q (F0 m (pc + 3) ls rest)) : W p l e R s m args below meth c H locs cells slots Q (F0 m pc ls (.int (iI a) :: rest)) := by
  by_cases h : a = 0
  · exact lv_if_ne hx hb hdg ht (fun q => absurd ((iI_eq ha rg_0).mpr h) q) (fun _ => kf h)
  · exact lv_if_ne hx hb hdg ht (fun _ => kt h) (fun q => absurd ((iI_eq ha rg_0).mp q) h)
theorem x_if_lt (hx : p.tables.exec = Jvm.exec) (hb : c.code = cc) {a : Int} {off : Int} {tgt : Nat} (hdg : decode cc pc = .ok (.ifCond .lt off, 3)) (ht : (pc : Int) + off = (tgt : Int)) (ha : rg a) (kt : a < 0 → W p l e R s m args below meth c H locs cells slots Q (F0 m tgt ls rest)) (kf : ¬ a < 0 → W p l e R s m args below meth c H locs cells slots Q (F0 m (pc + 3) ls rest)) : W p l e R s m args below meth c H locs cells slots Q (F0 m pc ls (.int (iI a) :: rest)) := lv_if_lt hx hb hdg ht (fun h => kt ((iI_lt ha rg_0).mp h)) (fun h => kf (fun q => h ((iI_lt ha rg_0).mpr q)))
theorem x_if_ge (hx : p.tables.exec = Jvm.exec) (hb : c.code = cc) {a : Int} {off : Int} {tgt : Nat} (hdg : decode cc pc = .ok (.ifCond .ge off, 3)) (ht : (pc : Int) + off = (tgt : Int)) (ha : rg a) (kt : 0 ≤ a → W p l e R s m args below meth c H locs cells slots Q (F0 m tgt ls rest)) (kf : ¬ 0 ≤ a → W p l e R s m args below meth c H locs cells slots Q (F0 m (pc + 3) ls rest)) : W p l e R s m args below meth c H locs cells slots Q (F0 m pc ls (.int (iI a) :: rest)) := lv_if_ge hx hb hdg ht (fun h => kt ((iI_le rg_0 ha).mp h)) (fun h => kf (fun q => h ((iI_le rg_0 ha).mpr q)))
theorem x_if_gt (hx : p.tables.exec = Jvm.exec) (hb : c.code = cc) {a : Int} {off : Int} {tgt : Nat} (hdg : decode cc pc = .ok (.ifCond .gt off, 3)) (ht : (pc : Int) + off = (tgt : Int)) (ha : rg a) (kt : 0 < a → W p l e R s m args below meth c H locs cells slots Q (F0 m tgt ls rest)) (kf : ¬ 0 < a → W p l e R s m args below meth c H locs cells slots Q (F0 m (pc + 3) ls rest)) : W p l e R s m args below meth c H locs cells slots Q (F0 m pc ls (.int (iI a) :: rest)) := lv_if_gt hx hb hdg ht (fun h => kt ((iI_lt rg_0 ha).mp h)) (fun h => kf (fun q => h ((iI_lt rg_0 ha).mpr q)))
theorem x_if_le (hx : p.tables.exec = Jvm.exec) (hb : c.code = cc) {a : Int} {off : Int} {tgt : Nat} (hdg : decode cc pc = .ok (.ifCond .le off, 3)) (ht : (pc : Int) + off = (tgt : Int)) (ha : rg a) (kt : a ≤ 0 → W p l e R s m args below meth c H locs cells slots Q (F0 m tgt ls rest)) (kf : ¬ a ≤ 0 → W p l e R s m args below meth c H locs cells slots Q (F0 m (pc + 3) ls rest)) : W p l e R s m args below meth c H locs cells slots Q (F0 m pc ls (.int (iI a) :: rest)) := lv_if_le hx hb hdg ht (fun h => kt ((iI_le ha rg_0).mp h)) (fun h => kf (fun q => h ((iI_le ha rg_0).mpr q)))
/-! ## fields -/
theorem x_get (C : xC E p s m args c cc nL own) (hB : xB E A s w H locs) {ref Cn : String} {T : u_T} {N ci index : Nat} {fs : List Value} (ha : w a = some (xO ci fs)) (hc : vwCl[ci]? = some (Cn, T, N)) (hin : ∀ w ∈ u_ws Cn T N, w ∈ lw_all) (k : Nat) (hk : k < N) (hlink : (Cond.fieldLink own index ref (T k).2.1 (T k).2.2.1) ∈ lw_all) (hsame : ∀ x, s.fieldFound? (T k).1 (T k).2.1 (T k).2.2.1 = some x → s.fieldFound? ref (T k).2.1 (T k).2.2.1 = some x) {v : Value} (hv : fs[k]? = some v) (hdg : decode cc pc = .ok (.getfield index, 3))
    (kk : W p l e R s m args below meth c H locs cells slots Q (F0 m (pc + 3) ls (v :: rest))) : W p l e R s m args below meth c H locs cells slots Q (F0 m pc ls (.ref a :: rest)) := by
  obtain ⟨⟨hx, hb, -, hown, hts⟩, hK⟩ := C
  exact va_get hx hb hts hin hown hK.1 (hB.1.one ha) 0 rfl hc k hk (hts _ hlink) hsame hv hdg kk
theorem x_put (C : xC E p s m args c cc nL own) (hB : xB E A s w H locs) {ref Cn : String} {T : u_T} {N ci index : Nat} {fs : List Value} (ha : w a = some (xO ci fs)) (hc : vwCl[ci]? = some (Cn, T, N)) (hin : ∀ w ∈ u_ws Cn T N, w ∈ lw_all) {ty0 : Nat → FieldType} (hty : ∀ k, k < N → parseFieldDescriptor (T k).2.2.1 = some (ty0 k)) (hnm : ∀ a, a < N → ∀ b, b < N → a ≠ b → (T a).2.1 ≠ (T b).2.1) (k : Nat) (hk : k < N) (hlink : (Cond.fieldLink own index ref (T k).2.1 (T k).2.2.1) ∈ lw_all) (hsame : ∀ x, s.fieldFound? (T k).1 (T k).2.1 (T k).2.2.1 = some x → s.fieldFound? ref (T k).2.1 (T k).2.2.1 = some x) (hfin : (T k).2.2.2 = false) {v : Value} (hn : narrow (ty0 k) v = v) (hfit : fits (ty0 k) v = true) (hl : k < fs.length) (hdg : decode cc pc = .ok (.putfield index, 3))
    (kk : ∀ (H1 : Heap) (locs1 : List Loc), xB E A s (va_up w a (some (xO ci (fs.set k v)))) H1 locs1 → W p l e R s m args below meth c H1 locs1 cells slots Q (F0 m (pc + 3) ls rest)) : W p l e R s m args below meth c H locs cells slots Q (F0 m pc ls (v :: .ref a :: rest)) := by
  obtain ⟨⟨hx, hb, -, hown, hts⟩, hK⟩ := C
  have hap := va_apart (own := own) hts hin ty0 hty hnm hK.1 hc
  obtain ⟨r, h1, cell, q1, q2, q3, q4⟩ := hB.1 a _ ha
  have hr : r = (Cn, T, N) := Option.some.inj (h1.symm.trans hc)
  subst hr
  obtain ⟨hS, hfc, kC, hkC, hkind⟩ := hK.1.1 ci _ hc
  obtain ⟨cf, kf, fi, f, hi, hsl⟩ := hS k hk
  have hlay := hts _ (hin _ (u_in_lay hk))
  unfold u_lay at hlay
  rw [if_neg (by rw [hfin]; decide)] at hlay
  have hst := (u_facts hfc hkC (u_lays hts hin hk) hi).1
  have h6 := u_store hfc hkC hkind hlay hi (hty k hk) hn hfit
  refine W.putK hx hb (f := f) ⟨hown, hts _ hlink, ⟨_, _, _, hsame _ hi⟩, hst⟩ (by rw [q2]; exact h6) q1 q3 (by rw [hsl]; exact k2_hasslot (q4 k hk)) rfl rfl hdg fun H' e1 e2 e3 => ?_
  rw [hsl] at e1 ⊢
  exact kk H' _ (hB.put ha (e := xO ci (fs.set k v)) ⟨_, hc, t_OB.to (V := updV (vp_V fs) k v) ⟨_, e1, q2, q3, t_set q4 hap hk v⟩ (fun j _ => vp_updV_set hl v j)⟩ e2 e3)
/-! ## int arrays -/
theorem x_iald (C : xC E p s m args c cc nL own) (hB : xB E A s w H locs) {N : Nat} {f : Nat → Int} (ha : w a = some (xI E N f)) {z : Int} (n : Nat) (hz : z = (n : Int)) (hn : n < N) (hN : N < 2 ^ 31) (hdg : decode cc pc = .ok (.iaload, 1))
    (kk : W p l e R s m args below meth c H locs cells slots Q (F0 m (pc + 1) ls (.int (iI (f n)) :: rest))) : W p l e R s m args below meth c H locs cells slots Q (F0 m pc ls (.int (iI z) :: .ref a :: rest)) := by
  obtain ⟨⟨hx, hb, -, hown, hts⟩, hK⟩ := C
  obtain ⟨h1, h2⟩ := iI_in hz hn hN
  refine va_iald hx hb hK.1 (hB.1.one ha) 0 0 rfl rfl h1 hdg ?_
  rw [h2]
  exact kk
theorem x_iast (C : xC E p s m args c cc nL own) (hB : xB E A s w H locs) {N : Nat} {f : Nat → Int} (ha : w a = some (xI E N f)) {z v : Int} (n : Nat) (hz : z = (n : Int)) (hn : n < N) (hN : N < 2 ^ 31) (hdg : decode cc pc = .ok (.iastore, 1))
    (kk : ∀ (H1 : Heap) (locs1 : List Loc), xB E A s (va_up w a (some (xI E N (va_up f n v)))) H1 locs1 → W p l e R s m args below meth c H1 locs1 cells slots Q (F0 m (pc + 1) ls rest)) : W p l e R s m args below meth c H locs cells slots Q (F0 m pc ls (.int (iI v) :: .int (iI z) :: .ref a :: rest)) := by
  obtain ⟨⟨hx, hb, -, hown, hts⟩, hK⟩ := C
  obtain ⟨h1, h2⟩ := iI_in hz hn hN
  refine W.iast hx hb (hB.1 a _ ha) ((hK.1.2 0 _ rfl).1 N (fun j => .int (iI (f j)))) (fun q => by cases q) (by show ¬ (iI z < 0 ∨ (arrV _ _ _).slots.size ≤ _); rw [arrV_size]; exact h1) rfl rfl hdg fun H1 e1 z1 oq => ?_
  refine kk H1 _ (hB.put ha ?_ z1 oq)
  show H1[a]? = some (vp_cell _ _)
  rw [e1, h2]
  show some ((vp_cell _ _).setSlot _ _) = _
  rw [vp_cell_i, vp_cell_i, arrV_store]
  congr 2
  funext q
  by_cases hq : q = n
  · subst hq
    simp [updV, va_up]
  · simp [updV, va_up, hq]
theorem x_ilen (C : xC E p s m args c cc nL own) (hB : xB E A s w H locs) {N : Nat} {f : Nat → Int} (ha : w a = some (xI E N f)) (hdg : decode cc pc = .ok (.arraylength, 1))
    (kk : W p l e R s m args below meth c H locs cells slots Q (F0 m (pc + 1) ls (.int (iI (N : Int)) :: rest))) : W p l e R s m args below meth c H locs cells slots Q (F0 m pc ls (.ref a :: rest)) := by
  obtain ⟨⟨hx, hb, -, hown, hts⟩, hK⟩ := C
  exact va_alen hx hb hK.1 (hB.1.one ha) 0 0 rfl rfl (iI_ofNat N) hdg kk
end XR
