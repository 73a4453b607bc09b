/-! MORE ROWS OF THE MAP WORLD: arrays of references that are made, elements of any class, copies, Math -/
set_option maxRecDepth 100000
/-- an object of the world that an Object array may hold -/
def xAny (w : xw) (v : Nat) : Prop := ∃ (ci : Nat) (fs : List Value) (q : vw_C), w v = some (xO ci fs) ∧ vwCl[ci]? = some q ∧ (Cond.castable q.1 "java/lang/Object") ∈ lw_tbl
theorem xAny.any {E : xE} {s : State} {w : xw} {H : Heap} {v : Nat} (hK : xK E s) (hP : xP E w H) (h : xAny w v) : va_Any "java/lang/Object" s H v := by
  obtain ⟨ci, fs, q, h1, h2, h3⟩ := h
  refine va_rAny (q0 := 0) hK.1 (hP.one h1) rfl h2 (fun comp c0 e1 e2 => ?_)
  have h4 := hK.2 _ h3 rfl
  obtain ⟨c1, t1, f1, f2, f3⟩ := Cond.castable_spec h4
  rw [e1] at f2
  rw [e2] at f1
  cases f1
  cases f2
  exact f3
theorem iI_clamp {z : Int} {n : Nat} (hz : z = (n : Int)) (hn : n < 2 ^ 30) : ¬ iI z < 0 ∧ (iI z).toNatClampNeg = n := by
  obtain ⟨h1, h2⟩ := iI_in hz hn (by decide)
  exact ⟨fun h => h1 (Or.inl h), h2⟩
section XR2
variable {p : Program} {l : Launch} {e : Env} {R : Room} {s : State} {m : MethodId} {args : Array Value} {below : List Frame} {meth : Method} {c : Code} {H : Heap} {locs : List Loc} {cells slots : Nat} {Q : State → Prop}
variable {cc : ByteArray} {pc nL : Nat} {ls : Array Slot} {rest : List Value} {E : xE} {A : Nat → Prop} {a : Nat} {w : xw} {own : String}
/-- an array of references -/
theorem x_anew (C : xC E p s m args c cc nL own) (hZ : zK E A s s.heap) (hB : xB E A s w H locs) (t : Nat) {Cn : String} (ht : (xtys E)[t]? = some (E.2 t, .object Cn)) {index : Nat} (hcl : (Cond.classLink own index Cn) ∈ lw_all) (hao : Cn ∈ aol) {z : Int} (N : Nat) (hz : z = (N : Int)) (hN : N < 2 ^ 20) (hcells : cells + 1 ≤ R.cells) (hslots : slots + N ≤ R.slots) (hdg : decode cc pc = .ok (.anewarray index, 3))
    (kk : ∀ (q : Nat) (H1 : Heap), w q = none → s.heap.size ≤ q → xB E A s (va_up w q (some (xR E t N (fun _ => none)))) H1 locs → W p l e R s m args below meth c H1 locs (cells + 1) (slots + N) Q (F0 m (pc + 3) ls (.ref q :: rest))) : W p l e R s m args below meth c H locs cells slots Q (F0 m pc ls (.int (iI z) :: rest)) := by
  obtain ⟨⟨hx, hb, -, hown, hts⟩, hK⟩ := C
  obtain ⟨h0, hc⟩ := iI_clamp hz (Nat.lt_trans hN (by decide))
  refine W.anew hx hb hown (hts _ hcl) (va_AO.use (hZ.1.2.2.1 _ hao)) rfl hdg rfl h0 (by rw [hc]; omega) hcells (by rw [hc]; exact hslots) fun cA kA comp f1 f2 f3 f4 => ?_
  rw [hc]
  have hR := (hK.1.2 t _ ht).2
  obtain ⟨_, _, -, -, -, g4⟩ := hR
  have hcA : cA = E.2 t := Option.some.inj (f1.symm.trans g4)
  subst hcA
  refine kk H.size _ hB.fresh hB.2.2.1.1 (hB.new ?_ (Array.size_push _) (fun q hq => by rw [Array.getElem?_push, if_neg (Nat.ne_of_lt hq)]))
  show (H.push _)[H.size]? = some (vp_cell _ _)
  rw [vp_cell_q, Array.getElem?_push_size, ← arrV_new]
  rfl
/-- a store of any object into an Object array -/
theorem x_aastM (C : xC E p s m args c cc nL own) (hB : xB E A s w H locs) {N v : Nat} {f : Nat → Option Nat} (ha : w a = some (xR E 3 N f)) (hv : xAny w v) {z : Int} (n : Nat) (hz : z = (n : Int)) (hn : n < N) (hN : N < 2 ^ 31) (hdg : decode cc pc = .ok (.aastore, 1))
    (kk : ∀ (H1 : Heap) (locs1 : List Loc), xB E A s (va_up w a (some (xR E 3 N (va_up f n (some v))))) H1 locs1 → W p l e R s m args below meth c H1 locs1 cells slots Q (F0 m (pc + 1) ls rest)) : W p l e R s m args below meth c H locs cells slots Q (F0 m pc ls (.ref v :: .int (iI z) :: .ref a :: rest)) := by
  have hr := hv.any C.2 hB.1
  obtain ⟨⟨hx, hb, -, hown, hts⟩, hK⟩ := C
  obtain ⟨h1, h2⟩ := iI_in hz hn hN
  have h0 : ¬ iI z < 0 := fun q => h1 (Or.inl q)
  have hlt : (iI z).toNatClampNeg < N := by rw [h2]; exact hn
  obtain ⟨cellV, g1, g3, ⟨kC, hkC⟩, hasg⟩ := hr
  obtain ⟨kA, comp, k1, k2, k3, -⟩ := (hK.1.2 3 _ rfl).2
  obtain ⟨kE, hkE, -⟩ := Vm.findClass_spec k3
  refine W.aast hx hb (hB.1 a _ ha) (fun q h => by cases h) (fun h => by cases h) k1 k2 rfl hkE ⟨h0, by show _ < (arrV _ _ _).slots.size; rw [arrV_size]; exact hlt⟩ g1 (fun q h => by rw [h] at g3; cases g3) hkC (hasg _ k3) rfl rfl hdg fun H1 e1 z1 oq => ?_
  refine kk H1 _ (hB.put ha ?_ z1 oq)
  show H1[a]? = some (vp_cell _ _)
  rw [e1, h2]
  show some ((vp_cell _ _).setSlot _ _) = _
  rw [vp_cell_q, vp_cell_q, arrV_store]
  congr 2
  funext q
  by_cases hq : q = n
  · subst hq
    simp [updV, va_up, va_rf]
  · simp [updV, va_up, hq]
theorem va_cpyI (f g : Nat → Int) (sp dp n : Nat) : va_cpy (fun j => iI (f j)) (fun j => iI (g j)) sp dp n = fun j => iI (va_cpy f g sp dp n j) := by
  funext j
  unfold va_cpy
  split <;> rfl
theorem x_keep {w1 : xw} {a : Nat} {e0 e1 : xX} {H1 : Heap} {L : List Loc} (hB : xB E A s w H locs) (ha : w a = some e0) (he : xat E.1 (a, e1) H1) (z : H1.size = H.size) (oq : ∀ q, q ≠ a → H1[q]? = H[q]?) (hL : ∀ z ∈ L, z.base = a) (hw : w1 = va_up w a (some e1)) : xB E A s w1 H1 (locs ++ L) := by
  subst hw
  obtain ⟨hP, hD, hS, hA⟩ := hB
  refine ⟨hP.set he oq, fun q e' hq => ?_, ⟨Nat.le_trans hS.1 (Nat.le_of_eq z.symm), fun q g1 g2 => (oq q (fun k => g2 (by rw [k]; exact hD a _ ha))).trans (hS.2.1 q g1 g2), fun q hq => ?_⟩, hA⟩
  · by_cases hqa : q = a
    · subst hqa
      exact hD _ _ ha
    · rw [va_up_n _ _ hqa] at hq
      exact hD _ _ hq
  · rcases List.mem_append.mp hq with h | h
    · exact hS.2.2 q h
    · rw [hL q h]
      exact hD a _ ha
theorem iI_toIntN {z : Int} {n : Nat} (hz : z = (n : Int)) (hn : n < 2 ^ 30) : (iI z).toInt = ((iI z).toNatClampNeg : Int) := by
  obtain ⟨-, h2⟩ := iI_clamp hz hn
  rw [h2, iI_toInt ⟨by omega, by omega⟩, hz]
/-- System.arraycopy between arrays of ints, of bytes, of shorts -/
theorem x_copyi (C : xC E p s m args c cc nL own) (hB : xB E A s w H locs) {index : Nat} (hlink : (Cond.methodLink own index arraycopyName) ∈ lw_all) (hnat : (Cond.native arraycopyName) ∈ lw_all) (hstat : (Cond.static arraycopyName) ∈ lw_all) (hini : (Cond.initialized "java/lang/System") ∈ lw_all) (t : Nat) {ty : FieldType} (ht : (xtys E)[t]? = some (E.2 t, ty)) (hprim : refKind ty = false) {a0 n0 n1 : Nat} {f g : Nat → Int}
    (ha0 : w a0 = some (.inl (.inl (E.2 t, n0, .inl (fun j => iI (f j)))))) (ha1 : w a = some (.inl (.inl (E.2 t, n1, .inl (fun j => iI (g j)))))) {zs zd zn : Int} (sp dp n : Nat) (h1 : zs = (sp : Int)) (h2 : zd = (dp : Int)) (h3 : zn = (n : Int)) (h4 : sp + n ≤ n0) (h5 : dp + n ≤ n1) (hn0 : n0 < 2 ^ 30) (hn1 : n1 < 2 ^ 30) (hfit : ∀ i, i < n → fits ty (.int (iI (f (sp + i)))) = true)
    (hl : ls.size = nL) (hframes : 1 ≤ R.frames) (hlocals : (rest.map fun v => v.category).sum + (nativeFrameWords "java/lang/System" "arraycopy" 5 + 11) ≤ R.locals) (hdg : decode cc pc = .ok (.invokestatic index, 3))
    (kk : ∀ (H1 : Heap) (locs1 : List Loc), xB E A s (va_up w a (some (.inl (.inl (E.2 t, n1, .inl (fun j => iI (va_cpy f g sp dp n j))))))) H1 locs1 → W p l e R s m args below meth c H1 locs1 cells slots Q (F0 m (pc + 3) ls rest)) : W p l e R s m args below meth c H locs cells slots Q (F0 m pc ls (.int (iI zn) :: .int (iI zd) :: .ref a :: .int (iI zs) :: .ref a0 :: rest)) := by
  obtain ⟨⟨hx, hb, hml, hown, hts⟩, hK⟩ := C
  obtain ⟨s1, s2⟩ := iI_clamp h1 (by omega)
  obtain ⟨d1, d2⟩ := iI_clamp h2 (by omega)
  obtain ⟨k1, k2⟩ := iI_clamp h3 (by omega)
  have ns := iI_toIntN h1 (by omega)
  have nd := iI_toIntN h2 (by omega)
  have nn := iI_toIntN h3 (by omega)
  intro T hT X
  have hc0 : H[a0]? = some (vp_cell (E.2 t) (n0, .inl (fun j => iI (f j)))) := hB.1 a0 _ ha0
  have hc1 : H[a]? = some (vp_cell (E.2 t) (n1, .inl (fun j => iI (g j)))) := hB.1 a _ ha1
  obtain ⟨-, k0, hk0, cm0, hkk0⟩ := (hK.1.2 t _ ht).1 n0 (fun j => .int (iI (f j)))
  obtain ⟨-, kk1, hk1, cm1, hkk1⟩ := (hK.1.2 t _ ht).1 n1 (fun j => .int (iI (g j)))
  obtain ⟨vm', X', step⟩ := X.arraycopy hx hown (hts _ hlink) (hts _ hnat) (hts _ hstat) (hts _ hini) (src := a0) (dst := a) (cs := vp_cell (E.2 t) (n0, .inl (fun j => iI (f j)))) (cd := vp_cell (E.2 t) (n1, .inl (fun j => iI (g j)))) (srcPos := iI zs) (destPos := iI zd) (n := iI zn) (by rw [hT]; exact hc0) (by rw [hT]; exact hc1)
    (fun _ h => by cases h) (fun _ h => by cases h) (fun h => by cases h) (fun h => by cases h) hk0 hk1 hkk0 hkk1 (by simp [hprim]) s1 d1 k1
    (by rw [ns, nn, s2, k2]; show ¬ _ > ((arrV _ n0 (fun j => .int (iI (f j)))).slots.size : Int); rw [arrV_size]; omega)
    (by rw [nd, nn, d2, k2]; show ¬ _ > ((arrV _ n1 (fun j => .int (iI (g j)))).slots.size : Int); rw [arrV_size]; omega)
    (fun vm₁ _ i hi => by
      rw [k2] at hi
      have e : (vp_cell (E.2 t) (n0, .inl (fun j => iI (f j)))).slots.getD ((iI zs).toNatClampNeg + i) .null = .int (iI (f (sp + i))) := by
        show (arrV _ n0 (fun j => .int (iI (f j)))).slots.getD _ _ = _
        rw [s2, Array.getD_eq_getD_getElem?, arrV_read _ _ (by omega)]
        rfl
      refine ⟨?_, ?_⟩
      · rw [e]
        exact hfit i hi
      · rw [e]
        exact trivial)
    (g := F0 m pc ls (.int (iI zn) :: .int (iI zd) :: .ref a :: .int (iI zs) :: .ref a0 :: rest)) rfl (by rw [hml]; exact hl) (rest := rest) rfl (by rw [hb]; exact hdg) hframes (by show 2 * 0 + _ + _ ≤ _; omega)
  have e1 : copied (vp_cell (E.2 t) (n0, .inl (fun j => iI (f j)))) (vp_cell (E.2 t) (n1, .inl (fun j => iI (g j)))) (iI zs) (iI zd) (iI zn) = vp_cell (E.2 t) (n1, .inl (fun j => iI (va_cpy f g sp dp n j))) := by
    rw [← va_cpyI, ← s2, ← d2, ← k2]
    exact va_copied (fun z => .int z) _ _ (fun j => iI (f j)) (fun j => iI (g j)) (by rw [s2, k2]; exact h4)
  rw [e1] at X' step
  have hl2 : a < H.size := (Array.getElem?_eq_some_iff.mp hc1).1
  have hheap : ((T.setVm vm').setCell a (vp_cell (E.2 t) (n1, .inl (fun j => iI (va_cpy f g sp dp n j))))).heap = H.setIfInBounds a (vp_cell (E.2 t) (n1, .inl (fun j => iI (va_cpy f g sp dp n j)))) := by rw [← hT]; rfl
  have oq : ∀ q : Nat, q ≠ a → (H.setIfInBounds a (vp_cell (E.2 t) (n1, .inl (fun j => iI (va_cpy f g sp dp n j)))))[q]? = H[q]? := fun q hq => by simp [Array.getElem?_setIfInBounds, Ne.symm hq]
  have hh : (H.setIfInBounds a (vp_cell (E.2 t) (n1, .inl (fun j => iI (va_cpy f g sp dp n j)))))[a]? = some (vp_cell (E.2 t) (n1, .inl (fun j => iI (va_cpy f g sp dp n j)))) := by simp [Array.getElem?_setIfInBounds, hl2]
  obtain ⟨t2, a1, b1⟩ := kk _ _ (x_keep hB ha1 (e1 := .inl (.inl (E.2 t, n1, .inl (fun j => iI (va_cpy f g sp dp n j))))) hh (by simp) oq (fun z hz => by
      obtain ⟨y, -, hy⟩ := List.mem_map.mp hz
      rw [← hy]) rfl) _ hheap X'
  exact ⟨t2, step t2 a1, b1⟩
/-- System.arraycopy from an Object array to another -/
theorem x_copyM (C : xC E p s m args c cc nL own) (hB : xB E A s w H locs) {index : Nat} (hlink : (Cond.methodLink own index arraycopyName) ∈ lw_all) (hnat : (Cond.native arraycopyName) ∈ lw_all) (hstat : (Cond.static arraycopyName) ∈ lw_all) (hini : (Cond.initialized "java/lang/System") ∈ lw_all) {a0 n0 n1 : Nat} {f g : Nat → Option Nat}
    (ha0 : w a0 = some (xR E 3 n0 f)) (ha1 : w a = some (xR E 3 n1 g)) {zs zd zn : Int} (sp dp n : Nat) (h1 : zs = (sp : Int)) (h2 : zd = (dp : Int)) (h3 : zn = (n : Int)) (h4 : sp + n ≤ n0) (h5 : dp + n ≤ n1) (hn0 : n0 < 2 ^ 30) (hn1 : n1 < 2 ^ 30) (hel : ∀ i, i < n → ∀ y : Nat, f (sp + i) = some y → xAny w y)
    (hl : ls.size = nL) (hframes : 1 ≤ R.frames) (hlocals : (rest.map fun v => v.category).sum + (nativeFrameWords "java/lang/System" "arraycopy" 5 + 11) ≤ R.locals) (hdg : decode cc pc = .ok (.invokestatic index, 3))
    (kk : ∀ (H1 : Heap) (locs1 : List Loc), xB E A s (va_up w a (some (xR E 3 n1 (va_cpy f g sp dp n)))) H1 locs1 → W p l e R s m args below meth c H1 locs1 cells slots Q (F0 m (pc + 3) ls rest)) : W p l e R s m args below meth c H locs cells slots Q (F0 m pc ls (.int (iI zn) :: .int (iI zd) :: .ref a :: .int (iI zs) :: .ref a0 :: rest)) := by
  have hel2 : ∀ i, i < n → ∀ y : Nat, f (sp + i) = some y → va_Any "java/lang/Object" s H y := fun i hi y hy => (hel i hi y hy).any C.2 hB.1
  obtain ⟨⟨hx, hb, hml, hown, hts⟩, hK⟩ := C
  obtain ⟨s1, s2⟩ := iI_clamp h1 (by omega)
  obtain ⟨d1, d2⟩ := iI_clamp h2 (by omega)
  obtain ⟨k1, k2⟩ := iI_clamp h3 (by omega)
  have ns := iI_toIntN h1 (by omega)
  have nd := iI_toIntN h2 (by omega)
  have nn := iI_toIntN h3 (by omega)
  intro T hT X
  have hc0 : H[a0]? = some (vp_cell (E.2 3) (n0, .inr (.inr (.inr (.inr f))))) := hB.1 a0 _ ha0
  have hc1 : H[a]? = some (vp_cell (E.2 3) (n1, .inr (.inr (.inr (.inr g))))) := hB.1 a _ ha1
  obtain ⟨-, k0, hk0, cm0, hkk0⟩ := (hK.1.2 3 _ rfl).1 n0 (fun j => va_rf (f j))
  obtain ⟨-, kk1, hk1, cm1, hkk1⟩ := (hK.1.2 3 _ rfl).1 n1 (fun j => va_rf (g j))
  obtain ⟨vm', X', step⟩ := X.arraycopy hx hown (hts _ hlink) (hts _ hnat) (hts _ hstat) (hts _ hini) (src := a0) (dst := a) (cs := vp_cell (E.2 3) (n0, .inr (.inr (.inr (.inr f))))) (cd := vp_cell (E.2 3) (n1, .inr (.inr (.inr (.inr g))))) (srcPos := iI zs) (destPos := iI zd) (n := iI zn) (by rw [hT]; exact hc0) (by rw [hT]; exact hc1)
    (fun _ h => by cases h) (fun _ h => by cases h) (fun h => by cases h) (fun h => by cases h) hk0 hk1 hkk0 hkk1 rfl s1 d1 k1
    (by rw [ns, nn, s2, k2]; show ¬ _ > ((arrV _ n0 (fun j => va_rf (f j))).slots.size : Int); rw [arrV_size]; omega)
    (by rw [nd, nn, d2, k2]; show ¬ _ > ((arrV _ n1 (fun j => va_rf (g j))).slots.size : Int); rw [arrV_size]; omega)
    (fun vm₁ hal i hi => by
      rw [k2] at hi
      have e : (vp_cell (E.2 3) (n0, .inr (.inr (.inr (.inr f))))).slots.getD ((iI zs).toNatClampNeg + i) .null = va_rf (f (sp + i)) := by
        show (arrV _ n0 (fun j => va_rf (f j))).slots.getD _ _ = _
        rw [s2, Array.getD_eq_getD_getElem?, arrV_read _ _ (by omega)]
        rfl
      rw [e]
      cases hy : f (sp + i) with
      | none => exact ⟨rfl, trivial⟩
      | some y =>
        obtain ⟨cellV, g1, g2, ⟨kC, hkC⟩, hasg⟩ := hel2 i hi y hy
        obtain ⟨kA, comp, r1, r2, r3, -⟩ := (hK.1.2 3 _ rfl).2
        cases hk1.symm.trans r1
        cases hkk1.symm.trans r2
        obtain ⟨kE, hkE, -⟩ := Vm.findClass_spec r3
        obtain ⟨kC', hkC', -⟩ := hal.2.2 _ _ hkC
        obtain ⟨kE', hkE', -⟩ := hal.2.2 _ _ hkE
        refine ⟨rfl, cellV, (show T.heap[y]? = some cellV by rw [hT]; exact g1), (fun q h => by rw [h] at g2; cases g2), ⟨kC', hkC'⟩, ?_, ?_⟩
        · exact ⟨kE', hkE'⟩
        · show vm₁.assignable _ _ = true
          rw [hal.assignable]
          exact hasg _ r3)
    (g := F0 m pc ls (.int (iI zn) :: .int (iI zd) :: .ref a :: .int (iI zs) :: .ref a0 :: rest)) rfl (by rw [hml]; exact hl) (rest := rest) rfl (by rw [hb]; exact hdg) hframes (by show 2 * 0 + _ + _ ≤ _; omega)
  have e1 : copied (vp_cell (E.2 3) (n0, .inr (.inr (.inr (.inr f))))) (vp_cell (E.2 3) (n1, .inr (.inr (.inr (.inr g))))) (iI zs) (iI zd) (iI zn) = vp_cell (E.2 3) (n1, .inr (.inr (.inr (.inr (va_cpy f g sp dp n))))) := by
    rw [vp_cell_q, vp_cell_q, vp_cell_q, ← s2, ← d2, ← k2]
    exact va_copied (fun z => va_rf z) _ _ f g (by rw [s2, k2]; exact h4)
  rw [e1] at X' step
  have hl2 : a < H.size := (Array.getElem?_eq_some_iff.mp hc1).1
  have hheap : ((T.setVm vm').setCell a (vp_cell (E.2 3) (n1, .inr (.inr (.inr (.inr (va_cpy f g sp dp n))))))).heap = H.setIfInBounds a (vp_cell (E.2 3) (n1, .inr (.inr (.inr (.inr (va_cpy f g sp dp n)))))) := by rw [← hT]; rfl
  have oq : ∀ q : Nat, q ≠ a → (H.setIfInBounds a (vp_cell (E.2 3) (n1, .inr (.inr (.inr (.inr (va_cpy f g sp dp n)))))))[q]? = H[q]? := fun q hq => by simp [Array.getElem?_setIfInBounds, Ne.symm hq]
  have hh : (H.setIfInBounds a (vp_cell (E.2 3) (n1, .inr (.inr (.inr (.inr (va_cpy f g sp dp n)))))))[a]? = some (vp_cell (E.2 3) (n1, .inr (.inr (.inr (.inr (va_cpy f g sp dp n)))))) := by simp [Array.getElem?_setIfInBounds, hl2]
  obtain ⟨t2, a1, b1⟩ := kk _ _ (x_keep hB ha1 (e1 := xR E 3 n1 (va_cpy f g sp dp n)) hh (by simp) oq (fun z hz => by
      obtain ⟨y, -, hy⟩ := List.mem_map.mp hz
      rw [← hy]) rfl) _ hheap X'
  exact ⟨t2, step t2 a1, b1⟩
/-! ## Math -/
def imin (a b : Int) : Int := if b < a then b else a
def imax (a b : Int) : Int := if a < b then b else a
theorem x_mmin (C : xC E p s m args c cc nL own) {index : Nat} (hlink : (Cond.methodLink own index Lib.Math.min.name) ∈ lw_all) (hstat : (Cond.static Lib.Math.min.name) ∈ lw_all) (hini : (Cond.initialized "java/lang/Math") ∈ lw_all) (hcode : (Cond.code Lib.Math.min.name Lib.Math.min.code 2 (some .int)) ∈ lw_all) (hl : ls.size = nL) (hframes : 1 ≤ R.frames) (hlocals : (rest.map fun v => v.category).sum + 13 ≤ R.locals) (hc : cells ≤ R.cells) (hs : slots ≤ R.slots) {x y : Int} (hx : rg x) (hy : rg y) (hdg : decode cc pc = .ok (.invokestatic index, 3))
    (kk : W p l e R s m args below meth c H locs cells slots Q (F0 m (pc + 3) ls (.int (iI (imin x y)) :: rest))) : W p l e R s m args below meth c H locs cells slots Q (F0 m pc ls (.int (iI y) :: .int (iI x) :: rest)) := by
  obtain ⟨⟨hx0, hb, hml, hown, hts⟩, hK⟩ := C
  refine va_mmin hx0 hb (by rw [hml]; exact hl.symm) hown (hts _ hlink) (hts _ hstat) (hts _ hini) (hts _ hcode) hframes hlocals hc hs hdg (x_rw (y := iI (imin x y)) ?_ kk)
  unfold imin
  by_cases h : y < x
  · rw [if_pos h, if_pos ((iI_lt hy hx).mpr h)]
  · rw [if_neg h, if_neg (fun q => h ((iI_lt hy hx).mp q))]
theorem x_mmax (C : xC E p s m args c cc nL own) {index : Nat} (hlink : (Cond.methodLink own index Lib.Math.max.name) ∈ lw_all) (hstat : (Cond.static Lib.Math.max.name) ∈ lw_all) (hini : (Cond.initialized "java/lang/Math") ∈ lw_all) (hcode : (Cond.code Lib.Math.max.name Lib.Math.max.code 2 (some .int)) ∈ lw_all) (hl : ls.size = nL) (hframes : 1 ≤ R.frames) (hlocals : (rest.map fun v => v.category).sum + 13 ≤ R.locals) (hc : cells ≤ R.cells) (hs : slots ≤ R.slots) {x y : Int} (hx : rg x) (hy : rg y) (hdg : decode cc pc = .ok (.invokestatic index, 3))
    (kk : W p l e R s m args below meth c H locs cells slots Q (F0 m (pc + 3) ls (.int (iI (imax x y)) :: rest))) : W p l e R s m args below meth c H locs cells slots Q (F0 m pc ls (.int (iI y) :: .int (iI x) :: rest)) := by
  obtain ⟨⟨hx0, hb, hml, hown, hts⟩, hK⟩ := C
  refine va_mmax hx0 hb (by rw [hml]; exact hl.symm) hown (hts _ hlink) (hts _ hstat) (hts _ hini) (hts _ hcode) hframes hlocals hc hs hdg (x_rw (y := iI (imax x y)) ?_ kk)
  unfold imax
  by_cases h : x < y
  · rw [if_pos h, if_pos ((iI_lt hx hy).mpr h)]
  · rw [if_neg h, if_neg (fun q => h ((iI_lt hx hy).mp q))]
theorem x_mabs (C : xC E p s m args c cc nL own) {index : Nat} (hlink : (Cond.methodLink own index Lib.Math.abs.name) ∈ lw_all) (hstat : (Cond.static Lib.Math.abs.name) ∈ lw_all) (hini : (Cond.initialized "java/lang/Math") ∈ lw_all) (hcode : (Cond.code Lib.Math.abs.name Lib.Math.abs.code 1 (some .int)) ∈ lw_all) (hl : ls.size = nL) (hframes : 1 ≤ R.frames) (hlocals : (rest.map fun v => v.category).sum + 13 ≤ R.locals) (hc : cells ≤ R.cells) (hs : slots ≤ R.slots) {x : Int} (hx : rg x) (hdg : decode cc pc = .ok (.invokestatic index, 3))
    (kk : W p l e R s m args below meth c H locs cells slots Q (F0 m (pc + 3) ls (.int (iI (aabs x)) :: rest))) : W p l e R s m args below meth c H locs cells slots Q (F0 m pc ls (.int (iI x) :: rest)) := by
  obtain ⟨⟨hx0, hb, hml, hown, hts⟩, hK⟩ := C
  refine va_mabs hx0 hb (by rw [hml]; exact hl.symm) hown (hts _ hlink) (hts _ hstat) (hts _ hini) (hts _ hcode) hframes hlocals hc hs hdg (x_rw (y := iI (aabs x)) ?_ kk)
  unfold aabs
  have e0 : (0 : Int32) = iI 0 := rfl
  by_cases h : x < 0
  · rw [if_pos h, if_neg (by rw [e0, iI_le rg_0 hx]; omega), e0, iI_sub]
    congr 1
    omega
  · rw [if_neg h, if_pos (by rw [e0, iI_le rg_0 hx]; omega)]
/-! ## casts of objects of a known class -/
theorem x_castY (C : xC E p s m args c cc nL own) (hB : xB E A s w H locs) {Cn nm : String} {index ci : Nat} {fs : List Value} {q : vw_C} (hlink : (Cond.classLink own index nm) ∈ lw_all) (ha : w a = some (xO ci fs)) (hc : vwCl[ci]? = some q) (hq : q.1 = Cn) (hcast : (Cond.castable Cn nm) ∈ lw_tbl) (hdg : decode cc pc = .ok (.checkcast index, 3))
    (kk : W p l e R s m args below meth c H locs cells slots Q (F0 m (pc + 3) ls (.ref a :: rest))) : W p l e R s m args below meth c H locs cells slots Q (F0 m pc ls (.ref a :: rest)) := by
  subst hq
  have hr := xrecv C.2 hB.1 ha hc
  obtain ⟨⟨hx, hb, hml, hown, hts⟩, hK⟩ := C
  exact va_castY hx hb hown (hts _ hlink) (hK.2 _ hcast rfl) hr hdg kk
theorem x_castS (C : xC E p s m args c cc nL own) (hB : xB E A s w H locs) {nm : String} {index ci : Nat} {fs : List Value} {q : vw_C} (hlink : (Cond.classLink own index nm) ∈ lw_all) (ha : w a = some (xO ci fs)) (hc : vwCl[ci]? = some q) (hq : q.1 = nm) (hdg : decode cc pc = .ok (.checkcast index, 3))
    (kk : W p l e R s m args below meth c H locs cells slots Q (F0 m (pc + 3) ls (.ref a :: rest))) : W p l e R s m args below meth c H locs cells slots Q (F0 m pc ls (.ref a :: rest)) := by
  subst hq
  have hr := xrecv C.2 hB.1 ha hc
  obtain ⟨⟨hx, hb, hml, hown, hts⟩, hK⟩ := C
  exact va_castS hx hb hown (hts _ hlink) (hK.1.1 ci _ hc).2 hr hdg kk
/-! ## ArrayList's empty array, class objects -/
theorem x_dlen (C : xC E p s m args c cc nL own) (hZ : zK E A s s.heap) (hB : xB E A s w H locs) (hdg : decode cc pc = .ok (.arraylength, 1))
    (kk : W p l e R s m args below meth c H locs cells slots Q (F0 m (pc + 1) ls (.int (iI 0) :: rest))) : W p l e R s m args below meth c H locs cells slots Q (F0 m pc ls (.ref (E.2 20) :: rest)) := va_tlen C.1.1 C.1.2.1 hZ.2.2 hB.2.2.1 (v := iI 0) rfl hdg kk
theorem x_gets (C : xC E p s m args c cc nL own) (hZ : zK E A s s.heap) (hB : xB E A s w H locs) {index : Nat} (hlink : (Cond.fieldLink own index "java/util/ArrayList" "DEFAULTCAPACITY_EMPTY_ELEMENTDATA" "[Ljava/lang/Object;") ∈ lw_all) (hdg : decode cc pc = .ok (.getstatic index, 3))
    (kk : W p l e R s m args below meth c H locs cells slots Q (F0 m (pc + 3) ls (.ref (E.2 20) :: rest))) : W p l e R s m args below meth c H locs cells slots Q (F0 m pc ls rest) := va_gets C.1.1 C.1.2.1 hZ.2.1 hB.2.2.1 C.1.2.2.2.1 (C.1.2.2.2.2 _ hlink) (fun _ h => h) hdg kk
theorem x_ldcM (C : xC E p s m args c cc nL own) (hZ : zK E A s s.heap) {index : Nat} (hlink : (Cond.classLink own index "[Ljava/lang/Object;") ∈ lw_all) (hdg : decode cc pc = .ok (.ldc index, 2))
    (kk : W p l e R s m args below meth c H locs cells slots Q (F0 m (pc + 2) ls (.ref (E.2 21) :: rest))) : W p l e R s m args below meth c H locs cells slots Q (F0 m pc ls rest) := va_ldcM C.1.1 C.1.2.1 C.1.2.2.2.1 (C.1.2.2.2.2 _ hlink) hZ.1.2.2.2.1 hdg kk
theorem x_getC (C : xC E p s m args c cc nL own) (hZ : zK E A s s.heap) (hB : xB E A s w H locs) {N : Nat} {f : Nat → Option Nat} (ha : w a = some (xR E 3 N f)) {index : Nat} (hlink : (Cond.methodLink own index ⟨"java/lang/Object", "getClass", "()Ljava/lang/Class;"⟩) ∈ lw_all) (hsel : (Cond.selects "[Ljava/lang/Object;" ⟨"java/lang/Object", "getClass", "()Ljava/lang/Class;"⟩ ⟨"java/lang/Object", "getClass", "()Ljava/lang/Class;"⟩) ∈ lw_all) (hinst : (Cond.instanceMethod ⟨"java/lang/Object", "getClass", "()Ljava/lang/Class;"⟩) ∈ lw_all) (hnat : (Cond.native ⟨"java/lang/Object", "getClass", "()Ljava/lang/Class;"⟩) ∈ lw_all) (hl : ls.size = nL) (hframes : 1 ≤ R.frames) (hlocals : (rest.map fun v => v.category).sum + 14 ≤ R.locals) (hdg : decode cc pc = .ok (.invokevirtual index, 3))
    (kk : W p l e R s m args below meth c H locs cells slots Q (F0 m (pc + 3) ls (.ref (E.2 21) :: rest))) : W p l e R s m args below meth c H locs cells slots Q (F0 m pc ls (.ref a :: rest)) := by
  have hc := hB.1 a _ ha
  obtain ⟨⟨hx, hb, hml, hown, hts⟩, hK⟩ := C
  exact va_getC hx hb (by rw [hml]; exact hl.symm) hown (hts _ hlink) (va_Dc.use hZ.1.2.2.2.2.1) (hts _ hsel) (hts _ hinst) (hts _ hnat) hZ.1.2.2.2.1 ⟨_, hc, rfl, va_nmO (hK.1.2 3 _ rfl).2 rfl⟩ hframes hlocals hdg kk
end XR2
/-! ## objects stay what they are -/
theorem xAny.upO {w : xw} {v a ci : Nat} {fs fs' : List Value} (h : xAny w v) (ha : w a = some (xO ci fs)) : xAny (va_up w a (some (xO ci fs'))) v := by
  obtain ⟨c2, f2, q, h1, h2, h3⟩ := h
  by_cases e : v = a
  · subst e
    rw [ha] at h1
    cases h1
    exact ⟨ci, fs', q, va_up_s _ _ _, h2, h3⟩
  · exact ⟨c2, f2, q, (va_up_n _ _ e).trans h1, h2, h3⟩
theorem xAny.upA {w : xw} {v a : Nat} {x y : ClassId × vp_A} (h : xAny w v) (ha : w a = some (.inl (.inl x))) : xAny (va_up w a (some (.inl (.inl y)))) v := by
  obtain ⟨c2, f2, q, h1, h2, h3⟩ := h
  have e : v ≠ a := fun e => by
    subst e
    rw [ha] at h1
    cases h1
  exact ⟨c2, f2, q, (va_up_n _ _ e).trans h1, h2, h3⟩
theorem xAny.new {w : xw} {v a : Nat} {x : xX} (h : xAny w v) (ha : w a = none) : xAny (va_up w a (some x)) v := by
  obtain ⟨c2, f2, q, h1, h2, h3⟩ := h
  have e : v ≠ a := fun e => by
    subst e
    rw [ha] at h1
    cases h1
  exact ⟨c2, f2, q, (va_up_n _ _ e).trans h1, h2, h3⟩
theorem up_aba {α : Type} (f : Nat → α) (a b : Nat) (x y z : α) : va_up (va_up (va_up f a x) b y) a z = va_up (va_up f b y) a z := by
  funext q
  by_cases h : q = a
  · subst h
    rw [va_up_s, va_up_s]
  · rw [va_up_n _ _ h, va_up_n _ _ h]
    by_cases h2 : q = b
    · subst h2
      rw [va_up_s, va_up_s]
    · rw [va_up_n _ _ h2, va_up_n _ _ h2, va_up_n _ _ h]
theorem xO_ne {w : xw} {a b ci : Nat} {fs : List Value} {x : ClassId × vp_A} (ha : w a = some (xO ci fs)) (hb : w b = some (.inl (.inl x))) : a ≠ b := fun e => by
  rw [e, hb] at ha
  cases ha
/-- the first n places emptied -/
def clr (f : Nat → Option Nat) (n : Nat) : Nat → Option Nat := fun j => if j < n then none else f j
theorem clr_0 (f : Nat → Option Nat) : clr f 0 = f := by
  funext j
  exact if_neg (Nat.not_lt_zero j)
theorem clr_s (f : Nat → Option Nat) (n : Nat) : va_up (clr f n) n none = clr f (n + 1) := by
  funext j
  unfold clr va_up
  by_cases h : j = n
  · rw [if_pos h, if_pos (by omega)]
  · rw [if_neg h]
    dsimp only
    by_cases h2 : j < n
    · rw [if_pos h2, if_pos (by omega)]
    · rw [if_neg h2, if_neg (by omega)]
