/-! ROWS OF THE MAP WORLD for objects that are made, nest mates, arrays of references, bytes and shorts -/
set_option maxRecDepth 100000
section XO
variable {p : Program} {l : Launch} {e : Env} {R : Room} {s : State} {m : MethodId} {args : Array Value} {below : List Frame} {meth : Method} {c : Code} {H : Heap} {locs : List Loc} {cells slots : Nat} {Q : State → Prop}
variable {cc : ByteArray} {pc nL : Nat} {ls : Array Slot} {rest : List Value} {E : xE} {A : Nat → Prop} {a : Nat} {w : xw} {own : String}
theorem x_putF (C : xC E p s m args c cc nL own) (hB : xB E A s w H locs) {ref Cn : String} {T : u_T} {N ci index : Nat} {fs : List Value} (ha : w a = some (xO ci fs)) (hc : vwCl[ci]? = some (Cn, T, N)) (hin : ∀ w ∈ u_ws Cn T N, w ∈ lw_all) {ty0 : Nat → FieldType} (hty : ∀ k, k < N → parseFieldDescriptor (T k).2.2.1 = some (ty0 k)) (hnm : ∀ a, a < N → ∀ b, b < N → a ≠ b → (T a).2.1 ≠ (T b).2.1) (k : Nat) (hk : k < N) (hlink : (Cond.fieldLink own index ref (T k).2.1 (T k).2.2.1) ∈ lw_all) (hsame : ∀ x, s.fieldFound? (T k).1 (T k).2.1 (T k).2.2.1 = some x → s.fieldFound? ref (T k).2.1 (T k).2.2.1 = some x) (hfin : (T k).2.2.2 = true) (hin2 : meth.name = "<init>") (hdecl : (T k).1 = own) {v : Value} (hn : narrow (ty0 k) v = v) (hfit : fits (ty0 k) v = true) (hl : k < fs.length) (hdg : decode cc pc = .ok (.putfield index, 3))
    (kk : ∀ (H1 : Heap) (locs1 : List Loc), xB E A s (va_up w a (some (xO ci (fs.set k v)))) H1 locs1 → W p l e R s m args below meth c H1 locs1 cells slots Q (F0 m (pc + 3) ls rest)) : W p l e R s m args below meth c H locs cells slots Q (F0 m pc ls (v :: .ref a :: rest)) := by
  obtain ⟨⟨hx, hb, -, hown, hts⟩, hK⟩ := C
  have hap := va_apart (own := own) hts hin ty0 hty hnm hK.1 hc
  obtain ⟨r, h1, cell, q1, q2, q3, q4⟩ := hB.1 a _ ha
  have hr : r = (Cn, T, N) := Option.some.inj (h1.symm.trans hc)
  subst hr
  obtain ⟨hS, hfc, kC, hkC, hkind⟩ := hK.1.1 ci _ hc
  obtain ⟨cf, kf, fi, f, hi, hsl⟩ := hS k hk
  have hlay := hts _ (hin _ (u_in_lay hk))
  unfold u_lay at hlay
  rw [if_pos hfin] at hlay
  have hst := (u_facts hfc hkC (u_lays hts hin hk) hi).1
  have hcf : m.cls = cf := by
    obtain ⟨_, _, c', _, _, _, -, -, hf', -, -, -, hown2, -⟩ := Cond.laysFinal_spec hlay
    have e1 : c' = cf := by have := hi.symm.trans hf'; simp at this; exact this.1.symm
    rw [hdecl] at hown2
    rw [← e1]; exact Option.some.inj (hown.symm.trans hown2)
  have h6 := u_fits hfc hkC hkind (Or.inr hlay) hi (hty k hk) hn hfit
  refine W.putFinK hx hb hown (hts _ hlink) (hsame _ hi) hst hcf hin2 (by rw [q2]; exact h6) q1 q3 (by rw [hsl]; exact k2_hasslot (q4 k hk)) rfl rfl hdg fun H' e1 e2 e3 => ?_
  rw [hsl] at e1 ⊢
  exact kk H' _ (hB.put ha (e := xO ci (fs.set k v)) ⟨_, hc, t_OB.to (V := updV (vp_V fs) k v) ⟨_, e1, q2, q3, t_set q4 hap hk v⟩ (fun j _ => vp_updV_set hl v j)⟩ e2 e3)
theorem x_getN (C : xC E p s m args c cc nL own) (hB : xB E A s w H locs) {ref Cn host : String} {T : u_T} {N ci index : Nat} {fs : List Value} (ha : w a = some (xO ci fs)) (hc : vwCl[ci]? = some (Cn, T, N)) (hin : ∀ w ∈ u_ws Cn T N, w ∈ lw_all) (k : Nat) (hk : k < N) (hlink : (Cond.fieldLinkNest own index ref (T k).2.1 (T k).2.2.1 host) ∈ lw_tbl) (hsame : ∀ x, s.fieldFound? (T k).1 (T k).2.1 (T k).2.2.1 = some x → s.fieldFound? ref (T k).2.1 (T k).2.2.1 = some x) {v : Value} (hv : fs[k]? = some v) (hdg : decode cc pc = .ok (.getfield index, 3))
    (kk : W p l e R s m args below meth c H locs cells slots Q (F0 m (pc + 3) ls (v :: rest))) : W p l e R s m args below meth c H locs cells slots Q (F0 m pc ls (.ref a :: rest)) := by
  obtain ⟨⟨hx, hb, -, hown, hts⟩, hK⟩ := C
  exact va_getN hx hb hts hin hown hK.1 (hB.1.one ha) 0 rfl hc k hk (va_Nw.use rfl (hK.2 _ hlink rfl)) hsame hv hdg kk
theorem x_putN (C : xC E p s m args c cc nL own) (hB : xB E A s w H locs) {ref Cn host : String} {T : u_T} {N ci index : Nat} {fs : List Value} (ha : w a = some (xO ci fs)) (hc : vwCl[ci]? = some (Cn, T, N)) (hin : ∀ w ∈ u_ws Cn T N, w ∈ lw_all) {ty0 : Nat → FieldType} (hty : ∀ k, k < N → parseFieldDescriptor (T k).2.2.1 = some (ty0 k)) (hnm : ∀ a, a < N → ∀ b, b < N → a ≠ b → (T a).2.1 ≠ (T b).2.1) (k : Nat) (hk : k < N) (hlink : (Cond.fieldLinkNest own index ref (T k).2.1 (T k).2.2.1 host) ∈ lw_tbl) (hsame : ∀ x, s.fieldFound? (T k).1 (T k).2.1 (T k).2.2.1 = some x → s.fieldFound? ref (T k).2.1 (T k).2.2.1 = some x) (hfin : (T k).2.2.2 = false) {v : Value} (hn : narrow (ty0 k) v = v) (hfit : fits (ty0 k) v = true) (hl : k < fs.length) (hdg : decode cc pc = .ok (.putfield index, 3))
    (kk : ∀ (H1 : Heap) (locs1 : List Loc), xB E A s (va_up w a (some (xO ci (fs.set k v)))) H1 locs1 → W p l e R s m args below meth c H1 locs1 cells slots Q (F0 m (pc + 3) ls rest)) : W p l e R s m args below meth c H locs cells slots Q (F0 m pc ls (v :: .ref a :: rest)) := by
  obtain ⟨⟨hx, hb, -, hown, hts⟩, hK⟩ := C
  have hap := va_apart (own := own) hts hin ty0 hty hnm hK.1 hc
  obtain ⟨r, h1, cell, q1, q2, q3, q4⟩ := hB.1 a _ ha
  have hr : r = (Cn, T, N) := Option.some.inj (h1.symm.trans hc)
  subst hr
  obtain ⟨hS, hfc, kC, hkC, hkind⟩ := hK.1.1 ci _ hc
  obtain ⟨cf, kf, fi, f, hi, hsl⟩ := hS k hk
  have hlay := hts _ (hin _ (u_in_lay hk))
  unfold u_lay at hlay
  rw [if_neg (by rw [hfin]; decide)] at hlay
  have hst := (u_facts hfc hkC (u_lays hts hin hk) hi).1
  have h6 := u_store hfc hkC hkind hlay hi (hty k hk) hn hfit
  refine va_WputK hx hb (f := f) hown (va_Nw.use rfl (hK.2 _ hlink rfl)) (hsame _ hi) hst (by rw [q2]; exact h6) q1 q3 (by rw [hsl]; exact k2_hasslot (q4 k hk)) rfl rfl hdg fun H' e1 e2 e3 => ?_
  rw [hsl] at e1 ⊢
  exact kk H' _ (hB.put ha (e := xO ci (fs.set k v)) ⟨_, hc, t_OB.to (V := updV (vp_V fs) k v) ⟨_, e1, q2, q3, t_set q4 hap hk v⟩ (fun j _ => vp_updV_set hl v j)⟩ e2 e3)
theorem x_new (C : xC E p s m args c cc nL own) (hB : xB E A s w H locs) {Cn : String} {T : u_T} {N ci index : Nat} (hc : vwCl[ci]? = some (Cn, T, N)) (hin : ∀ w ∈ u_ws Cn T N, w ∈ lw_all) {ty0 : Nat → FieldType} (hty : ∀ k, k < N → parseFieldDescriptor (T k).2.2.1 = some (ty0 k)) (hcl : (Cond.classLink own index Cn) ∈ lw_all) (hinst : (Cond.instantiable Cn N) ∈ lw_all) (hini : (Cond.initialized Cn) ∈ lw_all) {fs : List Value} (hfs : ∀ j, j < N → defaultValue (ty0 j) = vp_V fs j) (hcells : cells + 1 ≤ R.cells) (hslots : slots + N ≤ R.slots) (hdg : decode cc pc = .ok (.new index, 3))
    (kk : ∀ (q : Nat) (H1 : Heap), w q = none → s.heap.size ≤ q → xB E A s (va_up w q (some (xO ci fs))) H1 locs → W p l e R s m args below meth c H1 locs (cells + 1) (slots + N) Q (F0 m (pc + 3) ls (.ref q :: rest))) : W p l e R s m args below meth c H locs cells slots Q (F0 m pc ls rest) := by
  obtain ⟨⟨hx, hb, -, hown, hts⟩, hK⟩ := C
  have hKn := hK.1.1 ci _ hc
  refine W.newcK hx hb hown (hts _ hcl) (hts _ hinst) (hts _ hini) rfl hdg hcells hslots hKn.2.1 rfl fun H1 kC hkC e1 z1 o1 => ?_
  exact kk H.size H1 hB.fresh hB.2.2.1.1 (hB.new (e := xO ci fs) ⟨_, hc, (u_born ty0 hts hin hKn hkC e1 hty).to hfs⟩ z1 o1)
/-- an array of ints, bytes or shorts -/
theorem x_newp (C : xC E p s m args c cc nL own) (hB : xB E A s w H locs) {atype : ArrayType} (t : Nat) {ty : FieldType} (hty : newarray.typeOf atype = ty) (ht : (xtys E)[t]? = some (E.2 t, ty)) (hnm : ty = .int ∨ ty = .byte ∨ ty = .short) (harr : (Cond.arrayClass ty) ∈ lw_all) {z : Int} (N : Nat) (hz : z = (N : Int)) (hN : N < 2 ^ 20) (hcells : cells + 1 ≤ R.cells) (hslots : slots + N ≤ R.slots) (hdg : decode cc pc = .ok (.newarray atype, 2))
    (kk : ∀ (q : Nat) (H1 : Heap), w q = none → s.heap.size ≤ q → xB E A s (va_up w q (some (.inl (.inl (E.2 t, N, .inl (fun _ => iI 0)))))) H1 locs → W p l e R s m args below meth c H1 locs (cells + 1) (slots + N) Q (F0 m (pc + 2) ls (.ref q :: rest))) : W p l e R s m args below meth c H locs cells slots Q (F0 m pc ls (.int (iI z) :: rest)) := by
  obtain ⟨⟨hx, hb, -, hown, hts⟩, hK⟩ := C
  subst hty
  have hr : rg z := ⟨by omega, by omega⟩
  have hn0 : ¬ iI z < 0 := by
    intro h
    have h2 : iI z < iI 0 := h
    rw [iI_lt hr rg_0] at h2
    omega
  have hcl : (iI z).toNatClampNeg = N := by
    show (iI z).toInt.toNat = N
    rw [iI_toInt hr]
    omega
  refine va_newaK hx hb (hts _ harr) rfl hdg rfl hn0 hcl ?_ hcells hslots rfl fun H1 cA e1 z1 o1 hAr hNm => ?_
  · rcases hnm with q | q | q <;> rw [q] <;> (show N * _ ≤ 536870912; simp only [componentBytes]; omega)
  · have hR := (hK.1.2 t _ ht).2
    have hcA : cA = E.2 t := by
      rcases hnm with q | q | q <;> (rw [q] at hR hNm; exact Option.some.inj (hNm.symm.trans hR))
    subst hcA
    refine kk H.size H1 hB.fresh hB.2.2.1.1 (hB.new ?_ z1 o1)
    show H1[H.size]? = some (vp_cell _ _)
    rw [e1, vp_cell_i]
    rcases hnm with q | q | q <;> rw [q] <;> rfl
theorem x_aald (C : xC E p s m args c cc nL own) (hB : xB E A s w H locs) (t : Nat) {Cn : String} (ht : (xtys E)[t]? = some (E.2 t, .object Cn)) {N : Nat} {f : Nat → Option Nat} (ha : w a = some (xR E t N f)) {z : Int} (n : Nat) (hz : z = (n : Int)) (hn : n < N) (hN : N < 2 ^ 31) {r : Option Nat} (hr : f n = r) (hdg : decode cc pc = .ok (.aaload, 1))
    (kk : W p l e R s m args below meth c H locs cells slots Q (F0 m (pc + 1) ls (va_rf r :: rest))) : W p l e R s m args below meth c H locs cells slots Q (F0 m pc ls (.int (iI z) :: .ref a :: rest)) := by
  obtain ⟨⟨hx, hb, -, hown, hts⟩, hK⟩ := C
  obtain ⟨h1, h2⟩ := iI_in hz hn hN
  subst hr
  refine va_aldq hx hb hK.1 (hB.1.one ha) 0 t rfl ht h1 hdg ?_
  rw [h2]
  exact kk
theorem x_alen (C : xC E p s m args c cc nL own) (hB : xB E A s w H locs) (t : Nat) {ty : FieldType} (ht : (xtys E)[t]? = some (E.2 t, ty)) {x : vp_A} (ha : w a = some (.inl (.inl (E.2 t, x)))) (hdg : decode cc pc = .ok (.arraylength, 1))
    (kk : W p l e R s m args below meth c H locs cells slots Q (F0 m (pc + 1) ls (.int (iI (x.1 : Int)) :: rest))) : W p l e R s m args below meth c H locs cells slots Q (F0 m pc ls (.ref a :: rest)) := by
  obtain ⟨⟨hx, hb, -, hown, hts⟩, hK⟩ := C
  exact va_alen hx hb hK.1 (hB.1.one ha) 0 t rfl ht (iI_ofNat x.1) hdg kk
theorem x_aastN (C : xC E p s m args c cc nL own) (hB : xB E A s w H locs) (t : Nat) {Cn : String} (ht : (xtys E)[t]? = some (E.2 t, .object Cn)) {N : Nat} {f : Nat → Option Nat} (ha : w a = some (xR E t N f)) {z : Int} (n : Nat) (hz : z = (n : Int)) (hn : n < N) (hN : N < 2 ^ 31) (hdg : decode cc pc = .ok (.aastore, 1))
    (kk : ∀ (H1 : Heap) (locs1 : List Loc), xB E A s (va_up w a (some (xR E t N (va_up f n none)))) H1 locs1 → W p l e R s m args below meth c H1 locs1 cells slots Q (F0 m (pc + 1) ls rest)) : W p l e R s m args below meth c H locs cells slots Q (F0 m pc ls (.null :: .int (iI z) :: .ref a :: rest)) := by
  obtain ⟨⟨hx, hb, -, hown, hts⟩, hK⟩ := C
  obtain ⟨h1, h2⟩ := iI_in hz hn hN
  refine va_WaastN (C := Cn) hx hb (hB.1 a _ ha) ((hK.1.2 t _ ht).1 N (fun j => va_rf (f j))) (fun h => by cases h) (by show ¬ (iI z < 0 ∨ (arrV _ _ _).slots.size ≤ _); rw [arrV_size]; exact h1) rfl rfl hdg fun H1 e1 z1 oq => ?_
  refine kk H1 _ (hB.put ha ?_ z1 oq)
  show H1[a]? = some (vp_cell _ _)
  rw [e1, h2]
  show some ((vp_cell _ _).setSlot _ _) = _
  rw [vp_cell_q, vp_cell_q, arrV_store]
  congr 2
  funext q
  by_cases hq : q = n
  · subst hq
    simp [updV, va_up, va_rf]
  · simp [updV, va_up, hq]
theorem x_aast (C : xC E p s m args c cc nL own) (hB : xB E A s w H locs) (t : Nat) {Cn : String} (ht : (xtys E)[t]? = some (E.2 t, .object Cn)) {N v ci : Nat} {vs : List Value} {T : u_T} {M : Nat} {f : Nat → Option Nat} (ha : w a = some (xR E t N f)) (hv : w v = some (xO ci vs)) (hc : vwCl[ci]? = some (Cn, T, M)) {z : Int} (n : Nat) (hz : z = (n : Int)) (hn : n < N) (hN : N < 2 ^ 31) (hdg : decode cc pc = .ok (.aastore, 1))
    (kk : ∀ (H1 : Heap) (locs1 : List Loc), xB E A s (va_up w a (some (xR E t N (va_up f n (some v))))) H1 locs1 → W p l e R s m args below meth c H1 locs1 cells slots Q (F0 m (pc + 1) ls rest)) : W p l e R s m args below meth c H locs cells slots Q (F0 m pc ls (.ref v :: .int (iI z) :: .ref a :: rest)) := by
  obtain ⟨⟨hx, hb, -, hown, hts⟩, hK⟩ := C
  obtain ⟨h1, h2⟩ := iI_in hz hn hN
  have h0 : ¬ iI z < 0 := fun q => h1 (Or.inl q)
  have hlt : (iI z).toNatClampNeg < N := by rw [h2]; exact hn
  obtain ⟨r', hr', cellV, g1, g2, g3, -⟩ := hB.1 v _ hv
  have hcls := (hK.1.1 ci _ hc).2
  obtain ⟨kA, comp, k1, k2, k3, -⟩ := (hK.1.2 t _ ht).2
  have hcomp : comp = E.1.1 ci := Option.some.inj (k3.symm.trans hcls.1)
  subst hcomp
  obtain ⟨kC, hkC, -⟩ := hcls.2
  refine W.aast hx hb (hB.1 a _ ha) (fun q h => by cases h) (fun h => by cases h) k1 k2 rfl hkC ⟨h0, by show _ < (arrV _ _ _).slots.size; rw [arrV_size]; exact hlt⟩ g1 (fun q h => by rw [g3] at h; cases h) (by rw [g2]; exact hkC) (by rw [g2]; exact va_assign hcls) rfl rfl hdg fun H1 e1 z1 oq => ?_
  refine kk H1 _ (hB.put ha ?_ z1 oq)
  show H1[a]? = some (vp_cell _ _)
  rw [e1, h2]
  show some ((vp_cell _ _).setSlot _ _) = _
  rw [vp_cell_q, vp_cell_q, arrV_store]
  congr 2
  funext q
  by_cases hq : q = n
  · subst hq
    simp [updV, va_up, va_rf]
  · simp [updV, va_up, hq]
end XO
