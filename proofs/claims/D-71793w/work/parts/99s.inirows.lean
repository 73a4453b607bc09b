/-! x'S BIRTH: rows over the roles that stand so far -/
set_option maxRecDepth 100000
def xSt (E : xE) (A : Nat → Prop) (s : State) (Ad : Nat → Nat) (C : Nat → Option xX) (H : Heap) (locs : List Loc) : Prop := ∃ w, rW Ad C w ∧ xB E A s w H locs
theorem xSt.of {E : xE} {A : Nat → Prop} {s : State} {w : xw} {H : Heap} {locs : List Loc} {o : Nat} {e : xX} (ho : w o = some e) (hB : xB E A s w H locs) : xSt E A s (fun _ => o) (fun r => if r = 0 then some e else none) H locs := by
  refine ⟨w, ⟨fun r x hr => ?_, fun r r' x x' h1 h2 _ => ?_⟩, hB⟩
  · have hr : (if r = 0 then some e else none) = some x := hr
    by_cases g : r = 0
    · rw [if_pos g] at hr
      rw [← hr]
      exact ho
    · rw [if_neg g] at hr; cases hr
  · have h1 : (if r = 0 then some e else none) = some x := h1
    have h2 : (if r' = 0 then some e else none) = some x' := h2
    by_cases g : r = 0
    · by_cases g2 : r' = 0
      · rw [g, g2]
      · rw [if_neg g2] at h2; cases h2
    · rw [if_neg g] at h1; cases h1
section ST
variable {p : Program} {l : Launch} {e : Env} {R : Room} {s : State} {m : MethodId} {args : Array Value} {below : List Frame} {meth : Method} {c : Code} {H : Heap} {locs : List Loc} {cells slots mc ms : Nat} {Q : State → Prop}
variable {cc : ByteArray} {pc nL : Nat} {ls : Array Slot} {rest st0 : List Value} {E : xE} {A : Nat → Prop} {own : String} {Ad : Nat → Nat} {K : Nat → Option xX}
theorem st_newp (C : xC E p s m args c cc nL own) (hB : xSt E A s Ad K H locs) (r : Nat) (harr : (Cond.arrayClass .int) ∈ lw_all) {z : Int} (N : Nat) (hz : z = (N : Int)) (hN : N < 2 ^ 20) (hcells : cells + 1 ≤ R.cells) (hslots : slots + N ≤ R.slots) (hdg : decode cc pc = .ok (.newarray .int, 2))
    (kk : ∀ (q : Nat) (H1 : Heap), xSt E A s (va_up Ad r q) (va_up K r (some (xI E N (fun _ => 0)))) H1 locs → W p l e R s m args below meth c H1 locs (cells + 1) (slots + N) Q (F0 m (pc + 2) ls (.ref q :: rest))) : W p l e R s m args below meth c H locs cells slots Q (F0 m pc ls (.int (iI z) :: rest)) := by
  obtain ⟨w, hW, hB⟩ := hB
  exact x_newp (atype := .int) (ty := .int) C hB 0 rfl rfl (Or.inl rfl) harr N hz hN hcells hslots hdg (fun q H1 hq hs h => kk q H1 ⟨_, hW.new hq r _, h⟩)
theorem st_anew (C : xC E p s m args c cc nL own) (hZ : zK E A s s.heap) (hB : xSt E A s Ad K H locs) (r t : Nat) {Cn : String} (ht : (xtys E)[t]? = some (E.2 t, .object Cn)) {index : Nat} (hcl : (Cond.classLink own index Cn) ∈ lw_all) (hao : Cn ∈ aol) {z : Int} (N : Nat) (hz : z = (N : Int)) (hN : N < 2 ^ 20) (hcells : cells + 1 ≤ R.cells) (hslots : slots + N ≤ R.slots) (hdg : decode cc pc = .ok (.anewarray index, 3))
    (kk : ∀ (q : Nat) (H1 : Heap), xSt E A s (va_up Ad r q) (va_up K r (some (xR E t N (fun _ => none)))) H1 locs → W p l e R s m args below meth c H1 locs (cells + 1) (slots + N) Q (F0 m (pc + 3) ls (.ref q :: rest))) : W p l e R s m args below meth c H locs cells slots Q (F0 m pc ls (.int (iI z) :: rest)) := by
  obtain ⟨w, hW, hB⟩ := hB
  exact x_anew C hZ hB t ht hcl hao N hz hN hcells hslots hdg (fun q H1 hq hs h => kk q H1 ⟨_, hW.new hq r _, h⟩)
theorem st_new (C : xC E p s m args c cc nL own) (hB : xSt E A s Ad K H locs) (r : Nat) {Cn : String} {T : u_T} {N ci index : Nat} (hc : vwCl[ci]? = some (Cn, T, N)) (hin : ∀ w ∈ u_ws Cn T N, w ∈ lw_all) {ty0 : Nat → FieldType} (hty : ∀ k, k < N → parseFieldDescriptor (T k).2.2.1 = some (ty0 k)) (hcl : (Cond.classLink own index Cn) ∈ lw_all) (hinst : (Cond.instantiable Cn N) ∈ lw_all) (hini : (Cond.initialized Cn) ∈ lw_all) {fs : List Value} (hfs : ∀ j, j < N → defaultValue (ty0 j) = vp_V fs j) (hcells : cells + 1 ≤ R.cells) (hslots : slots + N ≤ R.slots) (hdg : decode cc pc = .ok (.new index, 3))
    (kk : ∀ (q : Nat) (H1 : Heap), xSt E A s (va_up Ad r q) (va_up K r (some (xO ci fs))) H1 locs → W p l e R s m args below meth c H1 locs (cells + 1) (slots + N) Q (F0 m (pc + 3) ls (.ref q :: rest))) : W p l e R s m args below meth c H locs cells slots Q (F0 m pc ls rest) := by
  obtain ⟨w, hW, hB⟩ := hB
  exact x_new C hB hc hin hty hcl hinst hini hfs hcells hslots hdg (fun q H1 hq hs h => kk q H1 ⟨_, hW.new hq r _, h⟩)
theorem st_lam (C : xC E p s m args c cc nL own) (hZ : zK E A s s.heap) (hB : xSt E A s Ad K H locs) (r i : Nat) (hi : i < 9) {x : MethodName} {index : Nat} (hnm : s.methodNamed? x = some m) (hs : (i, x, pc, index) ∈ lsites) (hl : ls.size = nL) (hwords : (rest.map fun v => v.category).sum + 1 + 3072 ≤ R.locals) (hcells : cells + 1 ≤ R.cells) (hslots : slots + 1 ≤ R.slots) (hdg : decode cc pc = .ok (.invokedynamic index, 5)) {o : Nat}
    (kk : ∀ (q : Nat) (H1 : Heap), xSt E A s (va_up Ad r q) (va_up K r (some (lamE E o i))) H1 locs → W p l e R s m args below meth c H1 locs (cells + 1) (slots + 1) Q (F0 m (pc + 5) ls (.ref q :: rest))) : W p l e R s m args below meth c H locs cells slots Q (F0 m pc ls (.ref o :: rest)) := by
  obtain ⟨w, hW, hB⟩ := hB
  exact x_lam1 hi C hZ hB hnm hs hl hwords hcells hslots hdg (fun q H1 hq hs h => kk q H1 ⟨_, hW.new hq r _, h⟩)
theorem st_putF (C : xC E p s m args c cc nL own) (hB : xSt E A s Ad K H locs) (r : Nat) {a : Nat} (hr : Ad r = a) {ref Cn : String} {T : u_T} {N ci index : Nat} {fs : List Value} (ha : K r = some (xO ci fs)) (hc : vwCl[ci]? = some (Cn, T, N)) (hin : ∀ w ∈ u_ws Cn T N, w ∈ lw_all) {ty0 : Nat → FieldType} (hty : ∀ k, k < N → parseFieldDescriptor (T k).2.2.1 = some (ty0 k)) (hnm : ∀ a, a < N → ∀ b, b < N → a ≠ b → x_ap T a b) (k : Nat) (hk : k < N) (hlink : (Cond.fieldLink own index ref (T k).2.1 (T k).2.2.1) ∈ lw_all) (hsame : ∀ x, s.fieldFound? (T k).1 (T k).2.1 (T k).2.2.1 = some x → s.fieldFound? ref (T k).2.1 (T k).2.2.1 = some x) (hfin : (T k).2.2.2 = true) (hin2 : meth.name = "<init>") (hdecl : (T k).1 = own) {v : Value} (hn : narrow (ty0 k) v = v) (hfit : fits (ty0 k) v = true) (hl : k < fs.length) (hdg : decode cc pc = .ok (.putfield index, 3))
    (kk : ∀ (H1 : Heap) (locs1 : List Loc), xSt E A s Ad (va_up K r (some (xO ci (fs.set k v)))) H1 locs1 → W p l e R s m args below meth c H1 locs1 cells slots Q (F0 m (pc + 3) ls rest)) : W p l e R s m args below meth c H locs cells slots Q (F0 m pc ls (v :: .ref a :: rest)) := by
  subst hr
  obtain ⟨w, hW, hB⟩ := hB
  exact x_putF2 C hB (hW.1 r _ ha) hc hin hty hnm k hk hlink hsame hfin hin2 hdecl hn hfit hl hdg (fun H1 locs1 h => kk H1 locs1 ⟨_, hW.put ha _, h⟩)
theorem st_put (C : xC E p s m args c cc nL own) (hB : xSt E A s Ad K H locs) (r : Nat) {a : Nat} (hr : Ad r = a) {ref Cn : String} {T : u_T} {N ci index : Nat} {fs : List Value} (ha : K r = some (xO ci fs)) (hc : vwCl[ci]? = some (Cn, T, N)) (hin : ∀ w ∈ u_ws Cn T N, w ∈ lw_all) {ty0 : Nat → FieldType} (hty : ∀ k, k < N → parseFieldDescriptor (T k).2.2.1 = some (ty0 k)) (hnm : ∀ a, a < N → ∀ b, b < N → a ≠ b → x_ap T a b) (k : Nat) (hk : k < N) (hlink : (Cond.fieldLink own index ref (T k).2.1 (T k).2.2.1) ∈ lw_all) (hsame : ∀ x, s.fieldFound? (T k).1 (T k).2.1 (T k).2.2.1 = some x → s.fieldFound? ref (T k).2.1 (T k).2.2.1 = some x) (hfin : (T k).2.2.2 = false) {v : Value} (hn : narrow (ty0 k) v = v) (hfit : fits (ty0 k) v = true) (hl : k < fs.length) (hdg : decode cc pc = .ok (.putfield index, 3))
    (kk : ∀ (H1 : Heap) (locs1 : List Loc), xSt E A s Ad (va_up K r (some (xO ci (fs.set k v)))) H1 locs1 → W p l e R s m args below meth c H1 locs1 cells slots Q (F0 m (pc + 3) ls rest)) : W p l e R s m args below meth c H locs cells slots Q (F0 m pc ls (v :: .ref a :: rest)) := by
  subst hr
  obtain ⟨w, hW, hB⟩ := hB
  exact x_put2 C hB (hW.1 r _ ha) hc hin hty hnm k hk hlink hsame hfin hn hfit hl hdg (fun H1 locs1 h => kk H1 locs1 ⟨_, hW.put ha _, h⟩)
theorem st_get (C : xC E p s m args c cc nL own) (hB : xSt E A s Ad K H locs) (r : Nat) {a : Nat} (hr : Ad r = a) {ref Cn : String} {T : u_T} {N ci index : Nat} {fs : List Value} (ha : K r = some (xO ci fs)) (hc : vwCl[ci]? = some (Cn, T, N)) (hin : ∀ w ∈ u_ws Cn T N, w ∈ lw_all) (k : Nat) (hk : k < N) (hlink : (Cond.fieldLink own index ref (T k).2.1 (T k).2.2.1) ∈ lw_all) (hsame : ∀ x, s.fieldFound? (T k).1 (T k).2.1 (T k).2.2.1 = some x → s.fieldFound? ref (T k).2.1 (T k).2.2.1 = some x) {v : Value} (hv : fs[k]? = some v) (hdg : decode cc pc = .ok (.getfield index, 3))
    (kk : W p l e R s m args below meth c H locs cells slots Q (F0 m (pc + 3) ls (v :: rest))) : W p l e R s m args below meth c H locs cells slots Q (F0 m pc ls (.ref a :: rest)) := by
  subst hr
  obtain ⟨w, hW, hB⟩ := hB
  exact x_get C hB (hW.1 r _ ha) hc hin k hk hlink hsame hv hdg kk
theorem st_aast (C : xC E p s m args c cc nL own) (hB : xSt E A s Ad K H locs) (r r2 : Nat) {a v : Nat} (hr : Ad r = a) (hr2 : Ad r2 = v) (t : Nat) {Cn : String} (ht : (xtys E)[t]? = some (E.2 t, .object Cn)) {N ci : Nat} {vs : List Value} {T : u_T} {M : Nat} {f : Nat → Option Nat} (ha : K r = some (xR E t N f)) (hv : K r2 = some (xO ci vs)) (hc : vwCl[ci]? = some (Cn, T, M)) {z : Int} (n : Nat) (hz : z = (n : Int)) (hn : n < N) (hN : N < 2 ^ 31) (hdg : decode cc pc = .ok (.aastore, 1))
    (kk : ∀ (H1 : Heap) (locs1 : List Loc), xSt E A s Ad (va_up K r (some (xR E t N (va_up f n (some v))))) H1 locs1 → W p l e R s m args below meth c H1 locs1 cells slots Q (F0 m (pc + 1) ls rest)) : W p l e R s m args below meth c H locs cells slots Q (F0 m pc ls (.ref v :: .int (iI z) :: .ref a :: rest)) := by
  subst hr
  subst hr2
  obtain ⟨w, hW, hB⟩ := hB
  exact x_aast C hB t ht (hW.1 r _ ha) (hW.1 r2 _ hv) hc n hz hn hN hdg (fun H1 locs1 h => kk H1 locs1 ⟨_, hW.put ha _, h⟩)
theorem st_call (hB : xSt E A s Ad K H locs) (r : Nat) {a : Nat} (hr : Ad r = a) {e0 e1 : xX} (ha : K r = some e0) {post : xw → xw → Prop} (hpost : ∀ w w1, post w w1 → w1 = va_up w a (some e1)) {arr : Array Value} (hcs : cells ≤ R.cells ∧ slots ≤ R.slots)
    (hrun : ∀ w, w a = some e0 → xB E A s w H locs → va_Run p l e R s m args below meth c H locs cells slots 0 0 (F0 m pc ls st0) rest (va_Qv (post w) (xEnd E (xA w H.size)) (xA w H.size) arr) (xA w H.size))
    (kk : ∀ (H1 : Heap) (locs1 : List Loc), xSt E A s Ad (va_up K r (some e1)) H1 locs1 → W p l e R s m args below meth c H1 locs1 cells slots Q (F0 m (pc + 3) ls rest)) : W p l e R s m args below meth c H locs cells slots Q (F0 m pc ls st0) := by
  subst hr
  obtain ⟨w, hW, hB⟩ := hB
  refine g_callv cells slots (Nat.le_refl _) (Nat.le_refl _) hB (hrun w (hW.1 r _ ha) hB) (fun w1 H1 locs1 hp h => ?_)
  rw [hpost w w1 hp] at h
  exact kk H1 locs1 ⟨_, hW.put ha _, h⟩
end ST
/-- all stands: this is x, as it is born -/
theorem st_end {E : xE} {A : Nat → Prop} {s : State} {Ad : Nat → Nat} {K : Nat → Option xX} {H : Heap} {locs : List Loc} {o : Nat} {f1 f2 : Nat → Option Nat} (h : xSt E A s Ad K H locs) (h0 : Ad 0 = o) (c0 : K 0 = some (xO 0 (xFs Ad mI0))) (c1 : K 1 = some (xR E 4 5 f1)) (hf1 : ∀ j, j < 5 → f1 j = some (Ad (50 + j))) (c2 : K 2 = some (xR E 5 3 f2)) (hf2 : ∀ j, j < 3 → f2 j = some (Ad (60 + j)))
    (c4 : K 4 = some (xO 18 [.int (iI 0), .ref (E.2 20), .int (iI 0)])) (c17 : K 17 = some (xO 18 [.int (iI 0), .ref (E.2 20), .int (iI 0)])) (c7s : ∀ r, r = 6 ∨ r = 7 ∨ r = 11 ∨ r = 12 ∨ r = 16 → K r = some (xI E 7 (fun _ => 0))) (c64 : ∀ r, r = 13 ∨ r = 14 ∨ r = 15 → K r = some (xI E 64 (fun _ => 0))) (c19 : K 19 = some (xR E 6 4 (fun _ => none))) (c30 : K 30 = none) (c31 : K 31 = none)
    (c50 : ∀ i, i < 5 → K (50 + i) = some (xO 1 [.ref (Ad (70 + i))])) (c60 : ∀ i, i < 3 → K (60 + i) = some (xO 2 [.ref (Ad (80 + i))])) (c70 : ∀ i, i < 5 → K (70 + i) = some (lamE E o i)) (c80 : ∀ i, i < 3 → K (80 + i) = some (lamE E o (5 + i))) :
    ∃ (Ad' : Nat → Nat) (w' : xw), xInv E o Ad' mI0 mF0 w' ∧ xB E A s w' H locs := by
  obtain ⟨w, hW, hB⟩ := h
  have hA : ∀ r, r ≠ 30 → r ≠ 31 → va_up (va_up Ad 30 (E.2 20)) 31 (E.2 20) r = Ad r := fun r g1 g2 => by rw [va_up_n _ _ g2, va_up_n _ _ g1]
  have hW := hW.ren (Ad' := va_up (va_up Ad 30 (E.2 20)) 31 (E.2 20)) (fun r e hr => hA r (fun z => by rw [z, c30] at hr; cases hr) (fun z => by rw [z, c31] at hr; cases hr))
  have hAd0 : va_up (va_up Ad 30 (E.2 20)) 31 (E.2 20) 0 = o := (hA 0 (by decide) (by decide)).trans h0
  have b1 := hB.arrR (hW.1 1 _ c1) (g := fun i => if i < 5 then some (va_up (va_up Ad 30 (E.2 20)) 31 (E.2 20) (50 + i)) else none) (fun j hj => by rw [if_pos hj, hA _ (by omega) (by omega)]; exact hf1 j hj)
  have w1 := hW.put c1 (xR E 4 5 (fun i => if i < 5 then some (va_up (va_up Ad 30 (E.2 20)) 31 (E.2 20) (50 + i)) else none))
  have b2 := b1.arrR (w1.1 2 _ (by rw [va_up_n _ _ (by decide)]; exact c2)) (g := fun i => if i < 3 then some (va_up (va_up Ad 30 (E.2 20)) 31 (E.2 20) (60 + i)) else none) (fun j hj => by rw [if_pos hj, hA _ (by omega) (by omega)]; exact hf2 j hj)
  have w2 := w1.put (r := 2) (by rw [va_up_n _ _ (by decide)]; exact c2) (xR E 5 3 (fun i => if i < 3 then some (va_up (va_up Ad 30 (E.2 20)) 31 (E.2 20) (60 + i)) else none))
  have b3 := b2.arrR (w2.1 19 _ (by rw [va_up_n _ _ (by decide), va_up_n _ _ (by decide)]; exact c19)) (g := shA (va_up (va_up Ad 30 (E.2 20)) 31 (E.2 20)) mF0) (fun j hj => by
    rcases (show j = 0 ∨ j = 1 ∨ j = 2 ∨ j = 3 by omega) with rfl | rfl | rfl | rfl <;> rfl)
  have w3 := w2.put (r := 19) (by rw [va_up_n _ _ (by decide), va_up_n _ _ (by decide)]; exact c19) (xR E 6 4 (shA (va_up (va_up Ad 30 (E.2 20)) 31 (E.2 20)) mF0))
  generalize hAA : va_up (va_up Ad 30 (E.2 20)) 31 (E.2 20) = AA at *
  have hfs : xFs AA mI0 = xFs Ad mI0 := by
    show [Value.ref (AA 1), Value.ref (AA 2), Value.int (iI (mI0 1)), Value.ref (AA 4), Value.int (iI (mI0 6)), Value.ref (AA 6), Value.ref (AA 7), Value.int (iI (mI0 7)), Value.int (iI (mI0 8)), Value.int (iI (mI0 9)), Value.ref (AA 11), Value.ref (AA 12), Value.ref (AA 13), Value.ref (AA 14), Value.ref (AA 15), Value.ref (AA 16), Value.ref (AA 17), Value.int (iI (mI0 0)), Value.ref (AA 19)] = _
    rw [hA 1 (by decide) (by decide), hA 2 (by decide) (by decide), hA 4 (by decide) (by decide), hA 6 (by decide) (by decide), hA 7 (by decide) (by decide), hA 11 (by decide) (by decide), hA 12 (by decide) (by decide), hA 13 (by decide) (by decide), hA 14 (by decide) (by decide), hA 15 (by decide) (by decide), hA 16 (by decide) (by decide), hA 17 (by decide) (by decide), hA 19 (by decide) (by decide)]
  refine ⟨AA, _, ⟨hAd0, w3.mono fun r e hr => ?_, fun _ => ⟨rfl, ?_⟩, fun _ => ⟨rfl, ?_⟩⟩, b3⟩
  · by_cases g19 : r = 19
    · subst g19
      rw [va_up_s]
      rw [C0_19] at hr
      exact hr
    rw [va_up_n _ _ g19]
    by_cases g2 : r = 2
    · subst g2
      rw [va_up_s]
      exact hr
    rw [va_up_n _ _ g2]
    by_cases g1 : r = 1
    · subst g1
      rw [va_up_s]
      exact hr
    rw [va_up_n _ _ g1]
    unfold C0 at hr
    by_cases q1 : r < 50
    · rw [if_pos q1] at hr
      unfold C0a at hr
      split at hr
      · rw [hfs] at hr; rw [c0]; exact hr
      · exact absurd rfl g1
      · exact absurd rfl g2
      · rw [← hr, ← hAA]; exact c4
      · rw [← hr]; exact c7s 6 (by omega)
      · rw [← hr]; exact c7s 7 (by omega)
      · rw [← hr]; exact c7s 11 (by omega)
      · rw [← hr]; exact c7s 12 (by omega)
      · rw [← hr]; exact c64 13 (by omega)
      · rw [← hr]; exact c64 14 (by omega)
      · rw [← hr]; exact c64 15 (by omega)
      · rw [← hr]; exact c7s 16 (by omega)
      · rw [← hr, ← hAA]; exact c17
      · exact absurd rfl g19
      · cases hr
      · cases hr
      · cases hr
    · rw [if_neg q1] at hr
      by_cases q2 : r < 60
      · rw [if_pos q2] at hr
        by_cases q3 : r < 55
        · rw [if_pos q3] at hr
          have := c50 (r - 50) (by omega)
          rw [show 50 + (r - 50) = r by omega, show 70 + (r - 50) = r + 20 by omega] at this
          rw [← hr, hA _ (by omega) (by omega)]
          exact this
        · rw [if_neg q3] at hr; cases hr
      · rw [if_neg q2] at hr
        by_cases q3 : r < 70
        · rw [if_pos q3] at hr
          by_cases q4 : r < 63
          · rw [if_pos q4] at hr
            have := c60 (r - 60) (by omega)
            rw [show 60 + (r - 60) = r by omega, show 80 + (r - 60) = r + 20 by omega] at this
            rw [← hr, hA _ (by omega) (by omega)]
            exact this
          · rw [if_neg q4] at hr; cases hr
        · rw [if_neg q3] at hr
          by_cases q4 : r < 80
          · rw [if_pos q4] at hr
            by_cases q5 : r < 75
            · rw [if_pos q5, hAd0] at hr
              have := c70 (r - 70) (by omega)
              rw [show 70 + (r - 70) = r by omega] at this
              rw [← hr]
              exact this
            · rw [if_neg q5] at hr; cases hr
          · rw [if_neg q4] at hr
            by_cases q5 : r < 100
            · rw [if_pos q5] at hr
              by_cases q6 : r < 83
              · rw [if_pos q6, hAd0] at hr
                have := c80 (r - 80) (by omega)
                rw [show 80 + (r - 80) = r by omega, show 5 + (r - 80) = r - 75 by omega] at this
                rw [← hr]
                exact this
              · rw [if_neg q6] at hr; cases hr
            · rw [if_neg q5] at hr
              by_cases q6 : r < 200
              · rw [if_pos q6, if_neg (show ¬ (((r - 100 : Nat) : Int) < mI0 5) from fun z => by have z : ((r - 100 : Nat) : Int) < 0 := z; omega)] at hr
                cases hr
              · rw [if_neg q6] at hr
                by_cases q7 : r < 300
                · rw [if_pos q7, if_neg (show ¬ (((r - 200 : Nat) : Int) < mI0 29) from fun z => by have z : ((r - 200 : Nat) : Int) < 0 := z; omega)] at hr
                  cases hr
                · rw [if_neg q7] at hr
                  have hm : ∀ j, j < 4 → mF0 2 j = -9 := fun j hj => by rcases (show j = 0 ∨ j = 1 ∨ j = 2 ∨ j = 3 by omega) with rfl | rfl | rfl | rfl <;> rfl
                  by_cases q8 : r < 310
                  · rw [if_pos q8, if_neg (fun z => z.2 (hm _ (by omega)))] at hr
                    cases hr
                  · rw [if_neg q8, if_neg (fun z => z.2 (hm _ (by omega)))] at hr
                    cases hr
  · rw [← hAA]; rfl
  · rw [← hAA]; rfl
