/-! ROWS for x's world: its own fields and arrays, temps beside, returns, calls -/
set_option maxRecDepth 100000
theorem xInv.at {E : xE} {o : Nat} {Ad : Nat → Nat} {I : Nat → Int} {F : Nat → Nat → Int} {w : xw} (h : xInv E o Ad I F w) {r : Nat} {e : xX} (hr : C0 E Ad I F r = some e) : w (Ad r) = some e := h.2.1.1 r e hr
theorem xInv.x {E : xE} {o : Nat} {Ad : Nat → Nat} {I : Nat → Int} {F : Nat → Nat → Int} {w : xw} (h : xInv E o Ad I F w) : w o = some (xO 0 (xFs Ad I)) := by
  have := h.2.1.1 0 (xO 0 (xFs Ad I)) rfl
  rw [h.1] at this
  exact this
section BR
variable {p : Program} {l : Launch} {e : Env} {R : Room} {s : State} {m : MethodId} {args : Array Value} {below : List Frame} {meth : Method} {c : Code} {H : Heap} {locs : List Loc} {cells slots mc ms : Nat} {Q : State → Prop}
variable {cc : ByteArray} {pc nL : Nat} {ls : Array Slot} {rest : List Value} {E : xE} {A : Nat → Prop} {o : Nat} {Ad : Nat → Nat} {I : Nat → Int} {F : Nat → Nat → Int} {X : xw} {own : String}
theorem b_get (C : xC E p s m args c cc nL RX0) (hB : xBB E A s o Ad I F X H locs) {index : Nat} (k : Nat) (hk : k < 19) (hlink : (Cond.fieldLink RX0 index RX0 (TX0 k).2.1 (TX0 k).2.2.1) ∈ lw_all) {v : Value} (hv : (xFs Ad I)[k]? = some v) (ho : (TX0 k).1 = RX0) (hdg : decode cc pc = .ok (.getfield index, 3))
    (kk : W p l e R s m args below meth c H locs cells slots Q (F0 m (pc + 3) ls (v :: rest))) : W p l e R s m args below meth c H locs cells slots Q (F0 m pc ls (.ref o :: rest)) := by
  obtain ⟨w, hI, hd, hB⟩ := hB
  exact x_get C hB (wU_l hI.x) rfl in_X0 k hk hlink (fun x h => by rw [ho] at h; exact h) hv hdg kk
theorem b_put (C : xC E p s m args c cc nL RX0) (hB : xBB E A s o Ad I F X H locs) {index : Nat} (k j : Nat) (hk : k < 19) (hj : xPl k = some j) (hlink : (Cond.fieldLink RX0 index RX0 (TX0 k).2.1 (TX0 k).2.2.1) ∈ lw_all) (ho : (TX0 k).1 = RX0) (hfin : (TX0 k).2.2.2 = false) (hty : tyX0 k = .int) {z : Int} (hdg : decode cc pc = .ok (.putfield index, 3))
    (kk : ∀ (H1 : Heap) (locs1 : List Loc), xBB E A s o Ad (va_up I j z) F X H1 locs1 → W p l e R s m args below meth c H1 locs1 cells slots Q (F0 m (pc + 3) ls rest)) : W p l e R s m args below meth c H locs cells slots Q (F0 m pc ls (.int (iI z) :: .ref o :: rest)) := by
  obtain ⟨w, hI, hd, hB⟩ := hB
  refine x_put C hB (wU_l hI.x) rfl in_X0 tyX0_ok nmX0 k hk hlink (fun x h => by rw [ho] at h; exact h) hfin (by rw [hty]; rfl) (by rw [hty]; rfl) hk hdg (fun H1 locs1 h => kk H1 locs1 ⟨_, hI.put hj, hd.put_l hI.x, ?_⟩)
  rw [← wU_up_l]
  exact h
theorem b_ald (C : xC E p s m args c cc nL own) (hB : xBB E A s o Ad I F X H locs) (r k N : Nat) (hr : xArr r = some (k, N)) {z v : Int} (n : Nat) (hz : z = (n : Int)) (hn : n < N) (hN : N < 2 ^ 31) (hv : F k n = v) (hdg : decode cc pc = .ok (.iaload, 1))
    (kk : W p l e R s m args below meth c H locs cells slots Q (F0 m (pc + 1) ls (.int (iI v) :: rest))) : W p l e R s m args below meth c H locs cells slots Q (F0 m pc ls (.int (iI z) :: .ref (Ad r) :: rest)) := by
  obtain ⟨w, hI, hd, hB⟩ := hB
  subst hv
  exact x_iald C hB (wU_l (hI.at (C0_arr hr))) n hz hn hN hdg kk
theorem b_ast (C : xC E p s m args c cc nL own) (hB : xBB E A s o Ad I F X H locs) (r k N : Nat) (hr : xArr r = some (k, N)) {z v : Int} {f : Nat → Int} (n : Nat) (hz : z = (n : Int)) (hn : n < N) (hN : N < 2 ^ 31) (hf : F k = f) (hdg : decode cc pc = .ok (.iastore, 1))
    (kk : ∀ (H1 : Heap) (locs1 : List Loc), xBB E A s o Ad I (va_up F k (va_up f n v)) X H1 locs1 → W p l e R s m args below meth c H1 locs1 cells slots Q (F0 m (pc + 1) ls rest)) : W p l e R s m args below meth c H locs cells slots Q (F0 m pc ls (.int (iI v) :: .int (iI z) :: .ref (Ad r) :: rest)) := by
  obtain ⟨w, hI, hd, hB⟩ := hB
  subst hf
  refine x_iast C hB (wU_l (hI.at (C0_arr hr))) n hz hn hN hdg (fun H1 locs1 h => kk H1 locs1 ⟨_, hI.ast hr _, hd.put_l (hI.at (C0_arr hr)), ?_⟩)
  rw [← wU_up_l]
  exact h
theorem b_len (C : xC E p s m args c cc nL own) (hB : xBB E A s o Ad I F X H locs) (r k N : Nat) (hr : xArr r = some (k, N)) (hdg : decode cc pc = .ok (.arraylength, 1))
    (kk : W p l e R s m args below meth c H locs cells slots Q (F0 m (pc + 1) ls (.int (iI (N : Int)) :: rest))) : W p l e R s m args below meth c H locs cells slots Q (F0 m pc ls (.ref (Ad r) :: rest)) := by
  obtain ⟨w, hI, hd, hB⟩ := hB
  exact x_ilen C hB (wU_l (hI.at (C0_arr hr))) hdg kk
end BR
