/-! ROW: one of x's int arrays copied into another -/
set_option maxRecDepth 100000
section CR
variable {p : Program} {l : Launch} {e : Env} {R : Room} {s : State} {m : MethodId} {args : Array Value} {below : List Frame} {meth : Method} {c : Code} {H : Heap} {locs : List Loc} {cells slots : Nat} {Q : State → Prop}
variable {cc : ByteArray} {pc nL : Nat} {ls : Array Slot} {rest : List Value} {E : xE} {A : Nat → Prop} {o a : Nat} {Ad : Nat → Nat} {I : Nat → Int} {F : Nat → Nat → Int} {X : xw} {own : String}
theorem b_cpyRR (C : xC E p s m args c cc nL own) (hB : xBB E A s o Ad I F X H locs) {index : Nat} (hlink : (Cond.methodLink own index arraycopyName) ∈ lw_all) (hnat : (Cond.native arraycopyName) ∈ lw_all) (hstat : (Cond.static arraycopyName) ∈ lw_all) (hini : (Cond.initialized "java/lang/System") ∈ lw_all) (r k r2 k2 : Nat) (hr : xArr r = some (k, 7)) (hr2 : xArr r2 = some (k2, 7)) {z : Int} (n : Nat) (hz : z = (n : Int)) (hn : n ≤ 7)
    (hl : ls.size = nL) (hframes : 1 ≤ R.frames) (hlocals : (rest.map fun v => v.category).sum + (nativeFrameWords "java/lang/System" "arraycopy" 5 + 11) ≤ R.locals) (hdg : decode cc pc = .ok (.invokestatic index, 3))
    (kk : ∀ (H1 : Heap) (locs1 : List Loc), xBB E A s o Ad I (va_up F k2 (va_cpy (F k) (F k2) 0 0 n)) X H1 locs1 → W p l e R s m args below meth c H1 locs1 cells slots Q (F0 m (pc + 3) ls rest)) : W p l e R s m args below meth c H locs cells slots Q (F0 m pc ls (.int (iI z) :: .int (iI 0) :: .ref (Ad r2) :: .int (iI 0) :: .ref (Ad r) :: rest)) := by
  obtain ⟨w, hI, hd, hB⟩ := hB
  refine x_copyi C hB hlink hnat hstat hini 0 rfl rfl (wU_l (hI.at (C0_arr hr))) (wU_l (hI.at (C0_arr hr2))) 0 0 n rfl rfl hz (by omega) (by omega) (by omega) (by omega) (fun _ _ => rfl) hl hframes hlocals hdg (fun H1 locs1 h => kk H1 locs1 ⟨_, hI.ast hr2 _, hd.put_l (hI.at (C0_arr hr2)), ?_⟩)
  rw [← wU_up_l]
  exact h
end CR
