/-! ROW: a list beside x, made for seven -/
set_option maxRecDepth 100000
section LI
variable {p : Program} {l : Launch} {e : Env} {R : Room} {s : State} {m : MethodId} {args : Array Value} {below : List Frame} {meth : Method} {c : Code} {H : Heap} {locs : List Loc} {cells slots : Nat} {Q : State → Prop}
variable {cc : ByteArray} {pc nL : Nat} {ls : Array Slot} {rest : List Value} {E : xE} {A : Nat → Prop} {o a : Nat} {Ad : Nat → Nat} {I : Nat → Int} {F : Nat → Nat → Int} {X : xw} {own : String}
theorem t_linit (C : xC E p s m args c cc nL own) (hZ : zK E A s s.heap) (hB : xBB E A s o Ad I F X H locs) (ha : X a = some (xO 18 [.int (iI 0), .null, .int (iI 0)])) {index : Nat} (hlk : Cond.methodLink own index ⟨"java/util/ArrayList", "<init>", "(I)V"⟩ ∈ lw_all) (hR : 4 ≤ R.frames ∧ 85 ≤ R.locals) (hl : ls.size = nL) (hW : (rest.map fun v => v.category).sum ≤ 8) (hdg : decode cc pc = .ok (.invokespecial index, 3)) (hcs : cells + 1 ≤ R.cells ∧ slots + 7 ≤ R.slots)
    (kk : ∀ (q : Nat) (H1 : Heap) (locs1 : List Loc), X q = none → xBB E A s o Ad I F (va_up (va_up X q (some (xR E 3 7 (fun _ => none)))) a (some (xO 18 [.int (iI 0), .ref q, .int (iI 0)]))) H1 locs1 → W p l e R s m args below meth c H1 locs1 (cells + 1) (slots + 7) Q (F0 m (pc + 3) ls rest)) : W p l e R s m args below meth c H locs cells slots Q (F0 m pc ls (.int (iI 7) :: .ref a :: rest)) := by
  obtain ⟨w, hI, hd, hB⟩ := hB
  refine g_callv (cells + 1) (slots + 7) (Nat.le_refl _) (Nat.le_refl _) hB (rI (As := [.int (iI 7)]) (n := 1) C hZ hB (kJ2_init_2 l E (wU w X) a (wU_r hd ha) H.size) (lw_meth q1063) q71 hlk q1062 rfl (by decide +kernel) ⟨hR.1, hR.2⟩ rfl hl rfl hW hdg hcs) (fun w1 H1 locs1 hp2 hB => ?_)
  obtain ⟨q, hq, rfl⟩ := hp2
  obtain ⟨hq1, hq2⟩ := wU_n hq
  have hqa : a ≠ q := fun z => by rw [z, hq2] at ha; cases ha
  have hd1 : wD w (va_up X q (some (xR E 3 7 (fun _ => none)))) := hd.put_r hq1
  have h2 := hd1.put_t (xO 18 [.int (iI 0), .ref q, .int (iI 0)]) ((va_up_n _ _ hqa).trans ha)
  refine kk q H1 locs1 hq2 ⟨w, hI, h2.1, ?_⟩
  rw [wU_up_r hq1, h2.2] at hB
  exact hB
end LI
