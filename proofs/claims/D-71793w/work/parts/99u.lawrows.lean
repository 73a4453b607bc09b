/-! THE LAW: x and the model side by side -/
set_option maxRecDepth 100000
theorem rXVW {p : Program} {l : Launch} {e : Env} {R : Room} {s : State} {m : MethodId} {args : Array Value} {below : List Frame} {meth : Method} {c : Code} {H : Heap} {locs : List Loc} {cells slots : Nat} {cc : ByteArray} {pc nL : Nat} {ls : Array Slot} {rest st0 As : List Value} {E : xE} {A : Nat → Prop} {w : xw} {own Cn : String} {b ci : Nat} {fs : List Value} {q : vw_C} {y : MethodName} {bytes : ByteArray} {maxL rf rl mc ms index n : Nat} {ret : Option FieldType} {Qc : Array Value → State → Outcome → State → Prop} {XC : String → State → State → Prop} {free : Addr → Prop} {hh : List (Nat × Nat × Nat × Nat)}
    (C : xC E p s m args c cc nL own) (hV : zV E A s s.heap) (hB : xB E A s w H locs) (hM : vx_Met l y (wsW_ y bytes maxL ret hh) (rm_ rf rl mc ms) (xPv E w H.size (.ref b :: As)) Qc XC mc ms free) (hG : GoodIn lw_all (wsV own index Cn y (wsW_ y bytes maxL ret hh)))
    (hd : y.cls = Cn ∧ y.cls ≠ "java/lang/invoke/MethodHandle" ∧ y.cls ≠ "java/lang/invoke/VarHandle" ∧ (parseMethodDescriptor y.desc).map (fun d => d.parameters.length) = some n) (hR : rf + 1 ≤ R.frames ∧ 8 + (maxL + 11) + rl ≤ R.locals) (hb : w b = some (xO ci fs)) (hc : vwCl[ci]? = some q) (hC : q.1 = Cn) (hn : As.length = n) (hl : ls.size = nL) (hst : st0 = As.reverse ++ .ref b :: rest) (hW : (rest.map fun v => v.category).sum ≤ 8) (hdg : decode cc pc = .ok (.invokevirtual index, 3)) (hcs : cells + mc ≤ R.cells ∧ slots + ms ≤ R.slots) :
    vx_Run p l e R s m args below meth c H locs cells slots mc ms (F0 m pc ls st0) rest (Qc (Value.ref b :: As).toArray) XC free := by
  subst hst
  exact vx_runVX (As := As) (rest := rest) C.1 hM (vx_cwVW n C.1.2.2.2.2 hG rfl rfl rfl hd hR) (vpreV hB C.2 hV hb hc hC) rfl hn hl rfl (lv_room (rest := As.reverse ++ .ref b :: rest) (ls := ls) (m := m) (pc := pc) hW) hdg hcs
theorem lw_VW {own : String} {index : Nat} {C : String} {y : MethodName} {bytes : ByteArray} {maxL : Nat} {ret : Option FieldType} {hh : List (Nat × Nat × Nat × Nat)} (h1 : Cond.methodLink own index y ∈ lw_all) (h2 : Cond.instanceMethod y ∈ lw_all) (h3 : Cond.selects C y y ∈ lw_all) (h4 : Cond.initialized y.cls ∈ lw_all) (h5 : Cond.codeWith y bytes maxL ret hh ∈ lw_all) : GoodIn lw_all (wsV own index C y (wsW_ y bytes maxL ret hh)) := by
  unfold wsV
  refine lw_app (fun w hw => ?_) (lw_methW h5)
  simp only [List.mem_cons, List.not_mem_nil, or_false] at hw
  rcases hw with e | e | e | e
  · rw [e]; exact h1
  · rw [e]; exact h2
  · rw [e]; exact h3
  · rw [e]; exact h4
def lB (E : xE) (A : Nat → Prop) (s : State) (o om : Nat) (Ax : Nat → Nat) (Ix : Nat → Int) (Fx : Nat → Nat → Int) (Am : Nat → Nat) (Im : Nat → Int) (Fm : Nat → Nat → Int) (H : Heap) (locs : List Loc) : Prop := ∃ wx wm, xInv E o Ax Ix Fx wx ∧ mInv E om Am Im Fm wm ∧ wD wx wm ∧ xB E A s (wU wx wm) H locs
theorem wU_e0 (w : xw) : wU w (fun _ => none) = w := by
  funext a
  unfold wU
  cases w a <;> rfl
theorem wU_cm {w X : xw} (hd : wD w X) : wU w X = wU X w := by
  funext a
  unfold wU
  cases h : w a with
  | none => cases X a <;> rfl
  | some e => rw [hd a e h]
theorem wD.sym {w X : xw} (hd : wD w X) : wD X w := fun a e h => by
  cases g : w a with
  | none => rfl
  | some x => rw [hd a x g] at h; cases h
/-- a temp forgotten -/
theorem wU_fg {w1 X1 wm : xw} (hd : wD (wU w1 X1) wm) : wD w1 wm ∧ ∀ a e, wU w1 wm a = some e → wU (wU w1 X1) wm a = some e := by
  refine ⟨fun a e h => hd a e (wU_l h), fun a e h => ?_⟩
  rcases wU_e h with h1 | h1
  · exact wU_l (wU_l h1)
  · exact wU_r hd h1
section LR
variable {p : Program} {l : Launch} {e : Env} {R : Room} {s : State} {m : MethodId} {args : Array Value} {below : List Frame} {meth : Method} {c : Code} {H : Heap} {locs : List Loc} {cells slots : Nat} {Q : State → Prop}
variable {cc : ByteArray} {pc nL : Nat} {ls : Array Slot} {rest st0 As : List Value} {E : xE} {A : Nat → Prop} {own : String} {o om : Nat} {Ax Am : Nat → Nat} {Ix Im : Nat → Int} {Fx Fm : Nat → Nat → Int}
variable {y : MethodName} {bytes : ByteArray} {maxL rf rl mc ms index n : Nat} {ret : Option FieldType} {hh : List (Nat × Nat × Nat × Nat)}
abbrev lHd (y : MethodName) (Cn : String) (n : Nat) : Prop := y.cls = Cn ∧ y.cls ≠ "java/lang/invoke/MethodHandle" ∧ y.cls ≠ "java/lang/invoke/VarHandle" ∧ (parseMethodDescriptor y.desc).map (fun d => d.parameters.length) = some n
theorem L_qi {a : Array Value} {post : Int → (Nat → Nat) → (Nat → Int) → (Nat → Nat → Int) → xw → Prop} {wx wm : xw} (hd : wD wx wm) (hIm : mInv E om Am Im Fm wm) (hB : xB E A s (wU wx wm) H locs) (c2 s2 : Nat) (h1 : cells + mc ≤ c2) (h2 : slots + ms ≤ s2) (hr : va_Run p l e R s m args below meth c H locs cells slots mc ms (F0 m pc ls st0) rest (va_Qi (gQi (bQ E o post)) (xEnd E (xA wx H.size)) (xA wx H.size) a) (xA wx H.size))
    (kk : ∀ (z : Int) (A1 : Nat → Nat) (I1 : Nat → Int) (F1 : Nat → Nat → Int) (X1 : xw) (H1 : Heap) (locs1 : List Loc), rg z → post z A1 I1 F1 X1 → lB E A s o om A1 I1 F1 Am Im Fm H1 locs1 → W p l e R s m args below meth c H1 locs1 c2 s2 Q (F0 m (pc + 3) ls (.int (iI z) :: rest))) : W p l e R s m args below meth c H locs cells slots Q (F0 m pc ls st0) := by
  have hBx : xB E A s wx H locs := hB.forget (fun a e h => wU_l h)
  refine va_calli (A0 := A) hr hBx.2.2.1 (fun q _ h => hBx.sub q h) hBx.sub (fun r u t H1 locs1 ht hvm hp hE hz hk hS => x_up h1 h2 ?_)
  obtain ⟨z, rfl, hz, A1, I1, F1, X1, w1, hI1, hd1, rfl, hp⟩ := hp
  obtain ⟨d1, b1⟩ := hB.callF hd ht hE hk hS
  obtain ⟨d2, b2⟩ := wU_fg d1
  exact kk z A1 I1 F1 X1 H1 locs1 hz hp ⟨w1, wm, hI1, hIm, d2, b1.forget b2⟩
theorem L_ql {a : Array Value} {post : Int → (Nat → Nat) → (Nat → Int) → (Nat → Nat → Int) → xw → Prop} {wx wm : xw} (hd : wD wx wm) (hIm : mInv E om Am Im Fm wm) (hB : xB E A s (wU wx wm) H locs) (c2 s2 : Nat) (h1 : cells + mc ≤ c2) (h2 : slots + ms ≤ s2) (hr : va_Run p l e R s m args below meth c H locs cells slots mc ms (F0 m pc ls st0) rest (va_Ql (gQl (bQ E o post)) (xEnd E (xA wx H.size)) (xA wx H.size) a) (xA wx H.size))
    (kk : ∀ (z : Int) (A1 : Nat → Nat) (I1 : Nat → Int) (F1 : Nat → Nat → Int) (X1 : xw) (H1 : Heap) (locs1 : List Loc), rgl z → post z A1 I1 F1 X1 → lB E A s o om A1 I1 F1 Am Im Fm H1 locs1 → W p l e R s m args below meth c H1 locs1 c2 s2 Q (F0 m (pc + 3) ls (.long (lI z) :: rest))) : W p l e R s m args below meth c H locs cells slots Q (F0 m pc ls st0) := by
  have hBx : xB E A s wx H locs := hB.forget (fun a e h => wU_l h)
  refine va_calll (A0 := A) hr hBx.2.2.1 (fun q _ h => hBx.sub q h) hBx.sub (fun r u t H1 locs1 ht hvm hp hE hz hk hS => x_up h1 h2 ?_)
  obtain ⟨z, rfl, hz, A1, I1, F1, X1, w1, hI1, hd1, rfl, hp⟩ := hp
  obtain ⟨d1, b1⟩ := hB.callF hd ht hE hk hS
  obtain ⟨d2, b2⟩ := wU_fg d1
  exact kk z A1 I1 F1 X1 H1 locs1 hz hp ⟨w1, wm, hI1, hIm, d2, b1.forget b2⟩
abbrev lK (E : xE) (A : Nat → Prop) (s : State) (o om : Nat) (Am : Nat → Nat) (Im : Nat → Int) (Fm : Nat → Nat → Int) (p : Program) (l : Launch) (e : Env) (R : Room) (m : MethodId) (args : Array Value) (below : List Frame) (meth : Method) (c : Code) (c2 s2 : Nat) (Q : State → Prop) (pc : Nat) (ls : Array Slot) (rest : List Value) (post : Int → (Nat → Nat) → (Nat → Int) → (Nat → Nat → Int) → xw → Prop) : Prop := ∀ (z : Int) (A1 : Nat → Nat) (I1 : Nat → Int) (F1 : Nat → Nat → Int) (X1 : xw) (H1 : Heap) (locs1 : List Loc), rg z → post z A1 I1 F1 X1 → lB E A s o om A1 I1 F1 Am Im Fm H1 locs1 → W p l e R s m args below meth c H1 locs1 c2 s2 Q (F0 m (pc + 3) ls (.int (iI z) :: rest))
abbrev lKl (E : xE) (A : Nat → Prop) (s : State) (o om : Nat) (Am : Nat → Nat) (Im : Nat → Int) (Fm : Nat → Nat → Int) (p : Program) (l : Launch) (e : Env) (R : Room) (m : MethodId) (args : Array Value) (below : List Frame) (meth : Method) (c : Code) (c2 s2 : Nat) (Q : State → Prop) (pc : Nat) (ls : Array Slot) (rest : List Value) (post : Int → (Nat → Nat) → (Nat → Int) → (Nat → Nat → Int) → xw → Prop) : Prop := ∀ (z : Int) (A1 : Nat → Nat) (I1 : Nat → Int) (F1 : Nat → Nat → Int) (X1 : xw) (H1 : Heap) (locs1 : List Loc), rgl z → post z A1 I1 F1 X1 → lB E A s o om A1 I1 F1 Am Im Fm H1 locs1 → W p l e R s m args below meth c H1 locs1 c2 s2 Q (F0 m (pc + 3) ls (.long (lI z) :: rest))
theorem L_ci (C : xC E p s m args c cc nL own) (hV : zV E A s s.heap) (hB : lB E A s o om Ax Ix Fx Am Im Fm H locs) {post : Int → (Nat → Nat) → (Nat → Int) → (Nat → Nat → Int) → xw → Prop} (hM : ci_ l E y bytes maxL ret rf rl mc ms (.ref o :: As) o Ax Ix Fx (fun _ => none) post) (hG : GoodIn lw_all (wsV own index RX0 y (ws_ y bytes maxL ret))) (hd : lHd y RX0 n) (hR : rf + 1 ≤ R.frames ∧ 8 + (maxL + 11) + rl ≤ R.locals) (hn : As.length = n) (hl : ls.size = nL) (hst : st0 = As.reverse ++ .ref o :: rest) (hW : (rest.map fun v => v.category).sum ≤ 8) (hdg : decode cc pc = .ok (.invokevirtual index, 3)) (c2 s2 : Nat) (hcs : (cells + mc ≤ c2 ∧ c2 ≤ R.cells) ∧ slots + ms ≤ s2 ∧ s2 ≤ R.slots)
    (kk : lK E A s o om Am Im Fm p l e R m args below meth c c2 s2 Q pc ls rest post) : W p l e R s m args below meth c H locs cells slots Q (F0 m pc ls st0) := by
  obtain ⟨wx, wm, hIx, hIm, hd0, hB⟩ := hB
  have hM1 := hM wx hIx (fun _ _ _ => rfl) H.size
  rw [wU_e0] at hM1
  exact L_qi hd0 hIm hB c2 s2 hcs.1.1 hcs.2.1 (rV (As := As) C hV.1 (hB.forget (fun a e h => wU_l h)) hM1 hG hd hR hIx.x rfl rfl hn hl hst hW hdg ⟨by omega, by omega⟩) kk
theorem L_cl (C : xC E p s m args c cc nL own) (hV : zV E A s s.heap) (hB : lB E A s o om Ax Ix Fx Am Im Fm H locs) {post : Int → (Nat → Nat) → (Nat → Int) → (Nat → Nat → Int) → xw → Prop} (hM : cl_ l E y bytes maxL ret rf rl mc ms (.ref o :: As) o Ax Ix Fx (fun _ => none) post) (hG : GoodIn lw_all (wsV own index RX0 y (ws_ y bytes maxL ret))) (hd : lHd y RX0 n) (hR : rf + 1 ≤ R.frames ∧ 8 + (maxL + 11) + rl ≤ R.locals) (hn : As.length = n) (hl : ls.size = nL) (hst : st0 = As.reverse ++ .ref o :: rest) (hW : (rest.map fun v => v.category).sum ≤ 8) (hdg : decode cc pc = .ok (.invokevirtual index, 3)) (c2 s2 : Nat) (hcs : (cells + mc ≤ c2 ∧ c2 ≤ R.cells) ∧ slots + ms ≤ s2 ∧ s2 ≤ R.slots)
    (kk : lKl E A s o om Am Im Fm p l e R m args below meth c c2 s2 Q pc ls rest post) : W p l e R s m args below meth c H locs cells slots Q (F0 m pc ls st0) := by
  obtain ⟨wx, wm, hIx, hIm, hd0, hB⟩ := hB
  have hM1 := hM wx hIx (fun _ _ _ => rfl) H.size
  rw [wU_e0] at hM1
  exact L_ql hd0 hIm hB c2 s2 hcs.1.1 hcs.2.1 (rV (As := As) C hV.1 (hB.forget (fun a e h => wU_l h)) hM1 hG hd hR hIx.x rfl rfl hn hl hst hW hdg ⟨by omega, by omega⟩) kk
theorem L_zi (C : xC E p s m args c cc nL own) (hV : zV E A s s.heap) (hB : lB E A s o om Ax Ix Fx Am Im Fm H locs) {post : Int → (Nat → Nat) → (Nat → Int) → (Nat → Nat → Int) → xw → Prop} (hM : zi_ l E y (ws_ y bytes maxL ret) rf rl mc ms (.ref o :: As) o Ax Ix Fx (fun _ => none) post) (hG : GoodIn lw_all (wsV own index RX0 y (ws_ y bytes maxL ret))) (hd : lHd y RX0 n) (hR : rf + 1 ≤ R.frames ∧ 8 + (maxL + 11) + rl ≤ R.locals) (hn : As.length = n) (hl : ls.size = nL) (hst : st0 = As.reverse ++ .ref o :: rest) (hW : (rest.map fun v => v.category).sum ≤ 8) (hdg : decode cc pc = .ok (.invokevirtual index, 3)) (c2 s2 : Nat) (hcs : (cells + mc ≤ c2 ∧ c2 ≤ R.cells) ∧ slots + ms ≤ s2 ∧ s2 ≤ R.slots)
    (kk : lK E A s o om Am Im Fm p l e R m args below meth c c2 s2 Q pc ls rest post) : W p l e R s m args below meth c H locs cells slots Q (F0 m pc ls st0) := by
  obtain ⟨wx, wm, hIx, hIm, hd0, hB⟩ := hB
  have hM1 := hM wx hIx (fun _ _ _ => rfl) H.size
  rw [wU_e0] at hM1
  exact L_qi hd0 hIm hB c2 s2 hcs.1.1 hcs.2.1 (run_nx (rXV (As := As) C hV (hB.forget (fun a e h => wU_l h)) hM1 hG hd hR hIx.x rfl rfl hn hl hst hW hdg ⟨by omega, by omega⟩)) kk
theorem L_ziW (C : xC E p s m args c cc nL own) (hV : zV E A s s.heap) (hB : lB E A s o om Ax Ix Fx Am Im Fm H locs) {post : Int → (Nat → Nat) → (Nat → Int) → (Nat → Nat → Int) → xw → Prop} (hM : zi_ l E y (wsW_ y bytes maxL ret hh) rf rl mc ms (.ref o :: As) o Ax Ix Fx (fun _ => none) post) (hG : GoodIn lw_all (wsV own index RX0 y (wsW_ y bytes maxL ret hh))) (hd : lHd y RX0 n) (hR : rf + 1 ≤ R.frames ∧ 8 + (maxL + 11) + rl ≤ R.locals) (hn : As.length = n) (hl : ls.size = nL) (hst : st0 = As.reverse ++ .ref o :: rest) (hW : (rest.map fun v => v.category).sum ≤ 8) (hdg : decode cc pc = .ok (.invokevirtual index, 3)) (c2 s2 : Nat) (hcs : (cells + mc ≤ c2 ∧ c2 ≤ R.cells) ∧ slots + ms ≤ s2 ∧ s2 ≤ R.slots)
    (kk : lK E A s o om Am Im Fm p l e R m args below meth c c2 s2 Q pc ls rest post) : W p l e R s m args below meth c H locs cells slots Q (F0 m pc ls st0) := by
  obtain ⟨wx, wm, hIx, hIm, hd0, hB⟩ := hB
  have hM1 := hM wx hIx (fun _ _ _ => rfl) H.size
  rw [wU_e0] at hM1
  exact L_qi hd0 hIm hB c2 s2 hcs.1.1 hcs.2.1 (run_nx (rXVW (As := As) C hV (hB.forget (fun a e h => wU_l h)) hM1 hG hd hR hIx.x rfl rfl hn hl hst hW hdg ⟨by omega, by omega⟩)) kk
theorem L_zlW (C : xC E p s m args c cc nL own) (hV : zV E A s s.heap) (hB : lB E A s o om Ax Ix Fx Am Im Fm H locs) {post : Int → (Nat → Nat) → (Nat → Int) → (Nat → Nat → Int) → xw → Prop} (hM : zl_ l E y (wsW_ y bytes maxL ret hh) rf rl mc ms (.ref o :: As) o Ax Ix Fx (fun _ => none) post) (hG : GoodIn lw_all (wsV own index RX0 y (wsW_ y bytes maxL ret hh))) (hd : lHd y RX0 n) (hR : rf + 1 ≤ R.frames ∧ 8 + (maxL + 11) + rl ≤ R.locals) (hn : As.length = n) (hl : ls.size = nL) (hst : st0 = As.reverse ++ .ref o :: rest) (hW : (rest.map fun v => v.category).sum ≤ 8) (hdg : decode cc pc = .ok (.invokevirtual index, 3)) (c2 s2 : Nat) (hcs : (cells + mc ≤ c2 ∧ c2 ≤ R.cells) ∧ slots + ms ≤ s2 ∧ s2 ≤ R.slots)
    (kk : lKl E A s o om Am Im Fm p l e R m args below meth c c2 s2 Q pc ls rest post) : W p l e R s m args below meth c H locs cells slots Q (F0 m pc ls st0) := by
  obtain ⟨wx, wm, hIx, hIm, hd0, hB⟩ := hB
  have hM1 := hM wx hIx (fun _ _ _ => rfl) H.size
  rw [wU_e0] at hM1
  exact L_ql hd0 hIm hB c2 s2 hcs.1.1 hcs.2.1 (run_nx (rXVW (As := As) C hV (hB.forget (fun a e h => wU_l h)) hM1 hG hd hR hIx.x rfl rfl hn hl hst hW hdg ⟨by omega, by omega⟩)) kk
/-- the model's -/
theorem L_mi (C : xC E p s m args c cc nL own) (hB : lB E A s o om Ax Ix Fx Am Im Fm H locs) {post : Int → (Nat → Int) → (Nat → Nat → Int) → Prop} (hM : mi_ l E y bytes maxL ret rf rl (.ref om :: As) om Am Im Fm post) (hG : GoodIn lw_all (wsV own index RX3 y (ws_ y bytes maxL ret))) (hd : lHd y RX3 n) (hR : rf + 1 ≤ R.frames ∧ 8 + (maxL + 11) + rl ≤ R.locals) (hn : As.length = n) (hl : ls.size = nL) (hst : st0 = As.reverse ++ .ref om :: rest) (hW : (rest.map fun v => v.category).sum ≤ 8) (hdg : decode cc pc = .ok (.invokevirtual index, 3)) (hcs : cells ≤ R.cells ∧ slots ≤ R.slots)
    (kk : ∀ (z : Int) (I1 : Nat → Int) (F1 : Nat → Nat → Int) (H1 : Heap) (locs1 : List Loc), rg z → post z I1 F1 → lB E A s o om Ax Ix Fx Am I1 F1 H1 locs1 → W p l e R s m args below meth c H1 locs1 cells slots Q (F0 m (pc + 3) ls (.int (iI z) :: rest))) : W p l e R s m args below meth c H locs cells slots Q (F0 m pc ls st0) := by
  obtain ⟨wx, wm, hIx, hIm, hd0, hB⟩ := hB
  rw [wU_cm hd0] at hB
  have hBm : xB E A s wm H locs := hB.forget (fun a e h => wU_l h)
  subst hst
  refine va_calli (A0 := A) (mc := 0) (ms := 0) (va_runV (As := As) (rest := rest) C.1 (hM wm H.size hIm) (cwV n C.1.2.2.2.2 hG rfl rfl rfl hd hR) (xpreV hBm.1 C.2 hIm.1 rfl rfl) rfl hn hl rfl (lv_room (rest := As.reverse ++ .ref om :: rest) (ls := ls) (m := m) (pc := pc) hW) hdg ⟨hcs.1, hcs.2⟩) hBm.2.2.1 (fun q _ h => hBm.sub q h) hBm.sub (fun r u t H1 locs1 ht hvm hp hE hz hk hS => ?_)
  obtain ⟨z, I1, F1, rfl, hz, hI1, hp⟩ := hp
  obtain ⟨d1, b1⟩ := hB.callF hd0.sym ht hE hk hS
  rw [wU_cm d1] at b1
  exact kk z I1 F1 H1 locs1 hz hp ⟨wx, u, hIx, hI1, d1.sym, b1⟩
theorem L_ml (C : xC E p s m args c cc nL own) (hB : lB E A s o om Ax Ix Fx Am Im Fm H locs) {post : Int → (Nat → Int) → (Nat → Nat → Int) → Prop} (hM : ml_ l E y bytes maxL ret rf rl (.ref om :: As) om Am Im Fm post) (hG : GoodIn lw_all (wsV own index RX3 y (ws_ y bytes maxL ret))) (hd : lHd y RX3 n) (hR : rf + 1 ≤ R.frames ∧ 8 + (maxL + 11) + rl ≤ R.locals) (hn : As.length = n) (hl : ls.size = nL) (hst : st0 = As.reverse ++ .ref om :: rest) (hW : (rest.map fun v => v.category).sum ≤ 8) (hdg : decode cc pc = .ok (.invokevirtual index, 3)) (hcs : cells ≤ R.cells ∧ slots ≤ R.slots)
    (kk : ∀ (z : Int) (I1 : Nat → Int) (F1 : Nat → Nat → Int) (H1 : Heap) (locs1 : List Loc), rgl z → post z I1 F1 → lB E A s o om Ax Ix Fx Am I1 F1 H1 locs1 → W p l e R s m args below meth c H1 locs1 cells slots Q (F0 m (pc + 3) ls (.long (lI z) :: rest))) : W p l e R s m args below meth c H locs cells slots Q (F0 m pc ls st0) := by
  obtain ⟨wx, wm, hIx, hIm, hd0, hB⟩ := hB
  rw [wU_cm hd0] at hB
  have hBm : xB E A s wm H locs := hB.forget (fun a e h => wU_l h)
  subst hst
  refine va_calll (A0 := A) (mc := 0) (ms := 0) (va_runV (As := As) (rest := rest) C.1 (hM wm H.size hIm) (cwV n C.1.2.2.2.2 hG rfl rfl rfl hd hR) (xpreV hBm.1 C.2 hIm.1 rfl rfl) rfl hn hl rfl (lv_room (rest := As.reverse ++ .ref om :: rest) (ls := ls) (m := m) (pc := pc) hW) hdg ⟨hcs.1, hcs.2⟩) hBm.2.2.1 (fun q _ h => hBm.sub q h) hBm.sub (fun r u t H1 locs1 ht hvm hp hE hz hk hS => ?_)
  obtain ⟨z, I1, F1, rfl, hz, hI1, hp⟩ := hp
  obtain ⟨d1, b1⟩ := hB.callF hd0.sym ht hE hk hS
  rw [wU_cm d1] at b1
  exact kk z I1 F1 H1 locs1 hz hp ⟨wx, u, hIx, hI1, d1.sym, b1⟩
/-- an int of the script -/
theorem L_sld (hx : p.tables.exec = Jvm.exec) (hb : c.code = cc) {b L : Nat} {xs : Nat → Int32} (hX : va_X b L xs s s.heap) (hbl : b < s.heap.size) (hB : lB E (fun q => s.heap.size ≤ q) s o om Ax Ix Fx Am Im Fm H locs) {z : Int} (n : Nat) (hz : z = (n : Int)) (hn : n < L) (hL : L ≤ 384) (hdg : decode cc pc = .ok (.iaload, 1))
    (kk : W p l e R s m args below meth c H locs cells slots Q (F0 m (pc + 1) ls (.int (iI (xs n).toInt) :: rest))) : W p l e R s m args below meth c H locs cells slots Q (F0 m pc ls (.int (iI z) :: .ref b :: rest)) := by
  obtain ⟨wx, wm, hIx, hIm, hd0, hB⟩ := hB
  obtain ⟨h1, h2⟩ := iI_in hz hn (by omega)
  rw [iI_of] at kk
  refine va_sld hx hb hX hbl (Nat.not_le.mpr hbl) hB.2.2.1 h1 hdg ?_
  rw [h2]
  exact kk
theorem L_slen (hx : p.tables.exec = Jvm.exec) (hb : c.code = cc) {b L : Nat} {xs : Nat → Int32} (hX : va_X b L xs s s.heap) (hbl : b < s.heap.size) (hB : lB E (fun q => s.heap.size ≤ q) s o om Ax Ix Fx Am Im Fm H locs) (hdg : decode cc pc = .ok (.arraylength, 1))
    (kk : W p l e R s m args below meth c H locs cells slots Q (F0 m (pc + 1) ls (.int (iI (L : Int)) :: rest))) : W p l e R s m args below meth c H locs cells slots Q (F0 m pc ls (.ref b :: rest)) := by
  obtain ⟨wx, wm, hIx, hIm, hd0, hB⟩ := hB
  refine va_slen hx hb hX hbl (Nat.not_le.mpr hbl) hB.2.2.1 hdg ?_
  have e : Int32.ofNat L = iI (L : Int) := by first | rfl | simp [iI]
  rw [e]
  exact kk
end LR
