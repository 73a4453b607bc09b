/-! RUNS of calls over the map world, with the environment -/
set_option maxRecDepth 100000
theorem xClassAt {E : xE} {s : State} {ci : Nat} {q : vw_C} (hK : xK E s) (hc : vwCl[ci]? = some q) : ∃ cC, ClassAt s q.1 cC := ⟨_, (hK.1.1 ci _ hc).2⟩
section RR
variable {p : Program} {l : Launch} {e : Env} {R : Room} {s : State} {m : MethodId} {args : Array Value} {below : List Frame} {meth : Method} {c : Code} {H : Heap} {locs : List Loc} {cells slots : Nat}
variable {cc : ByteArray} {pc nL : Nat} {ls : Array Slot} {rest st0 As : List Value} {E : xE} {A : Nat → Prop} {w : xw} {own Cn : String} {b ci : Nat} {fs : List Value} {q : vw_C}
variable {y : MethodName} {bytes : ByteArray} {maxL rf rl mc ms index n : Nat} {ret : Option FieldType} {Qc : Array Value → State → Outcome → State → Prop} {free : Addr → Prop}
/-- through an object of the class that declares it -/
theorem rV (C : xC E p s m args c cc nL own) (hZ : zK E A s s.heap) (hB : xB E A s w H locs) (hM : Met l y (ws_ y bytes maxL ret) (rm_ rf rl mc ms) (xPz E w H.size (.ref b :: As)) Qc mc ms free) (hG : GoodIn lw_all (wsV own index Cn y (ws_ y bytes maxL ret)))
    (hd : y.cls = Cn ∧ y.cls ≠ "java/lang/invoke/MethodHandle" ∧ y.cls ≠ "java/lang/invoke/VarHandle" ∧ (parseMethodDescriptor y.desc).map (fun d => d.parameters.length) = some n) (hR : rf + 1 ≤ R.frames ∧ 8 + (maxL + 11) + rl ≤ R.locals) (hb : w b = some (xO ci fs)) (hc : vwCl[ci]? = some q) (hC : q.1 = Cn) (hn : As.length = n) (hl : ls.size = nL) (hst : st0 = As.reverse ++ .ref b :: rest) (hW : (rest.map fun v => v.category).sum ≤ 8) (hdg : decode cc pc = .ok (.invokevirtual index, 3)) (hcs : cells + mc ≤ R.cells ∧ slots + ms ≤ R.slots) :
    va_Run p l e R s m args below meth c H locs cells slots mc ms (F0 m pc ls st0) rest (Qc (Value.ref b :: As).toArray) free := by
  subst hst
  exact va_runV (As := As) (rest := rest) C.1 hM (cwV n C.1.2.2.2.2 hG rfl rfl rfl hd hR) (zpreV hB C.2 hZ hb hc hC) rfl hn hl rfl (lv_room (rest := As.reverse ++ .ref b :: rest) (ls := ls) (m := m) (pc := pc) hW) hdg hcs
theorem rS (C : xC E p s m args c cc nL own) (hZ : zK E A s s.heap) (hB : xB E A s w H locs) (hM : Met l y (ws_ y bytes maxL ret) (rm_ rf rl mc ms) (xPz E w H.size As) Qc mc ms free) (hG : GoodIn lw_all (va_wsS own index y (ws_ y bytes maxL ret)))
    (hd : y.cls ≠ "java/lang/invoke/MethodHandle" ∧ y.cls ≠ "java/lang/invoke/VarHandle" ∧ (parseMethodDescriptor y.desc).map (fun d => d.parameters.length) = some n) (hR : rf + 1 ≤ R.frames ∧ 8 + (maxL + 11) + rl ≤ R.locals) (hn : As.length = n) (hl : ls.size = nL) (hst : st0 = As.reverse ++ rest) (hW : (rest.map fun v => v.category).sum ≤ 8) (hdg : decode cc pc = .ok (.invokestatic index, 3)) (hcs : cells + mc ≤ R.cells ∧ slots + ms ≤ R.slots) :
    va_Run p l e R s m args below meth c H locs cells slots mc ms (F0 m pc ls st0) rest (Qc As.toArray) free := by
  subst hst
  exact va_runS (As := As) (rest := rest) C.1 hM (va_cwS n C.1.2.2.2.2 hG rfl rfl rfl hd hR) (zpreS hB C.2 hZ) rfl hn hl rfl (lv_room (rest := As.reverse ++ rest) (ls := ls) (m := m) (pc := pc) hW) hdg hcs
theorem rI (C : xC E p s m args c cc nL own) (hZ : zK E A s s.heap) (hB : xB E A s w H locs) (hM : Met l y (ws_ y bytes maxL none) (rm_ rf rl mc ms) (xPz E w H.size (.ref b :: As)) Qc mc ms free) (hG : GoodIn lw_all (ws_ y bytes maxL none)) (hini : Cond.initialized y.cls ∈ lw_all) (hlk : Cond.methodLink own index y ∈ lw_all) (hin : Cond.instanceMethod y ∈ lw_all) (hy : y.name = "<init>")
    (hd : y.cls ≠ "java/lang/invoke/MethodHandle" ∧ y.cls ≠ "java/lang/invoke/VarHandle" ∧ (parseMethodDescriptor y.desc).map (fun d => d.parameters.length) = some n) (hR : rf + 1 ≤ R.frames ∧ 8 + (maxL + 11) + rl ≤ R.locals) (hn : As.length = n) (hl : ls.size = nL) (hst : st0 = As.reverse ++ .ref b :: rest) (hW : (rest.map fun v => v.category).sum ≤ 8) (hdg : decode cc pc = .ok (.invokespecial index, 3)) (hcs : cells + mc ≤ R.cells ∧ slots + ms ≤ R.slots) :
    va_Run p l e R s m args below meth c H locs cells slots mc ms (F0 m pc ls st0) rest (Qc (Value.ref b :: As).toArray) free := by
  subst hst
  have hts := C.1.2.2.2.2
  exact va_runI (As := As) (rest := rest) C.1 hM (cwI n hts hG rfl rfl rfl (hts _ hini) (hts _ hlk) (hts _ hin) hy hd hR) (zpreS hB C.2 hZ) rfl hn hl rfl (lv_room (rest := As.reverse ++ .ref b :: rest) (ls := ls) (m := m) (pc := pc) hW) hdg hcs
theorem rF (C : xC E p s m args c cc nL own) (hZ : zK E A s s.heap) (hB : xB E A s w H locs) (x : MethodName) {count : Nat} (hM : Met l y (ws_ y bytes maxL ret) (rm_ rf rl mc ms) (xPz E w H.size (.ref b :: As)) Qc mc ms free) (hfw : (Cn, x, y) ∈ fwl) (hlk : Cond.methodLink own index x ∈ lw_all) (hse : Cond.selects Cn x y ∈ lw_all) (hin : Cond.instanceMethod y ∈ lw_all) (hini : Cond.initialized y.cls ∈ lw_all) (hco : Cond.code y bytes maxL ret ∈ lw_all)
    (hd : x.cls ≠ "java/lang/invoke/MethodHandle" ∧ x.cls ≠ "java/lang/invoke/VarHandle" ∧ (parseMethodDescriptor x.desc).map (fun d => d.parameters.length) = some n) (hR : rf + 1 ≤ R.frames ∧ 8 + (maxL + 11) + rl ≤ R.locals) (hb : w b = some (xO ci fs)) (hc : vwCl[ci]? = some q) (hC : q.1 = Cn) (hn : As.length = n) (hl : ls.size = nL) (hst : st0 = As.reverse ++ .ref b :: rest) (hW : (rest.map fun v => v.category).sum ≤ 8) (hdg : decode cc pc = .ok (.invokeinterface index count, 5)) (hcs : cells + mc ≤ R.cells ∧ slots + ms ≤ R.slots) :
    va_Run5 p l e R s m args below meth c H locs cells slots mc ms (F0 m pc ls st0) rest (Qc (Value.ref b :: As).toArray) free := by
  subst hst
  obtain ⟨cC, hat⟩ := xClassAt C.2 hc
  rw [hC] at hat
  refine va_runF (As := As) (rest := rest) hat C.1 hM (va_cwF (x := x) n C.1.2.2.2.2 (lw_app ?_ (lw_meth hco)) rfl rfl rfl (hZ.1.1 _ hfw) hd hR) (zpreV hB C.2 hZ hb hc hC) rfl hn hl rfl (lv_room (rest := As.reverse ++ .ref b :: rest) (ls := ls) (m := m) (pc := pc) hW) hdg hcs
  intro w hw
  simp only [List.mem_cons, List.not_mem_nil, or_false] at hw
  rcases hw with e | e | e | e
  · rw [e]; exact hlk
  · rw [e]; exact hse
  · rw [e]; exact hin
  · rw [e]; exact hini
/-- inherited: what the reference names stands in a class above -/
theorem rU (C : xC E p s m args c cc nL own) (hZ : zK E A s s.heap) (hB : xB E A s w H locs) (x : MethodName) (owner : String) (hM : Met l y (ws_ y bytes maxL ret) (rm_ rf rl mc ms) (xPz E w H.size (.ref b :: As)) Qc mc ms free) (hlk : Cond.methodLink own index x ∈ lw_all) (hsm : Cond.sameMethod x.cls owner x.name x.desc ∈ lw_all) (hse : Cond.selects Cn x y ∈ lw_all) (hin : Cond.instanceMethod y ∈ lw_all) (hini : Cond.initialized y.cls ∈ lw_all) (hco : Cond.code y bytes maxL ret ∈ lw_all) (hyx : y = ⟨owner, x.name, x.desc⟩)
    (hd : owner ≠ "java/lang/invoke/MethodHandle" ∧ owner ≠ "java/lang/invoke/VarHandle" ∧ (parseMethodDescriptor x.desc).map (fun d => d.parameters.length) = some n) (hR : rf + 1 ≤ R.frames ∧ 8 + (maxL + 11) + rl ≤ R.locals) (hb : w b = some (xO ci fs)) (hc : vwCl[ci]? = some q) (hC : q.1 = Cn) (hn : As.length = n) (hl : ls.size = nL) (hst : st0 = As.reverse ++ .ref b :: rest) (hW : (rest.map fun v => v.category).sum ≤ 8) (hdg : decode cc pc = .ok (.invokevirtual index, 3)) (hcs : cells + mc ≤ R.cells ∧ slots + ms ≤ R.slots) :
    va_Run p l e R s m args below meth c H locs cells slots mc ms (F0 m pc ls st0) rest (Qc (Value.ref b :: As).toArray) free := by
  subst hst
  refine va_runU (As := As) (rest := rest) C.1 hM (va_cwU (x := x) (owner := owner) (C := Cn) n C.1.2.2.2.2 (lw_app ?_ (lw_meth hco)) rfl rfl rfl hyx hd hR) (zpreV hB C.2 hZ hb hc hC) rfl hn hl rfl (lv_room (rest := As.reverse ++ .ref b :: rest) (ls := ls) (m := m) (pc := pc) hW) hdg hcs
  intro w hw
  simp only [List.mem_cons, List.not_mem_nil, or_false] at hw
  rcases hw with e | e | e | e | e
  · rw [e]; exact hlk
  · rw [e]; exact hsm
  · rw [e]; exact hse
  · rw [e]; exact hin
  · rw [e]; exact hini
/-- overridden: the object's class has its own -/
theorem rO (C : xC E p s m args c cc nL own) (hZ : zK E A s s.heap) (hB : xB E A s w H locs) (x : MethodName) (owner : String) (hM : Met l y (ws_ y bytes maxL ret) (rm_ rf rl mc ms) (xPz E w H.size (.ref b :: As)) Qc mc ms free) (hlk : Cond.methodLink own index x ∈ lw_all) (hsm : Cond.sameMethod x.cls owner x.name x.desc ∈ lw_all) (hi0 : Cond.instanceMethod ⟨owner, x.name, x.desc⟩ ∈ lw_all) (hse : Cond.selects Cn x y ∈ lw_all) (hin : Cond.instanceMethod y ∈ lw_all) (hini : Cond.initialized y.cls ∈ lw_all) (hco : Cond.code y bytes maxL ret ∈ lw_all) {b0 : ByteArray} {m0 : Nat} {r0 : Option FieldType} (h0 : Cond.code ⟨owner, x.name, x.desc⟩ b0 m0 r0 ∈ lw_all)
    (hd : owner ≠ "java/lang/invoke/MethodHandle" ∧ owner ≠ "java/lang/invoke/VarHandle" ∧ (parseMethodDescriptor x.desc).map (fun d => d.parameters.length) = some n) (hR : rf + 1 ≤ R.frames ∧ 8 + (maxL + 11) + rl ≤ R.locals) (hb : w b = some (xO ci fs)) (hc : vwCl[ci]? = some q) (hC : q.1 = Cn) (hn : As.length = n) (hl : ls.size = nL) (hst : st0 = As.reverse ++ .ref b :: rest) (hW : (rest.map fun v => v.category).sum ≤ 8) (hdg : decode cc pc = .ok (.invokevirtual index, 3)) (hcs : cells + mc ≤ R.cells ∧ slots + ms ≤ R.slots) :
    va_Run p l e R s m args below meth c H locs cells slots mc ms (F0 m pc ls st0) rest (Qc (Value.ref b :: As).toArray) free := by
  subst hst
  refine va_runU (As := As) (rest := rest) C.1 hM (va_cwO (x := x) (owner := owner) (C := Cn) n C.1.2.2.2.2 (lw_app ?_ (lw_meth hco)) rfl rfl rfl h0 hd hR) (zpreV hB C.2 hZ hb hc hC) rfl hn hl rfl (lv_room (rest := As.reverse ++ .ref b :: rest) (ls := ls) (m := m) (pc := pc) hW) hdg hcs
  intro w hw
  simp only [List.mem_cons, List.not_mem_nil, or_false] at hw
  rcases hw with e | e | e | e | e | e
  · rw [e]; exact hlk
  · rw [e]; exact hsm
  · rw [e]; exact hi0
  · rw [e]; exact hse
  · rw [e]; exact hin
  · rw [e]; exact hini
/-- what the reference names is abstract -/
theorem rA (C : xC E p s m args c cc nL own) (hZ : zK E A s s.heap) (hB : xB E A s w H locs) (x : MethodName) (owner : String) (hM : Met l y (ws_ y bytes maxL ret) (rm_ rf rl mc ms) (xPz E w H.size (.ref b :: As)) Qc mc ms free) (hlk : Cond.methodLink own index x ∈ lw_all) (hsm : Cond.sameMethod x.cls owner x.name x.desc ∈ lw_all) (hse : Cond.selects Cn x y ∈ lw_all) (hin : Cond.instanceMethod y ∈ lw_all) (hini : Cond.initialized y.cls ∈ lw_all) (hco : Cond.code y bytes maxL ret ∈ lw_all) (hde : Cond.declares ⟨owner, x.name, x.desc⟩ ∈ lw_tbl)
    (hd : owner ≠ "java/lang/invoke/MethodHandle" ∧ owner ≠ "java/lang/invoke/VarHandle" ∧ (parseMethodDescriptor x.desc).map (fun d => d.parameters.length) = some n) (hR : rf + 1 ≤ R.frames ∧ 8 + (maxL + 11) + rl ≤ R.locals) (hb : w b = some (xO ci fs)) (hc : vwCl[ci]? = some q) (hC : q.1 = Cn) (hn : As.length = n) (hl : ls.size = nL) (hst : st0 = As.reverse ++ .ref b :: rest) (hW : (rest.map fun v => v.category).sum ≤ 8) (hdg : decode cc pc = .ok (.invokevirtual index, 3)) (hcs : cells + mc ≤ R.cells ∧ slots + ms ≤ R.slots) :
    va_Run p l e R s m args below meth c H locs cells slots mc ms (F0 m pc ls st0) rest (Qc (Value.ref b :: As).toArray) free := by
  subst hst
  refine va_runU (As := As) (rest := rest) C.1 hM (va_cwA (x := x) (owner := owner) (C := Cn) n C.1.2.2.2.2 (lw_app ?_ (lw_meth hco)) rfl rfl rfl (C.2.2 _ hde rfl) hd hR) (zpreV hB C.2 hZ hb hc hC) rfl hn hl rfl (lv_room (rest := As.reverse ++ .ref b :: rest) (ls := ls) (m := m) (pc := pc) hW) hdg hcs
  intro w hw
  simp only [List.mem_cons, List.not_mem_nil, or_false] at hw
  rcases hw with e | e | e | e | e
  · rw [e]; exact hlk
  · rw [e]; exact hsm
  · rw [e]; exact hse
  · rw [e]; exact hin
  · rw [e]; exact hini
/-- super.y() -/
theorem rSU (C : xC E p s m args c cc nL own) (hZ : zK E A s s.heap) (hB : xB E A s w H locs) (hM : Met l y (ws_ y bytes maxL ret) (rm_ rf rl mc ms) (xPz E w H.size (.ref b :: As)) Qc mc ms free) (hlk : Cond.methodLink own index y ∈ lw_all) (hsm : Cond.sameMethod y.cls y.cls y.name y.desc ∈ lw_all) (hsu : Cond.superclass own y.cls ∈ lw_all) (hin : Cond.instanceMethod y ∈ lw_all) (hini : Cond.initialized y.cls ∈ lw_all) (hco : Cond.code y bytes maxL ret ∈ lw_all)
    (hd : y.name ≠ "<init>" ∧ (parseMethodDescriptor y.desc).map (fun d => d.parameters.length) = some n) (hR : rf + 1 ≤ R.frames ∧ 8 + (maxL + 11) + rl ≤ R.locals) (hb : w b = some (xO ci fs)) (hc : vwCl[ci]? = some q) (hn : As.length = n) (hl : ls.size = nL) (hst : st0 = As.reverse ++ .ref b :: rest) (hW : (rest.map fun v => v.category).sum ≤ 8) (hdg : decode cc pc = .ok (.invokespecial index, 3)) (hcs : cells + mc ≤ R.cells ∧ slots + ms ≤ R.slots) :
    va_Run p l e R s m args below meth c H locs cells slots mc ms (F0 m pc ls st0) rest (Qc (Value.ref b :: As).toArray) free := by
  subst hst
  obtain ⟨cC, hat⟩ := xClassAt C.2 hc
  refine va_runSU (As := As) (rest := rest) hat C.1 hM (va_cwSU n C.1.2.2.2.2 (lw_app ?_ (lw_meth hco)) rfl rfl rfl hd hR) (zpreV hB C.2 hZ hb hc rfl) rfl hn hl rfl (lv_room (rest := As.reverse ++ .ref b :: rest) (ls := ls) (m := m) (pc := pc) hW) hdg hcs
  intro w hw
  simp only [List.mem_cons, List.not_mem_nil, or_false] at hw
  rcases hw with e | e | e | e | e
  · rw [e]; exact hlk
  · rw [e]; exact hsm
  · rw [e]; exact hsu
  · rw [e]; exact hin
  · rw [e]; exact hini
/-! nest mates -/
theorem rVN (C : xC E p s m args c cc nL own) (hZ : zK E A s s.heap) (hB : xB E A s w H locs) {host : String} (hM : Met l y (ws_ y bytes maxL ret) (rm_ rf rl mc ms) (xPz E w H.size (.ref b :: As)) Qc mc ms free) (hlk : Cond.methodLinkNest own index y host ∈ lw_tbl) (hse : Cond.selects Cn y y ∈ lw_all) (hin : Cond.instanceMethod y ∈ lw_all) (hini : Cond.initialized y.cls ∈ lw_all) (hco : Cond.code y bytes maxL ret ∈ lw_all)
    (hd : y.cls ≠ "java/lang/invoke/MethodHandle" ∧ y.cls ≠ "java/lang/invoke/VarHandle" ∧ (parseMethodDescriptor y.desc).map (fun d => d.parameters.length) = some n) (hR : rf + 1 ≤ R.frames ∧ 8 + (maxL + 11) + rl ≤ R.locals) (hb : w b = some (xO ci fs)) (hc : vwCl[ci]? = some q) (hC : q.1 = Cn) (hn : As.length = n) (hl : ls.size = nL) (hst : st0 = As.reverse ++ .ref b :: rest) (hW : (rest.map fun v => v.category).sum ≤ 8) (hdg : decode cc pc = .ok (.invokevirtual index, 3)) (hcs : cells + mc ≤ R.cells ∧ slots + ms ≤ R.slots) :
    va_Run p l e R s m args below meth c H locs cells slots mc ms (F0 m pc ls st0) rest (Qc (Value.ref b :: As).toArray) free := by
  subst hst
  have hts := C.1.2.2.2.2
  exact va_runVN (As := As) (rest := rest) C.1 hM ⟨va_cnB n hts (lw_meth hco) rfl rfl rfl (C.2.2 _ hlk rfl) (hts _ hini) hd hR, hts _ hin, hts _ hse⟩ (zpreV hB C.2 hZ hb hc hC) rfl hn hl rfl (lv_room (rest := As.reverse ++ .ref b :: rest) (ls := ls) (m := m) (pc := pc) hW) hdg hcs
theorem rSN (C : xC E p s m args c cc nL own) (hZ : zK E A s s.heap) (hB : xB E A s w H locs) {host : String} (hM : Met l y (ws_ y bytes maxL ret) (rm_ rf rl mc ms) (xPz E w H.size As) Qc mc ms free) (hlk : Cond.methodLinkNest own index y host ∈ lw_tbl) (hst2 : Cond.static y ∈ lw_all) (hini : Cond.initialized y.cls ∈ lw_all) (hco : Cond.code y bytes maxL ret ∈ lw_all)
    (hd : y.cls ≠ "java/lang/invoke/MethodHandle" ∧ y.cls ≠ "java/lang/invoke/VarHandle" ∧ (parseMethodDescriptor y.desc).map (fun d => d.parameters.length) = some n) (hR : rf + 1 ≤ R.frames ∧ 8 + (maxL + 11) + rl ≤ R.locals) (hn : As.length = n) (hl : ls.size = nL) (hst : st0 = As.reverse ++ rest) (hW : (rest.map fun v => v.category).sum ≤ 8) (hdg : decode cc pc = .ok (.invokestatic index, 3)) (hcs : cells + mc ≤ R.cells ∧ slots + ms ≤ R.slots) :
    va_Run p l e R s m args below meth c H locs cells slots mc ms (F0 m pc ls st0) rest (Qc As.toArray) free := by
  subst hst
  have hts := C.1.2.2.2.2
  exact va_runSN (As := As) (rest := rest) C.1 hM ⟨va_cnB n hts (lw_meth hco) rfl rfl rfl (C.2.2 _ hlk rfl) (hts _ hini) hd hR, hts _ hst2, trivial⟩ (zpreS hB C.2 hZ) rfl hn hl rfl (lv_room (rest := As.reverse ++ rest) (ls := ls) (m := m) (pc := pc) hW) hdg hcs
theorem rIN (C : xC E p s m args c cc nL own) (hZ : zK E A s s.heap) (hB : xB E A s w H locs) {host : String} (hM : Met l y (ws_ y bytes maxL none) (rm_ rf rl mc ms) (xPz E w H.size (.ref b :: As)) Qc mc ms free) (hlk : Cond.methodLinkNest own index y host ∈ lw_tbl) (hin : Cond.instanceMethod y ∈ lw_all) (hini : Cond.initialized y.cls ∈ lw_all) (hco : Cond.code y bytes maxL none ∈ lw_all) (hy : y.name = "<init>")
    (hd : y.cls ≠ "java/lang/invoke/MethodHandle" ∧ y.cls ≠ "java/lang/invoke/VarHandle" ∧ (parseMethodDescriptor y.desc).map (fun d => d.parameters.length) = some n) (hR : rf + 1 ≤ R.frames ∧ 8 + (maxL + 11) + rl ≤ R.locals) (hn : As.length = n) (hl : ls.size = nL) (hst : st0 = As.reverse ++ .ref b :: rest) (hW : (rest.map fun v => v.category).sum ≤ 8) (hdg : decode cc pc = .ok (.invokespecial index, 3)) (hcs : cells + mc ≤ R.cells ∧ slots + ms ≤ R.slots) :
    va_Run p l e R s m args below meth c H locs cells slots mc ms (F0 m pc ls st0) rest (Qc (Value.ref b :: As).toArray) free := by
  subst hst
  have hts := C.1.2.2.2.2
  exact va_runIN (As := As) (rest := rest) C.1 hM ⟨va_cnB n hts (lw_meth hco) rfl rfl rfl (C.2.2 _ hlk rfl) (hts _ hini) hd hR, hy, hts _ hin⟩ (zpreS hB C.2 hZ) rfl hn hl rfl (lv_room (rest := As.reverse ++ .ref b :: rest) (ls := ls) (m := m) (pc := pc) hW) hdg hcs
/-- Object.<init> -/
theorem x_objInit {Q : State → Prop} (C : xC E p s m args c cc nL own) (hlk : (Cond.methodLink own index Lib.objectInit) ∈ lw_all) (hin : (Cond.instanceMethod Lib.objectInit) ∈ lw_all) (hco : (Cond.code Lib.objectInit ⟨#[0xb1]⟩ 1 none) ∈ lw_all) (hl : ls.size = nL) (hframes : 1 ≤ R.frames) (hlocals : (rest.map fun v => v.category).sum + 12 ≤ R.locals) (hdg : decode cc pc = .ok (.invokespecial index, 3))
    (kk : W p l e R s m args below meth c H locs cells slots Q (F0 m (pc + 3) ls rest)) : W p l e R s m args below meth c H locs cells slots Q (F0 m pc ls (.ref b :: rest)) := by
  obtain ⟨⟨hx, hb, hml, hown, hts⟩, hK⟩ := C
  exact W.objInit hx hb hown (hts _ hlk) (hts _ hin) (hts _ hco) rfl (by show ls.size = _; rw [hml]; exact hl) rfl hdg hframes (by show 2 * 0 + _ + 12 ≤ _; omega) kk
end RR
