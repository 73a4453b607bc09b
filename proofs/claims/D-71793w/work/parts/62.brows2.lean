/-! ROWS in x's world: ends, calls, temps, lists -/
set_option maxRecDepth 100000
theorem xBB.none {E : xE} {A : Nat → Prop} {s : State} {o : Nat} {Ad : Nat → Nat} {I : Nat → Int} {F : Nat → Nat → Int} {X : xw} {H : Heap} {locs : List Loc} (h : xBB E A s o Ad I F X H locs) {post : Prop} (k : ∀ w, xInv E o Ad I F w → wD w X → xB E A s (wU w X) H locs → post) : post := by
  obtain ⟨w, hI, hd, hB⟩ := h
  exact k w hI hd hB
section BR2
variable {p : Program} {l : Launch} {e : Env} {R : Room} {s : State} {m : MethodId} {args : Array Value} {below : List Frame} {meth : Method} {c : Code} {H : Heap} {locs : List Loc} {cells slots mc ms : Nat} {Q : State → Prop}
variable {cc : ByteArray} {pc nL : Nat} {ls : Array Slot} {rest st0 : List Value} {E : xE} {A : Nat → Prop} {o t : Nat} {Ad : Nat → Nat} {I : Nat → Int} {F : Nat → Nat → Int} {X : xw} {own : String} {a : Array Value}
/-! ## ends -/
theorem b_iret (C : xC E p s m args c cc nL own) (hB : xBB E A s o Ad I F X H locs) {ty : FieldType} (hr : meth.sig.returnType = some ty) (hlocks : meth.locks = false) {z : Int} (hn : narrow ty (.int (iI z)) = .int (iI z)) (hdg : decode cc pc = .ok (.ireturn, 1)) {post : Int → (Nat → Nat) → (Nat → Int) → (Nat → Nat → Int) → xw → Prop} (h1 : cells ≤ mc) (h2 : slots ≤ ms) (hz : rg z) (hp : post z Ad I F X) : W p l e R s m args below meth c H locs cells slots (MQ below (va_Qi (gQi (bQ E o post)) (xEnd E A) A) args s mc ms A) (F0 m pc ls [.int (iI z)]) := by
  obtain ⟨w, hI, hd, hB⟩ := hB
  exact g_iret C hB hr hlocks hn hdg h1 h2 hz ⟨Ad, I, F, X, w, hI, hd, rfl, hp⟩
theorem b_lret (C : xC E p s m args c cc nL own) (hB : xBB E A s o Ad I F X H locs) (hr : meth.sig.returnType = some .long) (hlocks : meth.locks = false) {z : Int} (hdg : decode cc pc = .ok (.lreturn, 1)) {post : Int → (Nat → Nat) → (Nat → Int) → (Nat → Nat → Int) → xw → Prop} (h1 : cells ≤ mc) (h2 : slots ≤ ms) (hz : rgl z) (hp : post z Ad I F X) : W p l e R s m args below meth c H locs cells slots (MQ below (va_Ql (gQl (bQ E o post)) (xEnd E A) A) args s mc ms A) (F0 m pc ls [.long (lI z)]) := by
  obtain ⟨w, hI, hd, hB⟩ := hB
  exact g_lret C hB hr hlocks hdg h1 h2 hz ⟨Ad, I, F, X, w, hI, hd, rfl, hp⟩
theorem b_vret (C : xC E p s m args c cc nL own) (hB : xBB E A s o Ad I F X H locs) (hr : meth.sig.returnType = none) (hlocks : meth.locks = false) (hdg : decode cc pc = .ok (.return_, 1)) {post : Unit → (Nat → Nat) → (Nat → Int) → (Nat → Nat → Int) → xw → Prop} (h1 : cells ≤ mc) (h2 : slots ≤ ms) (hp : post () Ad I F X) : W p l e R s m args below meth c H locs cells slots (MQ below (va_Qv (bQ E o post ()) (xEnd E A) A) args s mc ms A) (F0 m pc ls []) := by
  obtain ⟨w, hI, hd, hB⟩ := hB
  exact g_vret C hB hr hlocks hdg h1 h2 ⟨Ad, I, F, X, w, hI, hd, rfl, hp⟩
theorem b_qret (C : xC E p s m args c cc nL own) (hB : xBB E A s o Ad I F X H locs) {ty : FieldType} (hr : meth.sig.returnType = some ty) (hty : (∃ n, ty = .object n) ∨ ∃ t, ty = .array t) (hlocks : meth.locks = false) (q : Option Nat) (hdg : decode cc pc = .ok (.areturn, 1)) {post : Option Nat → (Nat → Nat) → (Nat → Int) → (Nat → Nat → Int) → xw → Prop} (h1 : cells ≤ mc) (h2 : slots ≤ ms) (hp : post q Ad I F X) : W p l e R s m args below meth c H locs cells slots (MQ below (va_Qq (bQ E o post) (xEnd E A) A) args s mc ms A) (F0 m pc ls [va_rf q]) := by
  obtain ⟨w, hI, hd, hB⟩ := hB
  exact g_qret C hB hr hty hlocks q hdg h1 h2 ⟨Ad, I, F, X, w, hI, hd, rfl, hp⟩
/-! ## calls of x's contracts: the run is handed in -/
theorem b_calli (c2 s2 : Nat) (h1 : cells + mc ≤ c2) (h2 : slots + ms ≤ s2) (hB : xBB E A s o Ad I F X H locs) {post : Int → (Nat → Nat) → (Nat → Int) → (Nat → Nat → Int) → xw → Prop} (hr : ∀ w, xInv E o Ad I F w → wD w X → xB E A s (wU w X) H locs → va_Run p l e R s m args below meth c H locs cells slots mc ms (F0 m pc ls st0) rest (va_Qi (gQi (bQ E o post)) (xEnd E (xA (wU w X) H.size)) (xA (wU w X) H.size) a) (xA (wU w X) H.size))
    (kk : ∀ (z : Int) (Ad1 : Nat → Nat) (I1 : Nat → Int) (F1 : Nat → Nat → Int) (X1 : xw) (H1 : Heap) (locs1 : List Loc), rg z → post z Ad1 I1 F1 X1 → xBB E A s o Ad1 I1 F1 X1 H1 locs1 → W p l e R s m args below meth c H1 locs1 c2 s2 Q (F0 m (pc + 3) ls (.int (iI z) :: rest))) : W p l e R s m args below meth c H locs cells slots Q (F0 m pc ls st0) := by
  obtain ⟨w, hI, hd, hB⟩ := hB
  refine g_calli c2 s2 h1 h2 hB (hr w hI hd hB) (fun z w1 H1 locs1 hz hp hB => ?_)
  obtain ⟨Ad1, I1, F1, X1, w2, hI1, hd1, rfl, hp⟩ := hp
  exact kk z Ad1 I1 F1 X1 H1 locs1 hz hp ⟨w2, hI1, hd1, hB⟩
theorem b_calll (c2 s2 : Nat) (h1 : cells + mc ≤ c2) (h2 : slots + ms ≤ s2) (hB : xBB E A s o Ad I F X H locs) {post : Int → (Nat → Nat) → (Nat → Int) → (Nat → Nat → Int) → xw → Prop} (hr : ∀ w, xInv E o Ad I F w → wD w X → xB E A s (wU w X) H locs → va_Run p l e R s m args below meth c H locs cells slots mc ms (F0 m pc ls st0) rest (va_Ql (gQl (bQ E o post)) (xEnd E (xA (wU w X) H.size)) (xA (wU w X) H.size) a) (xA (wU w X) H.size))
    (kk : ∀ (z : Int) (Ad1 : Nat → Nat) (I1 : Nat → Int) (F1 : Nat → Nat → Int) (X1 : xw) (H1 : Heap) (locs1 : List Loc), rgl z → post z Ad1 I1 F1 X1 → xBB E A s o Ad1 I1 F1 X1 H1 locs1 → W p l e R s m args below meth c H1 locs1 c2 s2 Q (F0 m (pc + 3) ls (.long (lI z) :: rest))) : W p l e R s m args below meth c H locs cells slots Q (F0 m pc ls st0) := by
  obtain ⟨w, hI, hd, hB⟩ := hB
  refine g_calll c2 s2 h1 h2 hB (hr w hI hd hB) (fun z w1 H1 locs1 hz hp hB => ?_)
  obtain ⟨Ad1, I1, F1, X1, w2, hI1, hd1, rfl, hp⟩ := hp
  exact kk z Ad1 I1 F1 X1 H1 locs1 hz hp ⟨w2, hI1, hd1, hB⟩
theorem b_callv (c2 s2 : Nat) (h1 : cells + mc ≤ c2) (h2 : slots + ms ≤ s2) (hB : xBB E A s o Ad I F X H locs) {post : Unit → (Nat → Nat) → (Nat → Int) → (Nat → Nat → Int) → xw → Prop} (hr : ∀ w, xInv E o Ad I F w → wD w X → xB E A s (wU w X) H locs → va_Run p l e R s m args below meth c H locs cells slots mc ms (F0 m pc ls st0) rest (va_Qv (bQ E o post ()) (xEnd E (xA (wU w X) H.size)) (xA (wU w X) H.size) a) (xA (wU w X) H.size))
    (kk : ∀ (Ad1 : Nat → Nat) (I1 : Nat → Int) (F1 : Nat → Nat → Int) (X1 : xw) (H1 : Heap) (locs1 : List Loc), post () Ad1 I1 F1 X1 → xBB E A s o Ad1 I1 F1 X1 H1 locs1 → W p l e R s m args below meth c H1 locs1 c2 s2 Q (F0 m (pc + 3) ls rest)) : W p l e R s m args below meth c H locs cells slots Q (F0 m pc ls st0) := by
  obtain ⟨w, hI, hd, hB⟩ := hB
  refine g_callv c2 s2 h1 h2 hB (hr w hI hd hB) (fun w1 H1 locs1 hp hB => ?_)
  obtain ⟨Ad1, I1, F1, X1, w2, hI1, hd1, rfl, hp⟩ := hp
  exact kk Ad1 I1 F1 X1 H1 locs1 hp ⟨w2, hI1, hd1, hB⟩
theorem b_callq (c2 s2 : Nat) (h1 : cells + mc ≤ c2) (h2 : slots + ms ≤ s2) (hB : xBB E A s o Ad I F X H locs) {post : Option Nat → (Nat → Nat) → (Nat → Int) → (Nat → Nat → Int) → xw → Prop} (hr : ∀ w, xInv E o Ad I F w → wD w X → xB E A s (wU w X) H locs → va_Run p l e R s m args below meth c H locs cells slots mc ms (F0 m pc ls st0) rest (va_Qq (bQ E o post) (xEnd E (xA (wU w X) H.size)) (xA (wU w X) H.size) a) (xA (wU w X) H.size))
    (kk : ∀ (q : Option Nat) (Ad1 : Nat → Nat) (I1 : Nat → Int) (F1 : Nat → Nat → Int) (X1 : xw) (H1 : Heap) (locs1 : List Loc), post q Ad1 I1 F1 X1 → xBB E A s o Ad1 I1 F1 X1 H1 locs1 → W p l e R s m args below meth c H1 locs1 c2 s2 Q (F0 m (pc + 3) ls (va_rf q :: rest))) : W p l e R s m args below meth c H locs cells slots Q (F0 m pc ls st0) := by
  obtain ⟨w, hI, hd, hB⟩ := hB
  refine g_callq c2 s2 h1 h2 hB (hr w hI hd hB) (fun q w1 H1 locs1 hp hB => ?_)
  obtain ⟨Ad1, I1, F1, X1, w2, hI1, hd1, rfl, hp⟩ := hp
  exact kk q Ad1 I1 F1 X1 H1 locs1 hp ⟨w2, hI1, hd1, hB⟩
theorem b_callFi (c2 s2 : Nat) (h1 : cells + mc ≤ c2) (h2 : slots + ms ≤ s2) (hB : xBB E A s o Ad I F X H locs) {post : Int → (Nat → Nat) → (Nat → Int) → (Nat → Nat → Int) → xw → Prop} (hr : ∀ w, xInv E o Ad I F w → wD w X → xB E A s (wU w X) H locs → va_Run5 p l e R s m args below meth c H locs cells slots mc ms (F0 m pc ls st0) rest (va_Qi (gQi (bQ E o post)) (xEnd E (xA (wU w X) H.size)) (xA (wU w X) H.size) a) (xA (wU w X) H.size))
    (kk : ∀ (z : Int) (Ad1 : Nat → Nat) (I1 : Nat → Int) (F1 : Nat → Nat → Int) (X1 : xw) (H1 : Heap) (locs1 : List Loc), rg z → post z Ad1 I1 F1 X1 → xBB E A s o Ad1 I1 F1 X1 H1 locs1 → W p l e R s m args below meth c H1 locs1 c2 s2 Q (F0 m (pc + 5) ls (.int (iI z) :: rest))) : W p l e R s m args below meth c H locs cells slots Q (F0 m pc ls st0) := by
  obtain ⟨w, hI, hd, hB⟩ := hB
  refine g_callFi c2 s2 h1 h2 hB (hr w hI hd hB) (fun z w1 H1 locs1 hz hp hB => ?_)
  obtain ⟨Ad1, I1, F1, X1, w2, hI1, hd1, rfl, hp⟩ := hp
  exact kk z Ad1 I1 F1 X1 H1 locs1 hz hp ⟨w2, hI1, hd1, hB⟩
theorem b_callFq (c2 s2 : Nat) (h1 : cells + mc ≤ c2) (h2 : slots + ms ≤ s2) (hB : xBB E A s o Ad I F X H locs) {post : Option Nat → (Nat → Nat) → (Nat → Int) → (Nat → Nat → Int) → xw → Prop} (hr : ∀ w, xInv E o Ad I F w → wD w X → xB E A s (wU w X) H locs → va_Run5 p l e R s m args below meth c H locs cells slots mc ms (F0 m pc ls st0) rest (va_Qq (bQ E o post) (xEnd E (xA (wU w X) H.size)) (xA (wU w X) H.size) a) (xA (wU w X) H.size))
    (kk : ∀ (q : Option Nat) (Ad1 : Nat → Nat) (I1 : Nat → Int) (F1 : Nat → Nat → Int) (X1 : xw) (H1 : Heap) (locs1 : List Loc), post q Ad1 I1 F1 X1 → xBB E A s o Ad1 I1 F1 X1 H1 locs1 → W p l e R s m args below meth c H1 locs1 c2 s2 Q (F0 m (pc + 5) ls (va_rf q :: rest))) : W p l e R s m args below meth c H locs cells slots Q (F0 m pc ls st0) := by
  obtain ⟨w, hI, hd, hB⟩ := hB
  refine g_callFq c2 s2 h1 h2 hB (hr w hI hd hB) (fun q w1 H1 locs1 hp hB => ?_)
  obtain ⟨Ad1, I1, F1, X1, w2, hI1, hd1, rfl, hp⟩ := hp
  exact kk q Ad1 I1 F1 X1 H1 locs1 hp ⟨w2, hI1, hd1, hB⟩
/-! static methods that touch nothing, in x's world -/
theorem bs_calli (C : xC E p s m args c cc nL own) (hB : xBB E A s o Ad I F X H locs) {y : MethodName} {bytes : ByteArray} {maxL rf rl index n : Nat} {ret : Option FieldType} {As : List Value} {post : Int → Prop} (hM : si_ l E y bytes maxL ret rf rl As post) (hG : GoodIn lw_all (va_wsS own index y (ws_ y bytes maxL ret)))
    (hd : y.cls ≠ "java/lang/invoke/MethodHandle" ∧ y.cls ≠ "java/lang/invoke/VarHandle" ∧ (parseMethodDescriptor y.desc).map (fun d => d.parameters.length) = some n) (hR : rf + 1 ≤ R.frames ∧ 8 + (maxL + 11) + rl ≤ R.locals) (hn : As.length = n) (hl : ls.size = nL) (hst : st0 = As.reverse ++ rest) (hW : (rest.map fun v => v.category).sum ≤ 8) (hdg : decode cc pc = .ok (.invokestatic index, 3)) (hcs : cells ≤ R.cells ∧ slots ≤ R.slots)
    (kk : ∀ (z : Int) (H1 : Heap) (locs1 : List Loc), rg z → post z → xBB E A s o Ad I F X H1 locs1 → W p l e R s m args below meth c H1 locs1 cells slots Q (F0 m (pc + 3) ls (.int (iI z) :: rest))) : W p l e R s m args below meth c H locs cells slots Q (F0 m pc ls st0) := by
  obtain ⟨w, hI, hd2, hB⟩ := hB
  exact s_calli C hB hM hG hd hR hn hl hst hW hdg hcs (fun z H1 locs1 hz hp hB => kk z H1 locs1 hz hp ⟨w, hI, hd2, hB⟩)
theorem bs_calll (C : xC E p s m args c cc nL own) (hB : xBB E A s o Ad I F X H locs) {y : MethodName} {bytes : ByteArray} {maxL rf rl index n : Nat} {ret : Option FieldType} {As : List Value} {post : Int → Prop} (hM : sl_ l E y bytes maxL ret rf rl As post) (hG : GoodIn lw_all (va_wsS own index y (ws_ y bytes maxL ret)))
    (hd : y.cls ≠ "java/lang/invoke/MethodHandle" ∧ y.cls ≠ "java/lang/invoke/VarHandle" ∧ (parseMethodDescriptor y.desc).map (fun d => d.parameters.length) = some n) (hR : rf + 1 ≤ R.frames ∧ 8 + (maxL + 11) + rl ≤ R.locals) (hn : As.length = n) (hl : ls.size = nL) (hst : st0 = As.reverse ++ rest) (hW : (rest.map fun v => v.category).sum ≤ 8) (hdg : decode cc pc = .ok (.invokestatic index, 3)) (hcs : cells ≤ R.cells ∧ slots ≤ R.slots)
    (kk : ∀ (z : Int) (H1 : Heap) (locs1 : List Loc), rgl z → post z → xBB E A s o Ad I F X H1 locs1 → W p l e R s m args below meth c H1 locs1 cells slots Q (F0 m (pc + 3) ls (.long (lI z) :: rest))) : W p l e R s m args below meth c H locs cells slots Q (F0 m pc ls st0) := by
  obtain ⟨w, hI, hd2, hB⟩ := hB
  exact s_calll C hB hM hG hd hR hn hl hst hW hdg hcs (fun z H1 locs1 hz hp hB => kk z H1 locs1 hz hp ⟨w, hI, hd2, hB⟩)
/-- a static method of a nest mate that touches nothing -/
theorem bs_callN (C : xC E p s m args c cc nL own) (hB : xBB E A s o Ad I F X H locs) {y : MethodName} {bytes : ByteArray} {maxL rf rl index n : Nat} {ret : Option FieldType} {host : String} {As : List Value} {post : Int → Prop} (hM : si_ l E y bytes maxL ret rf rl As post) (hlk : Cond.methodLinkNest own index y host ∈ lw_tbl) (hst2 : Cond.static y ∈ lw_all) (hini : Cond.initialized y.cls ∈ lw_all) (hco : Cond.code y bytes maxL ret ∈ lw_all)
    (hd : y.cls ≠ "java/lang/invoke/MethodHandle" ∧ y.cls ≠ "java/lang/invoke/VarHandle" ∧ (parseMethodDescriptor y.desc).map (fun d => d.parameters.length) = some n) (hR : rf + 1 ≤ R.frames ∧ 8 + (maxL + 11) + rl ≤ R.locals) (hn : As.length = n) (hl : ls.size = nL) (hst : st0 = As.reverse ++ rest) (hW : (rest.map fun v => v.category).sum ≤ 8) (hdg : decode cc pc = .ok (.invokestatic index, 3)) (hcs : cells ≤ R.cells ∧ slots ≤ R.slots)
    (kk : ∀ (z : Int) (H1 : Heap) (locs1 : List Loc), rg z → post z → xBB E A s o Ad I F X H1 locs1 → W p l e R s m args below meth c H1 locs1 cells slots Q (F0 m (pc + 3) ls (.int (iI z) :: rest))) : W p l e R s m args below meth c H locs cells slots Q (F0 m pc ls st0) := by
  obtain ⟨w, hI, hd2, hB⟩ := hB
  subst hst
  have hts := C.1.2.2.2.2
  refine va_calli (A0 := A) (mc := 0) (ms := 0) (va_runSN (As := As) (rest := rest) C.1 (hM (wU w X) H.size) ⟨va_cnB n hts (lw_meth hco) rfl rfl rfl (C.2.2 _ hlk rfl) (hts _ hini) hd hR, hts _ hst2, trivial⟩ (xpreS hB.1 C.2) rfl hn hl rfl (lv_room (rest := As.reverse ++ rest) (ls := ls) (m := m) (pc := pc) hW) hdg ⟨hcs.1, hcs.2⟩) hB.2.2.1 (fun q _ h => hB.sub q h) hB.sub (fun r u t H1 locs1 ht hvm hp hE hz hk hS => ?_)
  obtain ⟨rfl, z, rfl, hz, hp⟩ := hp
  exact kk z H1 locs1 hz hp ⟨w, hI, hd2, hB.call ht hE hS⟩
/-! ## x's fields, from a nest mate -/
theorem b_getN (C : xC E p s m args c cc nL own) (hB : xBB E A s o Ad I F X H locs) {index : Nat} {host : String} (k : Nat) (hk : k < 19) (hlink : (Cond.fieldLinkNest own index RX0 (TX0 k).2.1 (TX0 k).2.2.1 host) ∈ lw_tbl) {v : Value} (hv : (xFs Ad I)[k]? = some v) (ho : (TX0 k).1 = RX0) (hdg : decode cc pc = .ok (.getfield index, 3))
    (kk : W p l e R s m args below meth c H locs cells slots Q (F0 m (pc + 3) ls (v :: rest))) : W p l e R s m args below meth c H locs cells slots Q (F0 m pc ls (.ref o :: rest)) := by
  obtain ⟨w, hI, hd, hB⟩ := hB
  exact x_getN C hB (wU_l hI.x) rfl in_X0 k hk hlink (fun x h => by rw [ho] at h; exact h) hv hdg kk
theorem b_putN (C : xC E p s m args c cc nL own) (hB : xBB E A s o Ad I F X H locs) {index : Nat} {host : String} (k j : Nat) (hk : k < 19) (hj : xPl k = some j) (hlink : (Cond.fieldLinkNest own index RX0 (TX0 k).2.1 (TX0 k).2.2.1 host) ∈ lw_tbl) (ho : (TX0 k).1 = RX0) (hfin : (TX0 k).2.2.2 = false) (hty : tyX0 k = .int) {z : Int} (hdg : decode cc pc = .ok (.putfield index, 3))
    (kk : ∀ (H1 : Heap) (locs1 : List Loc), xBB E A s o Ad (va_up I j z) F X H1 locs1 → W p l e R s m args below meth c H1 locs1 cells slots Q (F0 m (pc + 3) ls rest)) : W p l e R s m args below meth c H locs cells slots Q (F0 m pc ls (.int (iI z) :: .ref o :: rest)) := by
  obtain ⟨w, hI, hd, hB⟩ := hB
  refine x_putN C hB (wU_l hI.x) rfl in_X0 tyX0_ok nmX0 k hk hlink (fun x h => by rw [ho] at h; exact h) hfin (by rw [hty]; rfl) (by rw [hty]; rfl) hk hdg (fun H1 locs1 h => kk H1 locs1 ⟨_, hI.put hj, hd.put_l hI.x, ?_⟩)
  rw [← wU_up_l]
  exact h
/-! ## temps -/
theorem t_get (C : xC E p s m args c cc nL own) (hB : xBB E A s o Ad I F X H locs) {ref Cn : String} {T : u_T} {N ci index : Nat} {fs : List Value} (ha : X t = some (xO ci fs)) (hc : vwCl[ci]? = some (Cn, T, N)) (hin : ∀ w ∈ u_ws Cn T N, w ∈ lw_all) (k : Nat) (hk : k < N) (hlink : (Cond.fieldLink own index ref (T k).2.1 (T k).2.2.1) ∈ lw_all) (hsame : ∀ x, s.fieldFound? (T k).1 (T k).2.1 (T k).2.2.1 = some x → s.fieldFound? ref (T k).2.1 (T k).2.2.1 = some x) {v : Value} (hv : fs[k]? = some v) (hdg : decode cc pc = .ok (.getfield index, 3))
    (kk : W p l e R s m args below meth c H locs cells slots Q (F0 m (pc + 3) ls (v :: rest))) : W p l e R s m args below meth c H locs cells slots Q (F0 m pc ls (.ref t :: rest)) := by
  obtain ⟨w, hI, hd, hB⟩ := hB
  exact x_get C hB (wU_r hd ha) hc hin k hk hlink hsame hv hdg kk
theorem t_getN (C : xC E p s m args c cc nL own) (hB : xBB E A s o Ad I F X H locs) {ref Cn host : String} {T : u_T} {N ci index : Nat} {fs : List Value} (ha : X t = some (xO ci fs)) (hc : vwCl[ci]? = some (Cn, T, N)) (hin : ∀ w ∈ u_ws Cn T N, w ∈ lw_all) (k : Nat) (hk : k < N) (hlink : (Cond.fieldLinkNest own index ref (T k).2.1 (T k).2.2.1 host) ∈ lw_tbl) (hsame : ∀ x, s.fieldFound? (T k).1 (T k).2.1 (T k).2.2.1 = some x → s.fieldFound? ref (T k).2.1 (T k).2.2.1 = some x) {v : Value} (hv : fs[k]? = some v) (hdg : decode cc pc = .ok (.getfield index, 3))
    (kk : W p l e R s m args below meth c H locs cells slots Q (F0 m (pc + 3) ls (v :: rest))) : W p l e R s m args below meth c H locs cells slots Q (F0 m pc ls (.ref t :: rest)) := by
  obtain ⟨w, hI, hd, hB⟩ := hB
  exact x_getN C hB (wU_r hd ha) hc hin k hk hlink hsame hv hdg kk
theorem wD.put_t {w X : xw} (hd : wD w X) {a : Nat} {e0 : xX} (e : xX) (h : X a = some e0) : wD w (va_up X a (some e)) ∧ va_up (wU w X) a (some e) = wU w (va_up X a (some e)) := by
  have hw : w a = none := by
    cases q : w a with
    | none => rfl
    | some x => rw [hd a x q] at h; cases h
  exact ⟨hd.put_r hw, wU_up_r hw⟩
theorem t_put (C : xC E p s m args c cc nL own) (hB : xBB E A s o Ad I F X H locs) {ref Cn : String} {T : u_T} {N ci index : Nat} {fs : List Value} (ha : X t = some (xO ci fs)) (hc : vwCl[ci]? = some (Cn, T, N)) (hin : ∀ w ∈ u_ws Cn T N, w ∈ lw_all) {ty0 : Nat → FieldType} (hty : ∀ k, k < N → parseFieldDescriptor (T k).2.2.1 = some (ty0 k)) (hnm : ∀ a, a < N → ∀ b, b < N → a ≠ b → x_ap T a b) (k : Nat) (hk : k < N) (hlink : (Cond.fieldLink own index ref (T k).2.1 (T k).2.2.1) ∈ lw_all) (hsame : ∀ x, s.fieldFound? (T k).1 (T k).2.1 (T k).2.2.1 = some x → s.fieldFound? ref (T k).2.1 (T k).2.2.1 = some x) (hfin : (T k).2.2.2 = false) {v : Value} (hn : narrow (ty0 k) v = v) (hfit : fits (ty0 k) v = true) (hl : k < fs.length) (hdg : decode cc pc = .ok (.putfield index, 3))
    (kk : ∀ (H1 : Heap) (locs1 : List Loc), xBB E A s o Ad I F (va_up X t (some (xO ci (fs.set k v)))) H1 locs1 → W p l e R s m args below meth c H1 locs1 cells slots Q (F0 m (pc + 3) ls rest)) : W p l e R s m args below meth c H locs cells slots Q (F0 m pc ls (v :: .ref t :: rest)) := by
  obtain ⟨w, hI, hd, hB⟩ := hB
  refine x_put2 C hB (wU_r hd ha) hc hin hty hnm k hk hlink hsame hfin hn hfit hl hdg (fun H1 locs1 h => ?_)
  obtain ⟨h1, h2⟩ := hd.put_t (xO ci (fs.set k v)) ha
  rw [h2] at h
  exact kk H1 locs1 ⟨w, hI, h1, h⟩
theorem t_putF (C : xC E p s m args c cc nL own) (hB : xBB E A s o Ad I F X H locs) {ref Cn : String} {T : u_T} {N ci index : Nat} {fs : List Value} (ha : X t = some (xO ci fs)) (hc : vwCl[ci]? = some (Cn, T, N)) (hin : ∀ w ∈ u_ws Cn T N, w ∈ lw_all) {ty0 : Nat → FieldType} (hty : ∀ k, k < N → parseFieldDescriptor (T k).2.2.1 = some (ty0 k)) (hnm : ∀ a, a < N → ∀ b, b < N → a ≠ b → x_ap T a b) (k : Nat) (hk : k < N) (hlink : (Cond.fieldLink own index ref (T k).2.1 (T k).2.2.1) ∈ lw_all) (hsame : ∀ x, s.fieldFound? (T k).1 (T k).2.1 (T k).2.2.1 = some x → s.fieldFound? ref (T k).2.1 (T k).2.2.1 = some x) (hfin : (T k).2.2.2 = true) (hin2 : meth.name = "<init>") (hdecl : (T k).1 = own) {v : Value} (hn : narrow (ty0 k) v = v) (hfit : fits (ty0 k) v = true) (hl : k < fs.length) (hdg : decode cc pc = .ok (.putfield index, 3))
    (kk : ∀ (H1 : Heap) (locs1 : List Loc), xBB E A s o Ad I F (va_up X t (some (xO ci (fs.set k v)))) H1 locs1 → W p l e R s m args below meth c H1 locs1 cells slots Q (F0 m (pc + 3) ls rest)) : W p l e R s m args below meth c H locs cells slots Q (F0 m pc ls (v :: .ref t :: rest)) := by
  obtain ⟨w, hI, hd, hB⟩ := hB
  refine x_putF2 C hB (wU_r hd ha) hc hin hty hnm k hk hlink hsame hfin hin2 hdecl hn hfit hl hdg (fun H1 locs1 h => ?_)
  obtain ⟨h1, h2⟩ := hd.put_t (xO ci (fs.set k v)) ha
  rw [h2] at h
  exact kk H1 locs1 ⟨w, hI, h1, h⟩
theorem t_new (C : xC E p s m args c cc nL own) (hB : xBB E A s o Ad I F X H locs) {Cn : String} {T : u_T} {N ci index : Nat} (hc : vwCl[ci]? = some (Cn, T, N)) (hin : ∀ w ∈ u_ws Cn T N, w ∈ lw_all) {ty0 : Nat → FieldType} (hty : ∀ k, k < N → parseFieldDescriptor (T k).2.2.1 = some (ty0 k)) (hcl : (Cond.classLink own index Cn) ∈ lw_all) (hinst : (Cond.instantiable Cn N) ∈ lw_all) (hini : (Cond.initialized Cn) ∈ lw_all) {fs : List Value} (hfs : ∀ j, j < N → defaultValue (ty0 j) = vp_V fs j) (hcells : cells + 1 ≤ R.cells) (hslots : slots + N ≤ R.slots) (hdg : decode cc pc = .ok (.new index, 3))
    (kk : ∀ (q : Nat) (H1 : Heap), X q = none → (∀ r e0, C0 E Ad I F r = some e0 → Ad r ≠ q) → xBB E A s o Ad I F (va_up X q (some (xO ci fs))) H1 locs → W p l e R s m args below meth c H1 locs (cells + 1) (slots + N) Q (F0 m (pc + 3) ls (.ref q :: rest))) : W p l e R s m args below meth c H locs cells slots Q (F0 m pc ls rest) := by
  obtain ⟨w, hI, hd, hB⟩ := hB
  refine x_new C hB hc hin hty hcl hinst hini hfs hcells hslots hdg (fun q H1 hq hs h => ?_)
  obtain ⟨q1, q2⟩ := wU_n hq
  rw [wU_up_r q1] at h
  exact kk q H1 q2 (fun r e0 hr hz => by have := hI.2.1.1 r e0 hr; rw [hz, q1] at this; cases this) ⟨w, hI, hd.put_r q1, h⟩
theorem t_newp (C : xC E p s m args c cc nL own) (hB : xBB E A s o Ad I F X H locs) {atype : ArrayType} (k : Nat) {ty : FieldType} (hty : newarray.typeOf atype = ty) (ht : (xtys E)[k]? = some (E.2 k, ty)) (hnm : ty = .int ∨ ty = .byte ∨ ty = .short) (harr : (Cond.arrayClass ty) ∈ lw_all) {z : Int} (N : Nat) (hz : z = (N : Int)) (hN : N < 2 ^ 20) (hcells : cells + 1 ≤ R.cells) (hslots : slots + N ≤ R.slots) (hdg : decode cc pc = .ok (.newarray atype, 2))
    (kk : ∀ (q : Nat) (H1 : Heap), X q = none → (∀ r e0, C0 E Ad I F r = some e0 → Ad r ≠ q) → xBB E A s o Ad I F (va_up X q (some (.inl (.inl (E.2 k, N, .inl (fun _ => iI 0)))))) H1 locs → W p l e R s m args below meth c H1 locs (cells + 1) (slots + N) Q (F0 m (pc + 2) ls (.ref q :: rest))) : W p l e R s m args below meth c H locs cells slots Q (F0 m pc ls (.int (iI z) :: rest)) := by
  obtain ⟨w, hI, hd, hB⟩ := hB
  refine x_newp C hB k hty ht hnm harr N hz hN hcells hslots hdg (fun q H1 hq hs h => ?_)
  obtain ⟨q1, q2⟩ := wU_n hq
  rw [wU_up_r q1] at h
  exact kk q H1 q2 (fun r e0 hr hz => by have := hI.2.1.1 r e0 hr; rw [hz, q1] at this; cases this) ⟨w, hI, hd.put_r q1, h⟩
theorem t_ald (C : xC E p s m args c cc nL own) (hB : xBB E A s o Ad I F X H locs) {N : Nat} {f : Nat → Int} (ha : X t = some (xI E N f)) {z : Int} (n : Nat) (hz : z = (n : Int)) (hn : n < N) (hN : N < 2 ^ 31) (hdg : decode cc pc = .ok (.iaload, 1))
    (kk : W p l e R s m args below meth c H locs cells slots Q (F0 m (pc + 1) ls (.int (iI (f n)) :: rest))) : W p l e R s m args below meth c H locs cells slots Q (F0 m pc ls (.int (iI z) :: .ref t :: rest)) := by
  obtain ⟨w, hI, hd, hB⟩ := hB
  exact x_iald C hB (wU_r hd ha) n hz hn hN hdg kk
theorem t_ast (C : xC E p s m args c cc nL own) (hB : xBB E A s o Ad I F X H locs) {N : Nat} {f : Nat → Int} (ha : X t = some (xI E N f)) {z v : Int} (n : Nat) (hz : z = (n : Int)) (hn : n < N) (hN : N < 2 ^ 31) (hdg : decode cc pc = .ok (.iastore, 1))
    (kk : ∀ (H1 : Heap) (locs1 : List Loc), xBB E A s o Ad I F (va_up X t (some (xI E N (va_up f n v)))) H1 locs1 → W p l e R s m args below meth c H1 locs1 cells slots Q (F0 m (pc + 1) ls rest)) : W p l e R s m args below meth c H locs cells slots Q (F0 m pc ls (.int (iI v) :: .int (iI z) :: .ref t :: rest)) := by
  obtain ⟨w, hI, hd, hB⟩ := hB
  refine x_iast C hB (wU_r hd ha) n hz hn hN hdg (fun H1 locs1 h => ?_)
  obtain ⟨h1, h2⟩ := hd.put_t (xI E N (va_up f n v)) ha
  rw [h2] at h
  exact kk H1 locs1 ⟨w, hI, h1, h⟩
theorem t_len (C : xC E p s m args c cc nL own) (hB : xBB E A s o Ad I F X H locs) (k : Nat) {ty : FieldType} (ht : (xtys E)[k]? = some (E.2 k, ty)) {x : vp_A} (ha : X t = some (.inl (.inl (E.2 k, x)))) (hdg : decode cc pc = .ok (.arraylength, 1))
    (kk : W p l e R s m args below meth c H locs cells slots Q (F0 m (pc + 1) ls (.int (iI (x.1 : Int)) :: rest))) : W p l e R s m args below meth c H locs cells slots Q (F0 m pc ls (.ref t :: rest)) := by
  obtain ⟨w, hI, hd, hB⟩ := hB
  exact x_alen C hB k ht (wU_r hd ha) hdg kk
theorem t_castS (C : xC E p s m args c cc nL own) (hB : xBB E A s o Ad I F X H locs) {nm : String} {index ci : Nat} {fs : List Value} {q : vw_C} (hlink : (Cond.classLink own index nm) ∈ lw_all) (ha : X t = some (xO ci fs)) (hc : vwCl[ci]? = some q) (hq : q.1 = nm) (hdg : decode cc pc = .ok (.checkcast index, 3))
    (kk : W p l e R s m args below meth c H locs cells slots Q (F0 m (pc + 3) ls (.ref t :: rest))) : W p l e R s m args below meth c H locs cells slots Q (F0 m pc ls (.ref t :: rest)) := by
  obtain ⟨w, hI, hd, hB⟩ := hB
  exact x_castS C hB hlink (wU_r hd ha) hc hq hdg kk
end BR2
