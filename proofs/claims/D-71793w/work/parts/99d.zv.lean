/-! EXCEPTIONS over the map world: the environment of what throws, contracts that may throw, notes, catches, ends, runs -/
set_option maxRecDepth 100000
/-- the environment of what throws -/
def zV (E : xE) (A : Nat → Prop) (U : State) (H : Heap) : Prop := zK E A U H ∧ vx_Zq Bundle.tN "UNASSIGNED_STACK" Bundle.steD A U H ∧ vx_Zq Bundle.tN "SUPPRESSED_SENTINEL" Bundle.listD A U H ∧ modulesRight_1 U = true ∧ vk_R "BookPairs" 414 "not all there" (E.2 22) U
theorem zV.go {E : xE} {A : Nat → Prop} {s U : State} {w : xw} {H : Heap} {locs : List Loc} (h : zV E A s s.heap) (hB : xB E A s w H locs) (hU : U.heap = H) (hW : s.WarmedH U.vm) : zV E (xA w H.size) U U.heap := by
  obtain ⟨h1, h2, h3, h4, h5⟩ := h
  have hk : ∀ a : Nat, a < s.heap.size → ¬ A a → H[a]? = s.heap[a]? := hB.2.2.1.2.1
  refine ⟨h1.go hB hU hW, ?_, ?_, xv_modules hW.alike h4, h5.warm hW⟩
  · rw [hU]; exact ((h2.moved hW.alike).kept hk).narrow hB.sub
  · rw [hU]; exact ((h3.moved hW.alike).kept hk).narrow hB.sub
theorem zV.same {E : xE} {A : Nat → Prop} {s U : State} {H : Heap} (hv : s.vm = U.vm) (h : zV E A s H) : zV E A U H := by
  have hA : s.vm.Alike U.vm := by rw [hv]; exact Vm.Alike.refl _
  exact ⟨h.1.same hv, h.2.1.moved hA, h.2.2.1.moved hA, xv_modules hA h.2.2.2.1, h.2.2.2.2.same hv.symm⟩
def xPv (E : xE) (w : xw) (sz : Nat) (av : List Value) : Array Value → State → Prop := va_Pc av (fun U => U.heap.size = sz ∧ xP E w U.heap ∧ xK E U ∧ zV E (xA w sz) U U.heap)
theorem xPv.blind {E : xE} {w : xw} {sz : Nat} {av : List Value} : FrameBlind (xPv E w sz av) := fun a U g mk q => ⟨q.1, q.2.1, q.2.2.1, xK.same (s := U) (U := U.calling g mk a) rfl q.2.2.2.1, zV.same (s := U) (U := U.calling g mk a) rfl q.2.2.2.2⟩
theorem xPv.at {E : xE} {A : Nat → Prop} {s U : State} {w : xw} {H : Heap} {locs : List Loc} {av : List Value} (hB : xB E A s w H locs) (hK : xK E s) (hV : zV E A s s.heap) (hU : U.heap = H) (hW : s.WarmedH U.vm) : xPv E w H.size av av.toArray U := ⟨rfl, by rw [hU], by rw [hU]; exact hB.1, hK.moved hW, hV.go hB hU hW⟩
theorem vpreV {E : xE} {A : Nat → Prop} {s : State} {w : xw} {H : Heap} {locs : List Loc} {b ci : Nat} {fs : List Value} {q : vw_C} {As : List Value} {C : String} (hB : xB E A s w H locs) (hK : xK E s) (hV : zV E A s s.heap) (hb : w b = some (xO ci fs)) (hc : vwCl[ci]? = some q) (hC : q.1 = C) : PreV s H C b (xPv E w H.size (.ref b :: As)) As := by
  subst hC
  exact ⟨xPv.blind, xrecv hK hB.1 hb hc, fun U hU hW => xPv.at hB hK hV hU hW⟩
theorem vpreS {E : xE} {A : Nat → Prop} {s : State} {w : xw} {H : Heap} {locs : List Loc} {As : List Value} (hB : xB E A s w H locs) (hK : xK E s) (hV : zV E A s s.heap) : PreS s H (xPv E w H.size As) As := ⟨xPv.blind, fun U hU hW => xPv.at hB hK hV hU hW⟩
/-- what is said where one throws: the class by its name, the world -/
def gXC (E : xE) (w : xw) (sz : Nat) (px : String → xw → Prop) : String → State → State → Prop := vx_X (S := xw) (fun _ => True) (fun En w' t => px En w' ∧ xEnd E (xA w sz) w' t) (xA w sz)
/-- nothing is thrown -/
abbrev nx : String → xw → Prop := fun _ _ => False
abbrev xi_ (l : Launch) (E : xE) (y : MethodName) (ws : List Cond) (rf rl mc ms : Nat) (av : List Value) (w : xw) (post : Int → xw → Prop) (px : String → xw → Prop) : Prop := ∀ sz : Nat, vx_Met l y ws (rm_ rf rl mc ms) (xPv E w sz av) (va_Qi (gQi post) (xEnd E (xA w sz)) (xA w sz)) (gXC E w sz px) mc ms (xA w sz)
abbrev xl_ (l : Launch) (E : xE) (y : MethodName) (ws : List Cond) (rf rl mc ms : Nat) (av : List Value) (w : xw) (post : Int → xw → Prop) (px : String → xw → Prop) : Prop := ∀ sz : Nat, vx_Met l y ws (rm_ rf rl mc ms) (xPv E w sz av) (va_Ql (gQl post) (xEnd E (xA w sz)) (xA w sz)) (gXC E w sz px) mc ms (xA w sz)
abbrev xv_ (l : Launch) (E : xE) (y : MethodName) (ws : List Cond) (rf rl mc ms : Nat) (av : List Value) (w : xw) (post : xw → Prop) (px : String → xw → Prop) : Prop := ∀ sz : Nat, vx_Met l y ws (rm_ rf rl mc ms) (xPv E w sz av) (va_Qv post (xEnd E (xA w sz)) (xA w sz)) (gXC E w sz px) mc ms (xA w sz)
abbrev xq_ (l : Launch) (E : xE) (y : MethodName) (ws : List Cond) (rf rl mc ms : Nat) (av : List Value) (w : xw) (post : Option Nat → xw → Prop) (px : String → xw → Prop) : Prop := ∀ sz : Nat, vx_Met l y ws (rm_ rf rl mc ms) (xPv E w sz av) (va_Qq post (xEnd E (xA w sz)) (xA w sz)) (gXC E w sz px) mc ms (xA w sz)
theorem x_bodyx {l : Launch} {E : xE} {y : MethodName} {cc : ByteArray} {nL rf rl mc ms : Nat} {ret : Option FieldType} {av : List Value} {w : xw} {sz : Nat} {Qc : Array Value → State → Outcome → State → Prop} {px : String → xw → Prop} (hy : plainName y.cls = true) (hlen : (lg_sl av).length ≤ nL)
    (body : ∀ (p : Program) (e : Env) (s : State) (m : MethodId) (args : Array Value) (below : List Frame) (meth : Method) (c : Code) (ls : Array Slot), p.tables.exec = Jvm.exec → c.code = cc → xC E p s m args c cc nL y.cls → meth.sig.returnType = ret → meth.locks = false → (∀ x ∈ c.exceptionTable.toList, False) → s.heap.size = sz → zV E (xA w sz) s s.heap → xB E (xA w sz) s w s.heap [] → lv_has ls nL (lv_args 0 av) → W p l e { frames := rf, cells := mc, slots := ms, locals := rl } s m args below meth c s.heap [] 0 0 (vx_MQ below Qc (gXC E w sz px) args s mc ms (xA w sz)) (F0 m 0 ls [])) : vx_Met l y (ws_ y cc nL ret) { frames := rf, cells := mc, slots := ms, locals := rl } (xPv E w sz av) Qc (gXC E w sz px) mc ms (xA w sz) := by
  refine vx_ofW (cc := cc) (maxL := nL) (ret := ret) hy rfl ?_
  intro p e s m args below meth c s₁ B hml htab hv
  obtain ⟨rfl, hsz, hP, hK, hV⟩ := hv
  have hts := atoms_spec (ws := ws_ y cc nL ret) B.pre
  have hts : ∀ w ∈ lw_all, w.before _ s = true := fun w h => hts w (List.mem_cons_of_mem _ h)
  have hown : s.vm.findClass y.cls = some m.cls := findClass_of_methodNamed B.named
  have hS : va_S (xA w sz) s.heap s.heap [] := va_S.rf
  rw [lg_entry_eq]
  exact body p e s m _ below meth c _ B.exec B.bytes ⟨⟨B.exec, B.bytes, hml, hown, hts⟩, hK⟩ B.returns B.notSynchronized htab hsz hV ⟨hP, fun a e h => Or.inl ⟨e, h⟩, hS, fun q h => Or.inr (hsz ▸ h)⟩ (lv_entry av hlen)
theorem x_bodyh {l : Launch} {E : xE} {y : MethodName} {cc : ByteArray} {nL rf rl mc ms : Nat} {ret : Option FieldType} {hh : List (Nat × Nat × Nat × Nat)} {av : List Value} {w : xw} {sz : Nat} {Qc : Array Value → State → Outcome → State → Prop} {px : String → xw → Prop} (hy : plainName y.cls = true) (hlen : (lg_sl av).length ≤ nL)
    (body : ∀ (p : Program) (e : Env) (s : State) (m : MethodId) (args : Array Value) (below : List Frame) (meth : Method) (c : Code) (ls : Array Slot), p.tables.exec = Jvm.exec → c.code = cc → xC E p s m args c cc nL y.cls → meth.sig.returnType = ret → meth.locks = false → c.exceptionTable.toList = tableOf hh → s.heap.size = sz → zV E (xA w sz) s s.heap → xB E (xA w sz) s w s.heap [] → lv_has ls nL (lv_args 0 av) → W p l e { frames := rf, cells := mc, slots := ms, locals := rl } s m args below meth c s.heap [] 0 0 (vx_MQ below Qc (gXC E w sz px) args s mc ms (xA w sz)) (F0 m 0 ls [])) : vx_Met l y (wsW_ y cc nL ret hh) { frames := rf, cells := mc, slots := ms, locals := rl } (xPv E w sz av) Qc (gXC E w sz px) mc ms (xA w sz) := by
  refine vx_ofWH (cc := cc) (maxL := nL) (ret := ret) (hh := hh) hy rfl ?_
  intro p e s m args below meth c s₁ B hml hv
  have htab : c.exceptionTable.toList = tableOf hh := vx_table (x := y) B (atoms_spec (ws := wsW_ y cc nL ret hh) B.pre _ List.mem_cons_self)
  obtain ⟨rfl, hsz, hP, hK, hV⟩ := hv
  have hts := atoms_spec (ws := wsW_ y cc nL ret hh) B.pre
  have hts : ∀ w ∈ lw_all, w.before _ s = true := fun w h => hts w (List.mem_cons_of_mem _ h)
  have hown : s.vm.findClass y.cls = some m.cls := findClass_of_methodNamed B.named
  have hS : va_S (xA w sz) s.heap s.heap [] := va_S.rf
  rw [lg_entry_eq]
  exact body p e s m _ below meth c _ B.exec B.bytes ⟨⟨B.exec, B.bytes, hml, hown, hts⟩, hK⟩ B.returns B.notSynchronized htab hsz hV ⟨hP, fun a e h => Or.inl ⟨e, h⟩, hS, fun q h => Or.inr (hsz ▸ h)⟩ (lv_entry av hlen)
/-! ## what stays when cells come that no world tells of -/
def kp (A : Nat → Prop) (s : State) (BB : Heap → List Loc → Prop) : Prop := ∀ H locs, BB H locs → va_S A s.heap H locs ∧ ∀ H1 : Heap, H.size ≤ H1.size → (∀ q : Nat, q < H.size → H1[q]? = H[q]?) → va_S A s.heap H1 locs → BB H1 locs
theorem kp_x {E : xE} {A : Nat → Prop} {s : State} {w : xw} : kp A s (fun H L => xB E A s w H L) := fun H locs hB => ⟨hB.2.2.1, fun H1 _ hq hS => ⟨fun a e ha => (hB.1 a e ha).kept (hq a (hB.1.lt ha)), hB.2.1, hS, hB.2.2.2⟩⟩
theorem kp_b {E : xE} {A : Nat → Prop} {s : State} {o : Nat} {Ad : Nat → Nat} {I : Nat → Int} {F : Nat → Nat → Int} {X : xw} : kp A s (fun H L => xBB E A s o Ad I F X H L) := fun H locs hB => by
  obtain ⟨w, hI, hd, hB⟩ := hB
  exact ⟨hB.2.2.1, fun H1 hz hq hS => ⟨w, hI, hd, (kp_x H locs hB).2 H1 hz hq hS⟩⟩
/-- the exception's object -/
def xEx (En : String) (s : State) (H : Heap) (q9 : Nat) : Prop := ∃ ce : Cell, H[q9]? = some ce ∧ ce.vm = .none ∧ s.vm.findClass En = some ce.cls
section EX
variable {p : Program} {l : Launch} {e : Env} {R : Room} {s : State} {m : MethodId} {args : Array Value} {below : List Frame} {meth : Method} {c : Code} {H : Heap} {locs : List Loc} {cells slots mc ms : Nat} {Q : State → Prop}
variable {cc : ByteArray} {pc nL : Nat} {ls : Array Slot} {rest st0 : List Value} {E : xE} {A : Nat → Prop} {own : String} {BB : Heap → List Loc → Prop} {a : Array Value}
/-! ## notes -/
theorem e_npe (hfl : l.stackTraces = false) (C : xC E p s m args c cc nL own) (hV : zV E A s s.heap) (hk : kp A s BB) (hB : BB H locs) (hl : ls.size = nL) (hlocks : meth.locks = false) (hf : 8 < R.frames) (hr : (rest.map fun v => v.category).sum + 10240 ≤ R.locals) (hc : cells + 3 ≤ R.cells) (hs : slots + 890 ≤ R.slots)
    (kx : ∀ (H : Heap) (q9 : Nat), BB H locs → xEx "java/lang/NullPointerException" s H q9 → vx_W p l e R s m args below meth c H locs (cells + 3) (slots + 890) Q (F0 m pc ls rest) q9) : vx_NoteN p l e R s m args below meth c H locs cells slots Q (F0 m pc ls rest) := by
  obtain ⟨-, hU, hN, -, -⟩ := hV
  obtain ⟨hS, hkp⟩ := hk H locs hB
  refine vx_npe C.1.1 hfl (nb := 8) (vok.before C vw_NPE) vg_NPE hU hN hS (by rw [C.1.2.2.1]; exact hl) (by omega) hr (by omega) (by omega) hlocks (fun H1 q9 ce hz hq hS1 h1 h2 h3 => vx_widen (k := cells + 3) (n := slots + 890) (by omega) (by omega) (kx H1 q9 (hkp H1 hz hq hS1) ⟨ce, h1, h2, h3⟩))
theorem e_vm (hfl : l.stackTraces = false) (C : xC E p s m args c cc nL own) (hV : zV E A s s.heap) (hk : kp A s BB) (hB : BB H locs) {En tx : String} {names : List String} (hw : vok (vx_atM En names)) (hg : ∀ w ∈ vx_atM En names, vx_ot w = true) (hE : Bundle.fit En = true ∧ (∀ n ∈ names, Bundle.fit n = true) ∧ (En == "java/lang/StackOverflowError") = false ∧ (En == "java/lang/OutOfMemoryError") = false ∧ names.length ≤ 3) (htx : (stringBytes (stringToUtf16 tx)).size ≤ 880 ∧ (tx == notModelled) = false)
    (hl : ls.size = nL) (hlocks : meth.locks = false) (hf : 8 < R.frames) (hr : (rest.map fun v => v.category).sum + 10240 ≤ R.locals) (hc : cells + 3 ≤ R.cells) (hs : slots + 890 ≤ R.slots)
    (kx : ∀ (H : Heap) (q9 : Nat), BB H locs → xEx En s H q9 → vx_W p l e R s m args below meth c H locs (cells + 3) (slots + 890) Q (F0 m pc ls rest) q9) : vx_Note p l e R s m args below meth c H locs cells slots Q (F0 m pc ls rest) En tx := by
  obtain ⟨-, hU, hN, -, -⟩ := hV
  obtain ⟨hS, hkp⟩ := hk H locs hB
  obtain ⟨e1, e2, e3, e4, e5⟩ := hE
  exact vx_vm C.1.1 hfl (nb := 880) e1 e2 e3 e4 (vok.before C hw) hg hU hN hS (by rw [C.1.2.2.1]; exact hl) htx.2 htx.1 (by omega) (by omega) hr (by omega) hc hs hlocks (fun H1 q9 ce hz hq hS1 h1 h2 h3 => kx H1 q9 (hkp H1 hz hq hS1) ⟨ce, h1, h2, h3⟩)
theorem e_ok (En : String) (h : En = "java/lang/ClassCastException" ∨ En = "java/lang/ArrayStoreException" ∨ En = "java/lang/NegativeArraySizeException") : Bundle.fit En = true ∧ (∀ n ∈ ["java/lang/RuntimeException", "java/lang/Exception"], Bundle.fit n = true) ∧ (En == "java/lang/StackOverflowError") = false ∧ (En == "java/lang/OutOfMemoryError") = false ∧ ["java/lang/RuntimeException", "java/lang/Exception"].length ≤ 3 := by
  rcases h with rfl | rfl | rfl <;> decide +kernel
theorem e_okA : Bundle.fit "java/lang/ArrayIndexOutOfBoundsException" = true ∧ (∀ n ∈ ["java/lang/IndexOutOfBoundsException", "java/lang/RuntimeException", "java/lang/Exception"], Bundle.fit n = true) ∧ (("java/lang/ArrayIndexOutOfBoundsException" : String) == "java/lang/StackOverflowError") = false ∧ (("java/lang/ArrayIndexOutOfBoundsException" : String) == "java/lang/OutOfMemoryError") = false ∧ ["java/lang/IndexOutOfBoundsException", "java/lang/RuntimeException", "java/lang/Exception"].length ≤ 3 := by decide +kernel
/-! ## ends and catches -/
/-- it leaves -/
theorem e_out {E : xE} {w w0 : xw} {sz pc : Nat} {En : String} {q9 : Nat} {px : String → xw → Prop} {Qc : Array Value → State → Outcome → State → Prop} (hB : xB E (xA w0 sz) s w H locs) (hE : xEx En s H q9) (hout : ∀ x ∈ c.exceptionTable.toList, False) (hlocks : meth.locks = false) (hp : px En w) (h1 : cells ≤ mc) (h2 : slots ≤ ms) : vx_W p l e R s m args below meth c H locs cells slots (vx_MQ below Qc (gXC E w0 sz px) args s mc ms (xA w0 sz)) (F0 m pc ls rest) q9 := by
  obtain ⟨ce, e1, e2, e3⟩ := hE
  obtain ⟨hP, hD, hS, hA⟩ := hB
  exact vx_out (fun x hx => absurd (hout x hx) id) hlocks e1 e2 e3 (fun t ht hW => ⟨w, trivial, ⟨hp, by rw [ht]; exact hP, hD⟩, hS.F ht⟩) hS.2.2 h1 h2
/-- it is caught -/
theorem e_catch (C : xC E p s m args c cc nL own) (hV : zV E A s s.heap) {hh : List (Nat × Nat × Nat × Nat)} (htab : c.exceptionTable.toList = tableOf hh) {pc : Nat} {En nm : String} {q9 : Nat} (hE : xEx En s H q9) (pre suf : List ExceptionTableEntry) (x : ExceptionTableEntry) (hsp : tableOf hh = pre ++ x :: suf)
    (hpass : ∀ z ∈ pre, covers z pc = false ∨ (z.catchType ≠ 0 ∧ ∃ nm : String, Cond.classLink own z.catchType nm ∈ lw_all ∧ (En, nm) ∈ ncl)) (hx : covers x pc = true) (h0 : x.catchType ≠ 0) (hlink : Cond.classLink own x.catchType nm ∈ lw_all) (hcast : Cond.castable En nm ∈ lw_tbl)
    (kk : W p l e R s m args below meth c H locs cells slots Q (F0 m x.handlerPc ls [.ref q9])) : vx_W p l e R s m args below meth c H locs cells slots Q (F0 m pc ls rest) q9 := by
  obtain ⟨ce, e1, e2, e3⟩ := hE
  refine vx_catch C.1.2.2.2.1 pre x suf (htab.trans hsp) (fun z hz => ?_) hx h0 (C.1.2.2.2.2 _ hlink) (va_Nw.use rfl (C.2.2 _ hcast rfl)) e1 e2 e3 kk
  rcases hpass z hz with h | ⟨h1, n2, h2, h3⟩
  · exact Or.inl h
  · exact Or.inr ⟨h1, n2, C.1.2.2.2.2 _ h2, hV.1.1.2.1 _ h3⟩
/-! ## calls of what may throw -/
theorem g_callXi (c2 s2 : Nat) (h1 : cells + mc ≤ c2) (h2 : slots + ms ≤ s2) {w : xw} (hB : xB E A s w H locs) {post : Int → xw → Prop} {px : String → xw → Prop} (hr : vx_Run p l e R s m args below meth c H locs cells slots mc ms (F0 m pc ls st0) rest (va_Qi (gQi post) (xEnd E (xA w H.size)) (xA w H.size) a) (gXC E w H.size px) (xA w H.size))
    (kx : ∀ (En : String) (q9 : Nat) (w1 : xw) (H1 : Heap) (locs1 : List Loc), px En w1 → xB E A s w1 H1 locs1 → xEx En s H1 q9 → vx_W p l e R s m args below meth c H1 locs1 c2 s2 Q (F0 m pc ls rest) q9)
    (kk : ∀ (z : Int) (w1 : xw) (H1 : Heap) (locs1 : List Loc), rg z → post z w1 → xB E A s w1 H1 locs1 → W p l e R s m args below meth c H1 locs1 c2 s2 Q (F0 m (pc + 3) ls (.int (iI z) :: rest))) : W p l e R s m args below meth c H locs cells slots Q (F0 m pc ls st0) := by
  refine vx_calli (A0 := A) hr hB.2.2.1 (fun q _ h => hB.sub q h) hB.sub (fun q _ h => hB.sub q h) (fun En ce q9 u t H1 locs1 ht hvm _ hp hz hk hS e1 e2 e3 => vx_widen h1 h2 (kx En q9 u H1 locs1 hp.1 (hB.call ht hp.2 hS) ⟨ce, e1, e2, e3⟩)) (fun r u t H1 locs1 ht hvm hp hE hz hk hS => x_up h1 h2 ?_)
  obtain ⟨z, rfl, hz, hp⟩ := hp
  exact kk z u H1 locs1 hz hp (hB.call ht hE hS)
theorem g_callXl (c2 s2 : Nat) (h1 : cells + mc ≤ c2) (h2 : slots + ms ≤ s2) {w : xw} (hB : xB E A s w H locs) {post : Int → xw → Prop} {px : String → xw → Prop} (hr : vx_Run p l e R s m args below meth c H locs cells slots mc ms (F0 m pc ls st0) rest (va_Ql (gQl post) (xEnd E (xA w H.size)) (xA w H.size) a) (gXC E w H.size px) (xA w H.size))
    (kx : ∀ (En : String) (q9 : Nat) (w1 : xw) (H1 : Heap) (locs1 : List Loc), px En w1 → xB E A s w1 H1 locs1 → xEx En s H1 q9 → vx_W p l e R s m args below meth c H1 locs1 c2 s2 Q (F0 m pc ls rest) q9)
    (kk : ∀ (z : Int) (w1 : xw) (H1 : Heap) (locs1 : List Loc), rgl z → post z w1 → xB E A s w1 H1 locs1 → W p l e R s m args below meth c H1 locs1 c2 s2 Q (F0 m (pc + 3) ls (.long (lI z) :: rest))) : W p l e R s m args below meth c H locs cells slots Q (F0 m pc ls st0) := by
  refine vx_calll (A0 := A) hr hB.2.2.1 (fun q _ h => hB.sub q h) hB.sub (fun q _ h => hB.sub q h) (fun En ce q9 u t H1 locs1 ht hvm _ hp hz hk hS e1 e2 e3 => vx_widen h1 h2 (kx En q9 u H1 locs1 hp.1 (hB.call ht hp.2 hS) ⟨ce, e1, e2, e3⟩)) (fun r u t H1 locs1 ht hvm hp hE hz hk hS => x_up h1 h2 ?_)
  obtain ⟨z, rfl, hz, hp⟩ := hp
  exact kk z u H1 locs1 hz hp (hB.call ht hE hS)
theorem g_callXv (c2 s2 : Nat) (h1 : cells + mc ≤ c2) (h2 : slots + ms ≤ s2) {w : xw} (hB : xB E A s w H locs) {post : xw → Prop} {px : String → xw → Prop} (hr : vx_Run p l e R s m args below meth c H locs cells slots mc ms (F0 m pc ls st0) rest (va_Qv post (xEnd E (xA w H.size)) (xA w H.size) a) (gXC E w H.size px) (xA w H.size))
    (kx : ∀ (En : String) (q9 : Nat) (w1 : xw) (H1 : Heap) (locs1 : List Loc), px En w1 → xB E A s w1 H1 locs1 → xEx En s H1 q9 → vx_W p l e R s m args below meth c H1 locs1 c2 s2 Q (F0 m pc ls rest) q9)
    (kk : ∀ (w1 : xw) (H1 : Heap) (locs1 : List Loc), post w1 → xB E A s w1 H1 locs1 → W p l e R s m args below meth c H1 locs1 c2 s2 Q (F0 m (pc + 3) ls rest)) : W p l e R s m args below meth c H locs cells slots Q (F0 m pc ls st0) := by
  refine vx_callv (A0 := A) hr hB.2.2.1 (fun q _ h => hB.sub q h) hB.sub (fun q _ h => hB.sub q h) (fun En ce q9 u t H1 locs1 ht hvm _ hp hz hk hS e1 e2 e3 => vx_widen h1 h2 (kx En q9 u H1 locs1 hp.1 (hB.call ht hp.2 hS) ⟨ce, e1, e2, e3⟩)) (fun u t H1 locs1 ht hvm hp hE hz hk hS => x_up h1 h2 ?_)
  exact kk u H1 locs1 hp (hB.call ht hE hS)
theorem g_callXq (c2 s2 : Nat) (h1 : cells + mc ≤ c2) (h2 : slots + ms ≤ s2) {w : xw} (hB : xB E A s w H locs) {post : Option Nat → xw → Prop} {px : String → xw → Prop} (hr : vx_Run p l e R s m args below meth c H locs cells slots mc ms (F0 m pc ls st0) rest (va_Qq post (xEnd E (xA w H.size)) (xA w H.size) a) (gXC E w H.size px) (xA w H.size))
    (kx : ∀ (En : String) (q9 : Nat) (w1 : xw) (H1 : Heap) (locs1 : List Loc), px En w1 → xB E A s w1 H1 locs1 → xEx En s H1 q9 → vx_W p l e R s m args below meth c H1 locs1 c2 s2 Q (F0 m pc ls rest) q9)
    (kk : ∀ (q : Option Nat) (w1 : xw) (H1 : Heap) (locs1 : List Loc), post q w1 → xB E A s w1 H1 locs1 → W p l e R s m args below meth c H1 locs1 c2 s2 Q (F0 m (pc + 3) ls (va_rf q :: rest))) : W p l e R s m args below meth c H locs cells slots Q (F0 m pc ls st0) := by
  refine vx_callq (A0 := A) hr hB.2.2.1 (fun q _ h => hB.sub q h) hB.sub (fun q _ h => hB.sub q h) (fun En ce q9 u t H1 locs1 ht hvm _ hp hz hk hS e1 e2 e3 => vx_widen h1 h2 (kx En q9 u H1 locs1 hp.1 (hB.call ht hp.2 hS) ⟨ce, e1, e2, e3⟩)) (fun r u t H1 locs1 ht hvm hp hE hz hk hS => x_up h1 h2 ?_)
  exact kk r u H1 locs1 hp (hB.call ht hE hS)
/-- a run that throws nothing -/
theorem run_nx {w : xw} {sz : Nat} {g : JFrame} {Qa : State → Outcome → State → Prop} {free : Addr → Prop} (h : vx_Run p l e R s m args below meth c H locs cells slots mc ms g rest Qa (gXC E w sz nx) free) : va_Run p l e R s m args below meth c H locs cells slots mc ms g rest Qa free := by
  intro T hT X
  rcases h T hT X with h | ⟨q, st₀, t, T', L, En, ce, h0, X', hL, e1, e2, ⟨u, _, hp, _⟩, _⟩
  · exact h
  · exact absurd hp.1 id
end EX
/-! ## runs -/
section RX
variable {p : Program} {l : Launch} {e : Env} {R : Room} {s : State} {m : MethodId} {args : Array Value} {below : List Frame} {meth : Method} {c : Code} {H : Heap} {locs : List Loc} {cells slots : Nat}
variable {cc : ByteArray} {pc nL : Nat} {ls : Array Slot} {rest st0 As : List Value} {E : xE} {A : Nat → Prop} {w : xw} {own Cn : String} {b ci : Nat} {fs : List Value} {q : vw_C}
variable {y : MethodName} {bytes : ByteArray} {maxL rf rl mc ms index n : Nat} {ret : Option FieldType} {Qc : Array Value → State → Outcome → State → Prop} {XC : String → State → State → Prop} {free : Addr → Prop}
theorem rXV (C : xC E p s m args c cc nL own) (hV : zV E A s s.heap) (hB : xB E A s w H locs) (hM : vx_Met l y (ws_ y bytes maxL ret) (rm_ rf rl mc ms) (xPv E w H.size (.ref b :: As)) Qc XC mc ms free) (hG : GoodIn lw_all (wsV own index Cn y (ws_ y bytes maxL ret)))
    (hd : y.cls = Cn ∧ y.cls ≠ "java/lang/invoke/MethodHandle" ∧ y.cls ≠ "java/lang/invoke/VarHandle" ∧ (parseMethodDescriptor y.desc).map (fun d => d.parameters.length) = some n) (hR : rf + 1 ≤ R.frames ∧ 8 + (maxL + 11) + rl ≤ R.locals) (hb : w b = some (xO ci fs)) (hc : vwCl[ci]? = some q) (hC : q.1 = Cn) (hn : As.length = n) (hl : ls.size = nL) (hst : st0 = As.reverse ++ .ref b :: rest) (hW : (rest.map fun v => v.category).sum ≤ 8) (hdg : decode cc pc = .ok (.invokevirtual index, 3)) (hcs : cells + mc ≤ R.cells ∧ slots + ms ≤ R.slots) :
    vx_Run p l e R s m args below meth c H locs cells slots mc ms (F0 m pc ls st0) rest (Qc (Value.ref b :: As).toArray) XC free := by
  subst hst
  exact vx_runV (As := As) (rest := rest) C.1 hM (cwV n C.1.2.2.2.2 hG rfl rfl rfl hd hR) (vpreV hB C.2 hV hb hc hC) rfl hn hl rfl (lv_room (rest := As.reverse ++ .ref b :: rest) (ls := ls) (m := m) (pc := pc) hW) hdg hcs
theorem rXS (C : xC E p s m args c cc nL own) (hV : zV E A s s.heap) (hB : xB E A s w H locs) (hM : vx_Met l y (ws_ y bytes maxL ret) (rm_ rf rl mc ms) (xPv E w H.size As) Qc XC mc ms free) (hG : GoodIn lw_all (va_wsS own index y (ws_ y bytes maxL ret)))
    (hd : y.cls ≠ "java/lang/invoke/MethodHandle" ∧ y.cls ≠ "java/lang/invoke/VarHandle" ∧ (parseMethodDescriptor y.desc).map (fun d => d.parameters.length) = some n) (hR : rf + 1 ≤ R.frames ∧ 8 + (maxL + 11) + rl ≤ R.locals) (hn : As.length = n) (hl : ls.size = nL) (hst : st0 = As.reverse ++ rest) (hW : (rest.map fun v => v.category).sum ≤ 8) (hdg : decode cc pc = .ok (.invokestatic index, 3)) (hcs : cells + mc ≤ R.cells ∧ slots + ms ≤ R.slots) :
    vx_Run p l e R s m args below meth c H locs cells slots mc ms (F0 m pc ls st0) rest (Qc As.toArray) XC free := by
  subst hst
  exact vx_runS (As := As) (rest := rest) C.1 hM (va_cwS n C.1.2.2.2.2 hG rfl rfl rfl hd hR) (vpreS hB C.2 hV) rfl hn hl rfl (lv_room (rest := As.reverse ++ rest) (ls := ls) (m := m) (pc := pc) hW) hdg hcs
theorem rXSN (C : xC E p s m args c cc nL own) (hV : zV E A s s.heap) (hB : xB E A s w H locs) {host : String} (hM : vx_Met l y (ws_ y bytes maxL ret) (rm_ rf rl mc ms) (xPv E w H.size As) Qc XC mc ms free) (hlk : Cond.methodLinkNest own index y host ∈ lw_tbl) (hst2 : Cond.static y ∈ lw_all) (hini : Cond.initialized y.cls ∈ lw_all) (hco : Cond.code y bytes maxL ret ∈ lw_all)
    (hd : y.cls ≠ "java/lang/invoke/MethodHandle" ∧ y.cls ≠ "java/lang/invoke/VarHandle" ∧ (parseMethodDescriptor y.desc).map (fun d => d.parameters.length) = some n) (hR : rf + 1 ≤ R.frames ∧ 8 + (maxL + 11) + rl ≤ R.locals) (hn : As.length = n) (hl : ls.size = nL) (hst : st0 = As.reverse ++ rest) (hW : (rest.map fun v => v.category).sum ≤ 8) (hdg : decode cc pc = .ok (.invokestatic index, 3)) (hcs : cells + mc ≤ R.cells ∧ slots + ms ≤ R.slots) :
    vx_Run p l e R s m args below meth c H locs cells slots mc ms (F0 m pc ls st0) rest (Qc As.toArray) XC free := by
  subst hst
  have hts := C.1.2.2.2.2
  exact vx_runSN (As := As) (rest := rest) C.1 hM ⟨va_cnB n hts (lw_meth hco) rfl rfl rfl (C.2.2 _ hlk rfl) (hts _ hini) hd hR, hts _ hst2, trivial⟩ (vpreS hB C.2 hV) rfl hn hl rfl (lv_room (rest := As.reverse ++ rest) (ls := ls) (m := m) (pc := pc) hW) hdg hcs
/-- what the reference names is abstract -/
theorem rXA (C : xC E p s m args c cc nL own) (hV : zV E A s s.heap) (hB : xB E A s w H locs) (x : MethodName) (owner : String) (hM : vx_Met l y (ws_ y bytes maxL ret) (rm_ rf rl mc ms) (xPv E w H.size (.ref b :: As)) Qc XC mc ms free) (hlk : Cond.methodLink own index x ∈ lw_all) (hsm : Cond.sameMethod x.cls owner x.name x.desc ∈ lw_all) (hse : Cond.selects Cn x y ∈ lw_all) (hin : Cond.instanceMethod y ∈ lw_all) (hini : Cond.initialized y.cls ∈ lw_all) (hco : Cond.code y bytes maxL ret ∈ lw_all) (hde : Cond.declares ⟨owner, x.name, x.desc⟩ ∈ lw_tbl)
    (hd : owner ≠ "java/lang/invoke/MethodHandle" ∧ owner ≠ "java/lang/invoke/VarHandle" ∧ (parseMethodDescriptor x.desc).map (fun d => d.parameters.length) = some n) (hR : rf + 1 ≤ R.frames ∧ 8 + (maxL + 11) + rl ≤ R.locals) (hb : w b = some (xO ci fs)) (hc : vwCl[ci]? = some q) (hC : q.1 = Cn) (hn : As.length = n) (hl : ls.size = nL) (hst : st0 = As.reverse ++ .ref b :: rest) (hW : (rest.map fun v => v.category).sum ≤ 8) (hdg : decode cc pc = .ok (.invokevirtual index, 3)) (hcs : cells + mc ≤ R.cells ∧ slots + ms ≤ R.slots) :
    vx_Run p l e R s m args below meth c H locs cells slots mc ms (F0 m pc ls st0) rest (Qc (Value.ref b :: As).toArray) XC free := by
  subst hst
  refine vx_runU (As := As) (rest := rest) C.1 hM (va_cwA (x := x) (owner := owner) (C := Cn) n C.1.2.2.2.2 (lw_app ?_ (lw_meth hco)) rfl rfl rfl (C.2.2 _ hde rfl) hd hR) (vpreV hB C.2 hV hb hc hC) rfl hn hl rfl (lv_room (rest := As.reverse ++ .ref b :: rest) (ls := ls) (m := m) (pc := pc) hW) hdg hcs
  intro w hw
  simp only [List.mem_cons, List.not_mem_nil, or_false] at hw
  rcases hw with e | e | e | e | e
  · rw [e]; exact hlk
  · rw [e]; exact hsm
  · rw [e]; exact hse
  · rw [e]; exact hin
  · rw [e]; exact hini
/-- inherited, with a table of its own -/
theorem rXUW (C : xC E p s m args c cc nL own) (hV : zV E A s s.heap) (hB : xB E A s w H locs) (x : MethodName) (owner : String) {hh : List (Nat × Nat × Nat × Nat)} (hM : vx_Met l y (wsW_ y bytes maxL ret hh) (rm_ rf rl mc ms) (xPv E w H.size (.ref b :: As)) Qc XC mc ms free) (hlk : Cond.methodLink own index x ∈ lw_all) (hsm : Cond.sameMethod x.cls owner x.name x.desc ∈ lw_all) (hse : Cond.selects Cn x y ∈ lw_all) (hin : Cond.instanceMethod y ∈ lw_all) (hini : Cond.initialized y.cls ∈ lw_all) (hco : Cond.codeWith y bytes maxL ret hh ∈ lw_all) (hyx : y = ⟨owner, x.name, x.desc⟩)
    (hd : owner ≠ "java/lang/invoke/MethodHandle" ∧ owner ≠ "java/lang/invoke/VarHandle" ∧ (parseMethodDescriptor x.desc).map (fun d => d.parameters.length) = some n) (hR : rf + 1 ≤ R.frames ∧ 8 + (maxL + 11) + rl ≤ R.locals) (hb : w b = some (xO ci fs)) (hc : vwCl[ci]? = some q) (hC : q.1 = Cn) (hn : As.length = n) (hl : ls.size = nL) (hst : st0 = As.reverse ++ .ref b :: rest) (hW : (rest.map fun v => v.category).sum ≤ 8) (hdg : decode cc pc = .ok (.invokevirtual index, 3)) (hcs : cells + mc ≤ R.cells ∧ slots + ms ≤ R.slots) :
    vx_Run p l e R s m args below meth c H locs cells slots mc ms (F0 m pc ls st0) rest (Qc (Value.ref b :: As).toArray) XC free := by
  have hW' := lv_room (rest := st0) (ls := ls) (m := m) (pc := pc) hW
  obtain ⟨hS, hKK⟩ := C
  obtain ⟨hx, hb0, hml, ho, hts⟩ := hS
  have hGW : GoodIn lw_all (wsW_ y bytes maxL ret hh) := lw_methW hco
  have hws : ∀ w ∈ wsW_ y bytes maxL ret hh, ∀ (a' : Array Value) (U : State), s.WarmedH U.vm → w.before a' U = true := pay_in hts hGW
  have hp := vpreV (As := As) hB hKK hV hb hc hC
  have hK : vx_Back l R p e below s args y 3 8 (PreOf R mc ms (xPv E w H.size (.ref b :: As))) (PostOf Qc mc ms free) (vx_Post XC mc ms free) := vx_backW (hh := hh) (bytes := bytes) (maxL := maxL) (ret := ret) hM hp.1 rfl rfl hR.1 hR.2 hws List.mem_cons_self (fun a' U hW => word_at hW (Or.inl (by first | rfl | simp [Cond.onTables, Cond.keeps, Cond.steady])) (hts _ hini))
  obtain ⟨-, ⟨cellB, hcB, hoB, hclB⟩, hPc⟩ := hp
  obtain ⟨mk, methM, hnamed, hmethM, hstM, habM⟩ := Cond.instanceMethod_spec (hts _ hin)
  obtain ⟨m8, methM', cM, hn8, hmethM', -, -, -, -, -, -, hsigM⟩ := Cond.codeWith_spec (hts _ hco)
  cases Option.some.inj (hnamed.symm.trans hn8)
  cases hmethM.symm.trans hmethM'
  obtain ⟨cn, ck, r1, hcn, hck, hni, hf, hn1⟩ := Cond.sameMethod_found (hts _ hsm)
  rw [← hyx] at hn1
  cases hnamed.symm.trans hn1
  obtain ⟨c2, r2, m2, q1, q2, q3, q4, kP, hkP, hkPi⟩ := Cond.selects_spec (hts _ hse)
  cases hclB.symm.trans q1
  cases hf.symm.trans q2
  cases hnamed.symm.trans q3
  have hlen : ∀ sig, parseMethodDescriptor x.desc = some sig → As.length = sig.parameters.length := fun sig h => by
    have h2 := hd.2.2
    rw [h] at h2
    exact hn.trans (Option.some.inj h2).symm
  have hsigX : parseMethodDescriptor x.desc = some methM.sig := by rw [hyx] at hsigM; exact hsigM
  intro T hT X
  have hselP : selectMethod e.platform s.vm cellB.cls mk = .method mk := by rw [Launch.admits_selectMethod X.admits]; exact q4
  obtain ⟨vm₁, X₁, hstep₁⟩ := X.invokevirtualUp hx ho (hts _ hlk) (hts _ hsm) ⟨hd.1, hd.2.1⟩ (by rw [← hyx]; exact hnamed) hmethM hstM (a := b) (cell := cellB) (by rw [hT]; exact hcB)
    (fun z h => by rw [h] at hoB; cases hoB) hselP hmethM habM hkP hkPi (g := F0 m pc ls st0) rfl (argsL := As) (rest := rest) (hlen _ hsigX) hst (by rw [hb0]; exact hdg)
  rcases hK m meth c ⟨T.setVm vm₁, locs, cells, slots⟩ (F0 m pc ls rest) (.invokevirtual index) mk (Value.ref b :: As).toArray X₁ rfl (hl.trans hml.symm) (by rw [hb0]; exact hdg) (by show 2 * 0 + _ ≤ 8; omega) (X₁.named hnamed) ⟨hcs.1, hcs.2, hPc (T.setVm vm₁) hT X₁.warmed⟩ with ⟨v, ⟨U', l2, c2, s2⟩, X', ⟨g', mk', t, L, e1, e2, hq, g1, hL, g2, g3⟩, st⟩ | ⟨q, ⟨U', l2, c2, s2⟩, X', ⟨g', mk', t, L, En, ce, e1, e2, hq, hce, hcv, hcl, g1, hL, g2, g3⟩, st⟩
  · dsimp only [Pt.U, Pt.locs, Pt.cells, Pt.slots] at X' e1 e2 g1 g2 g3 st
    subst g1; subst g2; subst g3
    exact Or.inl ⟨v, (T.setVm vm₁).calling g' mk' (Value.ref b :: As).toArray, t, U', L, hT, X', hL, e1, e2, hq, fun target h => hstep₁ _ fun acts => by rw [doInvoke_state]; exact st.trans h⟩
  · dsimp only [Pt.U, Pt.locs, Pt.cells, Pt.slots] at X' e1 e2 g1 g2 g3 st hcl
    subst g1; subst g2; subst g3
    exact Or.inr ⟨q, (T.setVm vm₁).calling g' mk' (Value.ref b :: As).toArray, t, U', L, En, ce, hT, X', hL, e1, e2, hq, hce, hcv, vx_cls X₁.warmed hcl, hstep₁ _ fun acts => by rw [doInvoke_state]; exact st⟩
end RX
