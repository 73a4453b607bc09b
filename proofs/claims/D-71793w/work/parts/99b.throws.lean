/-! EXCEPTIONS of the machine that the kit has no rows for: casts that fail, arraycopy that throws; notes over a native (xv_vmAtN, xv_npeAtN: the kit's vx_vmAt, vx_npeAt turned to a native's frame) -/
set_option maxRecDepth 100000
/-! NullPointerException noted over a native's frame, no traces kept (the library's steps; its own law of this stands in a part that rounds don't have) -/
/-- the outermost constructor's frame over the note 'thenThrow' over base -/
abbrev xv_in (W : State) (base : List Frame) (a : Addr) (m : MethodId) : State := (W.setFrames (.thenThrow a :: base)).pushFrame (.java (pass0J m a 0 []))
theorem xv_in_at {below base : List Frame} {W : State} (hO : Over W base below) (a : Addr) {m : MethodId} {meth : Method} {code : Code} (hm : W.vm.method? m = some meth) (hc : meth.code = some code) (hp : W.plainMethod m) :
    At (xv_in W base a m) m code below ∧ (xv_in W base a m).frames = .java (pass0J m a 0 []) :: .thenThrow a :: base := by
  obtain ⟨mid, hmid⟩ := hO.above
  have e1 : (W.setFrames (.thenThrow a :: base)).frames = .thenThrow a :: base := State.frames_setFrames _ hO.cur
  have c1 := State.cur_lt_of_frames e1
  refine ⟨At.pushOn _ ⟨hO.running, by simpa using hO.runnable, by simpa using hO.alone⟩ c1 ⟨.thenThrow a :: mid, by rw [e1, hmid]; rfl⟩ hm hc hp, ?_⟩
  show ((W.setFrames (.thenThrow a :: base)).pushFrame _).frames = _
  rw [show ((W.setFrames (.thenThrow a :: base)).pushFrame (.java (pass0J m a 0 []))).frames = .java (pass0J m a 0 []) :: (W.setFrames (.thenThrow a :: base)).frames from State.frames_setFrames _ c1, e1]
/-- it returns, and the note throws -/
theorem xv_out {tb : Tables} [Ours tb] {e : Env} {below base : List Frame} {W target : State} (hO : Over W base below) (hexec : tb.exec = Jvm.exec) {G : State → State} (hG : HeapOnly G) (a : Addr) {m : MethodId} {meth : Method} {code : Code}
    (hm : W.vm.method? m = some meth) (hc : meth.code = some code) (hp : W.plainMethod m) (hl : meth.locks = false) (h4 : decode code.code 4 = .ok (.return_, 1)) (k : Steps tb e below ((G W).setFrames (.throwing a :: base)) target) :
    Steps tb e below ((G (xv_in W base a m)).setTop (pass0J m a 4 [])) target := by
  obtain ⟨hA, hf⟩ := xv_in_at hO a hm hc hp
  obtain ⟨mid, hmid⟩ := hO.above
  have hB : At (G (xv_in W base a m)) m code below := hG.at_ hA
  jvm_step hB [hexec, h4, return_.wp_sem]
  intro acts2
  have hfG : (G (xv_in W base a m)).frames = .java (pass0J m a 0 []) :: .thenThrow a :: base := by rw [hG.frames]; exact hf
  rw [ret_to (t := G (xv_in W base a m)) (f := pass0J m a 4 []) (f₀ := pass0J m a 0 []) (below := .thenThrow a :: base) (fs := .thenThrow a :: base) (meth := meth) hfG (by rw [hG.vm]; exact hm) hl rfl rfl rfl acts2]
  have hcur := State.cur_lt_of_frames hfG
  have hf1 : ((G (xv_in W base a m)).setFrames (.thenThrow a :: base)).frames = .thenThrow a :: base := State.frames_setFrames _ hcur
  refine Steps.head ⟨hB.running, by simpa using hB.runnable, by simpa using hB.alone⟩ ⟨.thenThrow a :: mid, by rw [hf1, hmid]; rfl, by simp, by simp⟩ ?_
  rw [stepThread_thenThrow hf1]
  show Steps tb e below (((G (xv_in W base a m)).setFrames (.thenThrow a :: base)).setFrames (.throwing a :: base)) target
  have e2 : ∀ F, (G (xv_in W base a m)).setFrames F = (G W).setFrames F := fun F => by
    show (G ((W.setFrames (.thenThrow a :: base)).pushFrame (.java (pass0J m a 0 [])))).setFrames F = _
    rw [State.pushFrame, hG.setFrames, hG.setFrames, State.setFrames_setFrames, State.setFrames_setFrames]
  rw [State.setFrames_setFrames, e2]
  exact k
theorem xv_ctor {tb : Tables} [Ours tb] {e : Env} {below base : List Frame} {s₀ W : State} (hO : Over W base below) (hexec : tb.exec = Jvm.exec) {G : State → State} (hG : HeapOnly G) (P : PassC) (LP : P.Links0 e.platform s₀) (hW : s₀.WarmedH W.vm) (a : Addr)
    (hroom : e.platform.stackFull (((W.setFrames (.thenThrow a :: base)).threads[(W.setFrames (.thenThrow a :: base)).cur]?).getD { frames := [] }) (W.setFrames (.thenThrow a :: base)).frames 1 = false)
    (hsup : ∀ vm1, s₀.WarmedH vm1 → At (xv_in (W.setVm vm1) base a P.m) P.m P.code below → ∃ vm2, s₀.WarmedH vm2 ∧ ∀ t' : State, Steps tb e below ((G (xv_in (W.setVm vm2) base a P.m)).setTop (pass0J P.m a 4 [])) t' →
      Steps tb e below (doInvoke e ((xv_in (W.setVm vm1) base a P.m).setTop (pass0J P.m a 1 [])) [] P.sup #[.ref a]).1 t') :
    ∃ vm', s₀.WarmedH vm' ∧ ∀ target, Steps tb e below ((G (W.setVm vm')).setFrames (.throwing a :: base)) target → Steps tb e below (doInvoke e (W.setFrames (.thenThrow a :: base)) [] P.m #[.ref a]).1 target := by
  have hmW := hW.methodAt LP.method
  obtain ⟨hA, hf⟩ := xv_in_at hO a hmW LP.code (hW.plainAt LP.plain)
  obtain ⟨vm1, hW1, st1⟩ := Steps.invokeInitCold (tb := tb) (s₀ := s₀) (U := xv_in W base a P.m) (f := pass0J P.m a 1 [.ref a]) (args := []) (rest := []) (a := a) hA hexec LP.at1 hW LP.links LP.right LP.notHandle LP.cls LP.file LP.pool
    LP.supClass LP.supMethod LP.supName LP.supStatic LP.supAbstract LP.supFound LP.supParams.symm rfl
  obtain ⟨vm2, hW2, st2⟩ := hsup vm1 hW1 (hA.setVm (hW.alike.symm.trans hW1.alike))
  refine ⟨vm2, hW2, fun target k => ?_⟩
  rw [(doInvoke_java (s := W.setFrames (.thenThrow a :: base)) (e := e) (acts := []) (args := #[.ref a]) (meth := P.meth) (code := P.code) hmW LP.code LP.locks (by rw [LP.locals]; exact hroom)).1, LP.locals]
  show Steps tb e below (xv_in W base a P.m) target
  rw [← State.setTop_self (s := xv_in W base a P.m) (State.topJava?_of_frames hf)]
  jvm_step hA [hexec, LP.at0, Value.isRef]
  exact st1 target (st2 target (xv_out (W := W.setVm vm2) (hO.setVm (hW.alike.symm.trans hW2.alike)) hexec hG a (hW2.methodAt LP.method) LP.code (hW2.plainAt (U := W.setVm vm2) LP.plain) LP.locks LP.at4 k))
set_option maxHeartbeats 1000000 in
theorem xv_vmAtN {p : Program} {l : Launch} {e : Env} {R : Room} {s : State} {m₀ : MethodId} {args : Array Value} {below : List Frame} {meth : Method} {c : Code} {W : State} {locs : List Loc} {cells slots : Nat}
    (X : Stand p l e R s m₀ args below meth c W locs cells slots) (hexec : p.tables.exec = Jvm.exec) (htr : e.platform.stackTraces = false) {cls : String} {names : List String} {text : String}
    (hcls : Bundle.fit cls = true) (hnames : ∀ n ∈ names, Bundle.fit n = true) (hsoe : (cls == "java/lang/StackOverflowError") = false) (hoom : (cls == "java/lang/OutOfMemoryError") = false)
    (h : ∀ a ∈ Bundle.messageArmAtoms cls names, a.before args s = true)
    (hlocs : ∀ x ∈ locs, ∀ cell, s.heap[x.base]? = some cell → cell.vm.isStatics = false)
    (htext : (text == notModelled) = false) (hlimit : ¬ (stringBytes (stringToUtf16 text)).size > e.platform.arrayLengthLimit) (hheap : ¬ (stringBytes (stringToUtf16 text)).size * componentBytes .byte > e.platform.maxHeapBytes)
    {g : JFrame} (hsize : g.locals.size = c.maxLocals) {nf : NFrame} (hnf : nf.words = 0)
    (hRframes : names.length + 5 < R.frames) (hRlocals : 2 * g.monitorRoom + (g.stack.map fun v => v.category).sum + 10240 ≤ R.locals) (hshort : 13 * names.length + 55 ≤ 10240)
    (hRcells : cells + 3 ≤ R.cells) (hRslots : slots + ((stringBytes (stringToUtf16 text)).size + 4 + 6) ≤ R.slots) :
    ∃ (S : State) (q : Addr) (ce : Cell), Steps p.tables e below (W.setFrames (.throwNew cls (some text) none :: .native nf :: .java g :: below)) (S.setFrames (.throwing q :: .native nf :: .java g :: below)) ∧
      Stand p l e R s m₀ args below meth c S locs (cells + 3) (slots + ((stringBytes (stringToUtf16 text)).size + 4 + 6)) ∧ S.heap[q]? = some ce ∧ s.vm.findClass cls = some ce.cls ∧ ce.vm = .none := by
  have howns : e.platform.frameOwnsMonitors = true := by rw [X.admits.platform]
  have hfin : e.platform.finalization = false := by rw [X.admits.platform]
  have hpl : e.platform.magicAccessors = ({} : Platform).magicAccessors := by rw [X.admits.platform]
  have a : ∀ x, x ∈ Bundle.messageArmAtoms cls names → x.holds args s none s [] = true := fun x hx => h x hx
  obtain ⟨T, Z0, L, -, Y⟩ := ThrowableC.of_atoms (args := args) howns hfin hpl (fun x hx => h x (by simp [Bundle.messageArmAtoms, hx]))
  obtain ⟨Z, M, LZ, LM, hnZ⟩ := Init0T.ofS_atoms (args := args) hpl L Y (fun x hx => h x (by simp [Bundle.messageArmAtoms, hx]))
  obtain ⟨P1, Ps, hlen, L1, hL, hP1m, hlink1, hlink⟩ := Bundle.chainS (args := args) hpl hnZ names cls hcls hnames (fun x hx => h x (by simp [Bundle.messageArmAtoms, hx]))
  obtain ⟨Zs, LZs, hn4, hfitv, hfitc⟩ := StringT.of_atoms (args := args) (fun x hx => h x (by simp [Bundle.messageArmAtoms, hx]))
  have hfound : s.vm.findClass cls = some P1.m.cls := findClass_of_methodNamed hP1m
  obtain ⟨c1, kX, hc1, hk, hord, -, -, hn6⟩ := Cond.instantiable_spec (a (.instantiable cls 6) (by simp [Bundle.messageArmAtoms]))
  cases Option.some.inj (hc1.symm.trans hfound)
  have hinit := Cond.initialized_spec hfound hk (a (.initialized cls) (by simp [Bundle.messageArmAtoms]))
  have hctor : kX.findMethod "<init>" "(Ljava/lang/String;)V" = some P1.m.idx := findMethod_of_methodNamed hP1m hk
  have hsel0 : selectMethod e.platform s.vm P1.m.cls T.fill0 = .method T.fill0 := by
    obtain ⟨c2, r2, m2, q1, q2, q3, q4, -⟩ := Cond.selects_spec (a (.selects cls Bundle.tFill0 Bundle.tFill0) (by simp [Bundle.messageArmAtoms]))
    cases Option.some.inj (q1.symm.trans hfound)
    cases Option.some.inj (q2.symm.trans (State.methodFound?_of_named Y.fill0 (by decide)))
    cases Option.some.inj (q3.symm.trans Y.fill0)
    rw [Launch.admits_selectMethod X.admits]; exact q4
  have hselF : selectMethod e.platform s.vm P1.m.cls T.fill = .method T.fill := by
    obtain ⟨c2, r2, m2, q1, q2, q3, q4, -⟩ := Cond.selects_spec (a (.selects cls Bundle.tFill Bundle.tFill) (by simp [Bundle.messageArmAtoms]))
    cases Option.some.inj (q1.symm.trans hfound)
    cases Option.some.inj (q2.symm.trans (State.methodFound?_of_named Y.fill (by decide)))
    cases Option.some.inj (q3.symm.trans Y.fill)
    rw [Launch.admits_selectMethod X.admits]; exact q4
  obtain ⟨cellS0, hcS0, hiss⟩ := Y.statics
  obtain ⟨u0, hu0⟩ := Cond.staticRefV Y.unassigned L.unassignedStatic L.statics hcS0 hiss (a (.isRef (.static Bundle.tN "UNASSIGNED_STACK" Bundle.steD)) (by simp [Bundle.messageArmAtoms]))
  obtain ⟨sen, hsen⟩ := Cond.staticRefV Y.sentinel L.sentinelStatic L.statics hcS0 hiss (a (.isRef (.static Bundle.tN "SUPPRESSED_SENTINEL" Bundle.listD)) (by simp [Bundle.messageArmAtoms]))
  obtain ⟨ci198, i198, fB, hk198, hg198, ha198, hsB, -, hnB, htB, hffB⟩ := Cond.ownField (t := .object "java/lang/Object") Y.found L.cls (by decide +kernel) (a (.fieldLink Bundle.tN 198 Bundle.tN "backtrace" "Ljava/lang/Object;") (by simp [Bundle.messageArmAtoms])) (a (.lays Bundle.tN Bundle.tN "backtrace" "Ljava/lang/Object;") (by simp [Bundle.messageArmAtoms])) e.platform hpl
  obtain ⟨cellS, hcS', heS, -, hkeep⟩ := X.same.2.2.2.2.2 T.aS cellS0 hcS0
  have hcellS : W.heap[T.aS]? = some cellS := hcS'
  have hout' : ∀ i, (⟨T.aS, i⟩ : Loc) ∉ locs := fun i hmem => by
    have := hlocs _ hmem cellS0 hcS0
    rw [hiss] at this; cases this
  have hknownS : cellS.vm ≠ .unknown := by
    rw [heS]; intro hu
    rw [show cellS0.vm = .unknown from hu] at hiss
    cases hiss
  have hvU : cellS.slots[T.fUnassigned.slot]? = some u0.v := by rw [hkeep _ (hout' _)]; exact hu0
  have hvSen : cellS.slots[T.fSentinel.slot]? = some sen.v := by rw [hkeep _ (hout' _)]; exact hsen
  obtain ⟨iM, hffM⟩ := Y.msg
  obtain ⟨tyC, dC, hdC, hdnC⟩ := Cond.laysAt hfound hk Y.cause (a (.lays cls Bundle.tN "cause" "Ljava/lang/Throwable;") (by simp [Bundle.messageArmAtoms]))
  obtain ⟨tyS, dS, hdS, hdnS⟩ := Cond.laysAt hfound hk Y.stack (a (.lays cls Bundle.tN "stackTrace" Bundle.steD) (by simp [Bundle.messageArmAtoms]))
  obtain ⟨tyP, dP, hdP, hdnP⟩ := Cond.laysAt hfound hk Y.supp (a (.lays cls Bundle.tN "suppressedExceptions" Bundle.listD) (by simp [Bundle.messageArmAtoms]))
  obtain ⟨tyM, dM, hdM, hdnM⟩ := Cond.laysAt hfound hk hffM (a (.lays cls Bundle.tN "detailMessage" "Ljava/lang/String;") (by simp [Bundle.messageArmAtoms]))
  obtain ⟨tyB, dB, hdB, hdnB⟩ := Cond.laysAt hfound hk hffB (a (.lays cls Bundle.tN "backtrace" "Ljava/lang/Object;") (by simp [Bundle.messageArmAtoms]))
  have bC := Cond.laysApart hdB hdC hdnB hdnC (by rw [hnB, Y.causeName]; decide)
  have bS := Cond.laysApart hdB hdS hdnB hdnS (by rw [hnB, Y.stackName]; decide)
  have bP := Cond.laysApart hdB hdP hdnB hdnP (by rw [hnB, Y.suppName]; decide)
  have hbk : ((preparedCellV T.toThrowableT (freshCell P1.m.cls kX) (W.heap.size + 2) u0 sen).withEntry W.cur).slots[fB.slot]? = some .null := by
    have := fresh_default (c := P1.m.cls) tyB
    rw [htB] at this
    simpa [preparedCellV, Cell.setSlot, Cell.withEntry, Array.getElem?_setIfInBounds, bC, bS, bP, bC.symm, bS.symm, bP.symm, defaultValue] using this
  have tkC := Takes.of_laid (v := .ref (W.heap.size + 2)) hk hord tyC (by rw [Y.causeType]; rfl)
  have tkS := Takes.of_laid (v := u0.v) hk hord tyS (by rw [Y.stackType]; exact fits_refV_array _ u0)
  have tkP := Takes.of_laid (v := sen.v) hk hord tyP (by rw [Y.suppType]; exact fits_refV_object _ sen)
  have tkM := Takes.of_laid (v := .ref (W.heap.size + 1)) hk hord tyM (by rw [Y.msgType]; rfl)
  have hskip : SkipFacts T e.platform s (fun u => u) u0 ((preparedCellV T.toThrowableT (freshCell P1.m.cls kX) (W.heap.size + 2) u0 sen).withEntry W.cur) := ⟨{ ci198 := ci198, i198 := i198, fBack := fB }, ⟨hk198, hg198, ha198, hsB⟩, hbk, fun _ _ => rfl⟩
  obtain ⟨vm', X5, h1, -⟩ := X.nativeThrowsMessageColdBareV hexec hsize hnf T L Z LZ M LM Zs LZs P1 L1 Ps hL hlink1 hlink hsoe hoom hfound hk hinit hord hctor htext hlimit hheap
    (hfitv _) (hfitc _) hsel0 hselF hcellS hknownS hvU hvSen tkC tkS tkP tkM Y.objLocals hskip (fun _ _ hA hW _ hroom _ hrest => L.nativeOff p htr hA hW hroom hrest)
    (by rw [hlen]; exact hRframes) hRlocals (by rw [hlen]; exact hshort) hRcells (by rw [hn4, hn6]; exact Nat.le_trans (Nat.le_of_eq (by omega)) hRslots)
  have b1 : (bytesOf Zs.cB (stringToUtf16 text)).slots.size = (stringBytes (stringToUtf16 text)).size := by
    rw [(Cell.writeAll_facts _ _).2.2]; simp [bytes0]
  have b2 : (stringAt Zs.cS Zs.kS Zs.fv Zs.fc (stringToUtf16 text) W.heap.size).slots.size = 4 := by simp [string0, Cell.setSlot, hn4]
  have b3 : (freshCell P1.m.cls kX).slots.size = 6 := by simp [hn6]
  have hlt : W.heap.size + 2 < ((withThrown W Zs text P1.m.cls kX).setVm vm').heap.size := by
    show W.heap.size + 2 < (withThrown W Zs text P1.m.cls kX).heap.size
    rw [(withThrown_facts e.platform W Zs text P1.m.cls kX).2.2.1]; omega
  rw [b1, b2, b3] at X5
  have e9 : slots + (stringBytes (stringToUtf16 text)).size + 4 + 6 = slots + ((stringBytes (stringToUtf16 text)).size + 4 + 6) := by omega
  rw [e9] at X5
  refine ⟨_, W.heap.size + 2, _, h1, X5.forget (fun y hy => ?_), heapAt_setCell_self _ hlt, hfound, rfl⟩
  simp only [List.mem_cons, List.not_mem_nil, or_false] at hy
  have hge : s.heap.size ≤ W.heap.size := X.same.2.1
  rcases hy with rfl | rfl | rfl | rfl | rfl <;> exact Nat.le_trans hge (Nat.le_add_right _ 2)
set_option maxHeartbeats 2000000 in
theorem xv_npeAtN {p : Program} {l : Launch} {e : Env} {R : Room} {s : State} {m₀ : MethodId} {args : Array Value} {below : List Frame} {meth : Method} {c : Code} {W : State} {locs : List Loc} {cells slots : Nat}
    (X : Stand p l e R s m₀ args below meth c W locs cells slots) (hexec : p.tables.exec = Jvm.exec) (htr : e.platform.stackTraces = false) {n : Nat}
    (h : ∀ a ∈ Bundle.npeArmAtoms n, a.before args s = true)
    (hlocs : ∀ x ∈ locs, ∀ cell, s.heap[x.base]? = some cell → cell.vm.isStatics = false)
    {g : JFrame} (hsize : g.locals.size = c.maxLocals) {nf : NFrame} (hnf : nf.words = 0)
    (hRframes : 8 < R.frames) (hRlocals : 2 * g.monitorRoom + (g.stack.map fun v => v.category).sum + 10240 ≤ R.locals)
    (hRcells : cells + 1 ≤ R.cells) (hRslots : slots + n ≤ R.slots) :
    ∃ (S : State) (q : Addr) (ce : Cell), Steps p.tables e below (W.setFrames (.throwNew "java/lang/NullPointerException" none none :: .native nf :: .java g :: below)) (S.setFrames (.throwing q :: .native nf :: .java g :: below)) ∧
      Stand p l e R s m₀ args below meth c S locs (cells + 1) (slots + n) ∧ S.heap[q]? = some ce ∧ s.vm.findClass "java/lang/NullPointerException" = some ce.cls ∧ ce.vm = .none := by
  have howns : e.platform.frameOwnsMonitors = true := by rw [X.admits.platform]
  have hfin : e.platform.finalization = false := by rw [X.admits.platform]
  have hpl : e.platform.magicAccessors = ({} : Platform).magicAccessors := by rw [X.admits.platform]
  have hpl2 : e.platform.arrayCloneIsPublic = true := by rw [X.admits.platform]
  have a' : ∀ x, x ∈ Bundle.npeArmAtoms n → x.holds args s none s [] = true := fun x hx => h x hx
  obtain ⟨T, Z, L, LZ, Y⟩ := ThrowableC.of_atoms (args := args) howns hfin hpl (fun x hx => h x (by simp [Bundle.npeArmAtoms, hx]))
  obtain ⟨N, LN, hcN, hnNF, hordN, hffS⟩ := NpeC.of_atoms (args := args) hpl hpl2 L Y (fun x hx => h x (by simp [Bundle.npeArmAtoms, hx]))
  obtain ⟨P1, L1, hP1m, hP1s⟩ := PassC.of_atoms (args := args) (s := s) hpl (X := Bundle.nN) (Y := Bundle.rN) (by decide) (by decide) LibCode.NullPointerException.Init0.at_0 LibCode.NullPointerException.Init0.at_1 LibCode.NullPointerException.Init0.at_4 (fun x hx => h x (by simp [Bundle.npeArmAtoms, hx]))
  obtain ⟨PR, LR, hPRm, hPRs⟩ := PassC.of_atoms (args := args) (s := s) hpl (X := Bundle.rN) (Y := Bundle.eN) (by decide) (by decide) LibCode.RuntimeException.Init0.at_0 LibCode.RuntimeException.Init0.at_1 LibCode.RuntimeException.Init0.at_4 (fun x hx => h x (by simp [Bundle.npeArmAtoms, hx]))
  obtain ⟨PE, LEx, hPEm, hPEs⟩ := PassC.of_atoms (args := args) (s := s) hpl (X := Bundle.eN) (Y := Bundle.tN) (by decide) (by decide) LibCode.Exception.Init0.at_0 LibCode.Exception.Init0.at_1 LibCode.Exception.Init0.at_4 (fun x hx => h x (by simp [Bundle.npeArmAtoms, hx]))
  have hfound : s.vm.findClass Bundle.nN = some P1.m.cls := findClass_of_methodNamed hP1m
  have ecls : N.cN = P1.m.cls := Option.some.inj (hcN.symm.trans hfound)
  have hk : s.vm.classes[P1.m.cls]? = some N.kN := by rw [← ecls]; exact LN.cls
  have hinit := Cond.initialized_spec hfound hk (a' (.initialized Bundle.nN) (by simp [Bundle.npeArmAtoms]))
  have hctor : N.kN.findMethod "<init>" "()V" = some P1.m.idx := findMethod_of_methodNamed hP1m hk
  obtain ⟨c1, k1, hc1, hk1, -, -, -, hn⟩ := Cond.instantiable_spec (a' (.instantiable Bundle.nN n) (by simp [Bundle.npeArmAtoms]))
  cases Option.some.inj (hc1.symm.trans hfound)
  cases Option.some.inj (hk1.symm.trans hk)
  have hfsz : (freshCell P1.m.cls N.kN).slots.size = n := by simp [hn]
  have hlink1 : P1.sup = PR.m := Option.some.inj (hP1s.symm.trans hPRm)
  have hlinkR : PR.sup = PE.m := Option.some.inj (hPRs.symm.trans hPEm)
  have hlinkE : PE.sup = Z.m T.toThrowableT := Option.some.inj (hPEs.symm.trans Y.init0)
  have hLs : ∀ P, P ∈ [PR, PE] → P.Links0 e.platform s := fun P hP => by
    simp only [List.mem_cons, List.not_mem_nil, or_false] at hP
    rcases hP with rfl | rfl
    · exact LR
    · exact LEx
  have hsel0 : selectMethod e.platform s.vm P1.m.cls T.fill0 = .method T.fill0 := by
    obtain ⟨c2, r2, m2, q1, q2, q3, q4, -⟩ := Cond.selects_spec (a' (.selects Bundle.nN Bundle.tFill0 Bundle.tFill0) (by simp [Bundle.npeArmAtoms]))
    cases Option.some.inj (q1.symm.trans hfound)
    cases Option.some.inj (q2.symm.trans (State.methodFound?_of_named Y.fill0 (by decide)))
    cases Option.some.inj (q3.symm.trans Y.fill0)
    rw [Launch.admits_selectMethod X.admits]; exact q4
  have hselF : selectMethod e.platform s.vm P1.m.cls T.fill = .method N.fill := by
    obtain ⟨c2, r2, m2, q1, q2, q3, q4, -⟩ := Cond.selects_spec (a' (.selects Bundle.nN Bundle.tFill Bundle.nFill) (by simp [Bundle.npeArmAtoms]))
    cases Option.some.inj (q1.symm.trans hfound)
    cases Option.some.inj (q2.symm.trans (State.methodFound?_of_named Y.fill (by decide)))
    cases Option.some.inj (q3.symm.trans hnNF)
    rw [Launch.admits_selectMethod X.admits]; exact q4
  obtain ⟨cellS0, hcS0, hiss⟩ := Y.statics
  obtain ⟨u0, hu0⟩ := Cond.staticRefV Y.unassigned L.unassignedStatic L.statics hcS0 hiss (a' (.isRef (.static Bundle.tN "UNASSIGNED_STACK" Bundle.steD)) (by simp [Bundle.npeArmAtoms]))
  obtain ⟨sen, hsen⟩ := Cond.staticRefV Y.sentinel L.sentinelStatic L.statics hcS0 hiss (a' (.isRef (.static Bundle.tN "SUPPRESSED_SENTINEL" Bundle.listD)) (by simp [Bundle.npeArmAtoms]))
  obtain ⟨ci198, i198, fB, hk198, hg198, ha198, hsB, -, hnB, htB, hffB⟩ := Cond.ownField (t := .object "java/lang/Object") Y.found L.cls (by decide +kernel) (a' (.fieldLink Bundle.tN 198 Bundle.tN "backtrace" Bundle.objD) (by simp [Bundle.npeArmAtoms])) (a' (.lays Bundle.tN Bundle.tN "backtrace" Bundle.objD) (by simp [Bundle.npeArmAtoms])) e.platform hpl
  obtain ⟨cellS, hcS', heS, -, hkeep⟩ := X.same.2.2.2.2.2 T.aS cellS0 hcS0
  have hcellS : W.heap[T.aS]? = some cellS := hcS'
  have hout' : ∀ i, (⟨T.aS, i⟩ : Loc) ∉ locs := fun i hmem => by
    have := hlocs _ hmem cellS0 hcS0
    rw [hiss] at this; cases this
  have hknownS : cellS.vm ≠ .unknown := by
    rw [heS]; intro hu
    rw [show cellS0.vm = .unknown from hu] at hiss
    cases hiss
  have hvU : cellS.slots[T.fUnassigned.slot]? = some u0.v := by rw [hkeep _ (hout' _)]; exact hu0
  have hvSen : cellS.slots[T.fSentinel.slot]? = some sen.v := by rw [hkeep _ (hout' _)]; exact hsen
  obtain ⟨tyC, dC, hdC, hdnC⟩ := Cond.laysAt hfound hk Y.cause (a' (.lays Bundle.nN Bundle.tN "cause" "Ljava/lang/Throwable;") (by simp [Bundle.npeArmAtoms]))
  obtain ⟨tyS, dS, hdS, hdnS⟩ := Cond.laysAt hfound hk Y.stack (a' (.lays Bundle.nN Bundle.tN "stackTrace" Bundle.steD) (by simp [Bundle.npeArmAtoms]))
  obtain ⟨tyP, dP, hdP, hdnP⟩ := Cond.laysAt hfound hk Y.supp (a' (.lays Bundle.nN Bundle.tN "suppressedExceptions" Bundle.listD) (by simp [Bundle.npeArmAtoms]))
  obtain ⟨tyX, dX, hdX, hdnX⟩ := Cond.laysAt hfound hk hffS (a' (.lays Bundle.nN Bundle.nN "extendedMessageState" "I") (by simp [Bundle.npeArmAtoms, Bundle.npeAtoms]))
  obtain ⟨hnX, htX⟩ := State.fieldFound?_type hffS (t := .int) (by decide +kernel)
  have xC := Cond.laysApart hdC hdX hdnC hdnX (by rw [hnX, Y.causeName]; decide)
  have xS := Cond.laysApart hdS hdX hdnS hdnX (by rw [hnX, Y.stackName]; decide)
  have xP := Cond.laysApart hdP hdX hdnP hdnX (by rw [hnX, Y.suppName]; decide)
  have hv0 : (freshCell P1.m.cls N.kN).slots[N.fState.slot]? = some (.int 0) := by
    have := fresh_default (c := P1.m.cls) tyX
    rw [htX] at this; exact this
  obtain ⟨tyB, dB, hdB, hdnB⟩ := Cond.laysAt hfound hk hffB (a' (.lays Bundle.nN Bundle.tN "backtrace" Bundle.objD) (by simp [Bundle.npeArmAtoms]))
  have bC := Cond.laysApart hdB hdC hdnB hdnC (by rw [hnB, Y.causeName]; decide)
  have bS := Cond.laysApart hdB hdS hdnB hdnS (by rw [hnB, Y.stackName]; decide)
  have bP := Cond.laysApart hdB hdP hdnB hdnP (by rw [hnB, Y.suppName]; decide)
  have bX := Cond.laysApart hdB hdX hdnB hdnX (by rw [hnB, hnX]; decide)
  have hbk : ((npeCell N.toNpeT (preparedCellV T.toThrowableT (freshCell P1.m.cls N.kN) W.heap.size u0 sen) W.cur).withEntry W.cur).slots[fB.slot]? = some .null := by
    have := fresh_default (c := P1.m.cls) tyB
    rw [htB] at this
    simpa [npeCell, preparedCellV, Cell.setSlot, Cell.withEntry, Array.getElem?_setIfInBounds, bC, bS, bP, bX, bC.symm, bS.symm, bP.symm, bX.symm, defaultValue] using this
  have tkC := Takes.of_laid (v := .ref W.heap.size) hk hordN tyC (by rw [Y.causeType]; rfl)
  have tkS := Takes.of_laid (v := u0.v) hk hordN tyS (by rw [Y.stackType]; exact fits_refV_array _ u0)
  have tkP := Takes.of_laid (v := sen.v) hk hordN tyP (by rw [Y.suppType]; exact fits_refV_object _ sen)
  have tkX := Takes.of_laid (v := .int 1) hk hordN tyX (by rw [htX]; rfl)
  have hskip : SkipFacts T e.platform s (fun u => u) u0 ((npeCell N.toNpeT (preparedCellV T.toThrowableT (freshCell P1.m.cls N.kN) W.heap.size u0 sen) W.cur).withEntry W.cur) := ⟨{ ci198 := ci198, i198 := i198, fBack := fB }, ⟨hk198, hg198, ha198, hsB⟩, hbk, fun _ _ => rfl⟩
  have hO := X.overNative g nf
  obtain ⟨hbeyond, hfreeW⟩ := X.vmMayThrowNative hsize hnf (.throwNew "java/lang/NullPointerException" none none) (fun f hf => by cases hf) rfl hRlocals
  have hfr' : (Frame.native nf :: .java g :: below).length + 2 + 5 < (e.platform.stackLimits W.me).1 := by have := X.framesAboveNative g nf (n := 7) (by omega); omega
  have hwd' : (stackUse (.native nf :: .java g :: below)).2 + 13 * 2 + 68 ≤ (e.platform.stackLimits W.me).2 := by have := X.stackAboveNative hsize hnf (K := 13 * 2 + 68) (by omega); omega
  have hltS : T.aS < W.heap.size := (Array.getElem?_eq_some_iff.mp hcellS).1
  have hO1 : Over (W.pushCell (freshCell P1.m.cls N.kN)) (.native nf :: .java g :: below) below := (Over.pushCell_iff _).mpr hO
  have w5 : (W.pushCell (freshCell P1.m.cls N.kN)).heap[T.aS]? = some cellS := by
    rw [← hcellS]
    simp [State.pushCell, Array.getElem?_push, Nat.ne_of_lt hltS]
  have w6 : (W.pushCell (freshCell P1.m.cls N.kN)).heap[W.heap.size]? = some (freshCell P1.m.cls N.kN) := State.heap_pushCell_size W (freshCell P1.m.cls N.kN)
  generalize hbase : (Frame.native nf :: .java g :: below) = base at hO hO1 hbeyond hfreeW hfr' hwd'
  have hfN : ((W.pushCell (freshCell P1.m.cls N.kN)).setFrames (.thenThrow W.heap.size :: base)).frames = .thenThrow W.heap.size :: base := State.frames_setFrames _ hO1.cur
  have hroom := roomAbove (pl := e.platform) (u := (W.pushCell (freshCell P1.m.cls N.kN)).setFrames (.thenThrow W.heap.size :: base)) (vars := 1) (pushed := [.thenThrow W.heap.size]) (base := base) (free := 13 * 2 + 68) (lim := e.platform.stackLimits W.me) hfN (by rw [State.stackLimits_setFrames]; rfl)
    (by simp only [List.length_cons, List.length_nil]; omega) (by omega) (by rw [stackUse_light _ _ (fun f hf => by cases hf) rfl, stackUse_nil]; show 0 + 1 + 11 ≤ _; omega)
  obtain ⟨vm', hW', st⟩ := xv_ctor (tb := p.tables) hO1 hexec (G := fun u => u.setCell W.heap.size (npeBareV T.toThrowableT N.toNpeT (freshCell P1.m.cls N.kN) W.heap.size u0 sen)) (heapOnly_id.thenSetCell _ _) P1 L1 (W := W.pushCell (freshCell P1.m.cls N.kN)) X.warmed W.heap.size hroom (fun vm1 hW1 hI1 => by
    obtain ⟨-, hfI⟩ := xv_in_at (hO1.setVm (X.warmed.alike.symm.trans hW1.alike)) W.heap.size (hW1.methodAt L1.method) L1.code (hW1.plainAt (U := (W.pushCell (freshCell P1.m.cls N.kN)).setVm vm1) L1.plain)
    have hXvm : ∀ w, (xv_in ((W.pushCell (freshCell P1.m.cls N.kN)).setVm vm1) base W.heap.size P1.m).setVm w = xv_in ((W.pushCell (freshCell P1.m.cls N.kN)).setVm w) base W.heap.size P1.m := fun w => by
      show (((((W.pushCell (freshCell P1.m.cls N.kN)).setVm vm1).setFrames (.thenThrow W.heap.size :: base)).pushFrame (.java (pass0J P1.m W.heap.size 0 []))).setVm w) = _
      rw [State.pushFrame_setVm, State.setFrames_setVm, State.setVm_twice]
    have hc1 : (xv_in ((W.pushCell (freshCell P1.m.cls N.kN)).setVm vm1) base W.heap.size P1.m).heap[W.heap.size]? = some (freshCell P1.m.cls N.kN) := w6
    have hc2 : (xv_in ((W.pushCell (freshCell P1.m.cls N.kN)).setVm vm1) base W.heap.size P1.m).heap[T.aS]? = some cellS := w5
    have hcur : (xv_in ((W.pushCell (freshCell P1.m.cls N.kN)).setVm vm1) base W.heap.size P1.m).cur = W.cur := rfl
    have hwm : s.WarmedH (xv_in ((W.pushCell (freshCell P1.m.cls N.kN)).setVm vm1) base W.heap.size P1.m).vm := hW1
    have hlm : e.platform.stackLimits (xv_in ((W.pushCell (freshCell P1.m.cls N.kN)).setVm vm1) base W.heap.size P1.m).me = e.platform.stackLimits W.me := by
      show e.platform.stackLimits (((((W.pushCell (freshCell P1.m.cls N.kN)).setVm vm1).setFrames (.thenThrow W.heap.size :: base)).pushFrame (.java (pass0J P1.m W.heap.size 0 []))).me) = _
      rw [State.stackLimits_pushFrame, State.stackLimits_setFrames]; rfl
    rw [hlink1]
    suffices hs : ∃ vm2, s.WarmedH vm2 ∧ ∀ t' : State, Steps p.tables e below ((((xv_in ((W.pushCell (freshCell P1.m.cls N.kN)).setVm vm1) base W.heap.size P1.m).setVm vm2).setCell W.heap.size (npeBareV T.toThrowableT N.toNpeT (freshCell P1.m.cls N.kN) W.heap.size u0 sen)).setTop (pass0J P1.m W.heap.size 4 [])) t' →
        Steps p.tables e below (doInvoke e ((xv_in ((W.pushCell (freshCell P1.m.cls N.kN)).setVm vm1) base W.heap.size P1.m).setTop (pass0J P1.m W.heap.size 1 [])) [] (firstOf (Z.m T.toThrowableT) ([PR, PE].map (·.toPassT))) #[.ref W.heap.size]).1 t' by
      obtain ⟨vm2, hW2, st2⟩ := hs
      exact ⟨vm2, hW2, fun t' h' => st2 t' (by rw [hXvm]; exact h')⟩
    clear hXvm
    generalize xv_in ((W.pushCell (freshCell P1.m.cls N.kN)).setVm vm1) base W.heap.size P1.m = V at hI1 hfI hc1 hc2 hcur hwm hlm ⊢
    have key := Steps.initNpe0ColdByV p (V := V) (g := pass0J P1.m W.heap.size 1 []) (c := P1.code) (self := W.heap.size) hI1 hexec T L Z LZ N LN hwm (t := W.cur) hcur (Nn := fun u => u) heapOnly_id (fun _ _ => rfl) (fun _ => rfl) (fun u x y => setCell_twice _ _ _ _) (fun _ => Nat.le_refl _)
      (u0 := u0) (sen := sen) hc1 (by intro k hk'; cases hk') (by intro hk'; cases hk') rfl hk hsel0 hc2 (Nat.ne_of_lt hltS) hknownS hvU hv0 xC xS xP tkS tkX (cN := ((npeCell N.toNpeT (preparedCellV T.toThrowableT (freshCell P1.m.cls N.kN) W.heap.size u0 sen) W.cur).withEntry W.cur)) (fun _ hu => hu) (fun _ hu => hu) rfl rfl rfl
      (by simp [npeCell, preparedCellV, Cell.setSlot, Cell.withEntry]) hskip (fun _ _ hA hW _ hroom _ hrest => L.nativeOff p htr hA hW hroom hrest) hselF hvSen tkC tkP Y.objLocals [PR, PE] hLs ⟨hlinkR, hlinkE, trivial⟩ (ig := .invokespecial P1.index) (len := 3) [] hlm
      (by rw [hfI]; simp only [List.length_cons, List.length_nil]; omega)
      (by rw [hfI, List.tail_cons, stackUse_java, stackUse_light _ _ (fun f hf => by cases hf) rfl]
          show (stackUse base).2 + (1 + 11 + 2 * 0 + operandWords []) + 13 * 2 + 55 ≤ _
          simp only [operandWords, List.foldl_nil]
          omega)
      L1.at1
    rw [npeBareV_eq T.toThrowableT N.toNpeT W.heap.size u0 sen W.cur rfl rfl] at key
    exact key)
  obtain ⟨kX', hk', he'⟩ := X.warmed.alike.2.2 _ _ hk
  have hty : kX'.instanceTypes = N.kN.instanceTypes := by rw [he']
  have hfresh : freshCell P1.m.cls kX' = freshCell P1.m.cls N.kN := by
    show ({ cls := P1.m.cls, slots := kX'.instanceTypes.map defaultValue, vm := .none } : Cell) = _
    rw [hty]
  have hst0 : ∀ target, Steps p.tables e below (doInvoke e ((W.pushCell (freshCell P1.m.cls N.kN)).setFrames (.thenThrow W.heap.size :: base)) [] P1.m #[.ref W.heap.size]).1 target → Steps p.tables e below (W.setFrames (.throwNew "java/lang/NullPointerException" none none :: base)) target := by
    intro target k
    obtain ⟨mid, hmid⟩ := hO.above
    have hf0 : (W.setFrames (.throwNew "java/lang/NullPointerException" none none :: base)).frames = .throwNew "java/lang/NullPointerException" none none :: base := State.frames_setFrames _ hO.cur
    refine Steps.head ⟨hO.running, by simpa using hO.runnable, by simpa using hO.alone⟩ ⟨.throwNew "java/lang/NullPointerException" none none :: mid, by rw [hf0, hmid]; rfl, by simp, by simp⟩ ?_
    rw [stepThread_throwNew hf0, stepThrowNew_plain (s := W.setFrames (.throwNew "java/lang/NullPointerException" none none :: base)) (c := P1.m.cls) (k := kX') (i := P1.m.idx) (by decide) (by decide) (show W.vm.findClass _ = _ by rw [X.warmed.alike.findClass]; exact hfound) hk' (by rw [he']; exact hinit) (by rw [he']; exact hordN)
      (Launch.admits_hotImplicitExceptions X.admits) hbeyond hfreeW (by rw [he']; exact hctor) (X.cellsAbove hRcells) (by rw [hty]; exact X.slotsAbove (by rw [hn]; exact hRslots))]
    have hN : ((W.setFrames (.throwNew "java/lang/NullPointerException" none none :: base)).pushCell (freshCell P1.m.cls kX')).setFrames (.thenThrow ((W.setFrames (.throwNew "java/lang/NullPointerException" none none :: base)).heap.size) :: base) = (W.pushCell (freshCell P1.m.cls N.kN)).setFrames (.thenThrow W.heap.size :: base) := by
      rw [State.pushCell_setFrames, State.setFrames_setFrames, hfresh]
      rfl
    rw [hN]
    exact k
  have X2 := (X.pushed (freshCell P1.m.cls N.kN)).noted hW'
  have hsz : ((W.pushCell (freshCell P1.m.cls N.kN)).setVm vm').heap.size = W.heap.size + 1 := State.heap_size_pushCell _ _
  have ha : W.heap.size < ((W.pushCell (freshCell P1.m.cls N.kN)).setVm vm').heap.size := by rw [hsz]; omega
  have hcell : ((W.pushCell (freshCell P1.m.cls N.kN)).setVm vm').heap[W.heap.size]? = some (freshCell P1.m.cls N.kN) := w6
  have X3 := ((((X2.stored hcell T.fCause.slot (.ref W.heap.size)).storedAgain ha T.fStack.slot u0.v).storedAgain ha T.fSupp.slot sen.v).storedAgain ha N.fState.slot (.int 1)).storedAgain ha T.fStack.slot u0.v
  simp only [List.append_assoc, List.cons_append, List.nil_append] at X3
  rw [hfsz] at X3
  refine ⟨_, W.heap.size, _, hst0 _ (st _ (Steps.refl _)), X3.forget (fun y hy => ?_), heapAt_setCell_self _ ha, hfound, rfl⟩
  simp only [List.mem_cons, List.not_mem_nil, or_false] at hy
  have hge : s.heap.size ≤ W.heap.size := X.same.2.1
  rcases hy with rfl | rfl | rfl | rfl | rfl <;> exact hge
/-! the texts of what is thrown -/
theorem xv_len0 (s : String) : (toString s).toList.length = s.toList.length := rfl
theorem xv_bytes {s : String} {n : Nat} (h : s.toList.length ≤ n) : (stringBytes (stringToUtf16 s)).size ≤ 4 * n := by
  have b1 := stringBytes_size_le (stringToUtf16 s)
  have b2 := utf16_size_le s
  omega
theorem xv_head {s : String} {c : Char} {t : List Char} (h : s.toList = c :: t) (hc : c ≠ '\u0000') : (s == notModelled) = false := by
  rw [beq_eq_false_iff_ne]
  intro e
  have h4 : notModelled.toList = '\u0000' :: " a message that is not modelled".toList := by decide
  rw [e, h4] at h
  cases h
  exact hc rfl
theorem xv_int {z : Int} (h1 : -(10 : Int) ^ 10 < z) (h2 : z < (10 : Int) ^ 10) : (toString z).toList.length ≤ 11 := by
  show (Int.repr z).toList.length ≤ 11
  cases h : z with
  | ofNat m =>
    rw [h] at h2
    have h2' : (m : Int) < 10 ^ 10 := h2
    have := nat_print (n := m) (by omega)
    show (toString m).toList.length ≤ 11
    omega
  | negSucc m =>
    rw [h] at h1
    have h1' : -(10 : Int) ^ 10 < -((m : Int) + 1) := by simpa [Int.negSucc_eq] using h1
    have := nat_print (n := m.succ) (by omega)
    show ("-" ++ toString m.succ).toList.length ≤ 11
    rw [String.toList_append, List.length_append]
    have h0 : "-".toList.length = 1 := by decide
    omega
/-! ClassCastException -/
theorem xv_found {vm : Vm} {name : String} {c : ClassId} (h : vm.findClass name = some c) : ∃ k, vm.classes[c]? = some k ∧ k.name = name ∧ k.hidden = none ∧ k.loader = none := by
  obtain ⟨hlt, hp, _⟩ := Array.findIdx?_eq_some_iff_getElem.mp h
  refine ⟨vm.classes[c], by simp [hlt], ?_⟩
  simp only [Bool.and_eq_true, beq_iff_eq] at hp
  exact ⟨hp.1.1.1, by simpa using hp.1.1.2, by simpa using hp.2⟩
theorem xv_modules {s U : State} (hA : s.vm.Alike U.vm) (h : modulesRight_1 s = true) : modulesRight_1 U = true := by
  have e1 : U.vm.modules = s.vm.modules := by rw [hA.1]
  unfold modulesRight_1 at h ⊢
  rw [e1]
  exact h
theorem xv_module {U : State} (h : modulesRight_1 U = true) {k : Class} (hl : k.loader = none) (hp : castPackages_1.contains (packageOf k.name) = true) (m : ModuleInfo) (hm : U.vm.moduleOf k = some m) : m.name = "java.base" := by
  unfold Vm.moduleOf at hm
  split at hm
  · have := List.find?_some hm
    simpa using this
  · have h1 := List.find?_some hm
    have h2 := List.mem_of_find?_eq_some hm
    have h3 := List.all_eq_true.mp h m h2
    simp only [Bool.and_eq_true, beq_iff_eq] at h1
    rw [hl] at h1
    simp only [h1.1, Option.isSome_none, Bool.false_or, Bool.or_eq_true, beq_iff_eq] at h3
    rcases h3 with h3 | h3
    · exact h3
    · exfalso
      simp only [Bool.not_eq_true', List.any_eq_false] at h3
      exact absurd h1.2 (by simpa using h3 _ (List.contains_iff_mem.mp hp))
theorem xv_home {vm : Vm} {k : Class} (hl : k.loader = none) (hm : ∀ m, vm.moduleOf k = some m → m.name = "java.base") : (vm.home k).toList.length ≤ 40 := by
  have a1 : "module ".toList.length = 7 := by decide
  have a2 : "java.base".toList.length = 9 := by decide
  have a3 : " of loader ".toList.length = 11 := by decide
  have a4 : "'bootstrap'".toList.length = 11 := by decide
  have a5 : "unnamed module".toList.length = 14 := by decide
  unfold Vm.home Vm.loaderName
  rw [hl]
  cases h : vm.moduleOf k with
  | none =>
    show ("unnamed module" ++ " of loader " ++ "'bootstrap'").toList.length ≤ 40
    simp only [String.toList_append, List.length_append]
    omega
  | some m =>
    show ("module " ++ m.name ++ " of loader " ++ "'bootstrap'").toList.length ≤ 40
    rw [hm m h]
    simp only [String.toList_append, List.length_append]
    omega
theorem xv_shown {k : Class} {N : String} (hn : k.name = N) (hh : k.hidden = none) : k.shown.toList.length = N.toList.length := by
  unfold Class.shown
  rw [hh, hn]
  show (dotted N).toList.length = _
  unfold dotted turned
  rw [String.toList_ofList, List.length_map]
theorem xv_homes {vm : Vm} {a b : Class} (ha : a.shown.toList.length ≤ 20) (hb : b.shown.toList.length ≤ 20) (h1 : (vm.home a).toList.length ≤ 40) (h2 : (vm.home b).toList.length ≤ 40) : (vm.homes a b).toList.length ≤ 136 := by
  have a1 : (toString " and ").toList.length = 5 := by decide
  have a2 : (toString " are in ").toList.length = 8 := by decide
  have a3 : (toString " is in ").toList.length = 7 := by decide
  have a4 : (toString "; ").toList.length = 2 := by decide
  have a5 : (toString "").toList.length = 0 := by decide
  have b1 := xv_len0 a.shown
  have b2 := xv_len0 b.shown
  have b3 := xv_len0 (vm.home a)
  have b4 := xv_len0 (vm.home b)
  unfold Vm.homes
  split
  · simp only [String.toList_append, List.length_append]
    omega
  · simp only [String.toList_append, List.length_append]
    omega
theorem xv_msg {vm : Vm} {a b : Class} (ha : a.shown.toList.length ≤ 20) (hb : b.shown.toList.length ≤ 20) (h1 : (vm.home a).toList.length ≤ 40) (h2 : (vm.home b).toList.length ≤ 40) : (stringBytes (stringToUtf16 (checkcast.message vm a b))).size ≤ 880 ∧ (checkcast.message vm a b == notModelled) = false := by
  have a1 : (toString "class ").toList.length = 6 := by decide
  have a2 : (toString " cannot be cast to class ").toList.length = 25 := by decide
  have a3 : (toString " (").toList.length = 2 := by decide
  have a4 : (toString ")").toList.length = 1 := by decide
  have b1 := xv_len0 a.shown
  have b2 := xv_len0 b.shown
  have b3 := xv_len0 (vm.homes a b)
  have b4 := xv_homes ha hb h1 h2
  constructor
  · refine xv_bytes (n := 220) ?_
    unfold checkcast.message
    simp only [String.toList_append, List.length_append]
    omega
  · refine xv_head (c := 'c') (t := "lass ".toList ++ (a.shown.toList ++ (" cannot be cast to class ".toList ++ (b.shown.toList ++ (" (".toList ++ ((vm.homes a b).toList ++ ")".toList)))))) ?_ (by decide)
    unfold checkcast.message
    simp only [String.toList_append, List.append_assoc]
    rfl
section XVR
variable {p : Program} {l : Launch} {e : Env} {R : Room} {s : State} {m : MethodId} {args : Array Value} {below : List Frame} {meth : Method} {c : Code} {H : Heap} {locs : List Loc} {cells slots : Nat} {Q : State → Prop}
variable {cc : ByteArray} {pc : Nat} {ls : Array Slot} {rest : List Value} {a : Nat}
theorem xv_castNo {T : State} (X : Stand p l e R s m args below meth c T locs cells slots) (hexec : p.tables.exec = Jvm.exec) {own name C : String} {index : Nat} (hown : s.vm.findClass own = some m.cls) (hlink : (Cond.classLink own index name).before args s = true)
    {a : Addr} {cell : Cell} {cT : ClassId} (hcell : T.heap[a]? = some cell) (hobj : cell.vm.isStatics = false) (hC : s.vm.findClass C = some cell.cls) (hcT : s.vm.findClass name = some cT) (hasg : s.vm.assignable cell.cls cT = false) (hmod : modulesRight_1 s = true)
    (h1 : castPackages_1.contains (packageOf C) = true ∧ C.toList.length ≤ 20) (h2 : castPackages_1.contains (packageOf name) = true ∧ name.toList.length ≤ 20)
    {g : JFrame} (hg : g.method = m) {rest : List Value} (hstack : g.stack = .ref a :: rest) (hdg : decode c.code g.pc = .ok (.checkcast index, 3)) :
    ∃ (vm' : Vm) (tx : String), Stand p l e R s m args below meth c (T.setVm vm') locs cells slots ∧ (stringBytes (stringToUtf16 tx)).size ≤ 880 ∧ (tx == notModelled) = false ∧
      ∀ target, Steps p.tables e below (((T.setVm vm').setTop g).pushFrame (.throwNew "java/lang/ClassCastException" (some tx) none)) target → Steps p.tables e below (T.setTop g) target := by
  have hpl : e.platform.magicAccessors = ({} : Platform).magicAccessors := by rw [X.admits.platform]
  obtain ⟨c', hc', hcl⟩ := Cond.classLink_spec hown hlink e.platform hpl
  cases hcT.symm.trans hc'
  obtain ⟨dk, _, _, kt, hd, _, _, _, _, hkt, _, hopen⟩ := hcl.here
  have hcl₀ := X.warmed.classLinks hcl
  have hW' : s.WarmedH (T.vm.noted m.cls index (.cls cT)) := X.warmed.noted hd hopen (State.rightAt_cls hcl)
  obtain ⟨ks', hks', n1, n2, n3⟩ := xv_found (vm := T.vm.noted m.cls index (.cls cT)) (name := C) (by rw [hW'.alike.findClass]; exact hC)
  obtain ⟨kt', hkt', k1, k2, k3⟩ := xv_found (vm := T.vm.noted m.cls index (.cls cT)) (name := name) (by rw [hW'.alike.findClass]; exact hcT)
  have hm : modulesRight_1 (T.setVm (T.vm.noted m.cls index (.cls cT))) = true := xv_modules (s := s) hW'.alike hmod
  have hh1 := xv_home (vm := T.vm.noted m.cls index (.cls cT)) n3 (fun z hz => xv_module hm n3 (by rw [n1]; exact h1.1) z hz)
  have hh2 := xv_home (vm := T.vm.noted m.cls index (.cls cT)) k3 (fun z hz => xv_module hm k3 (by rw [k1]; exact h2.1) z hz)
  obtain ⟨m1, m2⟩ := xv_msg (vm := T.vm.noted m.cls index (.cls cT)) (a := ks') (b := kt') (by rw [xv_shown n1 n2]; exact h1.2) (by rw [xv_shown k1 k2]; exact h2.2) hh1 hh2
  refine ⟨_, _, X.noted hW', m1, m2, fun target hrest => ?_⟩
  subst hg
  jvm_step X.here [hexec, hdg, checkcast.wp_cold (e := e) (s := T) (f := g) X.here.top hstack (resolveClass_links e.toSetting hcl₀) hcl₀.ready,
    checkcast.wp_ready (e := e) (s := T.setVm (T.vm.noted g.method.cls index (.cls cT))) (f := g) X.here.top hcl₀.ready hstack]
  refine ⟨cell, hcell, VmData.noStatics_of hobj, ks', hks', kt', hkt', ?_⟩
  rw [if_neg (by rw [hW'.alike.assignable, hasg]; decide)]
  exact hrest
theorem xv_castX (hx : p.tables.exec = Jvm.exec) (hb : c.code = cc) {own C nm : String} {index : Nat} (hown : s.vm.findClass own = some m.cls) (hlink : (Cond.classLink own index nm).before args s = true) (hc : va_Nc C nm s)
    (hr : ∃ cell : Cell, H[a]? = some cell ∧ cell.vm.isStatics = false ∧ s.vm.findClass C = some cell.cls) (hmod : modulesRight_1 s = true) (h1 : castPackages_1.contains (packageOf C) = true ∧ C.toList.length ≤ 20) (h2 : castPackages_1.contains (packageOf nm) = true ∧ nm.toList.length ≤ 20) (hdg : decode cc pc = .ok (.checkcast index, 3))
    (k : ∀ tx : String, (stringBytes (stringToUtf16 tx)).size ≤ 880 → (tx == notModelled) = false → vx_Note p l e R s m args below meth c H locs cells slots Q (F0 m pc ls (.ref a :: rest)) "java/lang/ClassCastException" tx) : W p l e R s m args below meth c H locs cells slots Q (F0 m pc ls (.ref a :: rest)) := by
  obtain ⟨cell, g1, g2, g3⟩ := hr
  obtain ⟨c0, t0, f1, f2, f3⟩ := hc
  cases g3.symm.trans f1
  intro T hT X
  obtain ⟨vm', tx, X', m1, m2, st⟩ := xv_castNo X hx hown hlink (by rw [hT]; exact g1) g2 g3 f2 f3 hmod h1 h2 (g := F0 m pc ls (.ref a :: rest)) rfl rfl (by rw [hb]; exact hdg)
  obtain ⟨t, a1, b1⟩ := k tx m1 m2 (T.setVm vm') hT X'
  exact ⟨t, st t a1, b1⟩
/-! System.arraycopy that throws -/
/-- what the machine does with a note over a native's frame -/
def xv_NoteN (p : Program) (l : Launch) (e : Env) (R : Room) (s : State) (m : MethodId) (args : Array Value) (below : List Frame) (meth : Method) (c : Code) (H : Heap) (locs : List Loc) (cells slots k n : Nat) (g : JFrame) (cls : String) (msg : Option String) : Prop :=
  ∀ (U : State) (nf : NFrame), U.heap = H → Stand p l e R s m args below meth c U locs cells slots → nf.words = 0 → ∃ (S : State) (q : Addr) (ce : Cell), Steps p.tables e below (U.setFrames (.throwNew cls msg none :: .native nf :: .java g :: below)) (S.setFrames (.throwing q :: .native nf :: .java g :: below)) ∧
    Stand p l e R s m args below meth c S locs (cells + k) (slots + n) ∧ H.size ≤ S.heap.size ∧ (∀ z : Nat, z < H.size → S.heap[z]? = H[z]?) ∧ S.heap[q]? = some ce ∧ ce.vm = .none ∧ s.vm.findClass cls = some ce.cls
theorem xv_noteM (hexec : p.tables.exec = Jvm.exec) (hl : l.stackTraces = false) {cls text : String} {names : List String} {nb : Nat} {A : Nat → Prop} {g : JFrame}
    (hcls : Bundle.fit cls = true) (hnames : ∀ n ∈ names, Bundle.fit n = true) (hsoe : (cls == "java/lang/StackOverflowError") = false) (hoom : (cls == "java/lang/OutOfMemoryError") = false)
    (hat : ∀ w ∈ vx_atM cls names, w.before args s = true) (hgood : ∀ w ∈ vx_atM cls names, vx_ot w = true)
    (hU : vx_Zq Bundle.tN "UNASSIGNED_STACK" Bundle.steD A s s.heap) (hN : vx_Zq Bundle.tN "SUPPRESSED_SENTINEL" Bundle.listD A s s.heap) (hS : va_S A s.heap H locs) (hsize : g.locals.size = c.maxLocals)
    (htext : (text == notModelled) = false) (hnb : (stringBytes (stringToUtf16 text)).size ≤ nb) (hnb1 : nb ≤ 1000)
    (hRframes : names.length + 5 < R.frames) (hRlocals : 2 * g.monitorRoom + (g.stack.map fun v => v.category).sum + 10240 ≤ R.locals) (hshort : 13 * names.length + 55 ≤ 10240) (hRcells : cells + 3 ≤ R.cells) (hRslots : slots + (nb + 10) ≤ R.slots) :
    xv_NoteN p l e R s m args below meth c H locs cells slots 3 (nb + 10) g cls (some text) := by
  intro T nf hT X hnf
  have htr : e.platform.stackTraces = false := (show e.platform.stackTraces = l.stackTraces by rw [X.admits.platform]).trans hl
  have Y := vx_rebase X (R' := { frames := R.frames, locals := R.locals, cells := 3, slots := nb + 10 }) (Nat.le_refl _) (Nat.le_refl _) hRcells hRslots
  have hhp : ((T.setVm s.vm).setFrames (.invoking m args :: below)).heap = H := hT
  have hW0 : s.WarmedH ((T.setVm s.vm).setFrames (.invoking m args :: below)).vm := State.WarmedH.refl s
  have hat' : ∀ w ∈ vx_atM cls names, w.before args ((T.setVm s.vm).setFrames (.invoking m args :: below)) = true := fun w hw => vx_ot_at hW0 rfl (hgood w hw) (hat w hw)
  have hU' : vx_Zq Bundle.tN "UNASSIGNED_STACK" Bundle.steD A ((T.setVm s.vm).setFrames (.invoking m args :: below)) ((T.setVm s.vm).setFrames (.invoking m args :: below)).heap := by rw [hhp]; exact vx_Zq.moved hW0.alike (hU.kept hS.2.1)
  have hN' : vx_Zq Bundle.tN "SUPPRESSED_SENTINEL" Bundle.listD A ((T.setVm s.vm).setFrames (.invoking m args :: below)) ((T.setVm s.vm).setFrames (.invoking m args :: below)).heap := by rw [hhp]; exact vx_Zq.moved hW0.alike (hN.kept hS.2.1)
  obtain ⟨S, q, ce, st, Z, hce, hcl', hv⟩ := xv_vmAtN Y hexec htr (cls := cls) (names := names) (text := text) hcls hnames hsoe hoom (vx_own hat' (vx_isRefq hU'.1) (vx_isRefq hN'.1) hU'.2.word hN'.2.word) (fun x hx => nomatch hx) htext
    (by rw [Launch.admits_arrayLengthLimit X.admits]; omega) (by rw [Launch.admits_maxHeapBytes X.admits]; simp only [componentBytes]; omega)
    (g := g) hsize hnf hRframes hRlocals hshort (by show 0 + 3 ≤ 3; omega) (by show 0 + (_ + 4 + 6) ≤ nb + 10; omega)
  obtain ⟨f1, f2⟩ := vx_frame Z.same
  have f1' : H.size ≤ S.heap.size := by rw [← hT]; exact f1
  have f2' : ∀ q : Nat, q < H.size → S.heap[q]? = H[q]? := fun q hq => by
    rw [← hT]
    exact f2 q (by rw [← hT] at hq; exact hq) (fun z hz => nomatch hz)
  have X5 := vx_back9 X Y Z
  have X6 : Stand p l e R s m args below meth c S locs (cells + 3) (slots + (nb + 10)) := { X5 with same := X5.same.mono (by omega) (by omega) }
  exact ⟨S, q, ce, st, X6, f1', f2', hce, hv, hcl'⟩
theorem xv_noteN (hexec : p.tables.exec = Jvm.exec) (hl : l.stackTraces = false) {nb : Nat} {A : Nat → Prop} {g : JFrame}
    (hat : ∀ w ∈ vx_atN nb, w.before args s = true) (hgood : ∀ w ∈ vx_atN nb, vx_ot w = true)
    (hU : vx_Zq Bundle.tN "UNASSIGNED_STACK" Bundle.steD A s s.heap) (hN : vx_Zq Bundle.tN "SUPPRESSED_SENTINEL" Bundle.listD A s s.heap) (hS : va_S A s.heap H locs) (hsize : g.locals.size = c.maxLocals)
    (hRframes : 8 < R.frames) (hRlocals : 2 * g.monitorRoom + (g.stack.map fun v => v.category).sum + 10240 ≤ R.locals) (hRcells : cells + 1 ≤ R.cells) (hRslots : slots + nb ≤ R.slots) :
    xv_NoteN p l e R s m args below meth c H locs cells slots 1 nb g "java/lang/NullPointerException" none := by
  intro T nf hT X hnf
  have htr : e.platform.stackTraces = false := (show e.platform.stackTraces = l.stackTraces by rw [X.admits.platform]).trans hl
  have Y := vx_rebase X (R' := { frames := R.frames, locals := R.locals, cells := 1, slots := nb }) (Nat.le_refl _) (Nat.le_refl _) hRcells hRslots
  have hhp : ((T.setVm s.vm).setFrames (.invoking m args :: below)).heap = H := hT
  have hW0 : s.WarmedH ((T.setVm s.vm).setFrames (.invoking m args :: below)).vm := State.WarmedH.refl s
  have hat' : ∀ w ∈ vx_atN nb, w.before args ((T.setVm s.vm).setFrames (.invoking m args :: below)) = true := fun w hw => vx_ot_at hW0 rfl (hgood w hw) (hat w hw)
  have hU' : vx_Zq Bundle.tN "UNASSIGNED_STACK" Bundle.steD A ((T.setVm s.vm).setFrames (.invoking m args :: below)) ((T.setVm s.vm).setFrames (.invoking m args :: below)).heap := by rw [hhp]; exact vx_Zq.moved hW0.alike (hU.kept hS.2.1)
  have hN' : vx_Zq Bundle.tN "SUPPRESSED_SENTINEL" Bundle.listD A ((T.setVm s.vm).setFrames (.invoking m args :: below)) ((T.setVm s.vm).setFrames (.invoking m args :: below)).heap := by rw [hhp]; exact vx_Zq.moved hW0.alike (hN.kept hS.2.1)
  obtain ⟨S, q, ce, st, Z, hce, hcl', hv⟩ := xv_npeAtN Y hexec htr (n := nb) (vx_own hat' (vx_isRefq hU'.1) (vx_isRefq hN'.1) hU'.2.word hN'.2.word) (fun x hx => nomatch hx)
    (g := g) hsize hnf hRframes hRlocals (by show 0 + 1 ≤ 1; omega) (by show 0 + nb ≤ nb; omega)
  obtain ⟨f1, f2⟩ := vx_frame Z.same
  have f1' : H.size ≤ S.heap.size := by rw [← hT]; exact f1
  have f2' : ∀ q : Nat, q < H.size → S.heap[q]? = H[q]? := fun q hq => by
    rw [← hT]
    exact f2 q (by rw [← hT] at hq; exact hq) (fun z hz => nomatch hz)
  have X5 := vx_back9 X Y Z
  have X6 : Stand p l e R s m args below meth c S locs (cells + 1) (slots + nb) := { X5 with same := X5.same.mono (by omega) (by omega) }
  exact ⟨S, q, ce, st, X6, f1', f2', hce, hv, hcl'⟩
/-- a call of it, from what the native says -/
theorem xv_copyX (hexec : p.tables.exec = Jvm.exec) (hb : c.code = cc) {own : String} {index k n : Nat} (hown : s.vm.findClass own = some m.cls) (hlink : (Cond.methodLink own index arraycopyName).before args s = true) (hnat : (Cond.native arraycopyName).before args s = true) (hstat : (Cond.static arraycopyName).before args s = true) (hinit : (Cond.initialized "java/lang/System").before args s = true)
    {v1 v2 : Value} {i1 i2 i3 : Int32} {A : Nat → Prop} (hv1 : v1.isRef = true) (hv2 : v2.isRef = true) {cls : String} {msg : Option String} (hsize : ls.size = c.maxLocals) (hframes : 1 ≤ R.frames) (hlocals : (rest.map fun v => v.category).sum + 10240 ≤ R.locals) (hS : va_S A s.heap H locs)
    (hwp : ∀ U : State, U.heap = H → s.vm.Alike U.vm → ∀ (fs : List Frame) (E : CtlPost), (∀ acts', E (.throwNew cls msg) acts' (U.setFrames fs)) → wp (Native.java_lang_System.arraycopy.sem #[v1, .int i1, v2, .int i2, .int i3]) (fun _ _ _ _ => False) E e false [] (U.setFrames fs))
    (hth : xv_NoteN p l e R s m args below meth c H locs cells slots k n (F0 m pc ls rest) cls msg) (hdg : decode cc pc = .ok (.invokestatic index, 3))
    (kk : ∀ (H1 : Heap) (q9 : Addr) (ce : Cell), H.size ≤ H1.size → (∀ q : Nat, q < H.size → H1[q]? = H[q]?) → va_S A s.heap H1 locs → H1[q9]? = some ce → ce.vm = .none → s.vm.findClass cls = some ce.cls → vx_W p l e R s m args below meth c H1 locs (cells + k) (slots + n) Q (F0 m pc ls rest) q9) :
    W p l e R s m args below meth c H locs cells slots Q (F0 m pc ls (.int i3 :: .int i2 :: v2 :: .int i1 :: v1 :: rest)) := by
  intro T hT X
  obtain ⟨r, kS, methS, hnS, hmS, hkS, N⟩ := NativeOf.of_static hnat hstat (ps := [.object "java/lang/Object", .int, .object "java/lang/Object", .int, .int]) (ret := none) (by decide +kernel)
  have hinitS : kS.init = .initialized := Cond.initialized_spec (findClass_of_methodNamed hnS) hkS hinit
  obtain ⟨vm', X', step⟩ := X.invokestatic hexec hown hlink hnS hmS N.static hkS hinitS (by decide) (g := F0 m pc ls (.int i3 :: .int i2 :: v2 :: .int i1 :: v1 :: rest)) rfl (argsL := [v1, .int i1, v2, .int i2, .int i3]) (rest := rest) (by rw [N.sig]; rfl) rfl (by rw [hb]; exact hdg)
  obtain ⟨k', N'⟩ := N.alike X'.warmed.alike
  obtain ⟨S, q, ce, st, XS, f1, f2, hce, hcv, hcl⟩ := hth (T.setVm vm') { method := r, args := #[v1, .int i1, v2, .int i2, .int i3], locked := none } hT X' rfl
  have hseen : seenByNative methS #[v1, .int i1, v2, .int i2, .int i3] = #[v1, .int i1, v2, .int i2, .int i3] := by
    have e1 := N.static
    have e2 := N.sig
    cases v1 <;> first | (cases hv1; done) | (cases v2 <;> first | (cases hv2; done) | simp [seenByNative, e1, e2, narrow])
  have hwords : operandWords ([v1, .int i1, v2, .int i2, .int i3] : List Value).toArray.toList = 5 := by
    cases v1 <;> first | (cases hv1; done) | (cases v2 <;> first | (cases hv2; done) | rfl)
  obtain ⟨g₀, hfr⟩ := X'.frames_eq
  obtain ⟨g₁, hfrS⟩ := XS.frames_eq
  have hU : ((T.setVm vm').setTop (F0 m pc ls rest)).pushFrame (.native { method := r, args := #[v1, .int i1, v2, .int i2, .int i3], locked := none }) = (T.setVm vm').setFrames (.native { method := r, args := #[v1, .int i1, v2, .int i2, .int i3], locked := none } :: .java (F0 m pc ls rest) :: below) := by
    rw [State.pushFrame, State.frames_setTop _ hfr, State.setTop_of_frames _ hfr, State.setFrames_setFrames]
  have hcurT : (T.setVm vm').cur < (T.setVm vm').threads.size := State.cur_lt_of_frames hfr
  obtain ⟨t, a1, b1⟩ := kk S.heap q ce f1 f2 ⟨Nat.le_trans hS.1 f1, fun q h1 h2 => (f2 q (Nat.lt_of_lt_of_le h1 hS.1)).trans (hS.2.1 q h1 h2), hS.2.2⟩ hce hcv hcl S rfl XS
  refine ⟨t, step t fun acts => ?_, b1⟩
  rw [doInvoke_state]
  have hgo : Steps p.tables e below (doInvoke e ((T.setVm vm').setTop (F0 m pc ls rest)) [] r ([v1, .int i1, v2, .int i2, .int i3] : List Value).toArray).1 ((S.setTop (F0 m pc ls rest)).pushFrame (.throwing q)) := by
    refine Steps.nativeThrowsNote (row := arraycopyRow) (cls := cls) (msg := msg) (T := id) X'.here [] N'.cls N'.meth N'.boot N'.native N'.noCode N'.noLock
      (by rw [N'.className, N'.name, N'.desc]; exact arraycopy_row p)
      (by rw [N'.className, N'.name, hwords]; exact X'.notFull (g := F0 m pc ls rest) hsize (vars := nativeFrameWords "java/lang/System" "arraycopy" 5) hframes (by
        have e5 : nativeFrameWords "java/lang/System" "arraycopy" 5 + 11 ≤ 40 := by decide
        show 2 * 0 + (rest.map fun v => v.category).sum + _ ≤ _
        omega)) ?_ ?_
    · intro E hE
      show wp (arraycopyRow.sem (seenByNative methS #[v1, .int i1, v2, .int i2, .int i3])) _ E e false [] (((T.setVm vm').setTop (F0 m pc ls rest)).pushFrame (.native { method := r, args := seenByNative methS #[v1, .int i1, v2, .int i2, .int i3], locked := none }))
      have hE' : ∀ acts', E (.throwNew cls msg) acts' (((T.setVm vm').setTop (F0 m pc ls rest)).pushFrame (.native { method := r, args := seenByNative methS #[v1, .int i1, v2, .int i2, .int i3], locked := none })) := hE
      rw [hseen] at hE' ⊢
      rw [hU] at hE' ⊢
      rw [arraycopyRow_sem]
      exact hwp (T.setVm vm') hT X'.warmed.alike _ E hE'
    · show Steps p.tables e below ((((T.setVm vm').setTop (F0 m pc ls rest)).pushFrame (.native { method := r, args := seenByNative methS #[v1, .int i1, v2, .int i2, .int i3], locked := none })).pushFrame (.throwNew cls msg none)) _
      rw [hseen, hU, State.pushFrame, State.frames_setFrames _ hcurT, State.setFrames_setFrames]
      refine st.trans ?_
      refine Steps.throwingLeavesNative ⟨XS.here.running, XS.here.runnable, XS.here.alone⟩ (State.cur_lt_of_frames hfrS) ⟨[.java (F0 m pc ls rest)], rfl⟩ rfl rfl ?_
      have hV : (S.setTop (F0 m pc ls rest)).pushFrame (.throwing q) = S.setFrames (.throwing q :: .java (F0 m pc ls rest) :: below) := by
        rw [State.pushFrame, State.frames_setTop _ hfrS, State.setTop_of_frames _ hfrS, State.setFrames_setFrames]
      rw [hV]
      exact Steps.refl _
  exact hgo.trans a1
end XVR
/-! the text of what arraycopy refuses -/
def xv_kind (t : FieldType) : Prop := t = .byte ∨ t = .short ∨ t = .int
theorem xv_kindN {t : FieldType} (h : xv_kind t) : (Native.java_lang_System.arraycopy.kindName t).toList.length ≤ 5 := by
  rcases h with rfl | rfl | rfl <;> decide
theorem xv_fault {t u : FieldType} (ht : xv_kind t) (hu : xv_kind u) {a b : Nat} (ha : a < 2 ^ 30) (hb : b < 2 ^ 30) {i j n : Int32} {what : String} (h : copyFault t u a b i j n = some what) : (stringBytes (stringToUtf16 ("arraycopy: " ++ what))).size ≤ 480 ∧ (("arraycopy: " ++ what) == notModelled) = false := by
  have hk1 := xv_kindN ht
  have hk2 := xv_kindN hu
  have e1 := xv_len0 (Native.java_lang_System.arraycopy.kindName t)
  have e2 := xv_len0 (Native.java_lang_System.arraycopy.kindName u)
  have i1 := int32_print i
  have i2 := int32_print j
  have i3 := int32_print n
  have n1 := nat_print (n := a) (by omega)
  have n2 := nat_print (n := b) (by omega)
  have r1 := rg_of i
  have r2 := rg_of j
  have r3 := rg_of n
  have z1 := xv_int (z := i.toInt + n.toInt) (by omega) (by omega)
  have z2 := xv_int (z := j.toInt + n.toInt) (by omega) (by omega)
  have s0 : (toString "[").toList.length = 1 := by decide
  have s1 : (toString "]").toList.length = 1 := by decide
  have s2 : (toString "source index ").toList.length = 13 := by decide
  have s3 : (toString "destination index ").toList.length = 18 := by decide
  have s4 : (toString "last source index ").toList.length = 18 := by decide
  have s5 : (toString "last destination index ").toList.length = 23 := by decide
  have s6 : (toString " out of bounds for ").toList.length = 19 := by decide
  have s7 : (toString "length ").toList.length = 7 := by decide
  have s8 : (toString " is negative").toList.length = 12 := by decide
  have s9 : (toString "").toList.length = 0 := by decide
  have t0 : "arraycopy: ".toList.length = 11 := by decide
  have hlen : what.toList.length ≤ 90 := by
    unfold copyFault at h
    have fin : ∀ x y : String, (some x : Option String) = some y → x.toList.length ≤ 90 → y.toList.length ≤ 90 := by
      intro x y e h
      cases e
      exact h
    split at h
    · refine fin _ _ h ?_
      simp only [xv_len0, String.toList_append, List.length_append] at *
      omega
    split at h
    · refine fin _ _ h ?_
      simp only [xv_len0, String.toList_append, List.length_append] at *
      omega
    split at h
    · refine fin _ _ h ?_
      simp only [xv_len0, String.toList_append, List.length_append] at *
      omega
    split at h
    · refine fin _ _ h ?_
      simp only [xv_len0, String.toList_append, List.length_append] at *
      omega
    split at h
    · refine fin _ _ h ?_
      simp only [xv_len0, String.toList_append, List.length_append] at *
      omega
    · cases h
  refine ⟨xv_bytes (n := 120) (by rw [String.toList_append, List.length_append]; omega), ?_⟩
  refine xv_head (c := 'a') (t := "rraycopy: ".toList ++ what.toList) ?_ (by decide)
  rw [String.toList_append]
  rfl
theorem xv_types {t u : FieldType} (ht : xv_kind t) (hu : xv_kind u) : (stringBytes (stringToUtf16 (toString "arraycopy: type mismatch: can not copy " ++ toString (Native.java_lang_System.arraycopy.kindName t) ++ toString "[] into " ++ toString (Native.java_lang_System.arraycopy.kindName u) ++ toString "[]" : String))).size ≤ 480 ∧ ((toString "arraycopy: type mismatch: can not copy " ++ toString (Native.java_lang_System.arraycopy.kindName t) ++ toString "[] into " ++ toString (Native.java_lang_System.arraycopy.kindName u) ++ toString "[]" : String) == notModelled) = false := by
  have hk1 := xv_kindN ht
  have hk2 := xv_kindN hu
  have e1 := xv_len0 (Native.java_lang_System.arraycopy.kindName t)
  have e2 := xv_len0 (Native.java_lang_System.arraycopy.kindName u)
  rcases ht with rfl | rfl | rfl <;> rcases hu with rfl | rfl | rfl <;> exact ⟨xv_bytes (n := 120) (by decide +kernel), by decide +kernel⟩
