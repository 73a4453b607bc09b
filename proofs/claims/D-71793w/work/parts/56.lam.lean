/-! LAMBDAS: the classes that the VM makes for the ten sites of BookPairs -/
set_option maxRecDepth 100000
def lamS (iface name : String) (ps : List FieldType) (ret : FieldType) (capt : List FieldType) (impl : String) : Lambda.Shape := { iface := iface, name := name, sam := ⟨ps, some ret⟩, captured := capt, kind := 5, implClass := "BookPairs", implName := impl, implDesc := ⟨capt.tail ++ ps, some ret⟩, implItf := false, inst := ⟨ps, some ret⟩ }
def lam : Nat → Lambda.Shape
  | 0 => lamS "BookPairs$Cost" "of" [.int, .int] .int [.object "BookPairs"] "lambda$new$0"
  | 1 => lamS "BookPairs$Cost" "of" [.int, .int] .int [.object "BookPairs"] "lambda$new$1"
  | 2 => lamS "BookPairs$Cost" "of" [.int, .int] .int [.object "BookPairs"] "lambda$new$2"
  | 3 => lamS "BookPairs$Cost" "of" [.int, .int] .int [.object "BookPairs"] "lambda$new$3"
  | 4 => lamS "BookPairs$Cost" "of" [.int, .int] .int [.object "BookPairs"] "lambda$new$4"
  | 5 => lamS "BookPairs$Deed" "done" [.int, .int] .boolean [.object "BookPairs"] "lambda$new$5"
  | 6 => lamS "BookPairs$Deed" "done" [.int, .int] .boolean [.object "BookPairs"] "lambda$new$6"
  | 7 => lamS "BookPairs$Deed" "done" [.int, .int] .boolean [.object "BookPairs"] "lambda$new$7"
  | 8 => lamS "BookPairs$Reader" "read" [.array .int] .int [.object "BookPairs"] "newBooks"
  | _ => lamS "BookPairs$Reader" "read" [.array .int] .int [.object "BookPairs", .int] "lambda$day$8"
def lamD (i : Nat) : ClassFile := ((lam i).file "BookPairs").getD { minorVersion := 0, majorVersion := 0, constantPool := #[], accessFlags := 0, thisClass := 0, superClass := 0, interfaces := #[], fields := #[], methods := #[], attributes := #[] }
def lamFw (i : Nat) : Method := ((layoutMethods (lamD i)).bind (·[1]?)).getD default
def lamL (i : Nat) : Array Field × Array FieldType × Array FieldType := (layoutFields (lamD i) 0).getD (#[], #[], #[])
def lamB (i : Nat) : ByteArray := if i < 8 then ⟨#[0x2a, 0xb4, 0x00, 0x0f, 0x1b, 0x1c, 0xb6, 0x00, 0x16, 0xac]⟩ else if i = 8 then ⟨#[0x2a, 0xb4, 0x00, 0x0f, 0x2b, 0xb6, 0x00, 0x16, 0xac]⟩ else ⟨#[0x2a, 0xb4, 0x00, 0x11, 0x2a, 0xb4, 0x00, 0x13, 0x2b, 0xb6, 0x00, 0x1b, 0xac]⟩
def lamML (i : Nat) : Nat := if i < 8 then 3 else 2
def lamM (i : Nat) : Nat := if i < 9 then 22 else 27
def lamC (i : Nat) : Nat := if i < 9 then 19 else 23
def lamF (i : Nat) : Nat := if i < 9 then 15 else 17
theorem lam_st1 : ∀ i, i < 10 → ((lam i).file "BookPairs").isSome = true ∧ ((layoutMethods (lamD i)).bind (·[1]?)).isSome = true ∧ (layoutFields (lamD i) 0).isSome = true := by decide +kernel
theorem lam_st2 : ∀ i, i < 10 → ((lamFw i).code.map fun c => (c.code.data, c.maxLocals)) = some ((lamB i).data, lamML i) ∧ ((lamFw i).accessFlags, (lamFw i).sig.returnType) = (0x0001, (lam i).sam.returnType) := by decide +kernel
theorem lam_st3 : ∀ i, i < 10 → (lamD i).constantPool[lamM i]? = some (.methodref (lamC i) (if i < 9 then 21 else 26)) ∧ (lamD i).constantPool.className? (lamC i) = some "BookPairs" ∧ (lamD i).constantPool.nameAndType? (if i < 9 then 21 else 26) = some ((lam i).implName, (lam i).implDesc.toString) := by decide +kernel
theorem lam_st4 : ∀ i, i < 10 → (lamD i).constantPool[lamC i]? = some (.class_ (if i < 9 then 18 else 22)) ∧ (lamD i).constantPool.string? (if i < 9 then 18 else 22) = some "BookPairs" ∧ lamC i ≠ (lamD i).thisClass := by decide +kernel
theorem lam_st5 : ∀ i, i < 10 → (lamD i).constantPool[lamF i]? = some (.fieldref 2 (if i < 9 then 14 else 16)) ∧ (lamD i).constantPool.nameAndType? (if i < 9 then 14 else 16) = some ("arg$1", "LBookPairs;") ∧ (lamL i).1.findIdx? (·.name == "arg$1") = some 0 ∧ ((lamL i).1[0]?).map (fun f => (f.isStatic, f.slot)) = some (false, 0) := by decide +kernel
theorem lam_st6 : (lamD 9).constantPool[19]? = some (.fieldref 2 18) ∧ (lamD 9).constantPool.nameAndType? 18 = some ("arg$2", "I") ∧ (lamL 9).1.findIdx? (·.name == "arg$2") = some 1 ∧ ((lamL 9).1[1]?).map (fun f => (f.isStatic, f.slot)) = some (false, 1) := by decide +kernel
theorem lam_st7 : ∀ i, i < 10 → (lamL i).2.1 = (lam i).captured.toArray ∧ (lam i).implClass = "BookPairs" ∧ (lam i).implItf = false := by decide +kernel
theorem lam_file {i : Nat} (hi : i < 10) : (lam i).file "BookPairs" = some (lamD i) := by
  obtain ⟨x, hx⟩ := Option.isSome_iff_exists.mp (lam_st1 i hi).1
  simp [lamD, hx]
theorem lam_second {i : Nat} (hi : i < 10) : ∀ ms, layoutMethods (lamD i) = some ms → ms[1]? = some (lamFw i) := by
  intro ms hms
  obtain ⟨x, hx⟩ := Option.isSome_iff_exists.mp (lam_st1 i hi).2.1
  have hf : lamFw i = x := by simp [lamFw, hx]
  rw [hms] at hx
  rw [hf]
  exact hx
theorem lam_laid {i : Nat} (hi : i < 10) : layoutFields (lamD i) 0 = some (lamL i) := by
  obtain ⟨x, hx⟩ := Option.isSome_iff_exists.mp (lam_st1 i hi).2.2
  simp [lamL, hx]
theorem lam_made {e : Setting} {vm : Vm} {d c : ClassId} {dk : Class} {i : Nat} (hi : i < 10) (hd : vm.classes[d]? = some dk) (hname : dk.name = "BookPairs") (h : Lambda.isMade e vm d (lam i) c = true)
    (hO : ∀ o ok, vm.findClass "java/lang/Object" = some o → vm.classes[o]? = some ok → ok.instanceTypes.size = 0) :
    ∃ (k tk : Class) (file : ClassFile) (methk : Method) (ck : Code) (toy : ClassId) (t : MethodId) (f0 : Field),
      vm.classes[c]? = some k ∧ k.name = "BookPairs$$Lambda" ∧ k.cf = some file ∧ file.constantPool = (lamD i).constantPool ∧
      vm.method? ⟨c, 1⟩ = some methk ∧ methk.code = some ck ∧ ck.code = lamB i ∧ ck.maxLocals = lamML i ∧ methk.locks = false ∧ methk.accessFlags = 0x0001 ∧ methk.sig.returnType = (lam i).sam.returnType ∧
      vm.findClass "BookPairs" = some toy ∧ vm.classes[toy]? = some tk ∧ tk.isInterface = false ∧ ((methodIn toy (lam i).implName (lam i).implDesc.toString tk.isInterface none).ask e vm).1 = .ok t ∧
      vm.methodReady c (lamM i) t ∧ vm.classReady c (lamC i) toy ∧ vm.fieldReady c (lamF i) c f0 ∧ f0.isStatic = false ∧ f0.slot = 0 ∧ (i = 9 → ∃ f1, vm.fieldReady c 19 c f1 ∧ f1.isStatic = false ∧ f1.slot = 1) ∧ k.kind = .ordinary ∧ k.instanceTypes = (lam i).captured.toArray := by
  obtain ⟨dk', k, ok, tk, file, cf, object, iface, toy, lay, methods, target, found, hd', hk, hfile, hcf, hobj, -, hok, hlay, hms, ht, htk, hg, -, hrec, -, -, -, hitf, hpool, hmeth, hfields, hty, hres, -⟩ := Lambda.isMade_spec h
  cases hd.symm.trans hd'
  rw [hname, lam_file hi] at hcf
  cases hcf
  have h0 := hO object ok hobj hok
  rw [h0, lam_laid hi] at hlay
  cases hlay
  obtain ⟨b, hb, hsame⟩ := hmeth 1 (lamFw i) (lam_second hi methods hms)
  obtain ⟨hn, -, hsig, hfl, x, y, hfc, hbc, -, hml, hcd, -⟩ := Lambda.sameMethod_spec hsame
  obtain ⟨fc, ff⟩ := lam_st2 i hi
  simp only [Prod.mk.injEq] at ff
  obtain ⟨s3a, s3b, s3c⟩ := lam_st3 i hi
  obtain ⟨s4a, s4b, s4c⟩ := lam_st4 i hi
  obtain ⟨s5a, s5b, s5c, s5d⟩ := lam_st5 i hi
  obtain ⟨s7a, s7b, s7c⟩ := lam_st7 i hi
  rw [s7b] at ht
  obtain ⟨g0, hg0, hp0⟩ := Option.map_eq_some_iff.mp s5d
  simp only [Prod.mk.injEq] at hp0
  rw [hfc] at fc
  simp only [Option.map_some, Option.some.injEq, Prod.mk.injEq] at fc
  refine ⟨k, tk, file, b, y, toy, target, g0, hk, by rw [hrec.1, hname]; rfl, hfile, hpool.2.1, by simp [Vm.method?, hk, hb], hbc, ?_, by rw [hml]; exact fc.2, ?_, by rw [hfl]; exact ff.1, by rw [hsig]; exact ff.2, ht, htk, by rw [hitf]; exact s7c, hg,
    ⟨k, hk, hres _ _ (Lambda.resolvedOf_method s3a s3b ht htk s3c hg)⟩, ⟨k, hk, hres _ _ (Lambda.resolvedOf_class s4a s4c s4b ht)⟩,
    ⟨k, 0, k, hk, hres _ _ (Lambda.resolvedOf_field s5a s5b s5c), hk, hfields 0 _ hg0⟩, hp0.1, hp0.2, fun h9 => ?_, hrec.2.1, ?_⟩
  · rw [hcd]
    exact ByteArray.ext fc.1
  · simp [Method.locks, Method.isSynchronized, hfl, ff.1, hasFlag, Acc.synchronized]
  · subst h9
    obtain ⟨t5a, t5b, t5c, t5d⟩ := lam_st6
    obtain ⟨g1, hg1, hp1⟩ := Option.map_eq_some_iff.mp t5d
    simp only [Prod.mk.injEq] at hp1
    exact ⟨g1, ⟨k, 1, k, hk, hres _ _ (Lambda.resolvedOf_field t5a t5b t5c), hk, hfields 1 _ hg1⟩, hp1.1, hp1.2⟩
  · rw [hty.1, s7a, Array.eq_empty_of_size_eq_zero h0, Array.empty_append]
/-- the class of site i -/
def va_La (i : Nat) (c : ClassId) (U : State) : Prop := ∃ (d : ClassId) (dk : Class), U.vm.findClass "BookPairs" = some d ∧ U.vm.classes[d]? = some dk ∧ dk.name = "BookPairs" ∧ Lambda.isMade { classPath := fun _ => none } U.vm d (lam i) c = true ∧ U.lambdaCallable (lam i) c = true
/-- the site: it makes an object of that class -/
def va_Ls (i : Nat) (x : MethodName) (pc index : Nat) (c : ClassId) (U : State) : Prop := ∃ (m : MethodId) (k : Class) (cf : ClassFile) (i0 p0 : Nat), U.methodNamed? x = some m ∧ U.vm.classes[m.cls]? = some k ∧ k.cf = some cf ∧ Lambda.shapeOf? cf index = some (lam i) ∧ (k.callSites.find? fun y => y.1 == m.idx && y.2.1 == pc) = some (i0, p0, .makes c)
theorem va_La.moved {i : Nat} {c : ClassId} {u U : State} (hW : u.WarmedH U.vm) (h : va_La i c u) : va_La i c U := by
  obtain ⟨d, dk, h1, h2, h3, h4, h5⟩ := h
  obtain ⟨dk', h2', he⟩ := hW.alike.2.2 _ _ h2
  refine ⟨d, dk', by rw [hW.alike.findClass]; exact h1, h2', by rw [he]; exact h3, Lambda.isMade_warmer hW h4, ?_⟩
  have hA := hW.alike
  simp only [State.lambdaCallable, hA.findClass, hA.assignable, hA.superclasses, hA.declaredIn] at h5 ⊢
  exact h5
theorem va_La.same {i : Nat} {c : ClassId} {u U : State} (hv : u.vm = U.vm) (h : va_La i c u) : va_La i c U := by
  obtain ⟨d, dk, h1, h2, h3, h4, h5⟩ := h
  refine ⟨d, dk, by rw [← hv]; exact h1, by rw [← hv]; exact h2, h3, by rw [← hv]; exact h4, ?_⟩
  simp only [State.lambdaCallable] at h5 ⊢
  rw [← hv]
  exact h5
theorem va_Ls.moved {i pc index : Nat} {x : MethodName} {c : ClassId} {u U : State} (hA : u.vm.Alike U.vm) (h : va_Ls i x pc index c u) : va_Ls i x pc index c U := by
  obtain ⟨m, k, cf, i0, p0, h1, h2, h3, h4, h5⟩ := h
  obtain ⟨k', h2', he⟩ := hA.2.2 _ _ h2
  have hm : U.methodNamed? x = some m := by
    have := State.methodNamed?_setVm (s := u) hA x
    rw [h1] at this
    exact this
  exact ⟨m, k', cf, i0, p0, hm, h2', by rw [he]; exact h3, h4, by rw [he]; exact h5⟩
/-- Object lays no field -/
theorem lam_hO {args : Array Value} {s : State} {vm : Vm} (hA : s.vm.Alike vm) (h : (Cond.instantiable "java/lang/Object" 0).before args s = true) : ∀ o ok, vm.findClass "java/lang/Object" = some o → vm.classes[o]? = some ok → ok.instanceTypes.size = 0 := by
  intro o ok h1 h2
  rw [hA.findClass] at h1
  obtain ⟨c, k, e1, e2, -, -, -, e3⟩ := Cond.instantiable_spec h
  cases h1.symm.trans e1
  obtain ⟨k', h2', he⟩ := hA.2.2 _ _ e2
  cases h2.symm.trans h2'
  rw [he]
  exact e3
def lsites : List (Nat × MethodName × Nat × Nat) := [(0, ⟨"BookPairs", "<init>", "()V"⟩, 124, 64), (1, ⟨"BookPairs", "<init>", "()V"⟩, 143, 71), (2, ⟨"BookPairs", "<init>", "()V"⟩, 162, 72), (3, ⟨"BookPairs", "<init>", "()V"⟩, 181, 73), (4, ⟨"BookPairs", "<init>", "()V"⟩, 200, 74), (5, ⟨"BookPairs", "<init>", "()V"⟩, 219, 75), (6, ⟨"BookPairs", "<init>", "()V"⟩, 238, 82), (7, ⟨"BookPairs", "<init>", "()V"⟩, 257, 83), (8, ⟨"BookPairs", "books", "(IIII)I"⟩, 12, 438), (9, ⟨"BookPairs", "day", "(IIIII)I"⟩, 73, 449)]
/-! interfaces whose methods lambdas are; default methods -/
def va_If (x : MethodName) (U : State) : Prop := (Cond.declares x).before #[] U = true ∧ (Cond.interfaceMethod x.cls x.cls x.name x.desc).before #[] U = true
theorem va_tr {c : Cond} (hc : c.onTables = true) {u U : State} (h : c.before #[] (u.setVm U.vm) = true) : c.before #[] U = true := by
  have e := Cond.onTables_vm (A := #[]) (A' := #[]) (U := u) (U' := U) U.vm c hc
  have hU : U.setVm U.vm = U := rfl
  rw [hU] at e
  rw [← e]
  exact h
theorem va_If.moved {x : MethodName} (hx : x.cls ≠ "java/lang/invoke/MethodHandle" ∧ x.cls ≠ "java/lang/invoke/VarHandle") {u U : State} (hvm : u.vm.Alike U.vm) (h : va_If x u) : va_If x U := by
  obtain ⟨h1, h2⟩ := h
  obtain ⟨r, meth, hn, -⟩ := Cond.declares_spec h1
  exact ⟨va_tr (u := u) rfl (by rw [Cond.declares_setVm hvm]; exact h1), va_tr (u := u) rfl (by rw [Cond.interfaceMethod_setVm hvm (r := r) hn hx]; exact h2)⟩
theorem va_ldm {C : String} {x y : MethodName} {u U : State} (hvm : u.vm.Alike U.vm) (h : (Cond.landsInDefault C x y).before #[] u = true) : (Cond.landsInDefault C x y).before #[] U = true := by
  have h1 : (Cond.landsInDefault C x y).before #[] (u.setVm U.vm) = true := (Cond.landsInDefault_setVm hvm (State.methodFound?_setVm hvm _ _ _)).trans h
  exact h1
def va_Ld (C : String) (x y : MethodName) (U : State) : Prop := (Cond.declares x).before #[] U = true ∧ (Cond.interfaceMethod x.cls x.cls x.name x.desc).before #[] U = true ∧ (Cond.landsInDefault C x y).before #[] U = true ∧ (Cond.publicMethod y).before #[] U = true ∧ (Cond.castable C x.cls).before #[] U = true
theorem va_Ld.moved {C : String} {x y : MethodName} (hx : x.cls ≠ "java/lang/invoke/MethodHandle" ∧ x.cls ≠ "java/lang/invoke/VarHandle") {u U : State} (hvm : u.vm.Alike U.vm) (h : va_Ld C x y u) : va_Ld C x y U := by
  obtain ⟨h1, h2, h3, h4, h5⟩ := h
  obtain ⟨r, meth, hn, -⟩ := Cond.declares_spec h1
  exact ⟨va_tr (u := u) rfl (by rw [Cond.declares_setVm hvm]; exact h1), va_tr (u := u) rfl (by rw [Cond.interfaceMethod_setVm hvm (r := r) hn hx]; exact h2), va_ldm hvm h3, va_tr (u := u) rfl (by rw [Cond.publicMethod_setVm hvm]; exact h4), va_tr (u := u) rfl (by rw [Cond.castable_setVm hvm]; exact h5)⟩
def rdaN : MethodName := ⟨"BookPairs$Aloud", "readAloud", "()I"⟩
def rdlN : MethodName := ⟨"BookPairs$Longer", "readAloud", "()I"⟩
def va_Sd (U : State) : Prop := (Cond.methodLink "BookPairs$Doubled" 27 rdlN).before #[] U = true ∧ (Cond.sameMethod "BookPairs$Longer" "BookPairs$Aloud" "readAloud" "()I").before #[] U = true ∧ (Cond.landsInDefault "BookPairs$Longer" rdlN rdaN).before #[] U = true
theorem va_Sd.moved {u U : State} (hW : u.WarmedH U.vm) (h : va_Sd u) : va_Sd U := by
  obtain ⟨h1, h2, h3⟩ := h
  exact ⟨word_at hW (Or.inl rfl) h1, word_at hW (Or.inl rfl) h2, va_ldm hW.alike h3⟩
theorem va_Sd.same {u U : State} (hv : u.vm = U.vm) (h : va_Sd u) : va_Sd U := ⟨va_tabs rfl hv h.1, va_tabs rfl hv h.2.1, va_ldm (by rw [hv]; exact Vm.Alike.refl _) h.2.2⟩
def lifl : List MethodName := [⟨"BookPairs$Cost", "of", "(II)I"⟩, ⟨"BookPairs$Deed", "done", "(II)Z"⟩, ⟨"BookPairs$Reader", "read", "([I)I"⟩]
theorem lifl_cls : ∀ x ∈ lifl, x.cls ≠ "java/lang/invoke/MethodHandle" ∧ x.cls ≠ "java/lang/invoke/VarHandle" := by decide
/-- what is to be said beside -/
def yX (E : xE) (U : State) : Prop := (∀ i, i < 10 → va_La i (E.2 (10 + i)) U) ∧ (∀ q ∈ lsites, va_Ls q.1 q.2.1 q.2.2.1 q.2.2.2 (E.2 (10 + q.1)) U) ∧ (∀ x ∈ lifl, va_If x U) ∧ va_Ld "BookPairs$Plain" rdaN rdaN U ∧ va_Ld "BookPairs$Longer" rdaN rdaN U ∧ va_Sd U
theorem yX.moved {E : xE} {u U : State} (hW : u.WarmedH U.vm) (h : yX E u) : yX E U := ⟨fun i hi => (h.1 i hi).moved hW, fun q hq => (h.2.1 q hq).moved hW.alike, fun x hx => (h.2.2.1 x hx).moved (lifl_cls x hx) hW.alike, h.2.2.2.1.moved (by decide) hW.alike, h.2.2.2.2.1.moved (by decide) hW.alike, h.2.2.2.2.2.moved hW⟩
theorem yX.same {E : xE} {u U : State} (hv : u.vm = U.vm) (h : yX E u) : yX E U := by
  have hA : u.vm.Alike U.vm := by rw [hv]; exact Vm.Alike.refl _
  exact ⟨fun i hi => (h.1 i hi).same hv, fun q hq => (h.2.1 q hq).moved hA, fun x hx => (h.2.2.1 x hx).moved (lifl_cls x hx) hA, h.2.2.2.1.moved (by decide) hA, h.2.2.2.2.1.moved (by decide) hA, h.2.2.2.2.2.same hv⟩
