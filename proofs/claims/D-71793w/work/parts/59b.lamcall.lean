/-! CALLS OF LAMBDAS through their interface: the made class's method hands on to the target -/
set_option maxRecDepth 100000
theorem lbA_0 : decode (lamB 0) 0 = .ok (.aload_n 0, 1) := by decide +kernel
theorem lbA_1 : decode (lamB 0) 1 = .ok (.getfield 15, 3) := by decide +kernel
theorem lbA_4 : decode (lamB 0) 4 = .ok (.iload_n 1, 1) := by decide +kernel
theorem lbA_5 : decode (lamB 0) 5 = .ok (.iload_n 2, 1) := by decide +kernel
theorem lbA_6 : decode (lamB 0) 6 = .ok (.invokevirtual 22, 3) := by decide +kernel
theorem lbA_9 : decode (lamB 0) 9 = .ok (.ireturn, 1) := by decide +kernel
theorem lbC_0 : decode (lamB 8) 0 = .ok (.aload_n 0, 1) := by decide +kernel
theorem lbC_1 : decode (lamB 8) 1 = .ok (.getfield 15, 3) := by decide +kernel
theorem lbC_4 : decode (lamB 8) 4 = .ok (.aload_n 1, 1) := by decide +kernel
theorem lbC_5 : decode (lamB 8) 5 = .ok (.invokevirtual 22, 3) := by decide +kernel
theorem lbC_8 : decode (lamB 8) 8 = .ok (.ireturn, 1) := by decide +kernel
theorem lbD_0 : decode (lamB 9) 0 = .ok (.aload_n 0, 1) := by decide +kernel
theorem lbD_1 : decode (lamB 9) 1 = .ok (.getfield 17, 3) := by decide +kernel
theorem lbD_4 : decode (lamB 9) 4 = .ok (.aload_n 0, 1) := by decide +kernel
theorem lbD_5 : decode (lamB 9) 5 = .ok (.getfield 19, 3) := by decide +kernel
theorem lbD_8 : decode (lamB 9) 8 = .ok (.aload_n 1, 1) := by decide +kernel
theorem lbD_9 : decode (lamB 9) 9 = .ok (.invokevirtual 27, 3) := by decide +kernel
theorem lbD_12 : decode (lamB 9) 12 = .ok (.ireturn, 1) := by decide +kernel
section LC
variable {p : Program} {l : Launch} {e : Env} {R : Room} {s : State} {m : MethodId} {args : Array Value} {below : List Frame} {meth : Method} {c : Code} {H : Heap} {locs : List Loc} {cells slots mc ms : Nat}
variable {cc : ByteArray} {pc nL : Nat} {ls : Array Slot} {rest st0 : List Value} {E : xE} {A : Nat → Prop} {w : xw} {own : String} {la o : Nat} {fs : List Value} {Qc : Array Value → State → Outcome → State → Prop} {free : Addr → Prop}

set_option maxHeartbeats 1000000 in
theorem va_runLA {x y : MethodName} {bytes : ByteArray} {maxL rf rl index count i : Nat} {ty : FieldType} (hi : i < 8) (C : xC E p s m args c cc nL own) (hZ : zK E A s s.heap) (hB : xB E A s w H locs) {a b : Int32}
    (hM : Met l y (ws_ y bytes maxL (some ty)) (rm_ rf rl mc ms) (xPz E w H.size [.ref o, .int a, .int b]) Qc mc ms free)
    (hret : (lam i).sam.returnType = some ty) (hx : x = ⟨(lam i).iface, (lam i).name, (lam i).sam.toString⟩) (hy : y = ⟨"BookPairs", (lam i).implName, (lam i).implDesc.toString⟩)
    (hlk : Cond.methodLink own index x ∈ lw_all) (hif : x ∈ lifl) (hin : Cond.instanceMethod y ∈ lw_all) (hini : Cond.initialized y.cls ∈ lw_all) (hco : Cond.code y bytes maxL (some ty) ∈ lw_all) (hse : Cond.selects "BookPairs" y y ∈ lw_all)
    (hd : (x.cls ≠ "java/lang/invoke/MethodHandle" ∧ x.cls ≠ "java/lang/invoke/VarHandle") ∧ (parseMethodDescriptor x.desc).map (fun d => d.parameters.length) = some 2 ∧ (parseMethodDescriptor y.desc).map (fun d => d.parameters.length) = some 2) (hR : rf + 2 ≤ R.frames ∧ 8 + (3 + 11) + (8 + (maxL + 11) + rl) ≤ R.locals)
    (hla : w la = some (.inr { cls := E.2 (10 + i), slots := #[.ref o], vm := .none })) (ho : w o = some (xO 0 fs)) (hQ : ∀ a st v t, Qc a st (.returned v) t → ∃ r, v = some (.int r) ∧ narrow ty (.int r) = .int r)
    (hl : ls.size = nL) (hst : st0 = [.int a, .int b].reverse ++ .ref la :: rest) (hW : (rest.map fun v => v.category).sum ≤ 8) (hdg : decode cc pc = .ok (.invokeinterface index count, 5)) (hcs : cells + mc ≤ R.cells ∧ slots + ms ≤ R.slots) :
    va_Run5 p l e R s m args below meth c H locs cells slots mc ms (F0 m pc ls st0) rest (Qc [.ref o, .int a, .int b].toArray) free := by
  subst hst
  have hec := hB.1 o _ ho
  obtain ⟨⟨hx0, hb, hml, hown, hts⟩, hK⟩ := C
  have hi10 : i < 10 := by omega
  obtain ⟨hif1, hif2⟩ := hZ.1.2.2.2.2.2.2.2.1 x hif
  obtain ⟨r0, r, hn, hrm, hstR, hsigR⟩ := Cond.declares_spec hif1
  obtain ⟨cL, kL, r1, hcL, hkL, hiL, hfoundL, hn1⟩ := Cond.interfaceMethod_spec hif2
  cases hn.symm.trans hn1
  have hr0cls : r0.cls = cL := Option.some.inj ((findClass_of_methodNamed hn).symm.trans hcL)
  obtain ⟨hnameR, hdescR⟩ := name_of_methodNamed hn hrm
  obtain ⟨d, dk, hd1, hd2, hd3, hmade, hcan⟩ := hZ.1.2.2.2.2.2.1 i hi10
  obtain ⟨-, -, -, -, -, -, -, iface', -, -, -, -, found, -, -, -, -, -, hi', -, -, -, -, -, -, hfound', -, -, -, -, -, -, -, -, -, -, hsel⟩ := Lambda.isMade_spec hmade
  have hxl : x.desc = (lam i).sam.toString ∧ x.name = (lam i).name ∧ x.cls = (lam i).iface := by rw [hx]; exact ⟨rfl, rfl, rfl⟩
  obtain ⟨x1, x2, x3⟩ := hxl
  rw [x3] at hcL
  cases hcL.symm.trans hi'
  have hfr : found = r0 := by
    have h1 : s.methodFound? (lam i).iface (lam i).name (lam i).sam.toString = some r0 := by rw [← x1, ← x2, ← x3]; exact hfoundL
    simp only [State.methodFound?, hcL, hkL, hiL, Option.bind_eq_bind, Option.bind_some] at h1
    rw [hfound'] at h1
    exact Option.some.inj h1
  subst hfr
  obtain ⟨i2, hi2, hasg, hway⟩ := State.lambdaCallable_spec hcan
  cases hcL.symm.trans hi2
  obtain ⟨kK, tk, file, methk, ckK, toy, tt, f0, hkK, hkn, hfile, hpool, hmk, hckK, hbytes, hmlK, hlkK, hfl, hretk, -⟩ := lam_made hi10 hd2 hd3 hmade (lam_hO (Vm.Alike.refl _) (hts _ q1789))
  obtain ⟨mT, methT, hmT, hmethT, hstT, habT⟩ := Cond.instanceMethod_spec (hts _ hin)
  obtain ⟨methT', cT, hmethT', -, -, -, -, -, -, hsigT⟩ := Cond.code_spec hmT (hts _ hco)
  cases hmethT.symm.trans hmethT'
  have hyc : y.cls = "BookPairs" ∧ y.name = (lam i).implName ∧ y.desc = (lam i).implDesc.toString := by rw [hy]; exact ⟨rfl, rfl, rfl⟩
  obtain ⟨y1, y2, y3⟩ := hyc
  have hynm : y.cls ≠ "java/lang/invoke/MethodHandle" ∧ y.cls ≠ "java/lang/invoke/VarHandle" := by rw [y1]; decide
  obtain ⟨c2, r2, m2, q1, q2, q3, q4, kP, hkP, hkPi⟩ := Cond.selects_spec (hts _ hse)
  cases (State.methodFound?_of_named hmT hynm).symm.trans q2
  cases hmT.symm.trans q3
  obtain ⟨cellO, hcellO, hclsO, hobjO⟩ : ∃ cellO : Cell, H[o]? = some cellO ∧ cellO.cls = c2 ∧ cellO.vm.isStatics = false := by
    obtain ⟨cell, h1, h2, h3⟩ := xrecv hK hB.1 ho rfl
    exact ⟨cell, h1, by have := h3.symm.trans q1; exact Option.some.inj this, h2⟩
  have hlac : H[la]? = some { cls := E.2 (10 + i), slots := #[.ref o], vm := .none } := hB.1 la _ hla
  intro T hT X
  obtain ⟨vm₁, X₁, hstep₁⟩ := X.invokeinterface hx0 hown (hts _ hlk) hn hrm hstR (by rw [hr0cls]; exact hkL) hiL hd.1 (a := la) (kcell := kK) (by rw [hT]; exact hlac) (fun z h => by cases h) hkK (by rw [hr0cls]; exact hasg)
    (m' := ⟨E.2 (10 + i), 1⟩) (meth' := methk) (by rw [Launch.admits_selectMethod X.admits]; exact hsel) hmk (by rw [hnameR, hdescR, x1, x2]; exact hway) (by rw [hfl]; decide) (by simp [Method.isAbstract, hfl, hasFlag, Acc.abstract])
    (g := F0 m pc ls ([.int a, .int b].reverse ++ .ref la :: rest)) rfl (argsL := [.int a, .int b]) (rest := rest) (by have := hd.2.1; rw [hsigR] at this; exact (Option.some.inj this).symm) rfl (by rw [hb]; exact hdg)
  have hW₁ : s.WarmedH vm₁ := X₁.warmed
  obtain ⟨dk₁, hdk₁, he₁⟩ := hW₁.alike.2.2 _ _ hd2
  obtain ⟨kK₁, tk₁, file₁, methk₁, ckK₁, toy₁, t₁, f0₁, hkK₁, hkn₁, hfile₁, hpool₁, hmk₁, hckK₁, hbytes₁, hml₁, hlk₁, hfl₁, hretk₁, htoy₁, htk₁, hitf₁, hlook₁, hready₁, hclsR₁, hfr₁, hfs₁, hf0₁, hf9₁, hkd₁, hit₁⟩ := lam_made hi10 hdk₁ (by rw [he₁]; exact hd3) (Lambda.isMade_warmer hW₁ hmade) (lam_hO hW₁.alike (hts _ q1789))
  have hq1' : vm₁.findClass "BookPairs" = some c2 := by rw [hW₁.alike.findClass]; exact q1
  cases htoy₁.symm.trans hq1'
  have ht₁ : t₁ = mT := by
    have h1 : (s.setVm vm₁).methodFound? "BookPairs" (lam i).implName (lam i).implDesc.toString = some mT := by
      rw [State.methodFound?_setVm hW₁.alike, ← y1, ← y2, ← y3]
      exact State.methodFound?_of_named hmT hynm
    simp only [State.methodFound?, State.vm_setVm, hq1', htk₁, Option.bind_eq_bind, Option.bind_some] at h1
    rw [hlook₁] at h1
    exact Option.some.inj h1
  subst ht₁
  have hmethT₁ : vm₁.method? t₁ = some methT := by rw [hW₁.alike.method?]; exact hmethT
  have htc : t₁.cls = c2 := Option.some.inj ((findClass_of_methodNamed hmT).symm.trans (by rw [y1]; exact q1))
  have hnm : tk₁.name ≠ "java/lang/invoke/MethodHandle" ∧ tk₁.name ≠ "java/lang/invoke/VarHandle" := by
    obtain ⟨k5, hk5, hn5⟩ := className_of_methodNamed hmT
    obtain ⟨k6, hk6, he6⟩ := hW₁.alike.2.2 _ _ hk5
    rw [htc] at hk6
    cases htk₁.symm.trans hk6
    rw [he6]
    show k5.name ≠ _ ∧ k5.name ≠ _
    rw [hn5]
    exact hynm
  have hpoly : signaturePolymorphic tk₁ methT = false := by simp [signaturePolymorphic, hnm.1, hnm.2]
  have hpk : (T.setVm vm₁).plainMethod ⟨E.2 (10 + i), 1⟩ := State.plainMethod.of_name (fun k' hk' => by cases hkK₁.symm.trans hk'; rw [hkn₁]; decide)
  have hsz : (F0 m pc ls rest).locals.size = c.maxLocals := hl.trans hml.symm
  have hdg' : decode c.code pc = .ok (.invokeinterface index count, 5) := by rw [hb]; exact hdg
  have hB0 : lamB i = lamB 0 := by simp [lamB, hi]
  have hML0 : lamML i = 3 := by simp [lamML, hi]
  have hM0 : lamM i = 22 := by unfold lamM; rw [if_pos (by omega)]
  have hF0 : lamF i = 15 := by unfold lamF; rw [if_pos (by omega)]
  have hpoolM : (lamD i).constantPool[22]? = some (.methodref (lamC i) (if i < 9 then 21 else 26)) := by rw [← hM0]; exact (lam_st3 i hi10).1
  rw [hB0] at hbytes₁
  rw [hML0] at hml₁
  rw [hM0] at hready₁
  rw [hF0] at hfr₁
  obtain ⟨Y₀, hin₀⟩ := X₁.into (g := F0 m pc ls rest) rfl hsz hdg' #[.ref la, .int a, .int b] (R' := { frames := rf + 1, locals := 8 + (maxL + 11) + rl, cells := mc, slots := ms }) hmk₁ hckK₁ hlk₁ hpk
    (by show rf + 1 + 1 ≤ _; exact hR.1) (by rw [hml₁]; show 2 * 0 + (rest.map fun v => v.category).sum + (3 + 11) + (8 + (maxL + 11) + rl) ≤ R.locals; have := hR.2; omega) hcs.1 hcs.2
  generalize hU : ((T.setVm vm₁).setTop (F0 m pc ls rest)).pushFrame (.java (entryFrame ⟨E.2 (10 + i), 1⟩ #[.ref la, .int a, .int b] ckK₁.maxLocals)) = U at Y₀ hin₀
  have hvmU : U.vm = vm₁ := by rw [← hU]; rfl
  have hheapU : U.heap = H := by rw [← hU]; exact hT
  have hK2 : Back l { frames := rf + 1, locals := 8 + (maxL + 11) + rl, cells := mc, slots := ms } p e (.java (F0 m pc ls rest) :: below) ((T.setVm vm₁).calling (F0 m pc ls rest) ⟨E.2 (10 + i), 1⟩ #[.ref la, .int a, .int b]) #[.ref la, .int a, .int b] y 3 8 (PreOf { frames := rf + 1, locals := 8 + (maxL + 11) + rl, cells := mc, slots := ms } mc ms (xPz E w H.size [.ref o, .int a, .int b])) (PostOf Qc mc ms free) :=
    back_of (bytes := bytes) (maxL := maxL) (ret := some ty) hM xPz.blind rfl rfl (Nat.le_refl _) (Nat.le_refl _) (fun w0 hw0 a' U0 hWU => word_at (State.WarmedH.trans X₁.warmed hWU) (lw_meth hco w0 hw0).2 (hts w0 (lw_meth hco w0 hw0).1)) (by unfold ws_; exact List.mem_cons_self)
      (fun a' U0 hWU => word_at (State.WarmedH.trans X₁.warmed hWU) (Or.inl (by first | rfl | simp [Cond.onTables, Cond.keeps, Cond.steady])) (hts _ hini))
  obtain ⟨v, ⟨U', l2, c2', s2'⟩, X', ⟨g', mk', t', L, e1, e2, hq, h1, hL, h2, h3⟩, hsteps⟩ := hK2 ⟨E.2 (10 + i), 1⟩ methk₁ ckK₁ ⟨U, [], 0, 0⟩ { method := ⟨E.2 (10 + i), 1⟩, pc := 6, locals := #[.val (.ref la), .val (.int a), .val (.int b)], stack := [], locked := none } (.invokevirtual 22) t₁ [.ref o, .int a, .int b].toArray Y₀ rfl (by rw [hml₁]; rfl) (by rw [hbytes₁]; exact lbA_6) (Nat.zero_le _)
    (by have h5 := State.methodNamed?_setVm (s := s) hW₁.alike y; rw [hmT] at h5; show U.methodNamed? y = _; rw [← h5]; unfold State.methodNamed?; rw [hvmU]; rfl) ⟨by show 0 + mc ≤ mc; omega, by show 0 + ms ≤ ms; omega, xPz.at hB hK hZ hheapU (by rw [hvmU]; exact hW₁)⟩
  dsimp only [Pt.U, Pt.locs, Pt.cells, Pt.slots] at X' e1 e2 h1 h2 h3 hsteps hq
  subst h1
  subst h2
  subst h3
  obtain ⟨rr, rfl, hnr⟩ := hQ _ _ _ _ hq
  obtain ⟨fs', hleave, -, hended, hWe, hsame⟩ := X'.leave (v := some (.int rr)) (fun h => by rw [hretk₁, hret] at h; cases h) hlk₁
  obtain ⟨T', XF, hWF, -, ht⟩ := X₁.outOf (g := F0 m pc ls rest) rfl hdg' hended hWe hsame
  have hth : T'.heap = U'.heap := (congrArg State.heap ht).symm
  have htv : T'.vm = U'.vm := (congrArg State.vm ht).symm
  refine ⟨some (.int rr), U.calling g' mk' [.ref o, .int a, .int b].toArray, t', T', l2, (show U.heap = H from hheapU), ?_, hL, hth.trans e1, htv.trans e2, hq, fun target h => hstep₁ _ fun acts => ?_⟩
  · have e6 : cells + mc = cells + (0 + mc) := by omega
    have e7 : slots + ms = slots + (0 + ms) := by omega
    rw [e6, e7]
    exact XF
  · have hin' := hin₀ acts
    refine (show Steps p.tables e below (doInvoke e ((T.setVm vm₁).setTop (F0 m pc ls rest)) acts ⟨E.2 (10 + i), 1⟩ #[.ref la, .int a, .int b]).1 target from ?_)
    rw [hin']
    refine Steps.trans ?_ h
    show Steps p.tables e below _ (T'.setTop { F0 m pc ls rest with pc := pc + 5, stack := (some (Value.int rr)).toList ++ rest })
    have ht2 : U'.setFrames fs' = T'.setTop { F0 m pc ls rest with pc := pc + 5, stack := (some (Value.int rr)).toList ++ rest } := ht
    rw [← ht2]
    refine Steps.weaken (mid := [.java (F0 m pc ls rest)]) ?_
    have hloc : entryFrame ⟨E.2 (10 + i), 1⟩ #[.ref la, .int a, .int b] ckK₁.maxLocals = { method := ⟨E.2 (10 + i), 1⟩, pc := 0, locals := #[.val (.ref la), .val (.int a), .val (.int b)], stack := [], locked := none } := by rw [hml₁]; rfl
    rw [hloc]
    have hs : U.topJava?.isSome := Y₀.here.top
    jvm_step Y₀.here [hx0, hbytes₁, lbA_0, Value.isRef]
    jvm_step Y₀.here [hx0, hbytes₁, lbA_1, getfield.wp_ready (e := e) (s := U) (c := E.2 (10 + i)) (field := f0₁) (a := la) (rest := []) (cell := { cls := E.2 (10 + i), slots := #[.ref o], vm := .none }) (v := .ref o)
      (f := { method := ⟨E.2 (10 + i), 1⟩, pc := 1, locals := #[.val (.ref la), .val (.int a), .val (.int b)], stack := .ref la :: [], locked := none }) hs (by rw [hvmU]; exact hfr₁) hfs₁ rfl (by rw [hheapU]; exact hlac) (by intro h; cases h) (by rw [hf0₁]; rfl)]
    jvm_step Y₀.here [hx0, hbytes₁, lbA_4]
    jvm_step Y₀.here [hx0, hbytes₁, lbA_5]
    jvm_step Y₀.here [hx0, hbytes₁, lbA_6, invokevirtual.wp_ready (e := e) (s := U) (r := t₁) (m := t₁) (k := tk₁) (mk := tk₁) (rmeth := methT) (meth := methT) (a := o) (args := [.int a, .int b]) (rest := []) (cell := cellO)
      (f := { method := ⟨E.2 (10 + i), 1⟩, pc := 6, locals := #[.val (.ref la), .val (.int a), .val (.int b)], stack := [.int b, .int a, .ref o], locked := none }) hs (⟨kK₁, file₁, _, _, c2, tk₁, by rw [hvmU]; exact hkK₁, hfile₁, by rw [hpool₁]; exact hpoolM, by rw [hvmU]; exact hclsR₁, by rw [hvmU]; exact htk₁, hitf₁⟩) (by rw [hvmU]; exact hready₁) (by rw [hvmU, htc]; exact htk₁) (by rw [hvmU]; exact hmethT₁) hpoly hstT (by have := hd.2.2; rw [hsigT] at this; exact (Option.some.inj this).symm) rfl
      (by rw [hheapU]; exact hcellO) (fun z h => by rw [h] at hobjO; cases hobjO) (by rw [hvmU, hclsO, Launch.admits_selectMethod X.admits, hW₁.alike.selectMethod]; exact q4) (by rw [hvmU]; exact hmethT₁) habT (by rw [hvmU, htc]; exact htk₁) hitf₁]
    intro acts'
    rw [doInvoke_state]
    refine hsteps.trans ?_
    show Steps p.tables e (.java (F0 m pc ls rest) :: below) (U'.setTop { method := ⟨E.2 (10 + i), 1⟩, pc := 9, locals := #[.val (.ref la), .val (.int a), .val (.int b)], stack := [.int rr], locked := none }) _
    jvm_step X'.here [X'.here.top, hx0, hbytes₁, lbA_9, (show U'.vm.method? ⟨E.2 (10 + i), 1⟩ = some methk₁ from X'.method'), hretk₁, hret, hnr]
    intro acts''
    rw [hleave { method := ⟨E.2 (10 + i), 1⟩, pc := 9, locals := #[.val (.ref la), .val (.int a), .val (.int b)], stack := [], locked := none } acts'' rfl rfl rfl]
    exact Steps.refl _

set_option maxHeartbeats 1000000 in
theorem va_runLC {x y : MethodName} {bytes : ByteArray} {maxL rf rl index count i : Nat} {ty : FieldType} (hi : i = 8) (C : xC E p s m args c cc nL own) (hZ : zK E A s s.heap) (hB : xB E A s w H locs) {q : Nat}
    (hM : Met l y (ws_ y bytes maxL (some ty)) (rm_ rf rl mc ms) (xPz E w H.size [.ref o, .ref q]) Qc mc ms free)
    (hret : (lam i).sam.returnType = some ty) (hx : x = ⟨(lam i).iface, (lam i).name, (lam i).sam.toString⟩) (hy : y = ⟨"BookPairs", (lam i).implName, (lam i).implDesc.toString⟩)
    (hlk : Cond.methodLink own index x ∈ lw_all) (hif : x ∈ lifl) (hin : Cond.instanceMethod y ∈ lw_all) (hini : Cond.initialized y.cls ∈ lw_all) (hco : Cond.code y bytes maxL (some ty) ∈ lw_all) (hse : Cond.selects "BookPairs" y y ∈ lw_all)
    (hd : (x.cls ≠ "java/lang/invoke/MethodHandle" ∧ x.cls ≠ "java/lang/invoke/VarHandle") ∧ (parseMethodDescriptor x.desc).map (fun d => d.parameters.length) = some 1 ∧ (parseMethodDescriptor y.desc).map (fun d => d.parameters.length) = some 1) (hR : rf + 2 ≤ R.frames ∧ 8 + (2 + 11) + (8 + (maxL + 11) + rl) ≤ R.locals)
    (hla : w la = some (.inr { cls := E.2 (10 + i), slots := #[.ref o], vm := .none })) (ho : w o = some (xO 0 fs)) (hQ : ∀ a st v t, Qc a st (.returned v) t → ∃ r, v = some (.int r) ∧ narrow ty (.int r) = .int r)
    (hl : ls.size = nL) (hst : st0 = [.ref q].reverse ++ .ref la :: rest) (hW : (rest.map fun v => v.category).sum ≤ 8) (hdg : decode cc pc = .ok (.invokeinterface index count, 5)) (hcs : cells + mc ≤ R.cells ∧ slots + ms ≤ R.slots) :
    va_Run5 p l e R s m args below meth c H locs cells slots mc ms (F0 m pc ls st0) rest (Qc [.ref o, .ref q].toArray) free := by
  subst hst
  have hec := hB.1 o _ ho
  obtain ⟨⟨hx0, hb, hml, hown, hts⟩, hK⟩ := C
  have hi10 : i < 10 := by omega
  obtain ⟨hif1, hif2⟩ := hZ.1.2.2.2.2.2.2.2.1 x hif
  obtain ⟨r0, r, hn, hrm, hstR, hsigR⟩ := Cond.declares_spec hif1
  obtain ⟨cL, kL, r1, hcL, hkL, hiL, hfoundL, hn1⟩ := Cond.interfaceMethod_spec hif2
  cases hn.symm.trans hn1
  have hr0cls : r0.cls = cL := Option.some.inj ((findClass_of_methodNamed hn).symm.trans hcL)
  obtain ⟨hnameR, hdescR⟩ := name_of_methodNamed hn hrm
  obtain ⟨d, dk, hd1, hd2, hd3, hmade, hcan⟩ := hZ.1.2.2.2.2.2.1 i hi10
  obtain ⟨-, -, -, -, -, -, -, iface', -, -, -, -, found, -, -, -, -, -, hi', -, -, -, -, -, -, hfound', -, -, -, -, -, -, -, -, -, -, hsel⟩ := Lambda.isMade_spec hmade
  have hxl : x.desc = (lam i).sam.toString ∧ x.name = (lam i).name ∧ x.cls = (lam i).iface := by rw [hx]; exact ⟨rfl, rfl, rfl⟩
  obtain ⟨x1, x2, x3⟩ := hxl
  rw [x3] at hcL
  cases hcL.symm.trans hi'
  have hfr : found = r0 := by
    have h1 : s.methodFound? (lam i).iface (lam i).name (lam i).sam.toString = some r0 := by rw [← x1, ← x2, ← x3]; exact hfoundL
    simp only [State.methodFound?, hcL, hkL, hiL, Option.bind_eq_bind, Option.bind_some] at h1
    rw [hfound'] at h1
    exact Option.some.inj h1
  subst hfr
  obtain ⟨i2, hi2, hasg, hway⟩ := State.lambdaCallable_spec hcan
  cases hcL.symm.trans hi2
  obtain ⟨kK, tk, file, methk, ckK, toy, tt, f0, hkK, hkn, hfile, hpool, hmk, hckK, hbytes, hmlK, hlkK, hfl, hretk, -⟩ := lam_made hi10 hd2 hd3 hmade (lam_hO (Vm.Alike.refl _) (hts _ q1789))
  obtain ⟨mT, methT, hmT, hmethT, hstT, habT⟩ := Cond.instanceMethod_spec (hts _ hin)
  obtain ⟨methT', cT, hmethT', -, -, -, -, -, -, hsigT⟩ := Cond.code_spec hmT (hts _ hco)
  cases hmethT.symm.trans hmethT'
  have hyc : y.cls = "BookPairs" ∧ y.name = (lam i).implName ∧ y.desc = (lam i).implDesc.toString := by rw [hy]; exact ⟨rfl, rfl, rfl⟩
  obtain ⟨y1, y2, y3⟩ := hyc
  have hynm : y.cls ≠ "java/lang/invoke/MethodHandle" ∧ y.cls ≠ "java/lang/invoke/VarHandle" := by rw [y1]; decide
  obtain ⟨c2, r2, m2, q1, q2, q3, q4, kP, hkP, hkPi⟩ := Cond.selects_spec (hts _ hse)
  cases (State.methodFound?_of_named hmT hynm).symm.trans q2
  cases hmT.symm.trans q3
  obtain ⟨cellO, hcellO, hclsO, hobjO⟩ : ∃ cellO : Cell, H[o]? = some cellO ∧ cellO.cls = c2 ∧ cellO.vm.isStatics = false := by
    obtain ⟨cell, h1, h2, h3⟩ := xrecv hK hB.1 ho rfl
    exact ⟨cell, h1, by have := h3.symm.trans q1; exact Option.some.inj this, h2⟩
  have hlac : H[la]? = some { cls := E.2 (10 + i), slots := #[.ref o], vm := .none } := hB.1 la _ hla
  intro T hT X
  obtain ⟨vm₁, X₁, hstep₁⟩ := X.invokeinterface hx0 hown (hts _ hlk) hn hrm hstR (by rw [hr0cls]; exact hkL) hiL hd.1 (a := la) (kcell := kK) (by rw [hT]; exact hlac) (fun z h => by cases h) hkK (by rw [hr0cls]; exact hasg)
    (m' := ⟨E.2 (10 + i), 1⟩) (meth' := methk) (by rw [Launch.admits_selectMethod X.admits]; exact hsel) hmk (by rw [hnameR, hdescR, x1, x2]; exact hway) (by rw [hfl]; decide) (by simp [Method.isAbstract, hfl, hasFlag, Acc.abstract])
    (g := F0 m pc ls ([.ref q].reverse ++ .ref la :: rest)) rfl (argsL := [.ref q]) (rest := rest) (by have := hd.2.1; rw [hsigR] at this; exact (Option.some.inj this).symm) rfl (by rw [hb]; exact hdg)
  have hW₁ : s.WarmedH vm₁ := X₁.warmed
  obtain ⟨dk₁, hdk₁, he₁⟩ := hW₁.alike.2.2 _ _ hd2
  obtain ⟨kK₁, tk₁, file₁, methk₁, ckK₁, toy₁, t₁, f0₁, hkK₁, hkn₁, hfile₁, hpool₁, hmk₁, hckK₁, hbytes₁, hml₁, hlk₁, hfl₁, hretk₁, htoy₁, htk₁, hitf₁, hlook₁, hready₁, hclsR₁, hfr₁, hfs₁, hf0₁, hf9₁, hkd₁, hit₁⟩ := lam_made hi10 hdk₁ (by rw [he₁]; exact hd3) (Lambda.isMade_warmer hW₁ hmade) (lam_hO hW₁.alike (hts _ q1789))
  have hq1' : vm₁.findClass "BookPairs" = some c2 := by rw [hW₁.alike.findClass]; exact q1
  cases htoy₁.symm.trans hq1'
  have ht₁ : t₁ = mT := by
    have h1 : (s.setVm vm₁).methodFound? "BookPairs" (lam i).implName (lam i).implDesc.toString = some mT := by
      rw [State.methodFound?_setVm hW₁.alike, ← y1, ← y2, ← y3]
      exact State.methodFound?_of_named hmT hynm
    simp only [State.methodFound?, State.vm_setVm, hq1', htk₁, Option.bind_eq_bind, Option.bind_some] at h1
    rw [hlook₁] at h1
    exact Option.some.inj h1
  subst ht₁
  have hmethT₁ : vm₁.method? t₁ = some methT := by rw [hW₁.alike.method?]; exact hmethT
  have htc : t₁.cls = c2 := Option.some.inj ((findClass_of_methodNamed hmT).symm.trans (by rw [y1]; exact q1))
  have hnm : tk₁.name ≠ "java/lang/invoke/MethodHandle" ∧ tk₁.name ≠ "java/lang/invoke/VarHandle" := by
    obtain ⟨k5, hk5, hn5⟩ := className_of_methodNamed hmT
    obtain ⟨k6, hk6, he6⟩ := hW₁.alike.2.2 _ _ hk5
    rw [htc] at hk6
    cases htk₁.symm.trans hk6
    rw [he6]
    show k5.name ≠ _ ∧ k5.name ≠ _
    rw [hn5]
    exact hynm
  have hpoly : signaturePolymorphic tk₁ methT = false := by simp [signaturePolymorphic, hnm.1, hnm.2]
  have hpk : (T.setVm vm₁).plainMethod ⟨E.2 (10 + i), 1⟩ := State.plainMethod.of_name (fun k' hk' => by cases hkK₁.symm.trans hk'; rw [hkn₁]; decide)
  have hsz : (F0 m pc ls rest).locals.size = c.maxLocals := hl.trans hml.symm
  have hdg' : decode c.code pc = .ok (.invokeinterface index count, 5) := by rw [hb]; exact hdg
  have hB0 : lamB i = lamB 8 := by rw [hi]
  have hML0 : lamML i = 2 := by rw [hi]; rfl
  have hM0 : lamM i = 22 := by rw [hi]; rfl
  have hF0 : lamF i = 15 := by rw [hi]; rfl
  have hpoolM : (lamD i).constantPool[22]? = some (.methodref (lamC i) (if i < 9 then 21 else 26)) := by rw [← hM0]; exact (lam_st3 i hi10).1
  rw [hB0] at hbytes₁
  rw [hML0] at hml₁
  rw [hM0] at hready₁
  rw [hF0] at hfr₁
  obtain ⟨Y₀, hin₀⟩ := X₁.into (g := F0 m pc ls rest) rfl hsz hdg' #[.ref la, .ref q] (R' := { frames := rf + 1, locals := 8 + (maxL + 11) + rl, cells := mc, slots := ms }) hmk₁ hckK₁ hlk₁ hpk
    (by show rf + 1 + 1 ≤ _; exact hR.1) (by rw [hml₁]; show 2 * 0 + (rest.map fun v => v.category).sum + (2 + 11) + (8 + (maxL + 11) + rl) ≤ R.locals; have := hR.2; omega) hcs.1 hcs.2
  generalize hU : ((T.setVm vm₁).setTop (F0 m pc ls rest)).pushFrame (.java (entryFrame ⟨E.2 (10 + i), 1⟩ #[.ref la, .ref q] ckK₁.maxLocals)) = U at Y₀ hin₀
  have hvmU : U.vm = vm₁ := by rw [← hU]; rfl
  have hheapU : U.heap = H := by rw [← hU]; exact hT
  have hK2 : Back l { frames := rf + 1, locals := 8 + (maxL + 11) + rl, cells := mc, slots := ms } p e (.java (F0 m pc ls rest) :: below) ((T.setVm vm₁).calling (F0 m pc ls rest) ⟨E.2 (10 + i), 1⟩ #[.ref la, .ref q]) #[.ref la, .ref q] y 3 8 (PreOf { frames := rf + 1, locals := 8 + (maxL + 11) + rl, cells := mc, slots := ms } mc ms (xPz E w H.size [.ref o, .ref q])) (PostOf Qc mc ms free) :=
    back_of (bytes := bytes) (maxL := maxL) (ret := some ty) hM xPz.blind rfl rfl (Nat.le_refl _) (Nat.le_refl _) (fun w0 hw0 a' U0 hWU => word_at (State.WarmedH.trans X₁.warmed hWU) (lw_meth hco w0 hw0).2 (hts w0 (lw_meth hco w0 hw0).1)) (by unfold ws_; exact List.mem_cons_self)
      (fun a' U0 hWU => word_at (State.WarmedH.trans X₁.warmed hWU) (Or.inl (by first | rfl | simp [Cond.onTables, Cond.keeps, Cond.steady])) (hts _ hini))
  obtain ⟨v, ⟨U', l2, c2', s2'⟩, X', ⟨g', mk', t', L, e1, e2, hq, h1, hL, h2, h3⟩, hsteps⟩ := hK2 ⟨E.2 (10 + i), 1⟩ methk₁ ckK₁ ⟨U, [], 0, 0⟩ { method := ⟨E.2 (10 + i), 1⟩, pc := 5, locals := #[.val (.ref la), .val (.ref q)], stack := [], locked := none } (.invokevirtual 22) t₁ [.ref o, .ref q].toArray Y₀ rfl (by rw [hml₁]; rfl) (by rw [hbytes₁]; exact lbC_5) (Nat.zero_le _)
    (by have h5 := State.methodNamed?_setVm (s := s) hW₁.alike y; rw [hmT] at h5; show U.methodNamed? y = _; rw [← h5]; unfold State.methodNamed?; rw [hvmU]; rfl) ⟨by show 0 + mc ≤ mc; omega, by show 0 + ms ≤ ms; omega, xPz.at hB hK hZ hheapU (by rw [hvmU]; exact hW₁)⟩
  dsimp only [Pt.U, Pt.locs, Pt.cells, Pt.slots] at X' e1 e2 h1 h2 h3 hsteps hq
  subst h1
  subst h2
  subst h3
  obtain ⟨rr, rfl, hnr⟩ := hQ _ _ _ _ hq
  obtain ⟨fs', hleave, -, hended, hWe, hsame⟩ := X'.leave (v := some (.int rr)) (fun h => by rw [hretk₁, hret] at h; cases h) hlk₁
  obtain ⟨T', XF, hWF, -, ht⟩ := X₁.outOf (g := F0 m pc ls rest) rfl hdg' hended hWe hsame
  have hth : T'.heap = U'.heap := (congrArg State.heap ht).symm
  have htv : T'.vm = U'.vm := (congrArg State.vm ht).symm
  refine ⟨some (.int rr), U.calling g' mk' [.ref o, .ref q].toArray, t', T', l2, (show U.heap = H from hheapU), ?_, hL, hth.trans e1, htv.trans e2, hq, fun target h => hstep₁ _ fun acts => ?_⟩
  · have e6 : cells + mc = cells + (0 + mc) := by omega
    have e7 : slots + ms = slots + (0 + ms) := by omega
    rw [e6, e7]
    exact XF
  · have hin' := hin₀ acts
    refine (show Steps p.tables e below (doInvoke e ((T.setVm vm₁).setTop (F0 m pc ls rest)) acts ⟨E.2 (10 + i), 1⟩ #[.ref la, .ref q]).1 target from ?_)
    rw [hin']
    refine Steps.trans ?_ h
    show Steps p.tables e below _ (T'.setTop { F0 m pc ls rest with pc := pc + 5, stack := (some (Value.int rr)).toList ++ rest })
    have ht2 : U'.setFrames fs' = T'.setTop { F0 m pc ls rest with pc := pc + 5, stack := (some (Value.int rr)).toList ++ rest } := ht
    rw [← ht2]
    refine Steps.weaken (mid := [.java (F0 m pc ls rest)]) ?_
    have hloc : entryFrame ⟨E.2 (10 + i), 1⟩ #[.ref la, .ref q] ckK₁.maxLocals = { method := ⟨E.2 (10 + i), 1⟩, pc := 0, locals := #[.val (.ref la), .val (.ref q)], stack := [], locked := none } := by rw [hml₁]; rfl
    rw [hloc]
    have hs : U.topJava?.isSome := Y₀.here.top
    jvm_step Y₀.here [hx0, hbytes₁, lbC_0, Value.isRef]
    jvm_step Y₀.here [hx0, hbytes₁, lbC_1, getfield.wp_ready (e := e) (s := U) (c := E.2 (10 + i)) (field := f0₁) (a := la) (rest := []) (cell := { cls := E.2 (10 + i), slots := #[.ref o], vm := .none }) (v := .ref o)
      (f := { method := ⟨E.2 (10 + i), 1⟩, pc := 1, locals := #[.val (.ref la), .val (.ref q)], stack := .ref la :: [], locked := none }) hs (by rw [hvmU]; exact hfr₁) hfs₁ rfl (by rw [hheapU]; exact hlac) (by intro h; cases h) (by rw [hf0₁]; rfl)]
    jvm_step Y₀.here [hx0, hbytes₁, lbC_4, Value.isRef]
    jvm_step Y₀.here [hx0, hbytes₁, lbC_5, invokevirtual.wp_ready (e := e) (s := U) (r := t₁) (m := t₁) (k := tk₁) (mk := tk₁) (rmeth := methT) (meth := methT) (a := o) (args := [.ref q]) (rest := []) (cell := cellO)
      (f := { method := ⟨E.2 (10 + i), 1⟩, pc := 5, locals := #[.val (.ref la), .val (.ref q)], stack := [.ref q, .ref o], locked := none }) hs (⟨kK₁, file₁, _, _, c2, tk₁, by rw [hvmU]; exact hkK₁, hfile₁, by rw [hpool₁]; exact hpoolM, by rw [hvmU]; exact hclsR₁, by rw [hvmU]; exact htk₁, hitf₁⟩) (by rw [hvmU]; exact hready₁) (by rw [hvmU, htc]; exact htk₁) (by rw [hvmU]; exact hmethT₁) hpoly hstT (by have := hd.2.2; rw [hsigT] at this; exact (Option.some.inj this).symm) rfl
      (by rw [hheapU]; exact hcellO) (fun z h => by rw [h] at hobjO; cases hobjO) (by rw [hvmU, hclsO, Launch.admits_selectMethod X.admits, hW₁.alike.selectMethod]; exact q4) (by rw [hvmU]; exact hmethT₁) habT (by rw [hvmU, htc]; exact htk₁) hitf₁]
    intro acts'
    rw [doInvoke_state]
    refine hsteps.trans ?_
    show Steps p.tables e (.java (F0 m pc ls rest) :: below) (U'.setTop { method := ⟨E.2 (10 + i), 1⟩, pc := 8, locals := #[.val (.ref la), .val (.ref q)], stack := [.int rr], locked := none }) _
    jvm_step X'.here [X'.here.top, hx0, hbytes₁, lbC_8, (show U'.vm.method? ⟨E.2 (10 + i), 1⟩ = some methk₁ from X'.method'), hretk₁, hret, hnr]
    intro acts''
    rw [hleave { method := ⟨E.2 (10 + i), 1⟩, pc := 8, locals := #[.val (.ref la), .val (.ref q)], stack := [], locked := none } acts'' rfl rfl rfl]
    exact Steps.refl _

set_option maxHeartbeats 1000000 in
theorem va_runLD {x y : MethodName} {bytes : ByteArray} {maxL rf rl index count i : Nat} {ty : FieldType} (hi : i = 9) (C : xC E p s m args c cc nL own) (hZ : zK E A s s.heap) (hB : xB E A s w H locs) {q : Nat} {z : Int32}
    (hM : Met l y (ws_ y bytes maxL (some ty)) (rm_ rf rl mc ms) (xPz E w H.size [.ref o, .int z, .ref q]) Qc mc ms free)
    (hret : (lam i).sam.returnType = some ty) (hx : x = ⟨(lam i).iface, (lam i).name, (lam i).sam.toString⟩) (hy : y = ⟨"BookPairs", (lam i).implName, (lam i).implDesc.toString⟩)
    (hlk : Cond.methodLink own index x ∈ lw_all) (hif : x ∈ lifl) (hin : Cond.instanceMethod y ∈ lw_all) (hini : Cond.initialized y.cls ∈ lw_all) (hco : Cond.code y bytes maxL (some ty) ∈ lw_all) (hse : Cond.selects "BookPairs" y y ∈ lw_all)
    (hd : (x.cls ≠ "java/lang/invoke/MethodHandle" ∧ x.cls ≠ "java/lang/invoke/VarHandle") ∧ (parseMethodDescriptor x.desc).map (fun d => d.parameters.length) = some 1 ∧ (parseMethodDescriptor y.desc).map (fun d => d.parameters.length) = some 2) (hR : rf + 2 ≤ R.frames ∧ 8 + (2 + 11) + (8 + (maxL + 11) + rl) ≤ R.locals)
    (hla : w la = some (.inr { cls := E.2 (10 + i), slots := #[.ref o, .int z], vm := .none })) (ho : w o = some (xO 0 fs)) (hQ : ∀ a st v t, Qc a st (.returned v) t → ∃ r, v = some (.int r) ∧ narrow ty (.int r) = .int r)
    (hl : ls.size = nL) (hst : st0 = [.ref q].reverse ++ .ref la :: rest) (hW : (rest.map fun v => v.category).sum ≤ 8) (hdg : decode cc pc = .ok (.invokeinterface index count, 5)) (hcs : cells + mc ≤ R.cells ∧ slots + ms ≤ R.slots) :
    va_Run5 p l e R s m args below meth c H locs cells slots mc ms (F0 m pc ls st0) rest (Qc [.ref o, .int z, .ref q].toArray) free := by
  subst hst
  have hec := hB.1 o _ ho
  obtain ⟨⟨hx0, hb, hml, hown, hts⟩, hK⟩ := C
  have hi10 : i < 10 := by omega
  obtain ⟨hif1, hif2⟩ := hZ.1.2.2.2.2.2.2.2.1 x hif
  obtain ⟨r0, r, hn, hrm, hstR, hsigR⟩ := Cond.declares_spec hif1
  obtain ⟨cL, kL, r1, hcL, hkL, hiL, hfoundL, hn1⟩ := Cond.interfaceMethod_spec hif2
  cases hn.symm.trans hn1
  have hr0cls : r0.cls = cL := Option.some.inj ((findClass_of_methodNamed hn).symm.trans hcL)
  obtain ⟨hnameR, hdescR⟩ := name_of_methodNamed hn hrm
  obtain ⟨d, dk, hd1, hd2, hd3, hmade, hcan⟩ := hZ.1.2.2.2.2.2.1 i hi10
  obtain ⟨-, -, -, -, -, -, -, iface', -, -, -, -, found, -, -, -, -, -, hi', -, -, -, -, -, -, hfound', -, -, -, -, -, -, -, -, -, -, hsel⟩ := Lambda.isMade_spec hmade
  have hxl : x.desc = (lam i).sam.toString ∧ x.name = (lam i).name ∧ x.cls = (lam i).iface := by rw [hx]; exact ⟨rfl, rfl, rfl⟩
  obtain ⟨x1, x2, x3⟩ := hxl
  rw [x3] at hcL
  cases hcL.symm.trans hi'
  have hfr : found = r0 := by
    have h1 : s.methodFound? (lam i).iface (lam i).name (lam i).sam.toString = some r0 := by rw [← x1, ← x2, ← x3]; exact hfoundL
    simp only [State.methodFound?, hcL, hkL, hiL, Option.bind_eq_bind, Option.bind_some] at h1
    rw [hfound'] at h1
    exact Option.some.inj h1
  subst hfr
  obtain ⟨i2, hi2, hasg, hway⟩ := State.lambdaCallable_spec hcan
  cases hcL.symm.trans hi2
  obtain ⟨kK, tk, file, methk, ckK, toy, tt, f0, hkK, hkn, hfile, hpool, hmk, hckK, hbytes, hmlK, hlkK, hfl, hretk, -⟩ := lam_made hi10 hd2 hd3 hmade (lam_hO (Vm.Alike.refl _) (hts _ q1789))
  obtain ⟨mT, methT, hmT, hmethT, hstT, habT⟩ := Cond.instanceMethod_spec (hts _ hin)
  obtain ⟨methT', cT, hmethT', -, -, -, -, -, -, hsigT⟩ := Cond.code_spec hmT (hts _ hco)
  cases hmethT.symm.trans hmethT'
  have hyc : y.cls = "BookPairs" ∧ y.name = (lam i).implName ∧ y.desc = (lam i).implDesc.toString := by rw [hy]; exact ⟨rfl, rfl, rfl⟩
  obtain ⟨y1, y2, y3⟩ := hyc
  have hynm : y.cls ≠ "java/lang/invoke/MethodHandle" ∧ y.cls ≠ "java/lang/invoke/VarHandle" := by rw [y1]; decide
  obtain ⟨c2, r2, m2, q1, q2, q3, q4, kP, hkP, hkPi⟩ := Cond.selects_spec (hts _ hse)
  cases (State.methodFound?_of_named hmT hynm).symm.trans q2
  cases hmT.symm.trans q3
  obtain ⟨cellO, hcellO, hclsO, hobjO⟩ : ∃ cellO : Cell, H[o]? = some cellO ∧ cellO.cls = c2 ∧ cellO.vm.isStatics = false := by
    obtain ⟨cell, h1, h2, h3⟩ := xrecv hK hB.1 ho rfl
    exact ⟨cell, h1, by have := h3.symm.trans q1; exact Option.some.inj this, h2⟩
  have hlac : H[la]? = some { cls := E.2 (10 + i), slots := #[.ref o, .int z], vm := .none } := hB.1 la _ hla
  intro T hT X
  obtain ⟨vm₁, X₁, hstep₁⟩ := X.invokeinterface hx0 hown (hts _ hlk) hn hrm hstR (by rw [hr0cls]; exact hkL) hiL hd.1 (a := la) (kcell := kK) (by rw [hT]; exact hlac) (fun z h => by cases h) hkK (by rw [hr0cls]; exact hasg)
    (m' := ⟨E.2 (10 + i), 1⟩) (meth' := methk) (by rw [Launch.admits_selectMethod X.admits]; exact hsel) hmk (by rw [hnameR, hdescR, x1, x2]; exact hway) (by rw [hfl]; decide) (by simp [Method.isAbstract, hfl, hasFlag, Acc.abstract])
    (g := F0 m pc ls ([.ref q].reverse ++ .ref la :: rest)) rfl (argsL := [.ref q]) (rest := rest) (by have := hd.2.1; rw [hsigR] at this; exact (Option.some.inj this).symm) rfl (by rw [hb]; exact hdg)
  have hW₁ : s.WarmedH vm₁ := X₁.warmed
  obtain ⟨dk₁, hdk₁, he₁⟩ := hW₁.alike.2.2 _ _ hd2
  obtain ⟨kK₁, tk₁, file₁, methk₁, ckK₁, toy₁, t₁, f0₁, hkK₁, hkn₁, hfile₁, hpool₁, hmk₁, hckK₁, hbytes₁, hml₁, hlk₁, hfl₁, hretk₁, htoy₁, htk₁, hitf₁, hlook₁, hready₁, hclsR₁, hfr₁, hfs₁, hf0₁, hf9₁, hkd₁, hit₁⟩ := lam_made hi10 hdk₁ (by rw [he₁]; exact hd3) (Lambda.isMade_warmer hW₁ hmade) (lam_hO hW₁.alike (hts _ q1789))
  have hq1' : vm₁.findClass "BookPairs" = some c2 := by rw [hW₁.alike.findClass]; exact q1
  cases htoy₁.symm.trans hq1'
  have ht₁ : t₁ = mT := by
    have h1 : (s.setVm vm₁).methodFound? "BookPairs" (lam i).implName (lam i).implDesc.toString = some mT := by
      rw [State.methodFound?_setVm hW₁.alike, ← y1, ← y2, ← y3]
      exact State.methodFound?_of_named hmT hynm
    simp only [State.methodFound?, State.vm_setVm, hq1', htk₁, Option.bind_eq_bind, Option.bind_some] at h1
    rw [hlook₁] at h1
    exact Option.some.inj h1
  subst ht₁
  have hmethT₁ : vm₁.method? t₁ = some methT := by rw [hW₁.alike.method?]; exact hmethT
  have htc : t₁.cls = c2 := Option.some.inj ((findClass_of_methodNamed hmT).symm.trans (by rw [y1]; exact q1))
  have hnm : tk₁.name ≠ "java/lang/invoke/MethodHandle" ∧ tk₁.name ≠ "java/lang/invoke/VarHandle" := by
    obtain ⟨k5, hk5, hn5⟩ := className_of_methodNamed hmT
    obtain ⟨k6, hk6, he6⟩ := hW₁.alike.2.2 _ _ hk5
    rw [htc] at hk6
    cases htk₁.symm.trans hk6
    rw [he6]
    show k5.name ≠ _ ∧ k5.name ≠ _
    rw [hn5]
    exact hynm
  have hpoly : signaturePolymorphic tk₁ methT = false := by simp [signaturePolymorphic, hnm.1, hnm.2]
  have hpk : (T.setVm vm₁).plainMethod ⟨E.2 (10 + i), 1⟩ := State.plainMethod.of_name (fun k' hk' => by cases hkK₁.symm.trans hk'; rw [hkn₁]; decide)
  have hsz : (F0 m pc ls rest).locals.size = c.maxLocals := hl.trans hml.symm
  have hdg' : decode c.code pc = .ok (.invokeinterface index count, 5) := by rw [hb]; exact hdg
  have hB0 : lamB i = lamB 9 := by rw [hi]
  have hML0 : lamML i = 2 := by rw [hi]; rfl
  have hM0 : lamM i = 27 := by rw [hi]; rfl
  have hF0 : lamF i = 17 := by rw [hi]; rfl
  have hpoolM : (lamD i).constantPool[27]? = some (.methodref (lamC i) (if i < 9 then 21 else 26)) := by rw [← hM0]; exact (lam_st3 i hi10).1
  rw [hB0] at hbytes₁
  rw [hML0] at hml₁
  rw [hM0] at hready₁
  rw [hF0] at hfr₁
  obtain ⟨Y₀, hin₀⟩ := X₁.into (g := F0 m pc ls rest) rfl hsz hdg' #[.ref la, .ref q] (R' := { frames := rf + 1, locals := 8 + (maxL + 11) + rl, cells := mc, slots := ms }) hmk₁ hckK₁ hlk₁ hpk
    (by show rf + 1 + 1 ≤ _; exact hR.1) (by rw [hml₁]; show 2 * 0 + (rest.map fun v => v.category).sum + (2 + 11) + (8 + (maxL + 11) + rl) ≤ R.locals; have := hR.2; omega) hcs.1 hcs.2
  generalize hU : ((T.setVm vm₁).setTop (F0 m pc ls rest)).pushFrame (.java (entryFrame ⟨E.2 (10 + i), 1⟩ #[.ref la, .ref q] ckK₁.maxLocals)) = U at Y₀ hin₀
  have hvmU : U.vm = vm₁ := by rw [← hU]; rfl
  have hheapU : U.heap = H := by rw [← hU]; exact hT
  have hK2 : Back l { frames := rf + 1, locals := 8 + (maxL + 11) + rl, cells := mc, slots := ms } p e (.java (F0 m pc ls rest) :: below) ((T.setVm vm₁).calling (F0 m pc ls rest) ⟨E.2 (10 + i), 1⟩ #[.ref la, .ref q]) #[.ref la, .ref q] y 3 8 (PreOf { frames := rf + 1, locals := 8 + (maxL + 11) + rl, cells := mc, slots := ms } mc ms (xPz E w H.size [.ref o, .int z, .ref q])) (PostOf Qc mc ms free) :=
    back_of (bytes := bytes) (maxL := maxL) (ret := some ty) hM xPz.blind rfl rfl (Nat.le_refl _) (Nat.le_refl _) (fun w0 hw0 a' U0 hWU => word_at (State.WarmedH.trans X₁.warmed hWU) (lw_meth hco w0 hw0).2 (hts w0 (lw_meth hco w0 hw0).1)) (by unfold ws_; exact List.mem_cons_self)
      (fun a' U0 hWU => word_at (State.WarmedH.trans X₁.warmed hWU) (Or.inl (by first | rfl | simp [Cond.onTables, Cond.keeps, Cond.steady])) (hts _ hini))
  obtain ⟨v, ⟨U', l2, c2', s2'⟩, X', ⟨g', mk', t', L, e1, e2, hq, h1, hL, h2, h3⟩, hsteps⟩ := hK2 ⟨E.2 (10 + i), 1⟩ methk₁ ckK₁ ⟨U, [], 0, 0⟩ { method := ⟨E.2 (10 + i), 1⟩, pc := 9, locals := #[.val (.ref la), .val (.ref q)], stack := [], locked := none } (.invokevirtual 27) t₁ [.ref o, .int z, .ref q].toArray Y₀ rfl (by rw [hml₁]; rfl) (by rw [hbytes₁]; exact lbD_9) (Nat.zero_le _)
    (by have h5 := State.methodNamed?_setVm (s := s) hW₁.alike y; rw [hmT] at h5; show U.methodNamed? y = _; rw [← h5]; unfold State.methodNamed?; rw [hvmU]; rfl) ⟨by show 0 + mc ≤ mc; omega, by show 0 + ms ≤ ms; omega, xPz.at hB hK hZ hheapU (by rw [hvmU]; exact hW₁)⟩
  dsimp only [Pt.U, Pt.locs, Pt.cells, Pt.slots] at X' e1 e2 h1 h2 h3 hsteps hq
  subst h1
  subst h2
  subst h3
  obtain ⟨rr, rfl, hnr⟩ := hQ _ _ _ _ hq
  obtain ⟨fs', hleave, -, hended, hWe, hsame⟩ := X'.leave (v := some (.int rr)) (fun h => by rw [hretk₁, hret] at h; cases h) hlk₁
  obtain ⟨T', XF, hWF, -, ht⟩ := X₁.outOf (g := F0 m pc ls rest) rfl hdg' hended hWe hsame
  have hth : T'.heap = U'.heap := (congrArg State.heap ht).symm
  have htv : T'.vm = U'.vm := (congrArg State.vm ht).symm
  refine ⟨some (.int rr), U.calling g' mk' [.ref o, .int z, .ref q].toArray, t', T', l2, (show U.heap = H from hheapU), ?_, hL, hth.trans e1, htv.trans e2, hq, fun target h => hstep₁ _ fun acts => ?_⟩
  · have e6 : cells + mc = cells + (0 + mc) := by omega
    have e7 : slots + ms = slots + (0 + ms) := by omega
    rw [e6, e7]
    exact XF
  · have hin' := hin₀ acts
    refine (show Steps p.tables e below (doInvoke e ((T.setVm vm₁).setTop (F0 m pc ls rest)) acts ⟨E.2 (10 + i), 1⟩ #[.ref la, .ref q]).1 target from ?_)
    rw [hin']
    refine Steps.trans ?_ h
    show Steps p.tables e below _ (T'.setTop { F0 m pc ls rest with pc := pc + 5, stack := (some (Value.int rr)).toList ++ rest })
    have ht2 : U'.setFrames fs' = T'.setTop { F0 m pc ls rest with pc := pc + 5, stack := (some (Value.int rr)).toList ++ rest } := ht
    rw [← ht2]
    refine Steps.weaken (mid := [.java (F0 m pc ls rest)]) ?_
    have hloc : entryFrame ⟨E.2 (10 + i), 1⟩ #[.ref la, .ref q] ckK₁.maxLocals = { method := ⟨E.2 (10 + i), 1⟩, pc := 0, locals := #[.val (.ref la), .val (.ref q)], stack := [], locked := none } := by rw [hml₁]; rfl
    rw [hloc]
    have hs : U.topJava?.isSome := Y₀.here.top
    obtain ⟨f1₁, hg1₁, hg2₁, hg3₁⟩ := hf9₁ hi
    jvm_step Y₀.here [hx0, hbytes₁, lbD_0, Value.isRef]
    jvm_step Y₀.here [hx0, hbytes₁, lbD_1, getfield.wp_ready (e := e) (s := U) (c := E.2 (10 + i)) (field := f0₁) (a := la) (rest := []) (cell := { cls := E.2 (10 + i), slots := #[.ref o, .int z], vm := .none }) (v := .ref o)
      (f := { method := ⟨E.2 (10 + i), 1⟩, pc := 1, locals := #[.val (.ref la), .val (.ref q)], stack := .ref la :: [], locked := none }) hs (by rw [hvmU]; exact hfr₁) hfs₁ rfl (by rw [hheapU]; exact hlac) (by intro h; cases h) (by rw [hf0₁]; rfl)]
    jvm_step Y₀.here [hx0, hbytes₁, lbD_4, Value.isRef]
    jvm_step Y₀.here [hx0, hbytes₁, lbD_5, getfield.wp_ready (e := e) (s := U) (c := E.2 (10 + i)) (field := f1₁) (a := la) (rest := [.ref o]) (cell := { cls := E.2 (10 + i), slots := #[.ref o, .int z], vm := .none }) (v := .int z)
      (f := { method := ⟨E.2 (10 + i), 1⟩, pc := 5, locals := #[.val (.ref la), .val (.ref q)], stack := .ref la :: [.ref o], locked := none }) hs (by rw [hvmU]; exact hg1₁) hg2₁ rfl (by rw [hheapU]; exact hlac) (by intro h; cases h) (by rw [hg3₁]; rfl)]
    jvm_step Y₀.here [hx0, hbytes₁, lbD_8, Value.isRef]
    jvm_step Y₀.here [hx0, hbytes₁, lbD_9, invokevirtual.wp_ready (e := e) (s := U) (r := t₁) (m := t₁) (k := tk₁) (mk := tk₁) (rmeth := methT) (meth := methT) (a := o) (args := [.int z, .ref q]) (rest := []) (cell := cellO)
      (f := { method := ⟨E.2 (10 + i), 1⟩, pc := 9, locals := #[.val (.ref la), .val (.ref q)], stack := [.ref q, .int z, .ref o], locked := none }) hs (⟨kK₁, file₁, _, _, c2, tk₁, by rw [hvmU]; exact hkK₁, hfile₁, by rw [hpool₁]; exact hpoolM, by rw [hvmU]; exact hclsR₁, by rw [hvmU]; exact htk₁, hitf₁⟩) (by rw [hvmU]; exact hready₁) (by rw [hvmU, htc]; exact htk₁) (by rw [hvmU]; exact hmethT₁) hpoly hstT (by have := hd.2.2; rw [hsigT] at this; exact (Option.some.inj this).symm) rfl
      (by rw [hheapU]; exact hcellO) (fun z h => by rw [h] at hobjO; cases hobjO) (by rw [hvmU, hclsO, Launch.admits_selectMethod X.admits, hW₁.alike.selectMethod]; exact q4) (by rw [hvmU]; exact hmethT₁) habT (by rw [hvmU, htc]; exact htk₁) hitf₁]
    intro acts'
    rw [doInvoke_state]
    refine hsteps.trans ?_
    show Steps p.tables e (.java (F0 m pc ls rest) :: below) (U'.setTop { method := ⟨E.2 (10 + i), 1⟩, pc := 12, locals := #[.val (.ref la), .val (.ref q)], stack := [.int rr], locked := none }) _
    jvm_step X'.here [X'.here.top, hx0, hbytes₁, lbD_12, (show U'.vm.method? ⟨E.2 (10 + i), 1⟩ = some methk₁ from X'.method'), hretk₁, hret, hnr]
    intro acts''
    rw [hleave { method := ⟨E.2 (10 + i), 1⟩, pc := 12, locals := #[.val (.ref la), .val (.ref q)], stack := [], locked := none } acts'' rfl rfl rfl]
    exact Steps.refl _
end LC
