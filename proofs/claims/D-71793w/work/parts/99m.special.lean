/-! CALLS that land in a default method of an interface: through the interface, by super -/
set_option maxRecDepth 100000
theorem php : ∀ (n : Nat) (f : Nat → Nat), (∀ i, i ≤ n → f i < n) → ∃ i j, i < j ∧ j ≤ n ∧ f i = f j := by
  intro n
  induction n with
  | zero => intro f h; exact absurd (h 0 (Nat.le_refl _)) (by omega)
  | succ n ih =>
    intro f h
    by_cases g : ∃ i, i ≤ n ∧ f i = f (n + 1)
    · obtain ⟨i, h1, h2⟩ := g
      exact ⟨i, n + 1, by omega, Nat.le_refl _, h2⟩
    · have hne : ∀ i, i ≤ n → f i ≠ f (n + 1) := fun i h1 h2 => g ⟨i, h1, h2⟩
      obtain ⟨i, j, h1, h2, h3⟩ := ih (fun i => if f i > f (n + 1) then f i - 1 else f i) (fun i hi => by
        have a1 := h i (by omega)
        have a2 := h (n + 1) (Nat.le_refl _)
        have a3 := hne i hi
        split <;> omega)
      refine ⟨i, j, h1, by omega, ?_⟩
      have a1 := hne i (by omega)
      have a2 := hne j (by omega)
      split at h3 <;> split at h3 <;> omega
def upN (vm : Vm) (c : ClassId) : Nat → Option ClassId
  | 0 => some c
  | k + 1 => (upN vm c k).bind fun q => (vm.classes[q]?).bind fun x => x.super
theorem up_shift (vm : Vm) (c : ClassId) : ∀ k, upN vm c (k + 1) = ((vm.classes[c]?).bind fun x => x.super).bind fun q => upN vm q k := by
  intro k
  induction k with
  | zero =>
    show ((some c).bind fun q => (vm.classes[q]?).bind fun x => x.super) = _
    cases h : (vm.classes[c]?).bind fun x => x.super with
    | none => simp [h]
    | some q => simp [h, upN]
  | succ k ih =>
    show ((upN vm c (k + 1)).bind fun q => (vm.classes[q]?).bind fun x => x.super) = _
    rw [ih]
    cases h : (vm.classes[c]?).bind fun x => x.super with
    | none => rfl
    | some q => rfl
theorem up_aux (vm : Vm) : ∀ (n : Nat) (c x : ClassId), x ∈ vm.superclassesAux n c → ∃ k, 1 ≤ k ∧ k ≤ n ∧ upN vm c k = some x := by
  intro n
  induction n with
  | zero => intro c x h; simp [Vm.superclassesAux] at h
  | succ n ih =>
    intro c x h
    cases hk : (vm.classes[c]?).bind fun x => x.super with
    | none =>
      have e : vm.superclassesAux (n + 1) c = [] := by
        unfold Vm.superclassesAux
        cases hc : vm.classes[c]? with
        | none => rfl
        | some k =>
          rw [hc] at hk
          have hk : k.super = none := hk
          simp [hk]
      rw [e] at h
      cases h
    | some q =>
      have e : vm.superclassesAux (n + 1) c = q :: vm.superclassesAux n q := by
        cases hc : vm.classes[c]? with
        | none => rw [hc] at hk; cases hk
        | some k =>
          rw [hc] at hk
          have hk : k.super = some q := hk
          simp [Vm.superclassesAux, hc, hk]
      rw [e] at h
      rcases List.mem_cons.mp h with rfl | h
      · exact ⟨1, Nat.le_refl _, by omega, by rw [up_shift, hk]; rfl⟩
      · obtain ⟨k, h1, h2, h3⟩ := ih q x h
        exact ⟨k + 1, by omega, by omega, by rw [up_shift, hk]; exact h3⟩
theorem lk_none (vm : Vm) (name desc : String) : ∀ (n : Nat) (c : ClassId), lookupInSuperclasses vm name desc n c = none → ∀ k q, k < n → upN vm c k = some q → ((vm.classes[q]?).bind fun x => x.findMethod name desc) = none := by
  intro n
  induction n with
  | zero => intro c h k q hk; omega
  | succ n ih =>
    intro c h k q hk hq
    cases hc : vm.classes[c]? with
    | none =>
      cases k with
      | zero => cases hq; rw [hc]; rfl
      | succ k => rw [up_shift, hc] at hq; cases hq
    | some x =>
      have h' : lookupInSuperclasses vm name desc (n + 1) c = (match x.findMethod name desc with | some i => some ⟨c, i⟩ | none => x.super.bind (lookupInSuperclasses vm name desc n)) := by
        simp [lookupInSuperclasses, hc]
        rfl
      rw [h'] at h
      cases hf : x.findMethod name desc with
      | some i => rw [hf] at h; cases h
      | none =>
        rw [hf] at h
        cases k with
        | zero => cases hq; rw [hc]; exact hf
        | succ k =>
          rw [up_shift, hc] at hq
          have hq : (x.super.bind fun q => upN vm q k) = some q := hq
          cases hs : x.super with
          | none => rw [hs] at hq; cases hq
          | some p =>
            rw [hs] at hq h
            exact ih p h k q (by omega) hq
theorem sel_none (vm : Vm) (mR : MethodId) (name desc : String) : ∀ (n : Nat) (c : ClassId), lookupInSuperclasses vm name desc n c = none → selectInSuperclasses vm mR name desc n c = none := by
  intro n
  induction n with
  | zero => intro c h; rfl
  | succ n ih =>
    intro c h
    cases hc : vm.classes[c]? with
    | none => simp [selectInSuperclasses, hc]
    | some x =>
      have h' : lookupInSuperclasses vm name desc (n + 1) c = (match x.findMethod name desc with | some i => some ⟨c, i⟩ | none => x.super.bind (lookupInSuperclasses vm name desc n)) := by
        simp [lookupInSuperclasses, hc]
        rfl
      rw [h'] at h
      cases hf : x.findMethod name desc with
      | some i => rw [hf] at h; cases h
      | none =>
        rw [hf] at h
        cases hs : x.super with
        | none => simp [selectInSuperclasses, hc, hf, hs]
        | some p =>
          rw [hs] at h
          have := ih p h
          simp [selectInSuperclasses, hc, hf, hs, this]
theorem up_rep {vm : Vm} {c : ClassId} {i j : Nat} (h : upN vm c i = upN vm c j) : ∀ t, upN vm c (i + t) = upN vm c (j + t) := by
  intro t
  induction t with
  | zero => exact h
  | succ t ih =>
    show ((upN vm c (i + t)).bind fun q => (vm.classes[q]?).bind fun x => x.super) = ((upN vm c (j + t)).bind fun q => (vm.classes[q]?).bind fun x => x.super)
    rw [ih]
theorem up_valid {vm : Vm} {c : ClassId} : ∀ k, upN vm c (k + 1) ≠ none → ∃ q, upN vm c k = some q ∧ q < vm.classes.size := by
  intro k h
  cases hq : upN vm c k with
  | none =>
    refine absurd ?_ h
    show ((upN vm c k).bind fun q => (vm.classes[q]?).bind fun x => x.super) = none
    rw [hq]; rfl
  | some q =>
    refine ⟨q, rfl, ?_⟩
    cases hc : vm.classes[q]? with
    | none =>
      refine absurd ?_ h
      show ((upN vm c k).bind fun q => (vm.classes[q]?).bind fun x => x.super) = none
      rw [hq]
      show ((vm.classes[q]?).bind fun x => x.super) = none
      rw [hc]; rfl
    | some x => exact (Array.getElem?_eq_some_iff.mp hc).1
theorem up_down {vm : Vm} {c : ClassId} : ∀ k i, i ≤ k → upN vm c k ≠ none → upN vm c i ≠ none := by
  intro k
  induction k with
  | zero => intro i hi h; rw [show i = 0 by omega]; exact h
  | succ k ih =>
    intro i hi h
    by_cases e : i = k + 1
    · rw [e]; exact h
    · obtain ⟨q, hq, -⟩ := up_valid k h
      exact ih i (by omega) (by rw [hq]; exact fun z => by cases z)
theorem deep_none {vm : Vm} {c : ClassId} {name desc : String} (h : lookupInSuperclasses vm name desc (vm.classes.size + 1) c = none) {k : Nat} {q : ClassId} (hk : k ≤ vm.classes.size + 1) (hq : upN vm c k = some q) : ((vm.classes[q]?).bind fun x => x.findMethod name desc) = none := by
  by_cases e : k = vm.classes.size + 1
  · subst e
    have hd : ∀ i, i ≤ vm.classes.size → ∃ q, upN vm c i = some q ∧ q < vm.classes.size := fun i hi =>
      up_valid i (up_down (vm.classes.size + 1) (i + 1) (by omega) (by rw [hq]; exact fun z => by cases z))
    obtain ⟨i, j, h1, h2, h3⟩ := php vm.classes.size (fun i => (upN vm c i).getD 0) (fun i hi => by
      obtain ⟨q, a1, a2⟩ := hd i hi
      show (upN vm c i).getD 0 < _
      rw [a1]
      exact a2)
    obtain ⟨qi, a1, -⟩ := hd i (by omega)
    obtain ⟨qj, b1, -⟩ := hd j (by omega)
    have h3 : (upN vm c i).getD 0 = (upN vm c j).getD 0 := h3
    have h4 : upN vm c i = upN vm c j := by
      rw [a1, b1] at h3 ⊢
      exact congrArg some h3
    have h5 := up_rep h4 (vm.classes.size + 1 - j)
    rw [show j + (vm.classes.size + 1 - j) = vm.classes.size + 1 by omega, hq] at h5
    exact lk_none vm name desc _ c h _ q (by omega) h5
  · exact lk_none vm name desc _ c h k q (by omega) hq
/-- what a special lookup finds, where the class's chain declares nothing -/
theorem special_default {vm : Vm} {c : ClassId} {k : Class} {name desc : String} {r0 : MethodId} {meth : Method} (hk : vm.classes[c]? = some k) (hni : k.isInterface = false) (hup : vm.lookupUp c name desc = some r0) (hm : vm.method? r0 = some meth) (hst : meth.isStatic = false) (hn : meth.name = name) (hd : meth.desc = desc) (hsel : selectMethod {} vm c r0 = .method r0) (hi : ∃ mk, vm.classes[r0.cls]? = some mk ∧ mk.isInterface = true) : lookupSpecial vm c name desc = .method r0 := by
  cases hl : lookupInSuperclasses vm name desc (vm.classes.size + 1) c with
  | some x => exact lookupSpecial_of_lookupUp hk hni hup (by rw [hl]; rfl) hm hst
  | none =>
    have hif : lookupInSuperinterfaces vm c name desc = some r0 := by
      unfold Vm.lookupUp at hup
      rw [hl] at hup
      exact hup
    have hmem : r0 ∈ superinterfaceMethods vm c name desc := by
      unfold lookupInSuperinterfaces at hif
      split at hif
      · rename_i m hm1
        cases hif
        have h1 : r0 ∈ (maximallySpecific vm c name desc).filter fun m => (vm.method? m).any (!·.isAbstract) := by rw [hm1]; exact List.mem_cons_self
        have h2 := (List.mem_filter.mp h1).1
        unfold maximallySpecific at h2
        exact (List.mem_filter.mp h2).1
      · obtain ⟨i, -, h1⟩ := List.exists_of_findSome?_eq_some hif
        exact List.mem_of_find?_eq_some h1
    have hpriv : meth.isPrivate = false := by
      unfold superinterfaceMethods at hmem
      obtain ⟨i, -, h1⟩ := List.mem_filterMap.mp hmem
      simp only [Option.bind_eq_bind, Option.bind_eq_some_iff] at h1
      obtain ⟨k9, -, idx, -, m2, h2, h3⟩ := h1
      split at h3
      · cases h3
      · rename_i hp
        cases h3
        rw [hm] at h2
        cases h2
        simp only [Bool.or_eq_true, not_or, Bool.not_eq_true] at hp
        exact hp.1
    have hown : ((vm.classes[c]?).bind fun x => x.findMethod name desc) = none := deep_none hl (k := 0) (by omega) rfl
    have habove : superclassMethods vm c name desc = [] := by
      unfold superclassMethods
      apply List.filterMap_eq_nil_iff.mpr
      intro q hq
      obtain ⟨k2, h1, h2, h3⟩ := up_aux vm _ c q hq
      have h4 := deep_none hl h2 h3
      show Option.map _ ((vm.classes[q]?).bind fun x => x.findMethod name desc) = none
      rw [h4]
      rfl
    obtain ⟨mk, hmk, hmi⟩ := hi
    unfold selectMethod at hsel
    rw [hm] at hsel
    dsimp only at hsel
    rw [hpriv, hn, hd, sel_none vm r0 name desc _ c hl, hmk] at hsel
    simp only [Bool.false_eq_true, if_false, Option.any_some, hmi, Bool.not_true, Bool.and_false] at hsel
    split at hsel
    · cases hsel
    unfold lookupSpecial
    rw [habove]
    dsimp only
    rw [hown]
    simp only [Option.map_none, Option.toList_none, List.filter_nil, List.append_nil, List.find?_nil]
    exact hsel
section SD
variable {p : Program} {l : Launch} {e : Env} {R : Room} {s : State} {m : MethodId} {args : Array Value} {below : List Frame} {meth : Method} {c : Code} {T : State} {H : Heap} {locs : List Loc} {cells slots mc ms : Nat}
theorem xv_specialD (X : Stand p l e R s m args below meth c T locs cells slots) (hexec : p.tables.exec = Jvm.exec)
    {own owner : String} {index : Nat} {x : MethodName} (hown : s.vm.findClass own = some m.cls) (hlink : (Cond.methodLink own index x).before args s = true)
    (hsame : (Cond.sameMethod x.cls owner x.name x.desc).before args s = true) (hland : (Cond.landsInDefault x.cls x ⟨owner, x.name, x.desc⟩).before args s = true) (hsup : (Cond.superclass own x.cls).before args s = true)
    {r0 : MethodId} {r : Method} (hn : s.methodNamed? ⟨owner, x.name, x.desc⟩ = some r0) (hrm : s.vm.method? r0 = some r) (hstatic : r.isStatic = false) (habs : r.isAbstract = false) (hnoinit : x.name ≠ "<init>")
    {a : Addr} {cell : Cell} {kcell : Class} (hcell : T.heap[a]? = some cell) (hobj : ∀ c, cell.vm ≠ .statics c) (hkcell : s.vm.classes[cell.cls]? = some kcell)
    {g : JFrame} (hg : g.method = m) {argsL rest : List Value} (hlen : argsL.length = r.sig.parameters.length) (hstack : g.stack = argsL.reverse ++ .ref a :: rest)
    (hdg : decode c.code g.pc = .ok (.invokespecial index, 3)) :
    ∃ vm', Stand p l e R s m args below meth c (T.setVm vm') locs cells slots ∧
      ∀ target, Steps p.tables e below (doInvoke e ((T.setVm vm').setTop { g with stack := rest }) [] r0 (.ref a :: argsL).toArray).1 target → Steps p.tables e below (T.setTop g) target := by
  have hpl : e.platform.magicAccessors = ({} : Platform).magicAccessors := by rw [X.admits.platform]
  obtain ⟨cn, ck, r1, hcn, hck, hni, hf, hn1⟩ := Cond.sameMethod_found hsame
  cases hn.symm.trans hn1
  obtain ⟨ps, dk, kp, hps, hd, hkp, hsuper, -, -, hnid⟩ := Cond.superclass_spec hown hsup
  cases hcn.symm.trans hps
  obtain ⟨ci, hl, hright⟩ := Cond.methodLink_specUp hown hcn hck hni hf hlink e.platform hpl (by rw [X.admits.platform])
  obtain ⟨kr, hkr, -⟩ := className_of_methodNamed hn
  obtain ⟨hrn, hrd⟩ := name_of_methodNamed hn hrm
  obtain ⟨dk₀, cfile, nt, _, _, ck₀, _, _, hd₀, hcf, hcp, -, -, -, hc₀, -, hpoly, -⟩ := hl.here
  cases hd.symm.trans hd₀
  cases hck.symm.trans hc₀
  have hup : s.vm.lookupUp cn x.name x.desc = some r0 := ((State.methodFound?_class hcn hck hni hpoly r0).mp hf).1
  obtain ⟨c2, r2, m2, rm, q1, q2, q3, q5, q4, q7, q6, -⟩ := Cond.landsInDefault_spec hland
  cases hcn.symm.trans q1
  cases hf.symm.trans q2
  cases hn.symm.trans q3
  have hfound0 : lookupSpecial s.vm cn x.name x.desc = .method r0 := special_default hck hni hup hrm hstatic hrn hrd q4 q7
  subst hg
  obtain ⟨vm', hW', st⟩ := Steps.invokeSuperColdArgs (tb := p.tables) (e := e) (s₀ := s) (U := T) (f := g) (args := argsL) (rest := rest) (a := a) (cell := cell) (m := r0) X.here hexec hdg X.warmed hl hright hd hcf hcp hrm hck
    (by rw [hrn]; simp [hnoinit]) hstatic (by rw [hrn, hrd, hsuper]; simpa using hfound0) hnid hkr habs hlen hstack hcell hobj hkcell
  exact ⟨vm', X.noted hW', st⟩
end SD
