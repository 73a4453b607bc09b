/-! THE MODEL: one object and its twenty int arrays, all of them fixed; its state is I (the int fields, by place) and F (the arrays, by the field that holds them) -/
set_option maxRecDepth 100000
def mArr (k : Nat) : Option Nat := match k with
  | 2 => some 4
  | 3 => some 4
  | 4 => some 240
  | 10 => some 7
  | 11 => some 7
  | 12 => some 7
  | 13 => some 7
  | 14 => some 7
  | 18 => some 7
  | 19 => some 14
  | 20 => some 14
  | 21 => some 64
  | 22 => some 64
  | 23 => some 64
  | 25 => some 14
  | 26 => some 14
  | 27 => some 14
  | 28 => some 17
  | 30 => some 8
  | 31 => some 8
  | _ => none
abbrev mFs (Ad : Nat → Nat) (I : Nat → Int) : List Value := [.int (iI (I 0)), .int (iI (I 1)), .ref (Ad 2), .ref (Ad 3), .ref (Ad 4), .int (iI (I 5)), .int (iI (I 6)), .int (iI (I 7)), .int (iI (I 8)), .int (iI (I 9)), .ref (Ad 10), .ref (Ad 11), .ref (Ad 12), .ref (Ad 13), .ref (Ad 14), .int (iI (I 15)), .int (iI (I 16)), .int (iI (I 17)), .ref (Ad 18), .ref (Ad 19), .ref (Ad 20), .ref (Ad 21), .ref (Ad 22), .ref (Ad 23), .int (iI (I 24)), .ref (Ad 25), .ref (Ad 26), .ref (Ad 27), .ref (Ad 28), .int (iI (I 29)), .ref (Ad 30), .ref (Ad 31)]
theorem mFs_set {Ad : Nat → Nat} {I : Nat → Int} {z : Int} : ∀ k, k < 32 → mArr k = none → (mFs Ad I).set k (.int (iI z)) = mFs Ad (va_up I k z) := by
  intro k hk hn
  match k, hk, hn with
  | 0, _, _ => rfl
  | 1, _, _ => rfl
  | 2, _, h => exact absurd h (by decide)
  | 3, _, h => exact absurd h (by decide)
  | 4, _, h => exact absurd h (by decide)
  | 5, _, _ => rfl
  | 6, _, _ => rfl
  | 7, _, _ => rfl
  | 8, _, _ => rfl
  | 9, _, _ => rfl
  | 10, _, h => exact absurd h (by decide)
  | 11, _, h => exact absurd h (by decide)
  | 12, _, h => exact absurd h (by decide)
  | 13, _, h => exact absurd h (by decide)
  | 14, _, h => exact absurd h (by decide)
  | 15, _, _ => rfl
  | 16, _, _ => rfl
  | 17, _, _ => rfl
  | 18, _, h => exact absurd h (by decide)
  | 19, _, h => exact absurd h (by decide)
  | 20, _, h => exact absurd h (by decide)
  | 21, _, h => exact absurd h (by decide)
  | 22, _, h => exact absurd h (by decide)
  | 23, _, h => exact absurd h (by decide)
  | 24, _, _ => rfl
  | 25, _, h => exact absurd h (by decide)
  | 26, _, h => exact absurd h (by decide)
  | 27, _, h => exact absurd h (by decide)
  | 28, _, h => exact absurd h (by decide)
  | 29, _, _ => rfl
  | 30, _, h => exact absurd h (by decide)
  | 31, _, h => exact absurd h (by decide)
  | k + 32, h, _ => exact absurd h (by omega)
theorem mFs_i {Ad : Nat → Nat} {I : Nat → Int} : ∀ k, k < 32 → mArr k = none → tyX3 k = .int := by
  intro k hk hn
  match k, hk, hn with
  | 0, _, _ => rfl
  | 1, _, _ => rfl
  | 2, _, h => exact absurd h (by decide)
  | 3, _, h => exact absurd h (by decide)
  | 4, _, h => exact absurd h (by decide)
  | 5, _, _ => rfl
  | 6, _, _ => rfl
  | 7, _, _ => rfl
  | 8, _, _ => rfl
  | 9, _, _ => rfl
  | 10, _, h => exact absurd h (by decide)
  | 11, _, h => exact absurd h (by decide)
  | 12, _, h => exact absurd h (by decide)
  | 13, _, h => exact absurd h (by decide)
  | 14, _, h => exact absurd h (by decide)
  | 15, _, _ => rfl
  | 16, _, _ => rfl
  | 17, _, _ => rfl
  | 18, _, h => exact absurd h (by decide)
  | 19, _, h => exact absurd h (by decide)
  | 20, _, h => exact absurd h (by decide)
  | 21, _, h => exact absurd h (by decide)
  | 22, _, h => exact absurd h (by decide)
  | 23, _, h => exact absurd h (by decide)
  | 24, _, _ => rfl
  | 25, _, h => exact absurd h (by decide)
  | 26, _, h => exact absurd h (by decide)
  | 27, _, h => exact absurd h (by decide)
  | 28, _, h => exact absurd h (by decide)
  | 29, _, _ => rfl
  | 30, _, h => exact absurd h (by decide)
  | 31, _, h => exact absurd h (by decide)
  | k + 32, h, _ => exact absurd h (by omega)
def mInv (E : xE) (o : Nat) (Ad : Nat → Nat) (I : Nat → Int) (F : Nat → Nat → Int) (w : xw) : Prop := w o = some (xO 3 (mFs Ad I)) ∧ (∀ k N, mArr k = some N → w (Ad k) = some (xI E N (F k))) ∧ ∀ i j N M, mArr i = some N → mArr j = some M → Ad i = Ad j → i = j
def mB (E : xE) (A : Nat → Prop) (s : State) (o : Nat) (Ad : Nat → Nat) (I : Nat → Int) (F : Nat → Nat → Int) (H : Heap) (locs : List Loc) : Prop := ∃ w, mInv E o Ad I F w ∧ xB E A s w H locs
theorem mInv.put {E : xE} {o : Nat} {Ad : Nat → Nat} {I : Nat → Int} {F : Nat → Nat → Int} {w : xw} (h : mInv E o Ad I F w) {k : Nat} {z : Int} (hk : k < 32) (hn : mArr k = none) : mInv E o Ad (va_up I k z) F (va_up w o (some (xO 3 ((mFs Ad I).set k (.int (iI z)))))) := by
  obtain ⟨h1, h2, h3⟩ := h
  refine ⟨by rw [va_up_s, mFs_set k hk hn], fun j N hj => ?_, h3⟩
  have hne : Ad j ≠ o := by
    intro e
    have h4 := h2 j N hj
    rw [e, h1] at h4
    cases h4
  rw [va_up_n _ _ hne]
  exact h2 j N hj
theorem mInv.ast {E : xE} {o : Nat} {Ad : Nat → Nat} {I : Nat → Int} {F : Nat → Nat → Int} {w : xw} (h : mInv E o Ad I F w) {k N : Nat} {f : Nat → Int} (hk : mArr k = some N) : mInv E o Ad I (va_up F k f) (va_up w (Ad k) (some (xI E N f))) := by
  obtain ⟨h1, h2, h3⟩ := h
  have hne : o ≠ Ad k := by
    intro e
    have h4 := h2 k N hk
    rw [← e, h1] at h4
    cases h4
  refine ⟨by rw [va_up_n _ _ hne]; exact h1, fun j M hj => ?_, h3⟩
  by_cases e : j = k
  · subst e
    rw [hk] at hj
    cases hj
    rw [va_up_s, va_up_s]
  · rw [va_up_n _ _ e, va_up_n _ _ (fun q => e (h3 j k M N hj hk q))]
    exact h2 j M hj
/-- a contract of the model's: post z I' F' of the answer and the new state -/
def mQ (E : xE) (o : Nat) (Ad : Nat → Nat) (post : Int → (Nat → Int) → (Nat → Nat → Int) → Prop) : Int32 → xw → Prop := fun r w' => ∃ (z : Int) (I' : Nat → Int) (F' : Nat → Nat → Int), r = iI z ∧ rg z ∧ mInv E o Ad I' F' w' ∧ post z I' F'
def mQl (E : xE) (o : Nat) (Ad : Nat → Nat) (post : Int → (Nat → Int) → (Nat → Nat → Int) → Prop) : Int64 → xw → Prop := fun r w' => ∃ (z : Int) (I' : Nat → Int) (F' : Nat → Nat → Int), r = lI z ∧ rgl z ∧ mInv E o Ad I' F' w' ∧ post z I' F'
def mQv (E : xE) (o : Nat) (Ad : Nat → Nat) (post : (Nat → Int) → (Nat → Nat → Int) → Prop) : xw → Prop := fun w' => ∃ (I' : Nat → Int) (F' : Nat → Nat → Int), mInv E o Ad I' F' w' ∧ post I' F'
abbrev mi_ (l : Launch) (E : xE) (y : MethodName) (cc : ByteArray) (nL : Nat) (ret : Option FieldType) (rf rl : Nat) (av : List Value) (o : Nat) (Ad : Nat → Nat) (I : Nat → Int) (F : Nat → Nat → Int) (post : Int → (Nat → Int) → (Nat → Nat → Int) → Prop) : Prop := ∀ (w : xw) (sz : Nat), mInv E o Ad I F w → Met l y (ws_ y cc nL ret) { frames := rf, cells := 0, slots := 0, locals := rl } (xPc E w sz av) (va_Qi (mQ E o Ad post) (xEnd E (xA w sz)) (xA w sz)) 0 0 (xA w sz)
abbrev ml_ (l : Launch) (E : xE) (y : MethodName) (cc : ByteArray) (nL : Nat) (ret : Option FieldType) (rf rl : Nat) (av : List Value) (o : Nat) (Ad : Nat → Nat) (I : Nat → Int) (F : Nat → Nat → Int) (post : Int → (Nat → Int) → (Nat → Nat → Int) → Prop) : Prop := ∀ (w : xw) (sz : Nat), mInv E o Ad I F w → Met l y (ws_ y cc nL ret) { frames := rf, cells := 0, slots := 0, locals := rl } (xPc E w sz av) (va_Ql (mQl E o Ad post) (xEnd E (xA w sz)) (xA w sz)) 0 0 (xA w sz)
abbrev mv_ (l : Launch) (E : xE) (y : MethodName) (cc : ByteArray) (nL : Nat) (ret : Option FieldType) (rf rl : Nat) (av : List Value) (o : Nat) (Ad : Nat → Nat) (I : Nat → Int) (F : Nat → Nat → Int) (post : (Nat → Int) → (Nat → Nat → Int) → Prop) : Prop := ∀ (w : xw) (sz : Nat), mInv E o Ad I F w → Met l y (ws_ y cc nL ret) { frames := rf, cells := 0, slots := 0, locals := rl } (xPc E w sz av) (va_Qv (mQv E o Ad post) (xEnd E (xA w sz)) (xA w sz)) 0 0 (xA w sz)
/-- the ends, as a body has them -/
abbrev mEi (E : xE) (s : State) (args : Array Value) (below : List Frame) (A : Nat → Prop) (o : Nat) (Ad : Nat → Nat) (post : Int → (Nat → Int) → (Nat → Nat → Int) → Prop) : State → Prop := MQ below (va_Qi (mQ E o Ad post) (xEnd E A) A) args s 0 0 A
abbrev mEl (E : xE) (s : State) (args : Array Value) (below : List Frame) (A : Nat → Prop) (o : Nat) (Ad : Nat → Nat) (post : Int → (Nat → Int) → (Nat → Nat → Int) → Prop) : State → Prop := MQ below (va_Ql (mQl E o Ad post) (xEnd E A) A) args s 0 0 A
abbrev mEv (E : xE) (s : State) (args : Array Value) (below : List Frame) (A : Nat → Prop) (o : Nat) (Ad : Nat → Nat) (post : (Nat → Int) → (Nat → Nat → Int) → Prop) : State → Prop := MQ below (va_Qv (mQv E o Ad post) (xEnd E A) A) args s 0 0 A
theorem x_body {l : Launch} {E : xE} {y : MethodName} {cc : ByteArray} {nL rf rl mc ms : Nat} {ret : Option FieldType} {av : List Value} {w : xw} {sz : Nat} {Qc : Array Value → State → Outcome → State → Prop} (hy : plainName y.cls = true) (hlen : (lg_sl av).length ≤ nL)
    (body : ∀ (p : Program) (e : Env) (s : State) (m : MethodId) (args : Array Value) (below : List Frame) (meth : Method) (c : Code) (ls : Array Slot), p.tables.exec = Jvm.exec → c.code = cc → xC E p s m args c cc nL y.cls → meth.sig.returnType = ret → meth.locks = false → (y.name = "<init>" → meth.name = "<init>") → s.heap.size = sz → xB E (xA w sz) s w s.heap [] → lv_has ls nL (lv_args 0 av) → W p l e { frames := rf, cells := mc, slots := ms, locals := rl } s m args below meth c s.heap [] 0 0 (MQ below Qc args s mc ms (xA w sz)) (F0 m 0 ls [])) : Met l y (ws_ y cc nL ret) { frames := rf, cells := mc, slots := ms, locals := rl } (xPc E w sz av) Qc mc ms (xA w sz) := by
  refine Met.ofW (cc := cc) (maxL := nL) (ret := ret) hy rfl ?_
  intro p e s m args below meth c s₁ B hml hv
  obtain ⟨rfl, hsz, hP, hK⟩ := hv
  have hts := atoms_spec (ws := ws_ y cc nL ret) B.pre
  have hts : ∀ w ∈ lw_all, w.before _ s = true := fun w h => hts w (List.mem_cons_of_mem _ h)
  have hown : s.vm.findClass y.cls = some m.cls := findClass_of_methodNamed B.named
  have hS : va_S (xA w sz) s.heap s.heap [] := va_S.rf
  rw [lg_entry_eq]
  exact body p e s m _ below meth c _ B.exec B.bytes ⟨⟨B.exec, B.bytes, hml, hown, hts⟩, hK⟩ B.returns B.notSynchronized (fun h => (name_of_methodNamed B.named B.method).1.trans h) hsz ⟨hP, fun a e h => Or.inl ⟨e, h⟩, hS, fun q h => Or.inr (hsz ▸ h)⟩ (lv_entry av hlen)
section MR
variable {p : Program} {l : Launch} {e : Env} {R : Room} {s : State} {m : MethodId} {args : Array Value} {below : List Frame} {meth : Method} {c : Code} {H : Heap} {locs : List Loc} {cells slots : Nat} {Q : State → Prop}
variable {cc : ByteArray} {pc nL : Nat} {ls : Array Slot} {rest : List Value} {E : xE} {A : Nat → Prop} {o : Nat} {Ad : Nat → Nat} {I : Nat → Int} {F : Nat → Nat → Int}
theorem m_get (C : xC E p s m args c cc nL RX3) (hB : mB E A s o Ad I F H locs) {index : Nat} (k : Nat) (hk : k < 32) (hlink : (Cond.fieldLink RX3 index RX3 (TX3 k).2.1 (TX3 k).2.2.1) ∈ lw_all) {v : Value} (hv : (mFs Ad I)[k]? = some v) (ho : (TX3 k).1 = RX3) (hdg : decode cc pc = .ok (.getfield index, 3))
    (kk : W p l e R s m args below meth c H locs cells slots Q (F0 m (pc + 3) ls (v :: rest))) : W p l e R s m args below meth c H locs cells slots Q (F0 m pc ls (.ref o :: rest)) := by
  obtain ⟨w, hM, hB⟩ := hB
  exact x_get C hB hM.1 rfl in_X3 k hk hlink (fun x h => by rw [ho] at h; exact h) hv hdg kk
theorem m_put (C : xC E p s m args c cc nL RX3) (hB : mB E A s o Ad I F H locs) {index : Nat} (k : Nat) (hk : k < 32) (hi : mArr k = none) (hlink : (Cond.fieldLink RX3 index RX3 (TX3 k).2.1 (TX3 k).2.2.1) ∈ lw_all) (ho : (TX3 k).1 = RX3) (hfin : (TX3 k).2.2.2 = false) {z : Int} (hdg : decode cc pc = .ok (.putfield index, 3))
    (kk : ∀ (H1 : Heap) (locs1 : List Loc), mB E A s o Ad (va_up I k z) F H1 locs1 → W p l e R s m args below meth c H1 locs1 cells slots Q (F0 m (pc + 3) ls rest)) : W p l e R s m args below meth c H locs cells slots Q (F0 m pc ls (.int (iI z) :: .ref o :: rest)) := by
  obtain ⟨w, hM, hB⟩ := hB
  refine x_put C hB hM.1 rfl in_X3 tyX3_ok nmX3 k hk hlink (fun x h => by rw [ho] at h; exact h) hfin (by rw [mFs_i (Ad := Ad) (I := I) k hk hi]; rfl) (by rw [mFs_i (Ad := Ad) (I := I) k hk hi]; rfl) hk hdg (fun H1 locs1 h => kk H1 locs1 ⟨_, hM.put hk hi, h⟩)
theorem m_ald (C : xC E p s m args c cc nL RX3) (hB : mB E A s o Ad I F H locs) (k N : Nat) (hN : mArr k = some N) {z v : Int} (n : Nat) (hz : z = (n : Int)) (hn : n < N) (hv : F k n = v) (hdg : decode cc pc = .ok (.iaload, 1))
    (kk : W p l e R s m args below meth c H locs cells slots Q (F0 m (pc + 1) ls (.int (iI v) :: rest))) : W p l e R s m args below meth c H locs cells slots Q (F0 m pc ls (.int (iI z) :: .ref (Ad k) :: rest)) := by
  obtain ⟨w, hM, hB⟩ := hB
  subst hv
  have h240 : ∀ k N, mArr k = some N → N ≤ 240 := by
    intro k N h
    unfold mArr at h
    split at h <;> cases h <;> decide
  exact x_iald C hB (hM.2.1 k N hN) n hz hn (Nat.lt_of_le_of_lt (h240 k N hN) (by decide)) hdg kk
theorem m_ast (C : xC E p s m args c cc nL RX3) (hB : mB E A s o Ad I F H locs) (k N : Nat) (hN : mArr k = some N) {z v : Int} {f : Nat → Int} (n : Nat) (hz : z = (n : Int)) (hn : n < N) (hf : F k = f) (hdg : decode cc pc = .ok (.iastore, 1))
    (kk : ∀ (H1 : Heap) (locs1 : List Loc), mB E A s o Ad I (va_up F k (va_up f n v)) H1 locs1 → W p l e R s m args below meth c H1 locs1 cells slots Q (F0 m (pc + 1) ls rest)) : W p l e R s m args below meth c H locs cells slots Q (F0 m pc ls (.int (iI v) :: .int (iI z) :: .ref (Ad k) :: rest)) := by
  obtain ⟨w, hM, hB⟩ := hB
  subst hf
  have h240 : ∀ k N, mArr k = some N → N ≤ 240 := by
    intro k N h
    unfold mArr at h
    split at h <;> cases h <;> decide
  exact x_iast C hB (hM.2.1 k N hN) n hz hn (Nat.lt_of_le_of_lt (h240 k N hN) (by decide)) hdg (fun H1 locs1 h => kk H1 locs1 ⟨_, hM.ast hN, h⟩)
theorem m_len (C : xC E p s m args c cc nL RX3) (hB : mB E A s o Ad I F H locs) (k N : Nat) (hN : mArr k = some N) (hdg : decode cc pc = .ok (.arraylength, 1))
    (kk : W p l e R s m args below meth c H locs cells slots Q (F0 m (pc + 1) ls (.int (iI (N : Int)) :: rest))) : W p l e R s m args below meth c H locs cells slots Q (F0 m pc ls (.ref (Ad k) :: rest)) := by
  obtain ⟨w, hM, hB⟩ := hB
  exact x_ilen C hB (hM.2.1 k N hN) hdg kk
/-! ends -/
theorem m_iret (C : xC E p s m args c cc nL RX3) (hB : mB E A s o Ad I F H locs) {ty : FieldType} (hr : meth.sig.returnType = some ty) (hlocks : meth.locks = false) {z : Int} (hn : narrow ty (.int (iI z)) = .int (iI z)) (hdg : decode cc pc = .ok (.ireturn, 1)) {post : Int → (Nat → Int) → (Nat → Nat → Int) → Prop} (hz : rg z) (hp : post z I F) : W p l e R s m args below meth c H locs 0 0 (mEi E s args below A o Ad post) (F0 m pc ls [.int (iI z)]) := by
  obtain ⟨w, hM, hP, hD, hS, hA⟩ := hB
  exact W.zret C.1.1 C.1.2.1 hr hn (fun t ht hW => ⟨⟨_, w, rfl, ⟨z, I, F, rfl, hz, hM, hp⟩, by rw [ht]; exact hP, hD⟩, hS.F ht⟩) hS.2.2 hdg hlocks
theorem m_lret (C : xC E p s m args c cc nL RX3) (hB : mB E A s o Ad I F H locs) (hr : meth.sig.returnType = some .long) (hlocks : meth.locks = false) {z : Int} (hdg : decode cc pc = .ok (.lreturn, 1)) {post : Int → (Nat → Int) → (Nat → Nat → Int) → Prop} (hz : rgl z) (hp : post z I F) : W p l e R s m args below meth c H locs 0 0 (mEl E s args below A o Ad post) (F0 m pc ls [.long (lI z)]) := by
  obtain ⟨w, hM, hP, hD, hS, hA⟩ := hB
  exact W.lret C.1.1 C.1.2.1 hr (fun t ht hW => ⟨⟨_, w, rfl, ⟨z, I, F, rfl, hz, hM, hp⟩, by rw [ht]; exact hP, hD⟩, hS.F ht⟩) hS.2.2 hdg hlocks
theorem m_vret (C : xC E p s m args c cc nL RX3) (hB : mB E A s o Ad I F H locs) (hr : meth.sig.returnType = none) (hlocks : meth.locks = false) (hdg : decode cc pc = .ok (.return_, 1)) {post : (Nat → Int) → (Nat → Nat → Int) → Prop} (hp : post I F) : W p l e R s m args below meth c H locs 0 0 (mEv E s args below A o Ad post) (F0 m pc ls []) := by
  obtain ⟨w, hM, hP, hD, hS, hA⟩ := hB
  exact W.vret C.1.1 C.1.2.1 hr (fun t ht hW => ⟨⟨w, rfl, ⟨I, F, hM, hp⟩, by rw [ht]; exact hP, hD⟩, hS.F ht⟩) hS.2.2 hdg hlocks
/-! calls -/
theorem m_calli (C : xC E p s m args c cc nL RX3) (hB : mB E A s o Ad I F H locs) {y : MethodName} {bytes : ByteArray} {maxL rf rl index n : Nat} {ret : Option FieldType} {As st0 : List Value} {post : Int → (Nat → Int) → (Nat → Nat → Int) → Prop} (hM : mi_ l E y bytes maxL ret rf rl (.ref o :: As) o Ad I F post) (hG : GoodIn lw_all (wsV RX3 index RX3 y (ws_ y bytes maxL ret)))
    (hd : y.cls = RX3 ∧ y.cls ≠ "java/lang/invoke/MethodHandle" ∧ y.cls ≠ "java/lang/invoke/VarHandle" ∧ (parseMethodDescriptor y.desc).map (fun d => d.parameters.length) = some n) (hR : rf + 1 ≤ R.frames ∧ 8 + (maxL + 11) + rl ≤ R.locals) (hn : As.length = n) (hl : ls.size = nL) (hst : st0 = As.reverse ++ .ref o :: rest) (hW : (rest.map fun v => v.category).sum ≤ 8) (hdg : decode cc pc = .ok (.invokevirtual index, 3)) (hcs : cells ≤ R.cells ∧ slots ≤ R.slots)
    (kk : ∀ (z : Int) (I1 : Nat → Int) (F1 : Nat → Nat → Int) (H1 : Heap) (locs1 : List Loc), rg z → post z I1 F1 → mB E A s o Ad I1 F1 H1 locs1 → W p l e R s m args below meth c H1 locs1 cells slots Q (F0 m (pc + 3) ls (.int (iI z) :: rest))) : W p l e R s m args below meth c H locs cells slots Q (F0 m pc ls st0) := by
  obtain ⟨w, hI, hB⟩ := hB
  subst hst
  refine va_calli (A0 := A) (mc := 0) (ms := 0) (va_runV (As := As) (rest := rest) C.1 (hM w H.size hI) (cwV n C.1.2.2.2.2 hG rfl rfl rfl hd hR) (xpreV hB.1 C.2 hI.1 rfl rfl) rfl hn hl rfl (lv_room (rest := As.reverse ++ .ref o :: rest) (ls := ls) (m := m) (pc := pc) hW) hdg ⟨hcs.1, hcs.2⟩) hB.2.2.1 (fun q _ h => hB.sub q h) hB.sub (fun r u t H1 locs1 ht hvm hp hE hz hk hS => ?_)
  obtain ⟨z, I1, F1, rfl, hz, hI1, hp⟩ := hp
  exact kk z I1 F1 H1 locs1 hz hp ⟨u, hI1, hB.call ht hE hS⟩
theorem m_calll (C : xC E p s m args c cc nL RX3) (hB : mB E A s o Ad I F H locs) {y : MethodName} {bytes : ByteArray} {maxL rf rl index n : Nat} {ret : Option FieldType} {As st0 : List Value} {post : Int → (Nat → Int) → (Nat → Nat → Int) → Prop} (hM : ml_ l E y bytes maxL ret rf rl (.ref o :: As) o Ad I F post) (hG : GoodIn lw_all (wsV RX3 index RX3 y (ws_ y bytes maxL ret)))
    (hd : y.cls = RX3 ∧ y.cls ≠ "java/lang/invoke/MethodHandle" ∧ y.cls ≠ "java/lang/invoke/VarHandle" ∧ (parseMethodDescriptor y.desc).map (fun d => d.parameters.length) = some n) (hR : rf + 1 ≤ R.frames ∧ 8 + (maxL + 11) + rl ≤ R.locals) (hn : As.length = n) (hl : ls.size = nL) (hst : st0 = As.reverse ++ .ref o :: rest) (hW : (rest.map fun v => v.category).sum ≤ 8) (hdg : decode cc pc = .ok (.invokevirtual index, 3)) (hcs : cells ≤ R.cells ∧ slots ≤ R.slots)
    (kk : ∀ (z : Int) (I1 : Nat → Int) (F1 : Nat → Nat → Int) (H1 : Heap) (locs1 : List Loc), rgl z → post z I1 F1 → mB E A s o Ad I1 F1 H1 locs1 → W p l e R s m args below meth c H1 locs1 cells slots Q (F0 m (pc + 3) ls (.long (lI z) :: rest))) : W p l e R s m args below meth c H locs cells slots Q (F0 m pc ls st0) := by
  obtain ⟨w, hI, hB⟩ := hB
  subst hst
  refine va_calll (A0 := A) (mc := 0) (ms := 0) (va_runV (As := As) (rest := rest) C.1 (hM w H.size hI) (cwV n C.1.2.2.2.2 hG rfl rfl rfl hd hR) (xpreV hB.1 C.2 hI.1 rfl rfl) rfl hn hl rfl (lv_room (rest := As.reverse ++ .ref o :: rest) (ls := ls) (m := m) (pc := pc) hW) hdg ⟨hcs.1, hcs.2⟩) hB.2.2.1 (fun q _ h => hB.sub q h) hB.sub (fun r u t H1 locs1 ht hvm hp hE hz hk hS => ?_)
  obtain ⟨z, I1, F1, rfl, hz, hI1, hp⟩ := hp
  exact kk z I1 F1 H1 locs1 hz hp ⟨u, hI1, hB.call ht hE hS⟩
theorem m_callv (C : xC E p s m args c cc nL RX3) (hB : mB E A s o Ad I F H locs) {y : MethodName} {bytes : ByteArray} {maxL rf rl index n : Nat} {ret : Option FieldType} {As st0 : List Value} {post : (Nat → Int) → (Nat → Nat → Int) → Prop} (hM : mv_ l E y bytes maxL ret rf rl (.ref o :: As) o Ad I F post) (hG : GoodIn lw_all (wsV RX3 index RX3 y (ws_ y bytes maxL ret)))
    (hd : y.cls = RX3 ∧ y.cls ≠ "java/lang/invoke/MethodHandle" ∧ y.cls ≠ "java/lang/invoke/VarHandle" ∧ (parseMethodDescriptor y.desc).map (fun d => d.parameters.length) = some n) (hR : rf + 1 ≤ R.frames ∧ 8 + (maxL + 11) + rl ≤ R.locals) (hn : As.length = n) (hl : ls.size = nL) (hst : st0 = As.reverse ++ .ref o :: rest) (hW : (rest.map fun v => v.category).sum ≤ 8) (hdg : decode cc pc = .ok (.invokevirtual index, 3)) (hcs : cells ≤ R.cells ∧ slots ≤ R.slots)
    (kk : ∀ (I1 : Nat → Int) (F1 : Nat → Nat → Int) (H1 : Heap) (locs1 : List Loc), post I1 F1 → mB E A s o Ad I1 F1 H1 locs1 → W p l e R s m args below meth c H1 locs1 cells slots Q (F0 m (pc + 3) ls rest)) : W p l e R s m args below meth c H locs cells slots Q (F0 m pc ls st0) := by
  obtain ⟨w, hI, hB⟩ := hB
  subst hst
  refine va_callv (A0 := A) (mc := 0) (ms := 0) (va_runV (As := As) (rest := rest) C.1 (hM w H.size hI) (cwV n C.1.2.2.2.2 hG rfl rfl rfl hd hR) (xpreV hB.1 C.2 hI.1 rfl rfl) rfl hn hl rfl (lv_room (rest := As.reverse ++ .ref o :: rest) (ls := ls) (m := m) (pc := pc) hW) hdg ⟨hcs.1, hcs.2⟩) hB.2.2.1 (fun q _ h => hB.sub q h) hB.sub (fun u t H1 locs1 ht hvm hp hE hz hk hS => ?_)
  obtain ⟨I1, F1, hI1, hp⟩ := hp
  exact kk I1 F1 H1 locs1 hp ⟨u, hI1, hB.call ht hE hS⟩
end MR
/-! ## static methods that touch nothing: ints in, an int out -/
abbrev si_ (l : Launch) (E : xE) (y : MethodName) (cc : ByteArray) (nL : Nat) (ret : Option FieldType) (rf rl : Nat) (av : List Value) (post : Int → Prop) : Prop := ∀ (w : xw) (sz : Nat), Met l y (ws_ y cc nL ret) { frames := rf, cells := 0, slots := 0, locals := rl } (xPc E w sz av) (va_Qi (fun r w' => w' = w ∧ ∃ z, r = iI z ∧ rg z ∧ post z) (xEnd E (xA w sz)) (xA w sz)) 0 0 (xA w sz)
abbrev sl_ (l : Launch) (E : xE) (y : MethodName) (cc : ByteArray) (nL : Nat) (ret : Option FieldType) (rf rl : Nat) (av : List Value) (post : Int → Prop) : Prop := ∀ (w : xw) (sz : Nat), Met l y (ws_ y cc nL ret) { frames := rf, cells := 0, slots := 0, locals := rl } (xPc E w sz av) (va_Ql (fun r w' => w' = w ∧ ∃ z, r = lI z ∧ rgl z ∧ post z) (xEnd E (xA w sz)) (xA w sz)) 0 0 (xA w sz)
section SR
variable {p : Program} {l : Launch} {e : Env} {R : Room} {s : State} {m : MethodId} {args : Array Value} {below : List Frame} {meth : Method} {c : Code} {H : Heap} {locs : List Loc} {cells slots : Nat} {Q : State → Prop}
variable {cc : ByteArray} {pc nL : Nat} {ls : Array Slot} {rest : List Value} {E : xE} {A : Nat → Prop} {w : xw} {own : String}
theorem s_iret (C : xC E p s m args c cc nL own) (hB : xB E A s w H locs) {ty : FieldType} (hr : meth.sig.returnType = some ty) (hlocks : meth.locks = false) {z : Int} (hn : narrow ty (.int (iI z)) = .int (iI z)) (hdg : decode cc pc = .ok (.ireturn, 1)) {post : Int → Prop} (hz : rg z) (hp : post z) : W p l e R s m args below meth c H locs 0 0 (MQ below (va_Qi (fun r w' => w' = w ∧ ∃ z, r = iI z ∧ rg z ∧ post z) (xEnd E A) A) args s 0 0 A) (F0 m pc ls [.int (iI z)]) := by
  obtain ⟨hP, hD, hS, hA⟩ := hB
  exact W.zret C.1.1 C.1.2.1 hr hn (fun t ht hW => ⟨⟨_, w, rfl, ⟨rfl, z, rfl, hz, hp⟩, by rw [ht]; exact hP, hD⟩, hS.F ht⟩) hS.2.2 hdg hlocks
theorem s_lret (C : xC E p s m args c cc nL own) (hB : xB E A s w H locs) (hr : meth.sig.returnType = some .long) (hlocks : meth.locks = false) {z : Int} (hdg : decode cc pc = .ok (.lreturn, 1)) {post : Int → Prop} (hz : rgl z) (hp : post z) : W p l e R s m args below meth c H locs 0 0 (MQ below (va_Ql (fun r w' => w' = w ∧ ∃ z, r = lI z ∧ rgl z ∧ post z) (xEnd E A) A) args s 0 0 A) (F0 m pc ls [.long (lI z)]) := by
  obtain ⟨hP, hD, hS, hA⟩ := hB
  exact W.lret C.1.1 C.1.2.1 hr (fun t ht hW => ⟨⟨_, w, rfl, ⟨rfl, z, rfl, hz, hp⟩, by rw [ht]; exact hP, hD⟩, hS.F ht⟩) hS.2.2 hdg hlocks
theorem s_calli (C : xC E p s m args c cc nL own) (hB : xB E A s w H locs) {y : MethodName} {bytes : ByteArray} {maxL rf rl index n : Nat} {ret : Option FieldType} {As st0 : List Value} {post : Int → Prop} (hM : si_ l E y bytes maxL ret rf rl As post) (hG : GoodIn lw_all (va_wsS own index y (ws_ y bytes maxL ret)))
    (hd : y.cls ≠ "java/lang/invoke/MethodHandle" ∧ y.cls ≠ "java/lang/invoke/VarHandle" ∧ (parseMethodDescriptor y.desc).map (fun d => d.parameters.length) = some n) (hR : rf + 1 ≤ R.frames ∧ 8 + (maxL + 11) + rl ≤ R.locals) (hn : As.length = n) (hl : ls.size = nL) (hst : st0 = As.reverse ++ rest) (hW : (rest.map fun v => v.category).sum ≤ 8) (hdg : decode cc pc = .ok (.invokestatic index, 3)) (hcs : cells ≤ R.cells ∧ slots ≤ R.slots)
    (kk : ∀ (z : Int) (H1 : Heap) (locs1 : List Loc), rg z → post z → xB E A s w H1 locs1 → W p l e R s m args below meth c H1 locs1 cells slots Q (F0 m (pc + 3) ls (.int (iI z) :: rest))) : W p l e R s m args below meth c H locs cells slots Q (F0 m pc ls st0) := by
  subst hst
  refine va_calli (A0 := A) (mc := 0) (ms := 0) (va_runS (As := As) (rest := rest) C.1 (hM w H.size) (va_cwS n C.1.2.2.2.2 hG rfl rfl rfl hd hR) (xpreS hB.1 C.2) rfl hn hl rfl (lv_room (rest := As.reverse ++ rest) (ls := ls) (m := m) (pc := pc) hW) hdg ⟨hcs.1, hcs.2⟩) hB.2.2.1 (fun q _ h => hB.sub q h) hB.sub (fun r u t H1 locs1 ht hvm hp hE hz hk hS => ?_)
  obtain ⟨rfl, z, rfl, hz, hp⟩ := hp
  exact kk z H1 locs1 hz hp (hB.call ht hE hS)
theorem s_calll (C : xC E p s m args c cc nL own) (hB : xB E A s w H locs) {y : MethodName} {bytes : ByteArray} {maxL rf rl index n : Nat} {ret : Option FieldType} {As st0 : List Value} {post : Int → Prop} (hM : sl_ l E y bytes maxL ret rf rl As post) (hG : GoodIn lw_all (va_wsS own index y (ws_ y bytes maxL ret)))
    (hd : y.cls ≠ "java/lang/invoke/MethodHandle" ∧ y.cls ≠ "java/lang/invoke/VarHandle" ∧ (parseMethodDescriptor y.desc).map (fun d => d.parameters.length) = some n) (hR : rf + 1 ≤ R.frames ∧ 8 + (maxL + 11) + rl ≤ R.locals) (hn : As.length = n) (hl : ls.size = nL) (hst : st0 = As.reverse ++ rest) (hW : (rest.map fun v => v.category).sum ≤ 8) (hdg : decode cc pc = .ok (.invokestatic index, 3)) (hcs : cells ≤ R.cells ∧ slots ≤ R.slots)
    (kk : ∀ (z : Int) (H1 : Heap) (locs1 : List Loc), rgl z → post z → xB E A s w H1 locs1 → W p l e R s m args below meth c H1 locs1 cells slots Q (F0 m (pc + 3) ls (.long (lI z) :: rest))) : W p l e R s m args below meth c H locs cells slots Q (F0 m pc ls st0) := by
  subst hst
  refine va_calll (A0 := A) (mc := 0) (ms := 0) (va_runS (As := As) (rest := rest) C.1 (hM w H.size) (va_cwS n C.1.2.2.2.2 hG rfl rfl rfl hd hR) (xpreS hB.1 C.2) rfl hn hl rfl (lv_room (rest := As.reverse ++ rest) (ls := ls) (m := m) (pc := pc) hW) hdg ⟨hcs.1, hcs.2⟩) hB.2.2.1 (fun q _ h => hB.sub q h) hB.sub (fun r u t H1 locs1 ht hvm hp hE hz hk hS => ?_)
  obtain ⟨rfl, z, rfl, hz, hp⟩ := hp
  exact kk z H1 locs1 hz hp (hB.call ht hE hS)
end SR
