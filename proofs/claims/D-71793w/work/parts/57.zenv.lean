/-! THE ENVIRONMENT: what holds beside the world (interfaces, classes that don't fit, statics), and contracts that carry it -/
set_option maxRecDepth 100000
/-! ## slots of two fields of one name -/
theorem u_apart2 {args : Array Value} {s : State} {C O f d O' f' d' : String} (h : (Cond.laysFinal C O f d).before args s = true) (h' : (Cond.laysFinal C O' f' d').before args s = true) {cf kf fi fd cf' kf' fi' fd'} (hi : s.fieldFound? O f d = some (cf, kf, fi, fd)) (hi' : s.fieldFound? O' f' d' = some (cf', kf', fi', fd')) (hne : O ≠ O') : fd.slot ≠ fd'.slot := by
  obtain ⟨c1, k1, c1', k1', i1, f1, r1, -, hf1, -, -, -, ho1, -, x1, hd1, hn1, -⟩ := Cond.laysFinal_spec h
  obtain ⟨c2, k2, c2', k2', i2, f2, r2, -, hf2, -, -, -, ho2, -, x2, hd2, hn2, -⟩ := Cond.laysFinal_spec h'
  cases hi.symm.trans hf1
  cases hi'.symm.trans hf2
  cases r1.symm.trans r2
  intro hs
  rw [hs] at hd1
  cases hd1.symm.trans hd2
  obtain ⟨z1, hz1, n1⟩ := Vm.findClass_spec ho1
  obtain ⟨z2, hz2, n2⟩ := Vm.findClass_spec ho2
  cases hz1.symm.trans (State.fieldFound?_spec hf1).1
  cases hz2.symm.trans (State.fieldFound?_spec hf2).1
  exact hne (n1.symm.trans (hn1.symm.trans (hn2.trans n2)))
abbrev x_ap (T : u_T) (a b : Nat) : Prop := (T a).2.1 ≠ (T b).2.1 ∨ ((T a).2.2.2 = true ∧ (T b).2.2.2 = true ∧ (T a).1 ≠ (T b).1)
theorem x_apart {s : State} {args : Array Value} {D : va_G} {cl : List vw_C} {tys : List (ClassId × FieldType)} {C : String} {T : u_T} {N ci : Nat} {Ts : List Cond} (hts : ∀ w ∈ Ts, w.before args s = true) (hin : ∀ w ∈ u_ws C T N, w ∈ Ts) (ty : Nat → FieldType) (hty : ∀ k, k < N → parseFieldDescriptor (T k).2.2.1 = some (ty k)) (hnm : ∀ a, a < N → ∀ b, b < N → a ≠ b → x_ap T a b) (hK : va_K D cl tys s) (hc : cl[ci]? = some (C, T, N)) : ∀ x y, x < N → y < N → x ≠ y → (D.2 ci) x ≠ (D.2 ci) y := by
  intro x y hx hy hne
  obtain ⟨hS, -⟩ := hK.1 ci _ hc
  obtain ⟨_, _, _, fa, hia, ea⟩ := hS x hx
  obtain ⟨_, _, _, fb, hib, eb⟩ := hS y hy
  rw [← ea, ← eb]
  rcases hnm x hx y hy hne with h | ⟨h1, h2, h3⟩
  · refine u_apart (u_lays hts hin hx) (u_lays hts hin hy) hia hib ?_
    rw [(State.fieldFound?_type hia (hty x hx)).1, (State.fieldFound?_type hib (hty y hy)).1]
    exact h
  · have l1 := hts _ (hin _ (u_in_lay hx))
    have l2 := hts _ (hin _ (u_in_lay hy))
    unfold u_lay at l1 l2
    rw [if_pos h1] at l1
    rw [if_pos h2] at l2
    exact u_apart2 l1 l2 hia hib h3
section X2
variable {p : Program} {l : Launch} {e : Env} {R : Room} {s : State} {m : MethodId} {args : Array Value} {below : List Frame} {meth : Method} {c : Code} {H : Heap} {locs : List Loc} {cells slots : Nat} {Q : State → Prop}
variable {cc : ByteArray} {pc nL : Nat} {ls : Array Slot} {rest : List Value} {E : xE} {A : Nat → Prop} {a : Nat} {w : xw} {own : String}
theorem x_put2 (C : xC E p s m args c cc nL own) (hB : xB E A s w H locs) {ref Cn : String} {T : u_T} {N ci index : Nat} {fs : List Value} (ha : w a = some (xO ci fs)) (hc : vwCl[ci]? = some (Cn, T, N)) (hin : ∀ w ∈ u_ws Cn T N, w ∈ lw_all) {ty0 : Nat → FieldType} (hty : ∀ k, k < N → parseFieldDescriptor (T k).2.2.1 = some (ty0 k)) (hnm : ∀ a, a < N → ∀ b, b < N → a ≠ b → x_ap T a b) (k : Nat) (hk : k < N) (hlink : (Cond.fieldLink own index ref (T k).2.1 (T k).2.2.1) ∈ lw_all) (hsame : ∀ x, s.fieldFound? (T k).1 (T k).2.1 (T k).2.2.1 = some x → s.fieldFound? ref (T k).2.1 (T k).2.2.1 = some x) (hfin : (T k).2.2.2 = false) {v : Value} (hn : narrow (ty0 k) v = v) (hfit : fits (ty0 k) v = true) (hl : k < fs.length) (hdg : decode cc pc = .ok (.putfield index, 3))
    (kk : ∀ (H1 : Heap) (locs1 : List Loc), xB E A s (va_up w a (some (xO ci (fs.set k v)))) H1 locs1 → W p l e R s m args below meth c H1 locs1 cells slots Q (F0 m (pc + 3) ls rest)) : W p l e R s m args below meth c H locs cells slots Q (F0 m pc ls (v :: .ref a :: rest)) := by
  obtain ⟨⟨hx, hb, -, hown, hts⟩, hK⟩ := C
  have hap := x_apart hts hin ty0 hty hnm hK.1 hc
  obtain ⟨r, h1, cell, q1, q2, q3, q4⟩ := hB.1 a _ ha
  have hr : r = (Cn, T, N) := Option.some.inj (h1.symm.trans hc)
  subst hr
  obtain ⟨hS, hfc, kC, hkC, hkind⟩ := hK.1.1 ci _ hc
  obtain ⟨cf, kf, fi, f, hi, hsl⟩ := hS k hk
  have hlay := hts _ (hin _ (u_in_lay hk))
  unfold u_lay at hlay
  rw [if_neg (by rw [hfin]; decide)] at hlay
  have hst := (u_facts hfc hkC (u_lays hts hin hk) hi).1
  have h6 := u_store hfc hkC hkind hlay hi (hty k hk) hn hfit
  refine W.putK hx hb (f := f) ⟨hown, hts _ hlink, ⟨_, _, _, hsame _ hi⟩, hst⟩ (by rw [q2]; exact h6) q1 q3 (by rw [hsl]; exact k2_hasslot (q4 k hk)) rfl rfl hdg fun H' e1 e2 e3 => ?_
  rw [hsl] at e1 ⊢
  exact kk H' _ (hB.put ha (e := xO ci (fs.set k v)) ⟨_, hc, t_OB.to (V := updV (vp_V fs) k v) ⟨_, e1, q2, q3, t_set q4 hap hk v⟩ (fun j _ => vp_updV_set hl v j)⟩ e2 e3)
theorem x_putF2 (C : xC E p s m args c cc nL own) (hB : xB E A s w H locs) {ref Cn : String} {T : u_T} {N ci index : Nat} {fs : List Value} (ha : w a = some (xO ci fs)) (hc : vwCl[ci]? = some (Cn, T, N)) (hin : ∀ w ∈ u_ws Cn T N, w ∈ lw_all) {ty0 : Nat → FieldType} (hty : ∀ k, k < N → parseFieldDescriptor (T k).2.2.1 = some (ty0 k)) (hnm : ∀ a, a < N → ∀ b, b < N → a ≠ b → x_ap T a b) (k : Nat) (hk : k < N) (hlink : (Cond.fieldLink own index ref (T k).2.1 (T k).2.2.1) ∈ lw_all) (hsame : ∀ x, s.fieldFound? (T k).1 (T k).2.1 (T k).2.2.1 = some x → s.fieldFound? ref (T k).2.1 (T k).2.2.1 = some x) (hfin : (T k).2.2.2 = true) (hin2 : meth.name = "<init>") (hdecl : (T k).1 = own) {v : Value} (hn : narrow (ty0 k) v = v) (hfit : fits (ty0 k) v = true) (hl : k < fs.length) (hdg : decode cc pc = .ok (.putfield index, 3))
    (kk : ∀ (H1 : Heap) (locs1 : List Loc), xB E A s (va_up w a (some (xO ci (fs.set k v)))) H1 locs1 → W p l e R s m args below meth c H1 locs1 cells slots Q (F0 m (pc + 3) ls rest)) : W p l e R s m args below meth c H locs cells slots Q (F0 m pc ls (v :: .ref a :: rest)) := by
  obtain ⟨⟨hx, hb, -, hown, hts⟩, hK⟩ := C
  have hap := x_apart hts hin ty0 hty hnm hK.1 hc
  obtain ⟨r, h1, cell, q1, q2, q3, q4⟩ := hB.1 a _ ha
  have hr : r = (Cn, T, N) := Option.some.inj (h1.symm.trans hc)
  subst hr
  obtain ⟨hS, hfc, kC, hkC, hkind⟩ := hK.1.1 ci _ hc
  obtain ⟨cf, kf, fi, f, hi, hsl⟩ := hS k hk
  have hlay := hts _ (hin _ (u_in_lay hk))
  unfold u_lay at hlay
  rw [if_pos hfin] at hlay
  have hst := (u_facts hfc hkC (u_lays hts hin hk) hi).1
  have hcf : m.cls = cf := by
    obtain ⟨_, _, c', _, _, _, -, -, hf', -, -, -, hown2, -⟩ := Cond.laysFinal_spec hlay
    have e1 : c' = cf := by have := hi.symm.trans hf'; simp at this; exact this.1.symm
    rw [hdecl] at hown2
    rw [← e1]; exact Option.some.inj (hown.symm.trans hown2)
  have h6 := u_fits hfc hkC hkind (Or.inr hlay) hi (hty k hk) hn hfit
  refine W.putFinK hx hb hown (hts _ hlink) (hsame _ hi) hst hcf hin2 (by rw [q2]; exact h6) q1 q3 (by rw [hsl]; exact k2_hasslot (q4 k hk)) rfl rfl hdg fun H' e1 e2 e3 => ?_
  rw [hsl] at e1 ⊢
  exact kk H' _ (hB.put ha (e := xO ci (fs.set k v)) ⟨_, hc, t_OB.to (V := updV (vp_V fs) k v) ⟨_, e1, q2, q3, t_set q4 hap hk v⟩ (fun j _ => vp_updV_set hl v j)⟩ e2 e3)
end X2
/-! ## the environment -/
def fwl : List (String × MethodName × MethodName) := [
  (RJ2, ⟨"java/util/List", "isEmpty", "()Z"⟩, yJ2_isEmpty),
  (RJ2, ⟨"java/util/List", "size", "()I"⟩, yJ2_size),
  (RJ2, ⟨"java/util/List", "get", "(I)Ljava/lang/Object;"⟩, yJ2_get),
  (RJ2, ⟨"java/util/List", "add", "(Ljava/lang/Object;)Z"⟩, yJ2_add),
  (RJ2, ⟨"java/util/List", "remove", "(I)Ljava/lang/Object;"⟩, yJ2_remove),
  (RJ2, ⟨"java/util/List", "set", "(ILjava/lang/Object;)Ljava/lang/Object;"⟩, yJ2_set),
  (RJ2, ⟨"java/util/List", "clear", "()V"⟩, yJ2_clear),
  (RJ2, ⟨"java/util/List", "addAll", "(Ljava/util/Collection;)Z"⟩, yJ2_addAll),
  (RJ2, ⟨"java/util/Collection", "toArray", "()[Ljava/lang/Object;"⟩, yJ2_toArray),
  (RX12, ⟨"java/util/Iterator", "hasNext", "()Z"⟩, yX12_hasNext),
  (RX12, ⟨"java/util/Iterator", "next", "()Ljava/lang/Object;"⟩, yX12_next),
  (RX6, ⟨"BookPairs$Aloud", "tracedBy", "(I)I"⟩, yX6_tracedBy),
  (RX7, ⟨"BookPairs$Aloud", "tracedBy", "(I)I"⟩, yX6_tracedBy),
  (RX8, ⟨"BookPairs$Aloud", "tracedBy", "(I)I"⟩, yX6_tracedBy),
  (RX6, ⟨"BookPairs$Aloud", "anchor", "()I"⟩, yX6_anchor),
  (RX7, ⟨"BookPairs$Aloud", "anchor", "()I"⟩, yX6_anchor),
  (RX8, ⟨"BookPairs$Aloud", "anchor", "()I"⟩, yX6_anchor),
  (RX8, ⟨"BookPairs$Aloud", "readAloud", "()I"⟩, yX8_readAloud)]
def ncl : List (String × String) := [
  ("java/lang/ArrayIndexOutOfBoundsException", "java/lang/NullPointerException"), ("java/lang/ArrayIndexOutOfBoundsException", "java/lang/ClassCastException"), ("java/lang/ArrayIndexOutOfBoundsException", "java/lang/ArrayStoreException"), ("java/lang/ArrayIndexOutOfBoundsException", "java/lang/NegativeArraySizeException"),
  ("java/lang/IndexOutOfBoundsException", "java/lang/NullPointerException"), ("java/lang/IndexOutOfBoundsException", "java/lang/ClassCastException"), ("java/lang/IndexOutOfBoundsException", "java/lang/ArrayStoreException"), ("java/lang/IndexOutOfBoundsException", "java/lang/NegativeArraySizeException"),
  ("java/lang/ClassCastException", "java/lang/NullPointerException"), ("java/lang/ArrayStoreException", "java/lang/NullPointerException"), ("java/lang/ArrayStoreException", "java/lang/ClassCastException"),
  ("java/lang/NegativeArraySizeException", "java/lang/NullPointerException"), ("java/lang/NegativeArraySizeException", "java/lang/ClassCastException"), ("java/lang/NegativeArraySizeException", "java/lang/ArrayStoreException"),
  ("[S", "[B"), ("[I", "[B"), ("[I", "[S"), ("[B", "[S"), ("[B", "[I"), ("[S", "[I"),
  ("BookPairs$Plain", "BookPairs$Longer"), ("BookPairs$Plain", "BookPairs$Doubled"), ("BookPairs$Longer", "BookPairs$Doubled")]
def aol : List String := ["java/lang/Object", "BookPairs$Sort", "BookPairs$Doing", "BookPairs$Sheet"]
/-- what the tables say beside xK -/
def yK (E : xE) (U : State) : Prop := (∀ q ∈ fwl, va_Fw q.1 q.2.1 q.2.2 U) ∧ (∀ q ∈ ncl, va_Nc q.1 q.2 U) ∧ (∀ C ∈ aol, va_AO C U) ∧ va_Mi "[Ljava/lang/Object;" (E.2 21) U ∧ va_Dc U ∧ yX E U
theorem fwl_cls : ∀ q ∈ fwl, q.2.1.cls ≠ "java/lang/invoke/MethodHandle" ∧ q.2.1.cls ≠ "java/lang/invoke/VarHandle" := by decide
theorem yK.moved {E : xE} {s U : State} (hW : s.WarmedH U.vm) (h : yK E s) : yK E U := ⟨fun q hq => va_Fw.moved (fwl_cls q hq) hW.alike (h.1 q hq), fun q hq => va_Nc.moved hW.alike (h.2.1 q hq), fun C hC => va_AO.moved hW.alike (h.2.2.1 C hC), va_Mi.moved hW.alike h.2.2.2.1, va_Dc.moved hW.alike h.2.2.2.2.1, h.2.2.2.2.2.moved hW⟩
theorem yK.same {E : xE} {s U : State} (hv : s.vm = U.vm) (h : yK E s) : yK E U := by
  have hA : s.vm.Alike U.vm := by rw [hv]; exact Vm.Alike.refl _
  exact ⟨fun q hq => va_Fw.moved (fwl_cls q hq) hA (h.1 q hq), fun q hq => va_Nc.moved hA (h.2.1 q hq), fun C hC => va_AO.moved hA (h.2.2.1 C hC), va_Mi.moved hA h.2.2.2.1, va_Dc.moved hA h.2.2.2.2.1, h.2.2.2.2.2.same hv⟩
/-- beside them, the cells outside of the world that are read -/
def zK (E : xE) (A : Nat → Prop) (U : State) (H : Heap) : Prop := yK E U ∧ va_Z "java/util/ArrayList" "DEFAULTCAPACITY_EMPTY_ELEMENTDATA" "[Ljava/lang/Object;" (.ref (E.2 20)) A U H ∧ va_T (.object "java/lang/Object") (E.2 20) 0 (fun _ => .null) A U H
theorem zK.go {E : xE} {A : Nat → Prop} {s U : State} {w : xw} {H : Heap} {locs : List Loc} (h : zK E A s s.heap) (hB : xB E A s w H locs) (hU : U.heap = H) (hW : s.WarmedH U.vm) : zK E (xA w H.size) U U.heap := by
  obtain ⟨h1, h2, h3⟩ := h
  have hk : ∀ a : Nat, a < s.heap.size → ¬ A a → H[a]? = s.heap[a]? := hB.2.2.1.2.1
  rw [hU]
  exact ⟨h1.moved hW, ((h2.moved hW.alike).kept hk).narrow hB.sub, ((h3.moved hW.alike).kept hk).narrow hB.sub⟩
theorem zK.same {E : xE} {A : Nat → Prop} {s U : State} {H : Heap} (hv : s.vm = U.vm) (h : zK E A s H) : zK E A U H := by
  have hA : s.vm.Alike U.vm := by rw [hv]; exact Vm.Alike.refl _
  exact ⟨h.1.same hv, h.2.1.moved hA, h.2.2.moved hA⟩
def xPz (E : xE) (w : xw) (sz : Nat) (av : List Value) : Array Value → State → Prop := va_Pc av (fun U => U.heap.size = sz ∧ xP E w U.heap ∧ xK E U ∧ zK E (xA w sz) U U.heap)
theorem xPz.blind {E : xE} {w : xw} {sz : Nat} {av : List Value} : FrameBlind (xPz E w sz av) := fun a U g mk q => ⟨q.1, q.2.1, q.2.2.1, xK.same (s := U) (U := U.calling g mk a) rfl q.2.2.2.1, zK.same (s := U) (U := U.calling g mk a) rfl q.2.2.2.2⟩
theorem xPz.at {E : xE} {A : Nat → Prop} {s U : State} {w : xw} {H : Heap} {locs : List Loc} {av : List Value} (hB : xB E A s w H locs) (hK : xK E s) (hZ : zK E A s s.heap) (hU : U.heap = H) (hW : s.WarmedH U.vm) : xPz E w H.size av av.toArray U := ⟨rfl, by rw [hU], by rw [hU]; exact hB.1, hK.moved hW, hZ.go hB hU hW⟩
theorem zpreV {E : xE} {A : Nat → Prop} {s : State} {w : xw} {H : Heap} {locs : List Loc} {b ci : Nat} {fs : List Value} {q : vw_C} {As : List Value} {C : String} (hB : xB E A s w H locs) (hK : xK E s) (hZ : zK E A s s.heap) (hb : w b = some (xO ci fs)) (hc : vwCl[ci]? = some q) (hC : q.1 = C) : PreV s H C b (xPz E w H.size (.ref b :: As)) As := by
  subst hC
  exact ⟨xPz.blind, xrecv hK hB.1 hb hc, fun U hU hW => xPz.at hB hK hZ hU hW⟩
theorem zpreS {E : xE} {A : Nat → Prop} {s : State} {w : xw} {H : Heap} {locs : List Loc} {As : List Value} (hB : xB E A s w H locs) (hK : xK E s) (hZ : zK E A s s.heap) : PreS s H (xPz E w H.size As) As := ⟨xPz.blind, fun U hU hW => xPz.at hB hK hZ hU hW⟩
theorem x_bodyz {l : Launch} {E : xE} {y : MethodName} {cc : ByteArray} {nL rf rl mc ms : Nat} {ret : Option FieldType} {av : List Value} {w : xw} {sz : Nat} {Qc : Array Value → State → Outcome → State → Prop} (hy : plainName y.cls = true) (hlen : (lg_sl av).length ≤ nL)
    (body : ∀ (p : Program) (e : Env) (s : State) (m : MethodId) (args : Array Value) (below : List Frame) (meth : Method) (c : Code) (ls : Array Slot), p.tables.exec = Jvm.exec → c.code = cc → xC E p s m args c cc nL y.cls → meth.sig.returnType = ret → meth.locks = false → (y.name = "<init>" → meth.name = "<init>") → s.heap.size = sz → zK E (xA w sz) s s.heap → xB E (xA w sz) s w s.heap [] → lv_has ls nL (lv_args 0 av) → W p l e { frames := rf, cells := mc, slots := ms, locals := rl } s m args below meth c s.heap [] 0 0 (MQ below Qc args s mc ms (xA w sz)) (F0 m 0 ls [])) : Met l y (ws_ y cc nL ret) { frames := rf, cells := mc, slots := ms, locals := rl } (xPz E w sz av) Qc mc ms (xA w sz) := by
  refine Met.ofW (cc := cc) (maxL := nL) (ret := ret) hy rfl ?_
  intro p e s m args below meth c s₁ B hml hv
  obtain ⟨rfl, hsz, hP, hK, hZ⟩ := hv
  have hts := atoms_spec (ws := ws_ y cc nL ret) B.pre
  have hts : ∀ w ∈ lw_all, w.before _ s = true := fun w h => hts w (List.mem_cons_of_mem _ h)
  have hown : s.vm.findClass y.cls = some m.cls := findClass_of_methodNamed B.named
  have hS : va_S (xA w sz) s.heap s.heap [] := va_S.rf
  rw [lg_entry_eq]
  exact body p e s m _ below meth c _ B.exec B.bytes ⟨⟨B.exec, B.bytes, hml, hown, hts⟩, hK⟩ B.returns B.notSynchronized (fun h => (name_of_methodNamed B.named B.method).1.trans h) hsz hZ ⟨hP, fun a e h => Or.inl ⟨e, h⟩, hS, fun q h => Or.inr (hsz ▸ h)⟩ (lv_entry av hlen)
/-! ## contracts over a whole map -/
def gQi (post : Int → xw → Prop) : Int32 → xw → Prop := fun r w' => ∃ z, r = iI z ∧ rg z ∧ post z w'
def gQl (post : Int → xw → Prop) : Int64 → xw → Prop := fun r w' => ∃ z, r = lI z ∧ rgl z ∧ post z w'
abbrev rm_ (rf rl mc ms : Nat) : Room := { frames := rf, cells := mc, slots := ms, locals := rl }
abbrev gi_ (l : Launch) (E : xE) (y : MethodName) (cc : ByteArray) (nL : Nat) (ret : Option FieldType) (rf rl mc ms : Nat) (av : List Value) (w : xw) (post : Int → xw → Prop) : Prop := ∀ sz : Nat, Met l y (ws_ y cc nL ret) (rm_ rf rl mc ms) (xPz E w sz av) (va_Qi (gQi post) (xEnd E (xA w sz)) (xA w sz)) mc ms (xA w sz)
abbrev gl_ (l : Launch) (E : xE) (y : MethodName) (cc : ByteArray) (nL : Nat) (ret : Option FieldType) (rf rl mc ms : Nat) (av : List Value) (w : xw) (post : Int → xw → Prop) : Prop := ∀ sz : Nat, Met l y (ws_ y cc nL ret) (rm_ rf rl mc ms) (xPz E w sz av) (va_Ql (gQl post) (xEnd E (xA w sz)) (xA w sz)) mc ms (xA w sz)
abbrev gv_ (l : Launch) (E : xE) (y : MethodName) (cc : ByteArray) (nL : Nat) (ret : Option FieldType) (rf rl mc ms : Nat) (av : List Value) (w : xw) (post : xw → Prop) : Prop := ∀ sz : Nat, Met l y (ws_ y cc nL ret) (rm_ rf rl mc ms) (xPz E w sz av) (va_Qv post (xEnd E (xA w sz)) (xA w sz)) mc ms (xA w sz)
abbrev gq_ (l : Launch) (E : xE) (y : MethodName) (cc : ByteArray) (nL : Nat) (ret : Option FieldType) (rf rl mc ms : Nat) (av : List Value) (w : xw) (post : Option Nat → xw → Prop) : Prop := ∀ sz : Nat, Met l y (ws_ y cc nL ret) (rm_ rf rl mc ms) (xPz E w sz av) (va_Qq post (xEnd E (xA w sz)) (xA w sz)) mc ms (xA w sz)
section GR
variable {p : Program} {l : Launch} {e : Env} {R : Room} {s : State} {m : MethodId} {args : Array Value} {below : List Frame} {meth : Method} {c : Code} {H : Heap} {locs : List Loc} {cells slots mc ms : Nat} {Q : State → Prop}
variable {cc : ByteArray} {pc nL : Nat} {ls : Array Slot} {rest st0 : List Value} {E : xE} {A : Nat → Prop} {w : xw} {own : String} {a : Array Value}
theorem g_iret (C : xC E p s m args c cc nL own) (hB : xB E A s w H locs) {ty : FieldType} (hr : meth.sig.returnType = some ty) (hlocks : meth.locks = false) {z : Int} (hn : narrow ty (.int (iI z)) = .int (iI z)) (hdg : decode cc pc = .ok (.ireturn, 1)) {post : Int → xw → Prop} (h1 : cells ≤ mc) (h2 : slots ≤ ms) (hz : rg z) (hp : post z w) : W p l e R s m args below meth c H locs cells slots (MQ below (va_Qi (gQi post) (xEnd E A) A) args s mc ms A) (F0 m pc ls [.int (iI z)]) := by
  obtain ⟨hP, hD, hS, hA⟩ := hB
  refine x_up h1 h2 ?_
  exact W.zret C.1.1 C.1.2.1 hr hn (fun t ht hW => ⟨⟨_, w, rfl, ⟨z, rfl, hz, hp⟩, by rw [ht]; exact hP, hD⟩, hS.F ht⟩) hS.2.2 hdg hlocks
theorem g_lret (C : xC E p s m args c cc nL own) (hB : xB E A s w H locs) (hr : meth.sig.returnType = some .long) (hlocks : meth.locks = false) {z : Int} (hdg : decode cc pc = .ok (.lreturn, 1)) {post : Int → xw → Prop} (h1 : cells ≤ mc) (h2 : slots ≤ ms) (hz : rgl z) (hp : post z w) : W p l e R s m args below meth c H locs cells slots (MQ below (va_Ql (gQl post) (xEnd E A) A) args s mc ms A) (F0 m pc ls [.long (lI z)]) := by
  obtain ⟨hP, hD, hS, hA⟩ := hB
  refine x_up h1 h2 ?_
  exact W.lret C.1.1 C.1.2.1 hr (fun t ht hW => ⟨⟨_, w, rfl, ⟨z, rfl, hz, hp⟩, by rw [ht]; exact hP, hD⟩, hS.F ht⟩) hS.2.2 hdg hlocks
theorem g_vret (C : xC E p s m args c cc nL own) (hB : xB E A s w H locs) (hr : meth.sig.returnType = none) (hlocks : meth.locks = false) (hdg : decode cc pc = .ok (.return_, 1)) {post : xw → Prop} (h1 : cells ≤ mc) (h2 : slots ≤ ms) (hp : post w) : W p l e R s m args below meth c H locs cells slots (MQ below (va_Qv post (xEnd E A) A) args s mc ms A) (F0 m pc ls []) := by
  obtain ⟨hP, hD, hS, hA⟩ := hB
  refine x_up h1 h2 ?_
  exact W.vret C.1.1 C.1.2.1 hr (fun t ht hW => ⟨⟨w, rfl, hp, by rw [ht]; exact hP, hD⟩, hS.F ht⟩) hS.2.2 hdg hlocks
theorem g_qret (C : xC E p s m args c cc nL own) (hB : xB E A s w H locs) {ty : FieldType} (hr : meth.sig.returnType = some ty) (hty : (∃ n, ty = .object n) ∨ ∃ t, ty = .array t) (hlocks : meth.locks = false) (q : Option Nat) (hdg : decode cc pc = .ok (.areturn, 1)) {post : Option Nat → xw → Prop} (h1 : cells ≤ mc) (h2 : slots ≤ ms) (hp : post q w) : W p l e R s m args below meth c H locs cells slots (MQ below (va_Qq post (xEnd E A) A) args s mc ms A) (F0 m pc ls [va_rf q]) := by
  obtain ⟨hP, hD, hS, hA⟩ := hB
  refine x_up h1 h2 ?_
  exact W.aret C.1.1 C.1.2.1 hr hty (va_rf_or q) (fun t ht hW => ⟨⟨q, w, rfl, hp, by rw [ht]; exact hP, hD⟩, hS.F ht⟩) hS.2.2 hdg hlocks
/-! calls: the run is handed in -/
theorem g_calli (c2 s2 : Nat) (h1 : cells + mc ≤ c2) (h2 : slots + ms ≤ s2) (hB : xB E A s w H locs) {post : Int → xw → Prop} (hr : va_Run p l e R s m args below meth c H locs cells slots mc ms (F0 m pc ls st0) rest (va_Qi (gQi post) (xEnd E (xA w H.size)) (xA w H.size) a) (xA w H.size))
    (kk : ∀ (z : Int) (w1 : xw) (H1 : Heap) (locs1 : List Loc), rg z → post z w1 → xB E A s w1 H1 locs1 → W p l e R s m args below meth c H1 locs1 c2 s2 Q (F0 m (pc + 3) ls (.int (iI z) :: rest))) : W p l e R s m args below meth c H locs cells slots Q (F0 m pc ls st0) := by
  refine va_calli (A0 := A) hr hB.2.2.1 (fun q _ h => hB.sub q h) hB.sub (fun r u t H1 locs1 ht hvm hp hE hz hk hS => x_up h1 h2 ?_)
  obtain ⟨z, rfl, hz, hp⟩ := hp
  exact kk z u H1 locs1 hz hp (hB.call ht hE hS)
theorem g_calll (c2 s2 : Nat) (h1 : cells + mc ≤ c2) (h2 : slots + ms ≤ s2) (hB : xB E A s w H locs) {post : Int → xw → Prop} (hr : va_Run p l e R s m args below meth c H locs cells slots mc ms (F0 m pc ls st0) rest (va_Ql (gQl post) (xEnd E (xA w H.size)) (xA w H.size) a) (xA w H.size))
    (kk : ∀ (z : Int) (w1 : xw) (H1 : Heap) (locs1 : List Loc), rgl z → post z w1 → xB E A s w1 H1 locs1 → W p l e R s m args below meth c H1 locs1 c2 s2 Q (F0 m (pc + 3) ls (.long (lI z) :: rest))) : W p l e R s m args below meth c H locs cells slots Q (F0 m pc ls st0) := by
  refine va_calll (A0 := A) hr hB.2.2.1 (fun q _ h => hB.sub q h) hB.sub (fun r u t H1 locs1 ht hvm hp hE hz hk hS => x_up h1 h2 ?_)
  obtain ⟨z, rfl, hz, hp⟩ := hp
  exact kk z u H1 locs1 hz hp (hB.call ht hE hS)
theorem g_callv (c2 s2 : Nat) (h1 : cells + mc ≤ c2) (h2 : slots + ms ≤ s2) (hB : xB E A s w H locs) {post : xw → Prop} (hr : va_Run p l e R s m args below meth c H locs cells slots mc ms (F0 m pc ls st0) rest (va_Qv post (xEnd E (xA w H.size)) (xA w H.size) a) (xA w H.size))
    (kk : ∀ (w1 : xw) (H1 : Heap) (locs1 : List Loc), post w1 → xB E A s w1 H1 locs1 → W p l e R s m args below meth c H1 locs1 c2 s2 Q (F0 m (pc + 3) ls rest)) : W p l e R s m args below meth c H locs cells slots Q (F0 m pc ls st0) := by
  refine va_callv (A0 := A) hr hB.2.2.1 (fun q _ h => hB.sub q h) hB.sub (fun u t H1 locs1 ht hvm hp hE hz hk hS => x_up h1 h2 ?_)
  exact kk u H1 locs1 hp (hB.call ht hE hS)
theorem g_callq (c2 s2 : Nat) (h1 : cells + mc ≤ c2) (h2 : slots + ms ≤ s2) (hB : xB E A s w H locs) {post : Option Nat → xw → Prop} (hr : va_Run p l e R s m args below meth c H locs cells slots mc ms (F0 m pc ls st0) rest (va_Qq post (xEnd E (xA w H.size)) (xA w H.size) a) (xA w H.size))
    (kk : ∀ (q : Option Nat) (w1 : xw) (H1 : Heap) (locs1 : List Loc), post q w1 → xB E A s w1 H1 locs1 → W p l e R s m args below meth c H1 locs1 c2 s2 Q (F0 m (pc + 3) ls (va_rf q :: rest))) : W p l e R s m args below meth c H locs cells slots Q (F0 m pc ls st0) := by
  refine va_callq (A0 := A) hr hB.2.2.1 (fun q _ h => hB.sub q h) hB.sub (fun r u t H1 locs1 ht hvm hp hE hz hk hS => x_up h1 h2 ?_)
  exact kk r u H1 locs1 hp (hB.call ht hE hS)
theorem g_callFi (c2 s2 : Nat) (h1 : cells + mc ≤ c2) (h2 : slots + ms ≤ s2) (hB : xB E A s w H locs) {post : Int → xw → Prop} (hr : va_Run5 p l e R s m args below meth c H locs cells slots mc ms (F0 m pc ls st0) rest (va_Qi (gQi post) (xEnd E (xA w H.size)) (xA w H.size) a) (xA w H.size))
    (kk : ∀ (z : Int) (w1 : xw) (H1 : Heap) (locs1 : List Loc), rg z → post z w1 → xB E A s w1 H1 locs1 → W p l e R s m args below meth c H1 locs1 c2 s2 Q (F0 m (pc + 5) ls (.int (iI z) :: rest))) : W p l e R s m args below meth c H locs cells slots Q (F0 m pc ls st0) := by
  refine va_callFi (A0 := A) hr hB.2.2.1 (fun q _ h => hB.sub q h) hB.sub (fun r u t H1 locs1 ht hvm hp hE hz hk hS => x_up h1 h2 ?_)
  obtain ⟨z, rfl, hz, hp⟩ := hp
  exact kk z u H1 locs1 hz hp (hB.call ht hE hS)
theorem g_callFv (c2 s2 : Nat) (h1 : cells + mc ≤ c2) (h2 : slots + ms ≤ s2) (hB : xB E A s w H locs) {post : xw → Prop} (hr : va_Run5 p l e R s m args below meth c H locs cells slots mc ms (F0 m pc ls st0) rest (va_Qv post (xEnd E (xA w H.size)) (xA w H.size) a) (xA w H.size))
    (kk : ∀ (w1 : xw) (H1 : Heap) (locs1 : List Loc), post w1 → xB E A s w1 H1 locs1 → W p l e R s m args below meth c H1 locs1 c2 s2 Q (F0 m (pc + 5) ls rest)) : W p l e R s m args below meth c H locs cells slots Q (F0 m pc ls st0) := by
  refine va_callFv (A0 := A) hr hB.2.2.1 (fun q _ h => hB.sub q h) hB.sub (fun u t H1 locs1 ht hvm hp hE hz hk hS => x_up h1 h2 ?_)
  exact kk u H1 locs1 hp (hB.call ht hE hS)
theorem g_callFq (c2 s2 : Nat) (h1 : cells + mc ≤ c2) (h2 : slots + ms ≤ s2) (hB : xB E A s w H locs) {post : Option Nat → xw → Prop} (hr : va_Run5 p l e R s m args below meth c H locs cells slots mc ms (F0 m pc ls st0) rest (va_Qq post (xEnd E (xA w H.size)) (xA w H.size) a) (xA w H.size))
    (kk : ∀ (q : Option Nat) (w1 : xw) (H1 : Heap) (locs1 : List Loc), post q w1 → xB E A s w1 H1 locs1 → W p l e R s m args below meth c H1 locs1 c2 s2 Q (F0 m (pc + 5) ls (va_rf q :: rest))) : W p l e R s m args below meth c H locs cells slots Q (F0 m pc ls st0) := by
  refine va_callFq (A0 := A) hr hB.2.2.1 (fun q _ h => hB.sub q h) hB.sub (fun r u t H1 locs1 ht hvm hp hE hz hk hS => x_up h1 h2 ?_)
  exact kk r u H1 locs1 hp (hB.call ht hE hS)
end GR
/-! ## contracts of x's: x's state and temps -/
def bQ (E : xE) (o : Nat) {α : Type} (post : α → (Nat → Nat) → (Nat → Int) → (Nat → Nat → Int) → xw → Prop) : α → xw → Prop := fun z w' => ∃ (Ad' : Nat → Nat) (I' : Nat → Int) (F' : Nat → Nat → Int) (X' w1 : xw), xInv E o Ad' I' F' w1 ∧ wD w1 X' ∧ w' = wU w1 X' ∧ post z Ad' I' F' X'
abbrev ci_ (l : Launch) (E : xE) (y : MethodName) (cc : ByteArray) (nL : Nat) (ret : Option FieldType) (rf rl mc ms : Nat) (av : List Value) (o : Nat) (Ad : Nat → Nat) (I : Nat → Int) (F : Nat → Nat → Int) (X : xw) (post : Int → (Nat → Nat) → (Nat → Int) → (Nat → Nat → Int) → xw → Prop) : Prop := ∀ w : xw, xInv E o Ad I F w → wD w X → gi_ l E y cc nL ret rf rl mc ms av (wU w X) (bQ E o post)
abbrev cl_ (l : Launch) (E : xE) (y : MethodName) (cc : ByteArray) (nL : Nat) (ret : Option FieldType) (rf rl mc ms : Nat) (av : List Value) (o : Nat) (Ad : Nat → Nat) (I : Nat → Int) (F : Nat → Nat → Int) (X : xw) (post : Int → (Nat → Nat) → (Nat → Int) → (Nat → Nat → Int) → xw → Prop) : Prop := ∀ w : xw, xInv E o Ad I F w → wD w X → gl_ l E y cc nL ret rf rl mc ms av (wU w X) (bQ E o post)
abbrev cv_ (l : Launch) (E : xE) (y : MethodName) (cc : ByteArray) (nL : Nat) (ret : Option FieldType) (rf rl mc ms : Nat) (av : List Value) (o : Nat) (Ad : Nat → Nat) (I : Nat → Int) (F : Nat → Nat → Int) (X : xw) (post : Unit → (Nat → Nat) → (Nat → Int) → (Nat → Nat → Int) → xw → Prop) : Prop := ∀ w : xw, xInv E o Ad I F w → wD w X → gv_ l E y cc nL ret rf rl mc ms av (wU w X) (bQ E o post ())
abbrev cq_ (l : Launch) (E : xE) (y : MethodName) (cc : ByteArray) (nL : Nat) (ret : Option FieldType) (rf rl mc ms : Nat) (av : List Value) (o : Nat) (Ad : Nat → Nat) (I : Nat → Int) (F : Nat → Nat → Int) (X : xw) (post : Option Nat → (Nat → Nat) → (Nat → Int) → (Nat → Nat → Int) → xw → Prop) : Prop := ∀ w : xw, xInv E o Ad I F w → wD w X → gq_ l E y cc nL ret rf rl mc ms av (wU w X) (bQ E o post)
