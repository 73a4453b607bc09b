/-! LAMBDAS MADE: invokedynamic -/
set_option maxRecDepth 100000
theorem arr_three {α : Type} {x : Array Nat} {f : Nat → Nat → Nat → Option α} {r : α} (h : Lambda.shapeOf?.match_15 (fun _ => Option α) x f (fun _ => none) = some r) : ∃ a b c, f a b c = some r := by
  rcases x with ⟨_ | ⟨a, _ | ⟨b, _ | ⟨c, _ | ⟨d, L⟩⟩⟩⟩⟩
  · cases h
  · cases h
  · cases h
  · exact ⟨a, b, c, h⟩
  · cases h
/-- what a shape says of its site's entry -/
theorem shape_site {cf : ClassFile} {index : Nat} {sh : Lambda.Shape} (h : Lambda.shapeOf? cf index = some sh) : ∃ (b nt : Nat) (desc : String) (site : MethodDescriptor), cf.constantPool[index]? = some (.invokeDynamic b nt) ∧ cf.constantPool.nameAndType? nt = some (sh.name, desc) ∧ parseMethodDescriptor desc = some site ∧ site.parameters = sh.captured := by
  unfold Lambda.shapeOf? at h
  split at h
  · rename_i b nt hc
    obtain ⟨entries, -, h⟩ := Option.bind_eq_some_iff.mp h
    obtain ⟨bm, -, h⟩ := Option.bind_eq_some_iff.mp h
    split at h
    · obtain ⟨_, -, h⟩ := Option.bind_eq_some_iff.mp h
      obtain ⟨a0, a1, a2, h⟩ := arr_three h
      split at h
      · split at h
        · split at h
          · obtain ⟨⟨name, desc⟩, hnt, h⟩ := Option.bind_eq_some_iff.mp h
            obtain ⟨site, hsite, h⟩ := Option.bind_eq_some_iff.mp h
            split at h
            · obtain ⟨⟨implClass, implName, implDesc, implItf⟩, -, h⟩ := Option.bind_eq_some_iff.mp h
              obtain ⟨_, -, h⟩ := Option.bind_eq_some_iff.mp h
              obtain ⟨_, -, h⟩ := Option.bind_eq_some_iff.mp h
              obtain ⟨_, -, h⟩ := Option.bind_eq_some_iff.mp h
              obtain ⟨_, -, h⟩ := Option.bind_eq_some_iff.mp h
              obtain ⟨_, -, h⟩ := Option.bind_eq_some_iff.mp h
              cases h
              exact ⟨b, nt, desc, site, hc, hnt, hsite, rfl⟩
            · cases h
          · cases h
        · cases h
      · cases h
    · cases h
  · cases h
section LN
variable {p : Program} {l : Launch} {e : Env} {R : Room} {s : State} {m : MethodId} {args : Array Value} {below : List Frame} {meth : Method} {c : Code} {H : Heap} {locs : List Loc} {cells slots mc ms : Nat} {Q : State → Prop}
variable {cc : ByteArray} {pc nL : Nat} {ls : Array Slot} {rest st0 : List Value} {E : xE} {A : Nat → Prop} {w : xw} {own : String} {o : Nat}
set_option maxHeartbeats 1000000 in
theorem x_lam1 {x : MethodName} {index i : Nat} (hi : i < 9) (C : xC E p s m args c cc nL own) (hZ : zK E A s s.heap) (hB : xB E A s w H locs) (hnm : s.methodNamed? x = some m) (hs : (i, x, pc, index) ∈ lsites)  (hl : ls.size = nL) (hwords : (rest.map fun v => v.category).sum + 1 + 3072 ≤ R.locals) (hcells : cells + 1 ≤ R.cells) (hslots : slots + 1 ≤ R.slots) (hdg : decode cc pc = .ok (.invokedynamic index, 5))
    (kk : ∀ (q : Nat) (H1 : Heap), w q = none → s.heap.size ≤ q → xB E A s (va_up w q (some (.inr { cls := E.2 (10 + i), slots := #[.ref o], vm := .none }))) H1 locs → W p l e R s m args below meth c H1 locs (cells + 1) (slots + 1) Q (F0 m (pc + 5) ls (.ref q :: rest))) : W p l e R s m args below meth c H locs cells slots Q (F0 m pc ls (.ref o :: rest)) := by
  obtain ⟨⟨hx0, hb, hml, hown, hts⟩, hK⟩ := C
  have hi10 : i < 10 := by omega
  obtain ⟨m0, k, cf, i0, p0, h1, h2, h3, h4, h5⟩ := hZ.1.2.2.2.2.2.2.1 _ hs
  cases hnm.symm.trans h1
  obtain ⟨d, dk, hd1, hd2, hd3, hmade, hcan⟩ := hZ.1.2.2.2.2.2.1 i hi10
  obtain ⟨b, nt, desc, site, hc, hnt, hpd, hsp⟩ := shape_site h4
  obtain ⟨kK, tk, file, methk, ckK, toy, tt, f0, hkK, hkn, hfile, hpool, hmk, hckK, hbytes, hmlK, hlkK, hfl, hretk, htoy, htk, hitf, hlook, hready, hclsR, hfr, hfs, hf0, hf9, hkd, hit⟩ := lam_made hi10 hd2 hd3 hmade (lam_hO (Vm.Alike.refl _) (hts _ q1789))
  have hcap : (lam i).captured = [.object "BookPairs"] := by
    rcases (show i = 0 ∨ i = 1 ∨ i = 2 ∨ i = 3 ∨ i = 4 ∨ i = 5 ∨ i = 6 ∨ i = 7 ∨ i = 8 by omega) with h | h | h | h | h | h | h | h | h <;> (rw [h]; rfl)
  rw [hcap] at hit hsp
  have hslotsE : ((kK.instanceTypes.toList.zip [.ref o]).map fun (t, v) => narrow t v) = [.ref o] := by rw [hit]; rfl
  intro T hT X
  obtain ⟨X₁, st1⟩ := X.lambdaMakes hx0 (g := F0 m pc ls (.ref o :: rest)) rfl (hl.trans hml.symm) (by rw [hb]; exact hdg) (vals := [.ref o]) (rest := rest) h2 h5 h3 hc hnt (parseLong_of_parse hpd) (by rw [hsp]; rfl) rfl hkK
    (by rw [X.admits.platform]; show 2 * 0 + (1 + (rest.map fun v => v.category).sum) + 3072 ≤ R.locals; omega) hcells (by rw [hslotsE]; exact hslots)
    (fun j v hv => by
      rw [hslotsE] at hv
      cases j with
      | zero => simp at hv; subst hv; simp [State.fitsSlot, State.slotType?, hkK, hkd, hit, fits]
      | succ j => simp at hv)
  rw [hslotsE] at X₁ st1
  have hz : T.heap.size = H.size := by rw [hT]
  obtain ⟨t2, a1, b1⟩ := kk H.size (T.pushCell { cls := E.2 (10 + i), slots := [.ref o].toArray, vm := .none }).heap hB.fresh hB.2.2.1.1
    (hB.new (show (T.pushCell _).heap[H.size]? = some _ by rw [← hz]; exact State.heap_pushCell_size _ _) (by show (T.heap.push _).size = _; rw [Array.size_push, hT]) (fun q hq => by rw [State.heap_pushCell_of_lt _ _ (by rw [hT]; exact hq), hT])) _ rfl X₁
  exact ⟨t2, st1 t2 (by rw [hz]; exact a1), b1⟩
set_option maxHeartbeats 1000000 in
theorem x_lam2 {x : MethodName} {index i : Nat} (hi : i = 9) (C : xC E p s m args c cc nL own) (hZ : zK E A s s.heap) (hB : xB E A s w H locs) (hnm : s.methodNamed? x = some m) (hs : (i, x, pc, index) ∈ lsites) {z : Int32} (hl : ls.size = nL) (hwords : (rest.map fun v => v.category).sum + 2 + 3072 ≤ R.locals) (hcells : cells + 1 ≤ R.cells) (hslots : slots + 2 ≤ R.slots) (hdg : decode cc pc = .ok (.invokedynamic index, 5))
    (kk : ∀ (q : Nat) (H1 : Heap), w q = none → s.heap.size ≤ q → xB E A s (va_up w q (some (.inr { cls := E.2 (10 + i), slots := #[.ref o, .int z], vm := .none }))) H1 locs → W p l e R s m args below meth c H1 locs (cells + 1) (slots + 2) Q (F0 m (pc + 5) ls (.ref q :: rest))) : W p l e R s m args below meth c H locs cells slots Q (F0 m pc ls (.int z :: .ref o :: rest)) := by
  obtain ⟨⟨hx0, hb, hml, hown, hts⟩, hK⟩ := C
  have hi10 : i < 10 := by omega
  obtain ⟨m0, k, cf, i0, p0, h1, h2, h3, h4, h5⟩ := hZ.1.2.2.2.2.2.2.1 _ hs
  cases hnm.symm.trans h1
  obtain ⟨d, dk, hd1, hd2, hd3, hmade, hcan⟩ := hZ.1.2.2.2.2.2.1 i hi10
  obtain ⟨b, nt, desc, site, hc, hnt, hpd, hsp⟩ := shape_site h4
  obtain ⟨kK, tk, file, methk, ckK, toy, tt, f0, hkK, hkn, hfile, hpool, hmk, hckK, hbytes, hmlK, hlkK, hfl, hretk, htoy, htk, hitf, hlook, hready, hclsR, hfr, hfs, hf0, hf9, hkd, hit⟩ := lam_made hi10 hd2 hd3 hmade (lam_hO (Vm.Alike.refl _) (hts _ q1789))
  have hcap : (lam i).captured = [.object "BookPairs", .int] := by
    rw [hi]; rfl
  rw [hcap] at hit hsp
  have hslotsE : ((kK.instanceTypes.toList.zip [.ref o, .int z]).map fun (t, v) => narrow t v) = [.ref o, .int z] := by rw [hit]; rfl
  intro T hT X
  obtain ⟨X₁, st1⟩ := X.lambdaMakes hx0 (g := F0 m pc ls (.int z :: .ref o :: rest)) rfl (hl.trans hml.symm) (by rw [hb]; exact hdg) (vals := [.ref o, .int z]) (rest := rest) h2 h5 h3 hc hnt (parseLong_of_parse hpd) (by rw [hsp]; rfl) rfl hkK
    (by rw [X.admits.platform]; show 2 * 0 + (1 + (1 + (rest.map fun v => v.category).sum)) + 3072 ≤ R.locals; omega) hcells (by rw [hslotsE]; exact hslots)
    (fun j v hv => by
      rw [hslotsE] at hv
      rcases j with _ | _ | j
      · simp at hv; subst hv; simp [State.fitsSlot, State.slotType?, hkK, hkd, hit, fits]
      · simp at hv; subst hv; simp [State.fitsSlot, State.slotType?, hkK, hkd, hit, fits]
      · simp at hv)
  rw [hslotsE] at X₁ st1
  have hz : T.heap.size = H.size := by rw [hT]
  obtain ⟨t2, a1, b1⟩ := kk H.size (T.pushCell { cls := E.2 (10 + i), slots := [.ref o, .int z].toArray, vm := .none }).heap hB.fresh hB.2.2.1.1
    (hB.new (show (T.pushCell _).heap[H.size]? = some _ by rw [← hz]; exact State.heap_pushCell_size _ _) (by show (T.heap.push _).size = _; rw [Array.size_push, hT]) (fun q hq => by rw [State.heap_pushCell_of_lt _ _ (by rw [hT]; exact hq), hT])) _ rfl X₁
  exact ⟨t2, st1 t2 (by rw [hz]; exact a1), b1⟩
end LN
/-- a body whose method is named -/
theorem x_bodyn {l : Launch} {E : xE} {y : MethodName} {cc : ByteArray} {nL rf rl mc ms : Nat} {ret : Option FieldType} {av : List Value} {w : xw} {sz : Nat} {Qc : Array Value → State → Outcome → State → Prop} (hy : plainName y.cls = true) (hlen : (lg_sl av).length ≤ nL)
    (body : ∀ (p : Program) (e : Env) (s : State) (m : MethodId) (args : Array Value) (below : List Frame) (meth : Method) (c : Code) (ls : Array Slot), p.tables.exec = Jvm.exec → c.code = cc → xC E p s m args c cc nL y.cls → meth.sig.returnType = ret → meth.locks = false → (y.name = "<init>" → meth.name = "<init>") → s.methodNamed? y = some m → s.heap.size = sz → zK E (xA w sz) s s.heap → xB E (xA w sz) s w s.heap [] → lv_has ls nL (lv_args 0 av) → W p l e { frames := rf, cells := mc, slots := ms, locals := rl } s m args below meth c s.heap [] 0 0 (MQ below Qc args s mc ms (xA w sz)) (F0 m 0 ls [])) : Met l y (ws_ y cc nL ret) { frames := rf, cells := mc, slots := ms, locals := rl } (xPz E w sz av) Qc mc ms (xA w sz) := by
  refine Met.ofW (cc := cc) (maxL := nL) (ret := ret) hy rfl ?_
  intro p e s m args below meth c s₁ B hml hv
  obtain ⟨rfl, hsz, hP, hK, hZ⟩ := hv
  have hts := atoms_spec (ws := ws_ y cc nL ret) B.pre
  have hts : ∀ w ∈ lw_all, w.before _ s = true := fun w h => hts w (List.mem_cons_of_mem _ h)
  have hown : s.vm.findClass y.cls = some m.cls := findClass_of_methodNamed B.named
  have hS : va_S (xA w sz) s.heap s.heap [] := va_S.rf
  rw [lg_entry_eq]
  exact body p e s m _ below meth c _ B.exec B.bytes ⟨⟨B.exec, B.bytes, hml, hown, hts⟩, hK⟩ B.returns B.notSynchronized (fun h => (name_of_methodNamed B.named B.method).1.trans h) B.named hsz hZ ⟨hP, fun a e h => Or.inl ⟨e, h⟩, hS, fun q h => Or.inr (hsz ▸ h)⟩ (lv_entry av hlen)
