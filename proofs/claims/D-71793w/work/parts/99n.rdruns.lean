/-! RUNS of calls that land in BookPairs$Aloud's readAloud -/
set_option maxRecDepth 100000
theorem va_ldA {C : String} {x y : MethodName} {A A' : Array Value} {u : State} (h : (Cond.landsInDefault C x y).before A u = true) : (Cond.landsInDefault C x y).before A' u = true := by
  have h1 : (Cond.landsInDefault C x y).before A' (u.setVm u.vm) = true := (Cond.landsInDefault_setVm (Vm.Alike.refl _) rfl).trans h
  exact h1
section RD
variable {p : Program} {l : Launch} {e : Env} {R : Room} {s : State} {m : MethodId} {args : Array Value} {below : List Frame} {meth : Method} {c : Code} {H : Heap} {locs : List Loc} {cells slots : Nat}
variable {cc : ByteArray} {pc nL : Nat} {ls : Array Slot} {rest st0 : List Value} {E : xE} {A : Nat → Prop} {w : xw} {own Cn : String} {b ci : Nat} {fs : List Value} {q : vw_C}
variable {bytes : ByteArray} {maxL rf rl mc ms index : Nat} {ret : Option FieldType} {Qc : Array Value → State → Outcome → State → Prop} {free : Addr → Prop}
/-- through the interface -/
theorem rFD {count : Nat} (C : xC E p s m args c cc nL own) (hZ : zK E A s s.heap) (hB : xB E A s w H locs) (hLd : va_Ld Cn rdaN rdaN s) (hM : Met l rdaN (ws_ rdaN bytes maxL ret) (rm_ rf rl mc ms) (xPz E w H.size [.ref b]) Qc mc ms free) (hlk : Cond.methodLink own index rdaN ∈ lw_all) (hin : Cond.instanceMethod rdaN ∈ lw_all) (hini : Cond.initialized "BookPairs$Aloud" ∈ lw_all) (hco : Cond.code rdaN bytes maxL ret ∈ lw_all)
    (hR : rf + 1 ≤ R.frames ∧ 8 + (maxL + 11) + rl ≤ R.locals) (hb : w b = some (xO ci fs)) (hc : vwCl[ci]? = some q) (hC : q.1 = Cn) (hl : ls.size = nL) (hst : st0 = .ref b :: rest) (hW : (rest.map fun v => v.category).sum ≤ 8) (hdg : decode cc pc = .ok (.invokeinterface index count, 5)) (hcs : cells + mc ≤ R.cells ∧ slots + ms ≤ R.slots) :
    va_Run5 p l e R s m args below meth c H locs cells slots mc ms (F0 m pc ls st0) rest (Qc (Value.ref b :: []).toArray) free := by
  subst hst
  obtain ⟨cC, hat⟩ := xClassAt C.2 hc
  rw [hC] at hat
  have hp := zpreV (As := []) hB C.2 hZ hb hc hC
  obtain ⟨⟨hx, hb0, hml, ho, hts⟩, hKK⟩ := C
  have hws : ∀ w ∈ ws_ rdaN bytes maxL ret, ∀ (a' : Array Value) (U : State), s.WarmedH U.vm → w.before a' U = true := pay_in hts (lw_meth hco)
  have hK : Back l R p e below s args rdaN 5 8 (PreOf R mc ms (xPz E w H.size [.ref b])) (PostOf Qc mc ms free) := back_of (bytes := bytes) (maxL := maxL) (ret := ret) hM hp.1 rfl rfl hR.1 hR.2 hws List.mem_cons_self (fun a' U hW => word_at hW (Or.inl (by first | rfl | simp [Cond.onTables, Cond.keeps, Cond.steady])) (hts _ hini))
  obtain ⟨-, ⟨cellB, hcB, hoB, hclB⟩, hPc⟩ := hp
  obtain ⟨hfc, kB, hkB, -⟩ := hat
  cases hfc.symm.trans hclB
  obtain ⟨d1, d2, d3, d4, d5⟩ := hLd
  intro T hT X
  obtain ⟨v, vm₁, ⟨U', l2, c2, s2⟩, hW₁, X', ⟨g', mk, t, L, e1, e2, hq, h1, hL, h2, h3⟩, st⟩ := X.interfaceBackD hx (own := own) (index := index) (count := count) (xi := rdaN) (y := rdaN) (C := Cn) ho (hts _ hlk) (va_tabs rfl rfl d1) (va_tabs rfl rfl d2) (va_ldA d3) (hts _ hin) (va_tabs rfl rfl d4) (va_tabs rfl rfl d5) ⟨by decide, by decide⟩ hK (b := b) hclB hkB ⟨cellB, by rw [hT]; exact hcB, rfl, hoB⟩ (g := F0 m pc ls (.ref b :: rest)) rfl (hl.trans hml.symm) (Steps.refl _) (argsL := []) (rest := rest)
    (fun sig h => by
      have h2 : (parseMethodDescriptor rdaN.desc).map (fun d => d.parameters.length) = some 0 := by decide +kernel
      rw [h] at h2
      exact (Option.some.inj h2).symm) rfl (by show 2 * 0 + (rest.map fun v => v.category).sum ≤ 8; omega) (by rw [hb0]; exact hdg) (fun vm₁ hW₁ => ⟨hcs.1, hcs.2, hPc (T.setVm vm₁) hT hW₁⟩)
  dsimp only [Pt.U, Pt.locs, Pt.cells, Pt.slots] at X' e1 e2 h1 h2 h3 st
  subst h1; subst h2; subst h3
  exact ⟨v, (T.setVm vm₁).calling g' mk (Value.ref b :: []).toArray, t, U', L, hT, X', hL, e1, e2, hq, fun target h => st.trans h⟩
/-- by super -/
theorem rSD (C : xC E p s m args c cc nL "BookPairs$Doubled") (hZ : zK E A s s.heap) (hB : xB E A s w H locs) (hSd : va_Sd s) (hM : Met l rdaN (ws_ rdaN bytes maxL ret) (rm_ rf rl mc ms) (xPz E w H.size [.ref b]) Qc mc ms free) (hsu : Cond.superclass "BookPairs$Doubled" "BookPairs$Longer" ∈ lw_all) (hin : Cond.instanceMethod rdaN ∈ lw_all) (hini : Cond.initialized "BookPairs$Aloud" ∈ lw_all) (hco : Cond.code rdaN bytes maxL ret ∈ lw_all)
    (hR : rf + 1 ≤ R.frames ∧ 8 + (maxL + 11) + rl ≤ R.locals) (hb : w b = some (xO ci fs)) (hc : vwCl[ci]? = some q) (hl : ls.size = nL) (hst : st0 = .ref b :: rest) (hW : (rest.map fun v => v.category).sum ≤ 8) (hdg : decode cc pc = .ok (.invokespecial 27, 3)) (hcs : cells + mc ≤ R.cells ∧ slots + ms ≤ R.slots) :
    va_Run p l e R s m args below meth c H locs cells slots mc ms (F0 m pc ls st0) rest (Qc (Value.ref b :: []).toArray) free := by
  subst hst
  obtain ⟨cC, hat⟩ := xClassAt C.2 hc
  have hp := zpreV (As := []) hB C.2 hZ hb hc rfl
  obtain ⟨⟨hx, hb0, hml, ho, hts⟩, hKK⟩ := C
  have hws : ∀ w ∈ ws_ rdaN bytes maxL ret, ∀ (a' : Array Value) (U : State), s.WarmedH U.vm → w.before a' U = true := pay_in hts (lw_meth hco)
  have hK : Back l R p e below s args rdaN 3 8 (PreOf R mc ms (xPz E w H.size [.ref b])) (PostOf Qc mc ms free) := back_of (bytes := bytes) (maxL := maxL) (ret := ret) hM hp.1 rfl rfl hR.1 hR.2 hws List.mem_cons_self (fun a' U hW => word_at hW (Or.inl (by first | rfl | simp [Cond.onTables, Cond.keeps, Cond.steady])) (hts _ hini))
  obtain ⟨-, ⟨cellB, hcB, hoB, hclB⟩, hPc⟩ := hp
  obtain ⟨hfc, kB, hkB, -⟩ := hat
  cases hfc.symm.trans hclB
  obtain ⟨d1, d2, d3⟩ := hSd
  obtain ⟨mk, methM, hnamed, hmethM, hstM, habM⟩ := Cond.instanceMethod_spec (hts _ hin)
  obtain ⟨methM', cM, hmethM', -, -, -, -, -, -, hsigM⟩ := Cond.code_spec hnamed (hts _ hco)
  cases hmethM.symm.trans hmethM'
  have hlen : ([] : List Value).length = methM.sig.parameters.length := by
    have h2 : (parseMethodDescriptor rdaN.desc).map (fun d => d.parameters.length) = some 0 := by decide +kernel
    rw [hsigM] at h2
    exact (Option.some.inj h2).symm
  intro T hT X
  obtain ⟨vm₁, X₁, hstep₁⟩ := xv_specialD X hx (own := "BookPairs$Doubled") (owner := "BookPairs$Aloud") (index := 27) (x := rdlN) ho (va_tabs rfl rfl d1) (va_tabs rfl rfl d2) (va_ldA d3) (hts _ hsu) hnamed hmethM hstM habM (by decide) (a := b) (cell := cellB) (by rw [hT]; exact hcB)
    (fun z h => by rw [h] at hoB; cases hoB) hkB (g := F0 m pc ls (.ref b :: rest)) rfl (argsL := []) (rest := rest) hlen rfl (by rw [hb0]; exact hdg)
  obtain ⟨v, ⟨U', l2, c2, s2⟩, X', ⟨g', mk', t, L, e1, e2, hq, h1, hL, h2, h3⟩, st⟩ := hK m meth c ⟨T.setVm vm₁, locs, cells, slots⟩ (F0 m pc ls rest) (.invokespecial 27) mk (Value.ref b :: []).toArray X₁ rfl (hl.trans hml.symm) (by rw [hb0]; exact hdg) (by show 2 * 0 + (rest.map fun v => v.category).sum ≤ 8; omega) (X₁.named hnamed) ⟨hcs.1, hcs.2, hPc (T.setVm vm₁) hT X₁.warmed⟩
  dsimp only [Pt.U, Pt.locs, Pt.cells, Pt.slots] at X' e1 e2 h1 h2 h3 st
  subst h1; subst h2; subst h3
  exact ⟨v, (T.setVm vm₁).calling g' mk' (Value.ref b :: []).toArray, t, U', L, hT, X', hL, e1, e2, hq, fun target h => hstep₁ _ (by rw [doInvoke_state]; exact st.trans h)⟩
end RD
