/-! LAMBDAS made where something may throw; what a look reads -/
set_option maxRecDepth 100000
theorem x_bodyxn {l : Launch} {E : xE} {y : MethodName} {cc : ByteArray} {nL rf rl mc ms : Nat} {ret : Option FieldType} {av : List Value} {w : xw} {sz : Nat} {Qc : Array Value → State → Outcome → State → Prop} {px : String → xw → Prop} (hy : plainName y.cls = true) (hlen : (lg_sl av).length ≤ nL)
    (body : ∀ (p : Program) (e : Env) (s : State) (m : MethodId) (args : Array Value) (below : List Frame) (meth : Method) (c : Code) (ls : Array Slot), p.tables.exec = Jvm.exec → c.code = cc → xC E p s m args c cc nL y.cls → meth.sig.returnType = ret → meth.locks = false → s.methodNamed? y = some m → s.heap.size = sz → zV E (xA w sz) s s.heap → xB E (xA w sz) s w s.heap [] → lv_has ls nL (lv_args 0 av) → W p l e { frames := rf, cells := mc, slots := ms, locals := rl } s m args below meth c s.heap [] 0 0 (vx_MQ below Qc (gXC E w sz px) args s mc ms (xA w sz)) (F0 m 0 ls [])) : vx_Met l y (ws_ y cc nL ret) { frames := rf, cells := mc, slots := ms, locals := rl } (xPv E w sz av) Qc (gXC E w sz px) mc ms (xA w sz) := by
  refine vx_ofW (cc := cc) (maxL := nL) (ret := ret) hy rfl ?_
  intro p e s m args below meth c s₁ B hml htab hv
  obtain ⟨rfl, hsz, hP, hK, hV⟩ := hv
  have hts := atoms_spec (ws := ws_ y cc nL ret) B.pre
  have hts : ∀ w ∈ lw_all, w.before _ s = true := fun w h => hts w (List.mem_cons_of_mem _ h)
  have hown : s.vm.findClass y.cls = some m.cls := findClass_of_methodNamed B.named
  have hS : va_S (xA w sz) s.heap s.heap [] := va_S.rf
  rw [lg_entry_eq]
  exact body p e s m _ below meth c _ B.exec B.bytes ⟨⟨B.exec, B.bytes, hml, hown, hts⟩, hK⟩ B.returns B.notSynchronized B.named hsz hV ⟨hP, fun a e h => Or.inl ⟨e, h⟩, hS, fun q h => Or.inr (hsz ▸ h)⟩ (lv_entry av hlen)
section L3
variable {p : Program} {l : Launch} {e : Env} {R : Room} {s : State} {m : MethodId} {args : Array Value} {below : List Frame} {meth : Method} {c : Code} {H : Heap} {locs : List Loc} {cells slots : Nat} {Q : State → Prop}
variable {cc : ByteArray} {pc nL : Nat} {ls : Array Slot} {rest : List Value} {E : xE} {A : Nat → Prop} {own : String} {o : Nat} {Ad : Nat → Nat} {I : Nat → Int} {F : Nat → Nat → Int} {X : xw}
theorem t_lam1 {x : MethodName} {index i : Nat} (hi : i < 9) (C : xC E p s m args c cc nL own) (hZ : zK E A s s.heap) (hB : xBB E A s o Ad I F X H locs) (hnm : s.methodNamed? x = some m) (hs : (i, x, pc, index) ∈ lsites) (hl : ls.size = nL) (hwords : (rest.map fun v => v.category).sum + 1 + 3072 ≤ R.locals) (hcells : cells + 1 ≤ R.cells) (hslots : slots + 1 ≤ R.slots) (hdg : decode cc pc = .ok (.invokedynamic index, 5))
    (kk : ∀ (q : Nat) (H1 : Heap), X q = none → xBB E A s o Ad I F (va_up X q (some (.inr { cls := E.2 (10 + i), slots := #[.ref o], vm := .none }))) H1 locs → W p l e R s m args below meth c H1 locs (cells + 1) (slots + 1) Q (F0 m (pc + 5) ls (.ref q :: rest))) : W p l e R s m args below meth c H locs cells slots Q (F0 m pc ls (.ref o :: rest)) := by
  obtain ⟨w, hI, hd, hB⟩ := hB
  refine x_lam1 hi C hZ hB hnm hs hl hwords hcells hslots hdg (fun q H1 hq hsq h => ?_)
  obtain ⟨q1, q2⟩ := wU_n hq
  rw [wU_up_r q1] at h
  exact kk q H1 q2 ⟨w, hI, hd.put_r q1, h⟩
theorem t_lam2 {x : MethodName} {index i : Nat} (hi : i = 9) (C : xC E p s m args c cc nL own) (hZ : zK E A s s.heap) (hB : xBB E A s o Ad I F X H locs) (hnm : s.methodNamed? x = some m) (hs : (i, x, pc, index) ∈ lsites) {z : Int32} (hl : ls.size = nL) (hwords : (rest.map fun v => v.category).sum + 2 + 3072 ≤ R.locals) (hcells : cells + 1 ≤ R.cells) (hslots : slots + 2 ≤ R.slots) (hdg : decode cc pc = .ok (.invokedynamic index, 5))
    (kk : ∀ (q : Nat) (H1 : Heap), X q = none → xBB E A s o Ad I F (va_up X q (some (.inr { cls := E.2 (10 + i), slots := #[.ref o, .int z], vm := .none }))) H1 locs → W p l e R s m args below meth c H1 locs (cells + 1) (slots + 2) Q (F0 m (pc + 5) ls (.ref q :: rest))) : W p l e R s m args below meth c H locs cells slots Q (F0 m pc ls (.int z :: .ref o :: rest)) := by
  obtain ⟨w, hI, hd, hB⟩ := hB
  refine x_lam2 hi C hZ hB hnm hs hl hwords hcells hslots hdg (fun q H1 hq hsq h => ?_)
  obtain ⟨q1, q2⟩ := wU_n hq
  rw [wU_up_r q1] at h
  exact kk q H1 q2 ⟨w, hI, hd.put_r q1, h⟩
end L3
/-! ## what a look reads -/
def gC (F : Nat → Nat → Int) (k : Nat) (i n : Int) : Nat → Int := fun j => if (j : Int) < n then F 4 (60 * k + i.toNat + j) else 0
theorem gC_rg {F : Nat → Nat → Int} {k : Nat} {i n : Int} (h : ∀ k : Nat, k < 240 → rg (F 4 k)) (hk : k < 4) (hi : 0 ≤ i) (hn : i + n ≤ 60) (j : Nat) : rg (gC F k i n j) := by
  unfold gC
  split
  · exact h _ (by omega)
  · exact ⟨by decide, by decide⟩
theorem gC_of {F : Nat → Nat → Int} {k : Nat} {i n : Int} {g : Nat → Int} (hi : 0 ≤ i) (hn : 0 ≤ n) (h3 : i + n ≤ F 3 k) (hg : ∀ j : Nat, j < n.toNat → g j = rowF F k (i.toNat + j)) : ∀ j, j < n.toNat → g j = gC F k i n j := by
  intro j hj
  rw [hg j hj]
  unfold rowF gC
  rw [if_pos (by omega), if_pos (by omega)]
  congr 1
  omega
theorem xt_gC {F : Nat → Nat → Int} {k : Nat} {i n : Int} (hn : 0 ≤ n) : xt (gC F k i n) n.toNat = txt F (k : Int) i n := by
  funext p
  unfold xt gC txt ce
  simp only [Int.toNat_natCast]
  by_cases h : p < n.toNat
  · rw [if_pos h, if_pos (by omega), if_pos (by omega)]
  · rw [if_neg h, if_neg (by omega)]
theorem agn_1 {F : Nat → Nat → Int} {k : Nat} {so i n : Int} (h : F 2 k = -9) : agn F k so i n = 1 := by
  unfold agn
  rw [if_neg (by omega), if_pos h]
theorem agn_2 {F : Nat → Nat → Int} {k : Nat} {so i n : Int} (h : F 2 k ≠ -9) (h2 : F 2 k ≠ so) : agn F k so i n = 2 := if_pos ⟨h, h2⟩
theorem agn_4 {F : Nat → Nat → Int} {k : Nat} {so i n : Int} (h : F 2 k ≠ -9) (h2 : F 2 k = so) (h3 : n < 0) : agn F k so i n = 4 := by
  unfold agn
  rw [if_neg (by omega), if_neg h, if_pos h3]
theorem agn_3 {F : Nat → Nat → Int} {k : Nat} {so i n : Int} (h : F 2 k ≠ -9) (h2 : F 2 k = so) (h3 : 0 ≤ n) (h60 : 0 ≤ F 3 k ∧ F 3 k ≤ 60) (h4 : ¬ (n < 61 ∧ 0 ≤ i ∧ i ≤ F 3 k - n)) : agn F k so i n = 3 := by
  unfold agn
  rw [if_neg (by omega), if_neg h, if_neg (by omega), if_pos (by omega)]
theorem agn_0 {F : Nat → Nat → Int} {k : Nat} {so i n : Int} (h : F 2 k ≠ -9) (h2 : F 2 k = so) (h3 : 0 ≤ n) (h4 : 0 ≤ i ∧ i ≤ F 3 k - n) : agn F k so i n = 0 := by
  unfold agn
  rw [if_neg (by omega), if_neg h, if_neg (by omega), if_neg (by omega)]
theorem gdy_congr {c d : Nat → Int} : ∀ (n k : Nat) (I : Nat → Int) (F : Nat → Nat → Int), (∀ j, 2 * k ≤ j → j < 2 * (k + n) → c j = d j) → gdy c n k I F = gdy d n k I F := by
  intro n
  induction n with
  | zero => intro k I F h; rfl
  | succ n ih =>
    intro k I F h
    rw [gdy_s, gdy_s, h (2 * k) (by omega) (by omega), h (2 * k + 1) (by omega) (by omega)]
    split
    · exact ih (k + 1) _ _ (fun j h1 h2 => h j (by omega) (by omega))
    · rfl
theorem rDay_congr {I : Nat → Int} {F : Nat → Nat → Int} {c d : Nat → Int} {n : Nat} {wh : Int} (h : ∀ j, j < 2 * n → c j = d j) : rDay I F c n wh = rDay I F d n wh := by
  unfold rDay
  rw [gdy_congr n 0 I F (fun j _ h2 => h j (by omega))]
theorem gdy_z (c : Nat → Int) (v : Int) (n k : Nat) (I : Nat → Int) (F : Nat → Nat → Int) : gdy c n k (va_up I 0 v) F = ((gdy c n k I F).1, va_up (gdy c n k I F).2.1 0 v, (gdy c n k I F).2.2) := by
  have h := gdy_0 c v (F 28) n k I F
  rw [kpF_id] at h
  have h2 := gdy_0 c (I 0) (F 28) n k I F
  rw [va_up_id, kpF_id] at h2
  rw [h]
  have e3 : (gdy c n k I F).2.2 = kpF (gdy c n k I F).2.2 (F 28) := congrArg (fun q => q.2.2) h2
  rw [← e3]
theorem rDay_z (I : Nat → Int) (F : Nat → Nat → Int) (v : Int) (c : Nat → Int) (n : Nat) (wh : Int) : rDay (va_up I 0 v) F c n wh = rDay I F c n wh := by
  unfold rDay
  rw [gdy_z]
  dsimp only
  have h := rTellD_0 (gdy c n 0 I F).2.1 (gdy c n 0 I F).2.2 v ((gdy c n 0 I F).2.2 28) wh
  rw [kpF_id] at h
  rw [h]
