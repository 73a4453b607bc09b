/-! x's lists: how long, what stands where; its left sentences -/
set_option maxRecDepth 100000
/-- a left sentence's content, as an object -/
theorem C0_pl {E : xE} {Ad : Nat → Nat} {I : Nat → Int} {F : Nat → Nat → Int} {i : Nat} (hi : (i : Int) < I 5) (h7 : I 5 ≤ 7) : C0 E Ad I F (100 + i) = some (plE (Ad 0) (F 10 i) (F 11 i) (F 12 i)) := by
  have hn : i < 7 := by omega
  unfold C0
  rw [if_neg (by omega), if_neg (by omega), if_neg (by omega), if_neg (by omega), if_neg (by omega), if_pos (by omega), show 100 + i - 100 = i by omega, if_pos hi]
theorem C0_rd {E : xE} {Ad : Nat → Nat} {I : Nat → Int} {F : Nat → Nat → Int} {i : Nat} (hi : (i : Int) < I 29) (h7 : I 29 ≤ 8) : C0 E Ad I F (200 + i) = some (xO 14 [.int (iI (F 30 i)), .int (iI (F 31 i))]) := by
  have hn : i < 8 := by omega
  unfold C0
  rw [if_neg (by omega), if_neg (by omega), if_neg (by omega), if_neg (by omega), if_neg (by omega), if_neg (by omega), if_pos (by omega), show 200 + i - 200 = i by omega, if_pos hi]
theorem C0_so {E : xE} {Ad : Nat → Nat} {I : Nat → Int} {F : Nat → Nat → Int} {i : Nat} (hi : i < 5) : C0 E Ad I F (50 + i) = some (xO 1 [.ref (Ad (70 + i))]) := by
  unfold C0
  rw [if_neg (by omega), if_pos (by omega), if_pos (by omega), show 50 + i + 20 = 70 + i by omega]
theorem C0_do {E : xE} {Ad : Nat → Nat} {I : Nat → Int} {F : Nat → Nat → Int} {i : Nat} (hi : i < 3) : C0 E Ad I F (60 + i) = some (xO 2 [.ref (Ad (80 + i))]) := by
  unfold C0
  rw [if_neg (by omega), if_neg (by omega), if_pos (by omega), if_pos (by omega), show 60 + i + 20 = 80 + i by omega]
theorem plE_cls (o : Nat) (k L A : Int) : ∃ ci fs q, plE o k L A = xO ci fs ∧ vwCl[ci]? = some q := by
  unfold plE
  split
  · exact ⟨_, _, _, rfl, rfl⟩
  · split
    · exact ⟨_, _, _, rfl, rfl⟩
    · exact ⟨_, _, _, rfl, rfl⟩
/-- the elements of left, of readings -/
def lfE (Ad : Nat → Nat) (b : Nat) (n : Int) : Nat → Option Nat := fun j => if (j : Int) < n then some (Ad (b + j)) else none
theorem xInv.larr {E : xE} {o : Nat} {Ad : Nat → Nat} {I : Nat → Int} {F : Nat → Nat → Int} {w : xw} (h : xInv E o Ad I F w) (h0 : 0 < I 5) : w (Ad 30) = some (xR E 3 10 (lfE Ad 100 (I 5))) := by
  refine h.at (r := 30) ?_
  show (if I 43 = 0 then none else _) = _
  rw [if_neg (fun q => by have := (h.2.2.1 q).1; omega)]
  rfl
theorem xInv.rarr {E : xE} {o : Nat} {Ad : Nat → Nat} {I : Nat → Int} {F : Nat → Nat → Int} {w : xw} (h : xInv E o Ad I F w) (h0 : 0 < I 29) : w (Ad 31) = some (xR E 3 10 (lfE Ad 200 (I 29))) := by
  refine h.at (r := 31) ?_
  show (if I 44 = 0 then none else _) = _
  rw [if_neg (fun q => by have := (h.2.2.2 q).1; omega)]
  rfl
section LR
variable {p : Program} {l : Launch} {e : Env} {R : Room} {s : State} {m : MethodId} {args : Array Value} {below : List Frame} {meth : Method} {c : Code} {H : Heap} {locs : List Loc} {cells slots : Nat} {Q : State → Prop}
variable {cc : ByteArray} {pc nL : Nat} {ls : Array Slot} {rest : List Value} {E : xE} {A : Nat → Prop} {o a ed : Nat} {Ad : Nat → Nat} {I : Nat → Int} {F : Nat → Nat → Int} {X : xw} {own : String}
/-! ## any list -/
theorem b_size (C : xC E p s m args c cc nL own) (hZ : zK E A s s.heap) (hB : xBB E A s o Ad I F X H locs) {mm n : Int} (ha : ∀ w, xInv E o Ad I F w → wD w X → wU w X a = some (xO 18 [.int (iI mm), .ref ed, .int (iI n)])) (hn : 0 ≤ n ∧ n ≤ 100) {index count : Nat} (hlk : Cond.methodLink own index ⟨"java/util/List", "size", "()I"⟩ ∈ lw_all) (hR : 1 ≤ R.frames ∧ 20 ≤ R.locals) (hl : ls.size = nL) (hW : (rest.map fun v => v.category).sum ≤ 8) (hdg : decode cc pc = .ok (.invokeinterface index count, 5)) (hcs : cells ≤ R.cells ∧ slots ≤ R.slots)
    (kk : ∀ (H1 : Heap) (locs1 : List Loc), xBB E A s o Ad I F X H1 locs1 → W p l e R s m args below meth c H1 locs1 cells slots Q (F0 m (pc + 5) ls (.int (iI n) :: rest))) : W p l e R s m args below meth c H locs cells slots Q (F0 m pc ls (.ref a :: rest)) := by
  obtain ⟨w, hI, hd, hB⟩ := hB
  refine g_callFi cells slots (Nat.le_refl _) (Nat.le_refl _) hB (rF (As := []) (n := 0) C hZ hB ⟨"java/util/List", "size", "()I"⟩ (kJ2_size l E (wU w X) a ed mm n (ha w hI hd) hn H.size) (by decide) hlk q245 q247 q71 q249 (by decide +kernel) ⟨hR.1, hR.2⟩ (ha w hI hd) rfl rfl rfl hl rfl hW hdg hcs) (fun z w1 H1 locs1 hz hp hB => ?_)
  obtain ⟨rfl, rfl⟩ := hp
  exact kk H1 locs1 ⟨w, hI, hd, hB⟩
theorem b_empty (C : xC E p s m args c cc nL own) (hZ : zK E A s s.heap) (hB : xBB E A s o Ad I F X H locs) {mm n : Int} (ha : ∀ w, xInv E o Ad I F w → wD w X → wU w X a = some (xO 18 [.int (iI mm), .ref ed, .int (iI n)])) (hn : 0 ≤ n ∧ n ≤ 100) {index count : Nat} (hlk : Cond.methodLink own index ⟨"java/util/List", "isEmpty", "()Z"⟩ ∈ lw_all) (hR : 1 ≤ R.frames ∧ 20 ≤ R.locals) (hl : ls.size = nL) (hW : (rest.map fun v => v.category).sum ≤ 8) (hdg : decode cc pc = .ok (.invokeinterface index count, 5)) (hcs : cells ≤ R.cells ∧ slots ≤ R.slots)
    (kk : ∀ (z : Int) (H1 : Heap) (locs1 : List Loc), ((z = 1 ∧ n = 0) ∨ (z = 0 ∧ ¬ n = 0)) → xBB E A s o Ad I F X H1 locs1 → W p l e R s m args below meth c H1 locs1 cells slots Q (F0 m (pc + 5) ls (.int (iI z) :: rest))) : W p l e R s m args below meth c H locs cells slots Q (F0 m pc ls (.ref a :: rest)) := by
  obtain ⟨w, hI, hd, hB⟩ := hB
  refine g_callFi cells slots (Nat.le_refl _) (Nat.le_refl _) hB (rF (As := []) (n := 0) C hZ hB ⟨"java/util/List", "isEmpty", "()Z"⟩ (kJ2_isEmpty l E (wU w X) a ed mm n (ha w hI hd) hn H.size) (by decide) hlk q283 q285 q71 q287 (by decide +kernel) ⟨hR.1, hR.2⟩ (ha w hI hd) rfl rfl rfl hl rfl hW hdg hcs) (fun z w1 H1 locs1 hz hp hB => ?_)
  obtain ⟨rfl, hp⟩ := hp
  exact kk z H1 locs1 hp ⟨w, hI, hd, hB⟩
theorem b_lsget (C : xC E p s m args c cc nL own) (hZ : zK E A s s.heap) (hB : xBB E A s o Ad I F X H locs) {mm n z : Int} {cap r : Nat} {f : Nat → Option Nat} (i : Nat) (hz : z = (i : Int)) (ha : ∀ w, xInv E o Ad I F w → wD w X → wU w X a = some (xO 18 [.int (iI mm), .ref ed, .int (iI n)])) (he : ∀ w, xInv E o Ad I F w → wD w X → wU w X ed = some (xR E 3 cap f)) (hf : f i = some r) (hi : (i : Int) < n) (hc : n ≤ cap ∧ cap ≤ 100) {index count : Nat} (hlk : Cond.methodLink own index ⟨"java/util/List", "get", "(I)Ljava/lang/Object;"⟩ ∈ lw_all) (hR : 3 ≤ R.frames ∧ 64 ≤ R.locals) (hl : ls.size = nL) (hW : (rest.map fun v => v.category).sum ≤ 8) (hdg : decode cc pc = .ok (.invokeinterface index count, 5)) (hcs : cells ≤ R.cells ∧ slots ≤ R.slots)
    (kk : ∀ (H1 : Heap) (locs1 : List Loc), xBB E A s o Ad I F X H1 locs1 → W p l e R s m args below meth c H1 locs1 cells slots Q (F0 m (pc + 5) ls (.ref r :: rest))) : W p l e R s m args below meth c H locs cells slots Q (F0 m pc ls (.int (iI z) :: .ref a :: rest)) := by
  subst hz
  obtain ⟨w, hI, hd, hB⟩ := hB
  refine g_callFq cells slots (Nat.le_refl _) (Nat.le_refl _) hB (rF (As := [.int (iI (i : Int))]) (n := 1) C hZ hB ⟨"java/util/List", "get", "(I)Ljava/lang/Object;"⟩ (kJ2_get l E (wU w X) a ed mm n cap f i r (ha w hI hd) (he w hI hd) hf hi hc H.size) (by decide) hlk q160 q162 q71 q164 (by decide +kernel) ⟨hR.1, hR.2⟩ (ha w hI hd) rfl rfl rfl hl rfl hW hdg hcs) (fun z w1 H1 locs1 hp hB => ?_)
  obtain ⟨rfl, rfl⟩ := hp
  exact kk H1 locs1 ⟨w, hI, hd, hB⟩
/-! ## left and readings -/
theorem b_lget (C : xC E p s m args c cc nL own) (hZ : zK E A s s.heap) (hB : xBB E A s o Ad I F X H locs) {z : Int} (i : Nat) (hz : z = (i : Int)) (hi : (i : Int) < I 5) (h7 : I 5 ≤ 7) {index count : Nat} (hlk : Cond.methodLink own index ⟨"java/util/List", "get", "(I)Ljava/lang/Object;"⟩ ∈ lw_all) (hR : 3 ≤ R.frames ∧ 64 ≤ R.locals) (hl : ls.size = nL) (hW : (rest.map fun v => v.category).sum ≤ 8) (hdg : decode cc pc = .ok (.invokeinterface index count, 5)) (hcs : cells ≤ R.cells ∧ slots ≤ R.slots)
    (kk : ∀ (H1 : Heap) (locs1 : List Loc), xBB E A s o Ad I F X H1 locs1 → W p l e R s m args below meth c H1 locs1 cells slots Q (F0 m (pc + 5) ls (.ref (Ad (100 + i)) :: rest))) : W p l e R s m args below meth c H locs cells slots Q (F0 m pc ls (.int (iI z) :: .ref (Ad 4) :: rest)) :=
  b_lsget C hZ hB i hz (fun w hI _ => wU_l (hI.at (r := 4) rfl)) (fun w hI _ => wU_l (hI.larr (by omega))) (show lfE Ad 100 (I 5) i = _ from if_pos hi) hi ⟨by omega, by decide⟩ hlk hR hl hW hdg hcs kk
theorem b_rget (C : xC E p s m args c cc nL own) (hZ : zK E A s s.heap) (hB : xBB E A s o Ad I F X H locs) {z : Int} (i : Nat) (hz : z = (i : Int)) (hi : (i : Int) < I 29) (h7 : I 29 ≤ 8) {index count : Nat} (hlk : Cond.methodLink own index ⟨"java/util/List", "get", "(I)Ljava/lang/Object;"⟩ ∈ lw_all) (hR : 3 ≤ R.frames ∧ 64 ≤ R.locals) (hl : ls.size = nL) (hW : (rest.map fun v => v.category).sum ≤ 8) (hdg : decode cc pc = .ok (.invokeinterface index count, 5)) (hcs : cells ≤ R.cells ∧ slots ≤ R.slots)
    (kk : ∀ (H1 : Heap) (locs1 : List Loc), xBB E A s o Ad I F X H1 locs1 → W p l e R s m args below meth c H1 locs1 cells slots Q (F0 m (pc + 5) ls (.ref (Ad (200 + i)) :: rest))) : W p l e R s m args below meth c H locs cells slots Q (F0 m pc ls (.int (iI z) :: .ref (Ad 17) :: rest)) :=
  b_lsget C hZ hB i hz (fun w hI _ => wU_l (hI.at (r := 17) rfl)) (fun w hI _ => wU_l (hI.rarr (by omega))) (show lfE Ad 200 (I 29) i = _ from if_pos hi) hi ⟨by omega, by decide⟩ hlk hR hl hW hdg hcs kk
/-! ## a left sentence -/
theorem pl_at {w : xw} (hI : xInv E o Ad I F w) {i : Nat} (hi : (i : Int) < I 5) (h7 : I 5 ≤ 7) : w (Ad (100 + i)) = some (plE o (F 10 i) (F 11 i) (F 12 i)) := by
  have h := hI.at (C0_pl (E := E) (Ad := Ad) (F := F) hi h7)
  rw [hI.1] at h
  exact h
theorem b_castP (C : xC E p s m args c cc nL own) (hB : xBB E A s o Ad I F X H locs) (i : Nat) (hi : (i : Int) < I 5) (h7 : I 5 ≤ 7) {index : Nat} (hlk : (Cond.classLink own index "BookPairs$Plain") ∈ lw_all) (hdg : decode cc pc = .ok (.checkcast index, 3))
    (kk : W p l e R s m args below meth c H locs cells slots Q (F0 m (pc + 3) ls (.ref (Ad (100 + i)) :: rest))) : W p l e R s m args below meth c H locs cells slots Q (F0 m pc ls (.ref (Ad (100 + i)) :: rest)) := by
  obtain ⟨w, hI, hd, hB⟩ := hB
  have h := wU_l (X := X) (pl_at hI hi h7)
  unfold plE at h
  split at h
  · exact x_castS C hB hlk h rfl rfl hdg kk
  · split at h
    · exact x_castY C hB hlk h rfl rfl q1750 hdg kk
    · exact x_castY C hB hlk h rfl rfl q1749 hdg kk
theorem b_castA (C : xC E p s m args c cc nL own) (hB : xBB E A s o Ad I F X H locs) (i : Nat) (hi : (i : Int) < I 5) (h7 : I 5 ≤ 7) {index : Nat} (hlk : (Cond.classLink own index "BookPairs$Aloud") ∈ lw_all) (hdg : decode cc pc = .ok (.checkcast index, 3))
    (kk : W p l e R s m args below meth c H locs cells slots Q (F0 m (pc + 3) ls (.ref (Ad (100 + i)) :: rest))) : W p l e R s m args below meth c H locs cells slots Q (F0 m pc ls (.ref (Ad (100 + i)) :: rest)) := by
  obtain ⟨w, hI, hd, hB⟩ := hB
  have h := wU_l (X := X) (pl_at hI hi h7)
  unfold plE at h
  split at h
  · exact x_castY C hB hlk h rfl rfl q1333 hdg kk
  · split at h
    · exact x_castY C hB hlk h rfl rfl q1330 hdg kk
    · exact x_castY C hB hlk h rfl rfl q1315 hdg kk
theorem x_plL (C : xC E p s m args c cc nL own) {w : xw} (hB : xB E A s w H locs) {k L N : Int} (h : w a = some (plE o k L N)) {index : Nat} (hlk : (Cond.fieldLink own index "BookPairs$Plain" "letters" "I") ∈ lw_all) (hdg : decode cc pc = .ok (.getfield index, 3))
    (kk : W p l e R s m args below meth c H locs cells slots Q (F0 m (pc + 3) ls (.int (iI L) :: rest))) : W p l e R s m args below meth c H locs cells slots Q (F0 m pc ls (.ref a :: rest)) := by
  unfold plE at h
  split at h
  · exact x_get C hB h rfl in_X6 1 (by decide) hlk (fun x h => h) rfl hdg kk
  · split at h
    · exact x_get C hB h rfl in_X7 1 (by decide) hlk (fun x h => h) rfl hdg kk
    · exact x_get C hB h rfl in_X8 1 (by decide) hlk (fun x h => h) rfl hdg kk
theorem x_plA (C : xC E p s m args c cc nL own) {w : xw} (hB : xB E A s w H locs) {k L N : Int} (h : w a = some (plE o k L N)) {index : Nat} (hlk : (Cond.fieldLink own index "BookPairs$Plain" "anchor" "I") ∈ lw_all) (hdg : decode cc pc = .ok (.getfield index, 3))
    (kk : W p l e R s m args below meth c H locs cells slots Q (F0 m (pc + 3) ls (.int (iI N) :: rest))) : W p l e R s m args below meth c H locs cells slots Q (F0 m pc ls (.ref a :: rest)) := by
  unfold plE at h
  split at h
  · exact x_get C hB h rfl in_X6 0 (by decide) hlk (fun x h => h) rfl hdg kk
  · split at h
    · exact x_get C hB h rfl in_X7 0 (by decide) hlk (fun x h => h) rfl hdg kk
    · exact x_get C hB h rfl in_X8 0 (by decide) hlk (fun x h => h) rfl hdg kk
theorem x_plO (C : xC E p s m args c cc nL own) {w : xw} (hB : xB E A s w H locs) {k L N : Int} (h : w a = some (plE o k L N)) {index : Nat} (hlk : (Cond.fieldLink own index "BookPairs$Plain" "this$0" "LBookPairs;") ∈ lw_all) (hdg : decode cc pc = .ok (.getfield index, 3))
    (kk : W p l e R s m args below meth c H locs cells slots Q (F0 m (pc + 3) ls (.ref o :: rest))) : W p l e R s m args below meth c H locs cells slots Q (F0 m pc ls (.ref a :: rest)) := by
  unfold plE at h
  split at h
  · exact x_get C hB h rfl in_X6 2 (by decide) hlk (fun x h => h) rfl hdg kk
  · split at h
    · exact x_get C hB h rfl in_X7 2 (by decide) hlk (fun x h => h) rfl hdg kk
    · exact x_get C hB h rfl in_X8 2 (by decide) hlk (fun x h => h) rfl hdg kk
theorem b_plL (C : xC E p s m args c cc nL own) (hB : xBB E A s o Ad I F X H locs) (i : Nat) (hi : (i : Int) < I 5) (h7 : I 5 ≤ 7) {index : Nat} (hlk : (Cond.fieldLink own index "BookPairs$Plain" "letters" "I") ∈ lw_all) (hdg : decode cc pc = .ok (.getfield index, 3))
    (kk : W p l e R s m args below meth c H locs cells slots Q (F0 m (pc + 3) ls (.int (iI (F 11 i)) :: rest))) : W p l e R s m args below meth c H locs cells slots Q (F0 m pc ls (.ref (Ad (100 + i)) :: rest)) := by
  obtain ⟨w, hI, hd, hB⟩ := hB
  exact x_plL C hB (wU_l (X := X) (pl_at hI hi h7)) hlk hdg kk
theorem b_plA (C : xC E p s m args c cc nL own) (hB : xBB E A s o Ad I F X H locs) (i : Nat) (hi : (i : Int) < I 5) (h7 : I 5 ≤ 7) {index : Nat} (hlk : (Cond.fieldLink own index "BookPairs$Plain" "anchor" "I") ∈ lw_all) (hdg : decode cc pc = .ok (.getfield index, 3))
    (kk : W p l e R s m args below meth c H locs cells slots Q (F0 m (pc + 3) ls (.int (iI (F 12 i)) :: rest))) : W p l e R s m args below meth c H locs cells slots Q (F0 m pc ls (.ref (Ad (100 + i)) :: rest)) := by
  obtain ⟨w, hI, hd, hB⟩ := hB
  exact x_plA C hB (wU_l (X := X) (pl_at hI hi h7)) hlk hdg kk
/-- what x holds, with letters of one left sentence new -/
theorem C0_let {I' : Nat → Int} {i : Nat} (v : Int) (hi : (i : Int) < I 5) (h7 : I 5 ≤ 7) : ∀ r, r ≠ 100 + i → C0 E Ad I (va_up F 11 (va_up (F 11) i v)) r = C0 E Ad I F r := by
  intro r hr
  have hn : ∀ j, j ≠ 11 → va_up F 11 (va_up (F 11) i v) j = F j := fun j hj => va_up_n _ _ hj
  unfold C0
  by_cases q : r < 50
  · rw [if_pos q, if_pos q]
    unfold C0a
    split
    all_goals first | rfl | (rw [hn _ (by decide)])
  · rw [if_neg q, if_neg q, hn 2 (by decide), hn 3 (by decide), hn 10 (by decide), hn 12 (by decide), hn 30 (by decide), hn 31 (by decide), va_up_s]
    unfold rowF
    rw [hn 3 (by decide), hn 4 (by decide)]
    by_cases q3 : r < 100
    · rw [if_pos q3, if_pos q3]
    · rw [va_up_n _ _ (show r - 100 ≠ i by omega)]
theorem xInv.let {w : xw} (h : xInv E o Ad I F w) {i : Nat} (v : Int) (hi : (i : Int) < I 5) (h7 : I 5 ≤ 7) : xInv E o Ad I (va_up F 11 (va_up (F 11) i v)) (va_up w (Ad (100 + i)) (some (plE o (F 10 i) v (F 12 i)))) := by
  obtain ⟨h0, h1, h2, h3⟩ := h
  refine ⟨h0, (h1.put (C0_pl hi h7) (plE o (F 10 i) v (F 12 i))).mono fun r e hr => ?_, h2, h3⟩
  by_cases q : r = 100 + i
  · subst q
    have := C0_pl (E := E) (Ad := Ad) (F := va_up F 11 (va_up (F 11) i v)) hi h7
    rw [this] at hr
    rw [va_up_s, ← hr, h0]
    show some (plE o (F 10 i) v (F 12 i)) = some (plE o (F 10 i) (va_up (F 11) i v i) (F 12 i))
    rw [va_up_s]
  · rw [C0_let (I' := I) v hi h7 r q] at hr
    rw [va_up_n _ _ q]
    exact hr
theorem b_plput (C : xC E p s m args c cc nL own) (hB : xBB E A s o Ad I F X H locs) (i : Nat) (hi : (i : Int) < I 5) (h7 : I 5 ≤ 7) {index : Nat} (hlk : (Cond.fieldLink own index "BookPairs$Plain" "letters" "I") ∈ lw_all) {v : Int} (hdg : decode cc pc = .ok (.putfield index, 3))
    (kk : ∀ (H1 : Heap) (locs1 : List Loc), xBB E A s o Ad I (va_up F 11 (va_up (F 11) i v)) X H1 locs1 → W p l e R s m args below meth c H1 locs1 cells slots Q (F0 m (pc + 3) ls rest)) : W p l e R s m args below meth c H locs cells slots Q (F0 m pc ls (.int (iI v) :: .ref (Ad (100 + i)) :: rest)) := by
  obtain ⟨w, hI, hd, hB⟩ := hB
  have h0 := pl_at hI hi h7
  have hI2 := hI.let v hi h7
  have hd2 : wD (va_up w (Ad (100 + i)) (some (plE o (F 10 i) v (F 12 i)))) X := hd.put_l h0
  have hk : ∀ (H1 : Heap) (locs1 : List Loc) (e1 : xX), e1 = plE o (F 10 i) v (F 12 i) → xB E A s (va_up (wU w X) (Ad (100 + i)) (some e1)) H1 locs1 → W p l e R s m args below meth c H1 locs1 cells slots Q (F0 m (pc + 3) ls rest) := by
    intro H1 locs1 e1 he h
    subst he
    rw [wU_up_l] at h
    exact kk H1 locs1 ⟨_, hI2, hd2, h⟩
  have h := wU_l (X := X) h0
  unfold plE at h hk
  split at h
  · rename_i q
    rw [if_pos q] at hk
    exact x_put2 C hB h rfl in_X6 tyX6_ok apX6 1 (by decide) hlk (fun x h => h) rfl rfl rfl (Nat.le_of_ble_eq_true rfl) hdg (fun H1 locs1 h => hk H1 locs1 _ rfl h)
  · rename_i q
    rw [if_neg q] at hk
    split at h
    · rename_i q2
      rw [if_pos q2] at hk
      exact x_put2 C hB h rfl in_X7 tyX7_ok apX7 1 (by decide) hlk (fun x h => h) rfl rfl rfl (Nat.le_of_ble_eq_true rfl) hdg (fun H1 locs1 h => hk H1 locs1 _ rfl h)
    · rename_i q2
      rw [if_neg q2] at hk
      exact x_put2 C hB h rfl in_X8 tyX8_ok apX8 1 (by decide) hlk (fun x h => h) rfl rfl rfl (Nat.le_of_ble_eq_true rfl) hdg (fun H1 locs1 h => hk H1 locs1 _ rfl h)
/-! ## readings, sorts, doings: objects at places -/
theorem r_get (C : xC E p s m args c cc nL own) (hB : xBB E A s o Ad I F X H locs) (r : Nat) {ref Cn : String} {T : u_T} {N ci index : Nat} {fs : List Value} (ha : C0 E Ad I F r = some (xO ci fs)) (hc : vwCl[ci]? = some (Cn, T, N)) (hin : ∀ w ∈ u_ws Cn T N, w ∈ lw_all) (k : Nat) (hk : k < N) (hlink : (Cond.fieldLink own index ref (T k).2.1 (T k).2.2.1) ∈ lw_all) (hsame : ∀ x, s.fieldFound? (T k).1 (T k).2.1 (T k).2.2.1 = some x → s.fieldFound? ref (T k).2.1 (T k).2.2.1 = some x) {v : Value} (hv : fs[k]? = some v) (hdg : decode cc pc = .ok (.getfield index, 3))
    (kk : W p l e R s m args below meth c H locs cells slots Q (F0 m (pc + 3) ls (v :: rest))) : W p l e R s m args below meth c H locs cells slots Q (F0 m pc ls (.ref (Ad r) :: rest)) := by
  obtain ⟨w, hI, hd, hB⟩ := hB
  exact x_get C hB (wU_l (hI.at ha)) hc hin k hk hlink hsame hv hdg kk
theorem r_getN (C : xC E p s m args c cc nL own) (hB : xBB E A s o Ad I F X H locs) (r : Nat) {ref Cn host : String} {T : u_T} {N ci index : Nat} {fs : List Value} (ha : C0 E Ad I F r = some (xO ci fs)) (hc : vwCl[ci]? = some (Cn, T, N)) (hin : ∀ w ∈ u_ws Cn T N, w ∈ lw_all) (k : Nat) (hk : k < N) (hlink : (Cond.fieldLinkNest own index ref (T k).2.1 (T k).2.2.1 host) ∈ lw_tbl) (hsame : ∀ x, s.fieldFound? (T k).1 (T k).2.1 (T k).2.2.1 = some x → s.fieldFound? ref (T k).2.1 (T k).2.2.1 = some x) {v : Value} (hv : fs[k]? = some v) (hdg : decode cc pc = .ok (.getfield index, 3))
    (kk : W p l e R s m args below meth c H locs cells slots Q (F0 m (pc + 3) ls (v :: rest))) : W p l e R s m args below meth c H locs cells slots Q (F0 m pc ls (.ref (Ad r) :: rest)) := by
  obtain ⟨w, hI, hd, hB⟩ := hB
  exact x_getN C hB (wU_l (hI.at ha)) hc hin k hk hlink hsame hv hdg kk
theorem r_castS (C : xC E p s m args c cc nL own) (hB : xBB E A s o Ad I F X H locs) (r : Nat) {nm : String} {index ci : Nat} {fs : List Value} {q : vw_C} (hlink : (Cond.classLink own index nm) ∈ lw_all) (ha : C0 E Ad I F r = some (xO ci fs)) (hc : vwCl[ci]? = some q) (hq : q.1 = nm) (hdg : decode cc pc = .ok (.checkcast index, 3))
    (kk : W p l e R s m args below meth c H locs cells slots Q (F0 m (pc + 3) ls (.ref (Ad r) :: rest))) : W p l e R s m args below meth c H locs cells slots Q (F0 m pc ls (.ref (Ad r) :: rest)) := by
  obtain ⟨w, hI, hd, hB⟩ := hB
  exact x_castS C hB hlink (wU_l (hI.at ha)) hc hq hdg kk
theorem r_aald (C : xC E p s m args c cc nL own) (hB : xBB E A s o Ad I F X H locs) (r t : Nat) {Cn : String} (ht : (xtys E)[t]? = some (E.2 t, .object Cn)) {N : Nat} {f : Nat → Option Nat} (ha : C0 E Ad I F r = some (xR E t N f)) {z : Int} (n : Nat) (hz : z = (n : Int)) (hn : n < N) (hN : N < 2 ^ 31) {v : Option Nat} (hv : f n = v) (hdg : decode cc pc = .ok (.aaload, 1))
    (kk : W p l e R s m args below meth c H locs cells slots Q (F0 m (pc + 1) ls (va_rf v :: rest))) : W p l e R s m args below meth c H locs cells slots Q (F0 m pc ls (.int (iI z) :: .ref (Ad r) :: rest)) := by
  obtain ⟨w, hI, hd, hB⟩ := hB
  exact x_aald C hB t ht (wU_l (hI.at ha)) n hz hn hN hv hdg kk
end LR
