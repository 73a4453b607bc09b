/-! ROWS for arrays of bytes and shorts, and for what the machine throws at them -/
set_option maxRecDepth 100000
theorem iI_out {z : Int} {N : Nat} (hz : rg z) (h : ¬ (0 ≤ z ∧ z < (N : Int))) : ¬ vp_in (iI z) N := by
  intro h2
  refine h2 ?_
  by_cases h0 : z < 0
  · left
    show iI z < iI 0
    rw [iI_lt hz rg_0]
    exact h0
  · right
    show N ≤ (iI z).toInt.toNat
    rw [iI_toInt hz]
    omega
theorem nar_b (v : Int) : narrow .byte (.int (iI (bB v))) = .int (iI (bB v)) := by
  show Value.int ((iI (bB v)).toInt8.toInt32) = _
  congr 1
  unfold bB
  rw [iI_of]
  simp
theorem nar_s (v : Int) : narrow .short (.int (iI (bS v))) = .int (iI (bS v)) := by
  show Value.int ((iI (bS v)).toInt16.toInt32) = _
  congr 1
  unfold bS
  rw [iI_of]
  simp
/-- the classes of the three lanes -/
def lnN (lane : Int) : String := if lane = 0 then "[B" else if lane = 1 then "[S" else "[I"
def lnT (lane : Int) : Nat := if lane = 0 then 1 else if lane = 1 then 2 else 0
theorem ln_nm {E : xE} {s : State} (hK : xK E s) (lane : Int) : s.vm.findClass (lnN lane) = some (E.2 (lnT lane)) := by
  have h0 := va_nm_int (hK.1.2 0 _ rfl).2
  have h1 := va_nm_byte (hK.1.2 1 _ rfl).2
  have h2 := va_nm_short (hK.1.2 2 _ rfl).2
  unfold lnN lnT
  repeat' split
  · exact h1
  · exact h2
  · exact h0
theorem rowE_at {E : xE} {lane n : Int} {f : Nat → Int} : rowE E lane n f = .inl (.inl (E.2 (lnT lane), n.toNat, .inl (fun j => iI (f j)))) := by
  unfold rowE lnT
  repeat' split
  all_goals rfl
theorem ln_nc {a b : Int} (h : lnN a ≠ lnN b) : (lnN a, lnN b) ∈ ncl := by
  unfold lnN at h ⊢
  (repeat' split at h) <;> (repeat' split) <;> first | exact absurd rfl h | decide | omega
theorem ln_pk (a : Int) : castPackages_1.contains (packageOf (lnN a)) = true ∧ (lnN a).toList.length ≤ 20 := by
  unfold lnN
  repeat' split
  all_goals decide +kernel
section XR3
variable {p : Program} {l : Launch} {e : Env} {R : Room} {s : State} {m : MethodId} {args : Array Value} {below : List Frame} {meth : Method} {c : Code} {H : Heap} {locs : List Loc} {cells slots : Nat} {Q : State → Prop}
variable {cc : ByteArray} {pc nL : Nat} {ls : Array Slot} {rest : List Value} {E : xE} {A : Nat → Prop} {a : Nat} {w : xw} {own : String}
theorem x_bald (C : xC E p s m args c cc nL own) (hB : xB E A s w H locs) {N : Nat} {f : Nat → Int} (ha : w a = some (xBy E N f)) {z : Int} (n : Nat) (hz : z = (n : Int)) (hn : n < N) (hN : N < 2 ^ 31) (hdg : decode cc pc = .ok (.baload, 1))
    (kk : W p l e R s m args below meth c H locs cells slots Q (F0 m (pc + 1) ls (.int (iI (f n)) :: rest))) : W p l e R s m args below meth c H locs cells slots Q (F0 m pc ls (.int (iI z) :: .ref a :: rest)) := by
  obtain ⟨⟨hx, hb, -, hown, hts⟩, hK⟩ := C
  obtain ⟨h1, h2⟩ := iI_in hz hn hN
  refine va_bald hx hb hK.1 (hB.1.one ha) 0 1 rfl rfl h1 hdg ?_
  rw [h2]
  exact kk
theorem x_sald (C : xC E p s m args c cc nL own) (hB : xB E A s w H locs) {N : Nat} {f : Nat → Int} (ha : w a = some (xSh E N f)) {z : Int} (n : Nat) (hz : z = (n : Int)) (hn : n < N) (hN : N < 2 ^ 31) (hdg : decode cc pc = .ok (.saload, 1))
    (kk : W p l e R s m args below meth c H locs cells slots Q (F0 m (pc + 1) ls (.int (iI (f n)) :: rest))) : W p l e R s m args below meth c H locs cells slots Q (F0 m pc ls (.int (iI z) :: .ref a :: rest)) := by
  obtain ⟨⟨hx, hb, -, hown, hts⟩, hK⟩ := C
  obtain ⟨h1, h2⟩ := iI_in hz hn hN
  refine va_sald hx hb hK.1 (hB.1.one ha) 0 2 rfl rfl h1 hdg ?_
  rw [h2]
  exact kk
theorem x_bast (C : xC E p s m args c cc nL own) (hB : xB E A s w H locs) {N : Nat} {f : Nat → Int} (ha : w a = some (xBy E N f)) {z v v' : Int} (n : Nat) (hz : z = (n : Int)) (hn : n < N) (hN : N < 2 ^ 31) (hv : narrow .byte (.int (iI v)) = .int (iI v')) (hdg : decode cc pc = .ok (.bastore, 1))
    (kk : ∀ (H1 : Heap) (locs1 : List Loc), xB E A s (va_up w a (some (xBy E N (va_up f n v')))) H1 locs1 → W p l e R s m args below meth c H1 locs1 cells slots Q (F0 m (pc + 1) ls rest)) : W p l e R s m args below meth c H locs cells slots Q (F0 m pc ls (.int (iI v) :: .int (iI z) :: .ref a :: rest)) := by
  obtain ⟨⟨hx, hb, -, hown, hts⟩, hK⟩ := C
  obtain ⟨h1, h2⟩ := iI_in hz hn hN
  refine W.bast hx hb (hB.1 a _ ha) ((hK.1.2 1 _ rfl).1 N (fun j => .int (iI (f j)))) (fun q => by cases q) (by show ¬ (iI z < 0 ∨ (arrV _ _ _).slots.size ≤ _); rw [arrV_size]; exact h1) rfl rfl hdg fun H1 e1 z1 oq => ?_
  refine kk H1 _ (hB.put ha ?_ z1 oq)
  show H1[a]? = some (vp_cell _ _)
  rw [e1, h2, hv]
  show some ((vp_cell _ _).setSlot _ _) = _
  rw [vp_cell_i, vp_cell_i, arrV_store]
  congr 2
  funext q
  by_cases hq : q = n
  · subst hq
    simp [updV, va_up]
  · simp [updV, va_up, hq]
theorem x_sast (C : xC E p s m args c cc nL own) (hB : xB E A s w H locs) {N : Nat} {f : Nat → Int} (ha : w a = some (xSh E N f)) {z v v' : Int} (n : Nat) (hz : z = (n : Int)) (hn : n < N) (hN : N < 2 ^ 31) (hv : narrow .short (.int (iI v)) = .int (iI v')) (hdg : decode cc pc = .ok (.sastore, 1))
    (kk : ∀ (H1 : Heap) (locs1 : List Loc), xB E A s (va_up w a (some (xSh E N (va_up f n v')))) H1 locs1 → W p l e R s m args below meth c H1 locs1 cells slots Q (F0 m (pc + 1) ls rest)) : W p l e R s m args below meth c H locs cells slots Q (F0 m pc ls (.int (iI v) :: .int (iI z) :: .ref a :: rest)) := by
  obtain ⟨⟨hx, hb, -, hown, hts⟩, hK⟩ := C
  obtain ⟨h1, h2⟩ := iI_in hz hn hN
  refine W.sast hx hb (hB.1 a _ ha) ((hK.1.2 2 _ rfl).1 N (fun j => .int (iI (f j)))) (fun q => by cases q) (by show ¬ (iI z < 0 ∨ (arrV _ _ _).slots.size ≤ _); rw [arrV_size]; exact h1) rfl rfl hdg fun H1 e1 z1 oq => ?_
  refine kk H1 _ (hB.put ha ?_ z1 oq)
  show H1[a]? = some (vp_cell _ _)
  rw [e1, h2, hv]
  show some ((vp_cell _ _).setSlot _ _) = _
  rw [vp_cell_i, vp_cell_i, arrV_store]
  congr 2
  funext q
  by_cases hq : q = n
  · subst hq
    simp [updV, va_up]
  · simp [updV, va_up, hq]
/-! ## what is thrown -/
abbrev thr (E : xE) (A : Nat → Prop) (w : xw) (locs : List Loc) (p : Program) (l : Launch) (e : Env) (R : Room) (s : State) (m : MethodId) (args : Array Value) (below : List Frame) (meth : Method) (c : Code) (cells slots : Nat) (Q : State → Prop) (g : JFrame) (En : String) : Prop := ∀ (H : Heap) (q9 : Nat), xB E A s w H locs → xEx En s H q9 → vx_W p l e R s m args below meth c H locs (cells + 3) (slots + 890) Q g q9
abbrev rmOK (meth : Method) (R : Room) (cells slots : Nat) (rest : List Value) : Prop := meth.locks = false ∧ 8 < R.frames ∧ (rest.map fun v => v.category).sum + 10240 ≤ R.locals ∧ cells + 3 ≤ R.cells ∧ slots + 890 ≤ R.slots
theorem e_aio (hfl : l.stackTraces = false) (C : xC E p s m args c cc nL own) (hV : zV E A s s.heap) (hB : xB E A s w H locs) (hl : ls.size = nL) (hr : rmOK meth R cells slots rest) {i : Int32} {N : Nat} (hN : N < 2 ^ 31)
    (kx : thr E A w locs p l e R s m args below meth c cells slots Q (F0 m pc ls rest) "java/lang/ArrayIndexOutOfBoundsException") (tx : String) (ht : tx = (toString "Index " ++ toString i ++ toString " out of bounds for length " ++ toString N : String)) : vx_Note p l e R s m args below meth c H locs cells slots Q (F0 m pc ls rest) "java/lang/ArrayIndexOutOfBoundsException" tx := by
  subst ht
  obtain ⟨h1, h2, h3, h4, h5⟩ := hr
  have b1 := index_text_bytes i hN
  exact e_vm hfl C hV kp_x hB vw_AIO vg_AIO e_okA ⟨Nat.le_trans b1 (by decide), index_text_modelled i N⟩ hl h1 h2 h3 h4 h5 kx
theorem x_baldZ (hfl : l.stackTraces = false) (C : xC E p s m args c cc nL own) (hV : zV E A s s.heap) (hB : xB E A s w H locs) {N : Nat} {f : Nat → Int} (ha : w a = some (xBy E N f)) {z : Int} (hz : rg z) (hout : ¬ (0 ≤ z ∧ z < (N : Int))) (hN : N < 2 ^ 31) (hl : ls.size = nL) (hr : rmOK meth R cells slots rest) (hdg : decode cc pc = .ok (.baload, 1))
    (kx : thr E A w locs p l e R s m args below meth c cells slots Q (F0 m pc ls rest) "java/lang/ArrayIndexOutOfBoundsException") : W p l e R s m args below meth c H locs cells slots Q (F0 m pc ls (.int (iI z) :: .ref a :: rest)) := vx_baldZ C.1.1 C.1.2.1 C.2.1 (hB.1.one ha) 0 1 rfl rfl (iI_out hz hout) hdg (e_aio hfl C hV hB hl hr hN kx)
theorem x_saldZ (hfl : l.stackTraces = false) (C : xC E p s m args c cc nL own) (hV : zV E A s s.heap) (hB : xB E A s w H locs) {N : Nat} {f : Nat → Int} (ha : w a = some (xSh E N f)) {z : Int} (hz : rg z) (hout : ¬ (0 ≤ z ∧ z < (N : Int))) (hN : N < 2 ^ 31) (hl : ls.size = nL) (hr : rmOK meth R cells slots rest) (hdg : decode cc pc = .ok (.saload, 1))
    (kx : thr E A w locs p l e R s m args below meth c cells slots Q (F0 m pc ls rest) "java/lang/ArrayIndexOutOfBoundsException") : W p l e R s m args below meth c H locs cells slots Q (F0 m pc ls (.int (iI z) :: .ref a :: rest)) := vx_saldZ C.1.1 C.1.2.1 C.2.1 (hB.1.one ha) 0 2 rfl rfl (iI_out hz hout) hdg (e_aio hfl C hV hB hl hr hN kx)
theorem x_ialdZ (hfl : l.stackTraces = false) (C : xC E p s m args c cc nL own) (hV : zV E A s s.heap) (hB : xB E A s w H locs) {N : Nat} {f : Nat → Int} (ha : w a = some (xI E N f)) {z : Int} (hz : rg z) (hout : ¬ (0 ≤ z ∧ z < (N : Int))) (hN : N < 2 ^ 31) (hl : ls.size = nL) (hr : rmOK meth R cells slots rest) (hdg : decode cc pc = .ok (.iaload, 1))
    (kx : thr E A w locs p l e R s m args below meth c cells slots Q (F0 m pc ls rest) "java/lang/ArrayIndexOutOfBoundsException") : W p l e R s m args below meth c H locs cells slots Q (F0 m pc ls (.int (iI z) :: .ref a :: rest)) := vx_ialdZ C.1.1 C.1.2.1 C.2.1 (hB.1.one ha) 0 0 rfl rfl (iI_out hz hout) hdg (e_aio hfl C hV hB hl hr hN kx)
theorem x_bastZ (hfl : l.stackTraces = false) (C : xC E p s m args c cc nL own) (hV : zV E A s s.heap) (hB : xB E A s w H locs) {N : Nat} {f : Nat → Int} (ha : w a = some (xBy E N f)) {z v : Int} (hz : rg z) (hout : ¬ (0 ≤ z ∧ z < (N : Int))) (hN : N < 2 ^ 31) (hl : ls.size = nL) (hr : rmOK meth R cells slots rest) (hdg : decode cc pc = .ok (.bastore, 1))
    (kx : thr E A w locs p l e R s m args below meth c cells slots Q (F0 m pc ls rest) "java/lang/ArrayIndexOutOfBoundsException") : W p l e R s m args below meth c H locs cells slots Q (F0 m pc ls (.int (iI v) :: .int (iI z) :: .ref a :: rest)) := vx_bastZ C.1.1 C.1.2.1 C.2.1 (hB.1.one ha) 0 1 rfl rfl (iI_out hz hout) hdg (e_aio hfl C hV hB hl hr hN kx)
theorem x_sastZ (hfl : l.stackTraces = false) (C : xC E p s m args c cc nL own) (hV : zV E A s s.heap) (hB : xB E A s w H locs) {N : Nat} {f : Nat → Int} (ha : w a = some (xSh E N f)) {z v : Int} (hz : rg z) (hout : ¬ (0 ≤ z ∧ z < (N : Int))) (hN : N < 2 ^ 31) (hl : ls.size = nL) (hr : rmOK meth R cells slots rest) (hdg : decode cc pc = .ok (.sastore, 1))
    (kx : thr E A w locs p l e R s m args below meth c cells slots Q (F0 m pc ls rest) "java/lang/ArrayIndexOutOfBoundsException") : W p l e R s m args below meth c H locs cells slots Q (F0 m pc ls (.int (iI v) :: .int (iI z) :: .ref a :: rest)) := vx_sastZ C.1.1 C.1.2.1 C.2.1 (hB.1.one ha) 0 2 rfl rfl (iI_out hz hout) hdg (e_aio hfl C hV hB hl hr hN kx)
theorem x_iastZ (hfl : l.stackTraces = false) (C : xC E p s m args c cc nL own) (hV : zV E A s s.heap) (hB : xB E A s w H locs) {N : Nat} {f : Nat → Int} (ha : w a = some (xI E N f)) {z v : Int} (hz : rg z) (hout : ¬ (0 ≤ z ∧ z < (N : Int))) (hN : N < 2 ^ 31) (hl : ls.size = nL) (hr : rmOK meth R cells slots rest) (hdg : decode cc pc = .ok (.iastore, 1))
    (kx : thr E A w locs p l e R s m args below meth c cells slots Q (F0 m pc ls rest) "java/lang/ArrayIndexOutOfBoundsException") : W p l e R s m args below meth c H locs cells slots Q (F0 m pc ls (.int (iI v) :: .int (iI z) :: .ref a :: rest)) := vx_iastZ C.1.1 C.1.2.1 C.2.1 (hB.1.one ha) 0 0 rfl rfl (iI_out hz hout) hdg (e_aio hfl C hV hB hl hr hN kx)
theorem e_np (hfl : l.stackTraces = false) (C : xC E p s m args c cc nL own) (hV : zV E A s s.heap) (hB : xB E A s w H locs) (hl : ls.size = nL) (hr : rmOK meth R cells slots rest)
    (kx : thr E A w locs p l e R s m args below meth c cells slots Q (F0 m pc ls rest) "java/lang/NullPointerException") : vx_NoteN p l e R s m args below meth c H locs cells slots Q (F0 m pc ls rest) := by
  obtain ⟨h1, h2, h3, h4, h5⟩ := hr
  exact e_npe hfl C hV kp_x hB hl h1 h2 h3 h4 h5 kx
theorem x_lenN (hfl : l.stackTraces = false) (C : xC E p s m args c cc nL own) (hV : zV E A s s.heap) (hB : xB E A s w H locs) (hl : ls.size = nL) (hr : rmOK meth R cells slots rest) (hdg : decode cc pc = .ok (.arraylength, 1))
    (kx : thr E A w locs p l e R s m args below meth c cells slots Q (F0 m pc ls rest) "java/lang/NullPointerException") : W p l e R s m args below meth c H locs cells slots Q (F0 m pc ls (.null :: rest)) := vx_arraylengthN C.1.1 C.1.2.1 hdg (e_np hfl C hV hB hl hr kx)
theorem x_baldN (hfl : l.stackTraces = false) (C : xC E p s m args c cc nL own) (hV : zV E A s s.heap) (hB : xB E A s w H locs) {i : Int32} (hl : ls.size = nL) (hr : rmOK meth R cells slots rest) (hdg : decode cc pc = .ok (.baload, 1))
    (kx : thr E A w locs p l e R s m args below meth c cells slots Q (F0 m pc ls rest) "java/lang/NullPointerException") : W p l e R s m args below meth c H locs cells slots Q (F0 m pc ls (.int i :: .null :: rest)) := vx_baloadN C.1.1 C.1.2.1 hdg (e_np hfl C hV hB hl hr kx)
theorem x_saldN (hfl : l.stackTraces = false) (C : xC E p s m args c cc nL own) (hV : zV E A s s.heap) (hB : xB E A s w H locs) {i : Int32} (hl : ls.size = nL) (hr : rmOK meth R cells slots rest) (hdg : decode cc pc = .ok (.saload, 1))
    (kx : thr E A w locs p l e R s m args below meth c cells slots Q (F0 m pc ls rest) "java/lang/NullPointerException") : W p l e R s m args below meth c H locs cells slots Q (F0 m pc ls (.int i :: .null :: rest)) := vx_saloadN C.1.1 C.1.2.1 hdg (e_np hfl C hV hB hl hr kx)
theorem x_ialdN (hfl : l.stackTraces = false) (C : xC E p s m args c cc nL own) (hV : zV E A s s.heap) (hB : xB E A s w H locs) {i : Int32} (hl : ls.size = nL) (hr : rmOK meth R cells slots rest) (hdg : decode cc pc = .ok (.iaload, 1))
    (kx : thr E A w locs p l e R s m args below meth c cells slots Q (F0 m pc ls rest) "java/lang/NullPointerException") : W p l e R s m args below meth c H locs cells slots Q (F0 m pc ls (.int i :: .null :: rest)) := vx_ialoadN C.1.1 C.1.2.1 hdg (e_np hfl C hV hB hl hr kx)
theorem x_newpZ (hfl : l.stackTraces = false) (C : xC E p s m args c cc nL own) (hV : zV E A s s.heap) (hB : xB E A s w H locs) {atype : ArrayType} {z : Int} (hz : rg z) (h0 : z < 0) (hl : ls.size = nL) (hr : rmOK meth R cells slots rest) (hdg : decode cc pc = .ok (.newarray atype, 2))
    (kx : thr E A w locs p l e R s m args below meth c cells slots Q (F0 m pc ls rest) "java/lang/NegativeArraySizeException") : W p l e R s m args below meth c H locs cells slots Q (F0 m pc ls (.int (iI z) :: rest)) := by
  obtain ⟨h1, h2, h3, h4, h5⟩ := hr
  have hn : iI z < 0 := by
    show iI z < iI 0
    rw [iI_lt hz rg_0]
    exact h0
  refine vx_newarrayZ C.1.1 C.1.2.1 hn hdg (fun tx ht => ?_)
  subst ht
  exact e_vm hfl C hV kp_x hB vw_NAS vg_NAS (e_ok _ (Or.inr (Or.inr rfl))) ⟨Nat.le_trans (negative_text_bytes _) (by decide), negative_text_modelled hn⟩ hl h1 h2 h3 h4 h5 kx
/-! ## casts and instanceof of a row -/
theorem x_castR (C : xC E p s m args c cc nL own) (hB : xB E A s w H locs) {index : Nat} {lane n : Int} {f : Nat → Int} {nm : String} (hnm : lnN lane = nm) (hlink : (Cond.classLink own index nm) ∈ lw_all) (ha : w a = some (rowE E lane n f)) (hdg : decode cc pc = .ok (.checkcast index, 3))
    (kk : W p l e R s m args below meth c H locs cells slots Q (F0 m (pc + 3) ls (.ref a :: rest))) : W p l e R s m args below meth c H locs cells slots Q (F0 m pc ls (.ref a :: rest)) := by
  subst hnm
  rw [rowE_at] at ha
  exact va_castA C.1.1 C.1.2.1 C.1.2.2.2.1 (C.1.2.2.2.2 _ hlink) (hB.1.one ha) 0 rfl (ln_nm C.2 lane) hdg kk
theorem row_recv (hK : xK E s) (hB : xB E A s w H locs) {lane n : Int} {f : Nat → Int} (ha : w a = some (rowE E lane n f)) : ∃ cell : Cell, H[a]? = some cell ∧ cell.vm.isStatics = false ∧ s.vm.findClass (lnN lane) = some cell.cls := by
  rw [rowE_at] at ha
  have h := hB.1 a _ ha
  refine ⟨_, h, rfl, ?_⟩
  rw [vp_cell_i]
  exact ln_nm hK lane
theorem x_castRX (hfl : l.stackTraces = false) (C : xC E p s m args c cc nL own) (hV : zV E A s s.heap) (hB : xB E A s w H locs) {index : Nat} {lane n lane2 : Int} {f : Nat → Int} {nm : String} (hnm : lnN lane2 = nm) (hne : lnN lane ≠ lnN lane2) (hlink : (Cond.classLink own index nm) ∈ lw_all) (ha : w a = some (rowE E lane n f)) (hl : ls.size = nL) (hr : rmOK meth R cells slots (.ref a :: rest)) (hdg : decode cc pc = .ok (.checkcast index, 3))
    (kx : thr E A w locs p l e R s m args below meth c cells slots Q (F0 m pc ls (.ref a :: rest)) "java/lang/ClassCastException") : W p l e R s m args below meth c H locs cells slots Q (F0 m pc ls (.ref a :: rest)) := by
  subst hnm
  obtain ⟨h1, h2, h3, h4, h5⟩ := hr
  refine xv_castX C.1.1 C.1.2.1 C.1.2.2.2.1 (C.1.2.2.2.2 _ hlink) (hV.1.1.2.1 _ (ln_nc hne)) (row_recv C.2 hB ha) hV.2.2.2.1 (ln_pk _) (ln_pk _) hdg (fun tx t1 t2 => ?_)
  exact e_vm hfl C hV kp_x hB vw_CCE vg_CCE (e_ok _ (Or.inl rfl)) ⟨t1, t2⟩ hl h1 h2 h3 h4 h5 kx
theorem x_instR (C : xC E p s m args c cc nL own) (hB : xB E A s w H locs) {index : Nat} {lane n : Int} {f : Nat → Int} {nm : String} (hnm : lnN lane = nm) (hlink : (Cond.classLink own index nm) ∈ lw_all) (ha : w a = some (rowE E lane n f)) (hdg : decode cc pc = .ok (.instanceof index, 3))
    (kk : W p l e R s m args below meth c H locs cells slots Q (F0 m (pc + 3) ls (.int (iI 1) :: rest))) : W p l e R s m args below meth c H locs cells slots Q (F0 m pc ls (.ref a :: rest)) := by
  subst hnm
  obtain ⟨cell, g1, g2, g3⟩ := row_recv C.2 hB ha
  intro T hT X
  obtain ⟨vm', X', st⟩ := X.instanceofYes C.1.1 C.1.2.2.2.1 (C.1.2.2.2.2 _ hlink) (by rw [hT]; exact g1) g2 g3 (va_asg _ _) (g := F0 m pc ls (.ref a :: rest)) rfl rfl (by rw [C.1.2.1]; exact hdg)
  obtain ⟨t, a1, b1⟩ := kk (T.setVm vm') hT X'
  exact ⟨t, st t a1, b1⟩
theorem x_instRN (C : xC E p s m args c cc nL own) (hV : zV E A s s.heap) (hB : xB E A s w H locs) {index : Nat} {lane n lane2 : Int} {f : Nat → Int} {nm : String} (hnm : lnN lane2 = nm) (hne : lnN lane ≠ lnN lane2) (hlink : (Cond.classLink own index nm) ∈ lw_all) (ha : w a = some (rowE E lane n f)) (hdg : decode cc pc = .ok (.instanceof index, 3))
    (kk : W p l e R s m args below meth c H locs cells slots Q (F0 m (pc + 3) ls (.int (iI 0) :: rest))) : W p l e R s m args below meth c H locs cells slots Q (F0 m pc ls (.ref a :: rest)) := by
  subst hnm
  exact va_instNo C.1.1 C.1.2.1 C.1.2.2.2.1 (C.1.2.2.2.2 _ hlink) (hV.1.1.2.1 _ (ln_nc hne)) (row_recv C.2 hB ha) hdg kk
/-! ## System.arraycopy between rows, that throws -/
abbrev cpW (own : String) (index : Nat) : Prop := Cond.methodLink own index arraycopyName ∈ lw_all ∧ Cond.native arraycopyName ∈ lw_all ∧ Cond.static arraycopyName ∈ lw_all ∧ Cond.initialized "java/lang/System" ∈ lw_all
theorem x_copyN (hfl : l.stackTraces = false) (C : xC E p s m args c cc nL own) (hV : zV E A s s.heap) (hB : xB E A s w H locs) {index : Nat} (hw : cpW own index) {r1 r2 : Option Nat} {i1 i2 i3 : Int32} (hnull : r1 = none ∨ r2 = none) (hl : ls.size = nL) (hr : rmOK meth R cells slots rest) (hdg : decode cc pc = .ok (.invokestatic index, 3))
    (kx : thr E A w locs p l e R s m args below meth c cells slots Q (F0 m pc ls rest) "java/lang/NullPointerException") : W p l e R s m args below meth c H locs cells slots Q (F0 m pc ls (.int i3 :: .int i2 :: va_rf r2 :: .int i1 :: va_rf r1 :: rest)) := by
  obtain ⟨h1, h2, h3, h4, h5⟩ := hr
  obtain ⟨w1, w2, w3, w4⟩ := hw
  obtain ⟨-, hU, hN, -, -⟩ := hV
  have hts := C.1.2.2.2.2
  refine xv_copyX C.1.1 C.1.2.1 C.1.2.2.2.1 (hts _ w1) (hts _ w2) (hts _ w3) (hts _ w4) (v1 := va_rf r1) (v2 := va_rf r2) (by cases r1 <;> rfl) (by cases r2 <;> rfl) (by rw [C.1.2.2.1]; exact hl) (by omega) h3 hB.2.2.1 (fun U hU hA fs Ep hE => ?_)
    (xv_noteN C.1.1 hfl (nb := 8) (vok.before C vw_NPE) vg_NPE hU hN hB.2.2.1 (by rw [C.1.2.2.1]; exact hl) h2 (by show 2 * 0 + (rest.map fun v => v.category).sum + _ ≤ _; omega) (by omega) (by omega)) hdg (fun H1 q9 ce hz hq hS e1 e2 e3 => vx_widen (k := cells + 3) (n := slots + 890) (by omega) (by omega) (kx H1 q9 ((kp_x H locs hB).2 H1 hz hq hS) ⟨ce, e1, e2, e3⟩))
  cases r1 with
  | none => exact Jvm.W.arraycopy_null1 i1 i2 i3 _ (hE _)
  | some x =>
    cases r2 with
    | none => exact Jvm.W.arraycopy_null2 x i1 i2 i3 (hE _)
    | some y => rcases hnull with h | h <;> cases h
theorem lnT_ty (lane : Int) : ∃ t : FieldType, (xtys E)[lnT lane]? = some (E.2 (lnT lane), t) ∧ xv_kind t ∧ refKind t = false ∧ t = (if lane = 0 then .byte else if lane = 1 then .short else .int) := by
  unfold lnT
  by_cases h0 : lane = 0
  · rw [if_pos h0, if_pos h0]
    exact ⟨_, rfl, Or.inl rfl, rfl, rfl⟩
  · rw [if_neg h0, if_neg h0]
    by_cases h1 : lane = 1
    · rw [if_pos h1, if_pos h1]
      exact ⟨_, rfl, Or.inr (Or.inl rfl), rfl, rfl⟩
    · rw [if_neg h1, if_neg h1]
      exact ⟨_, rfl, Or.inr (Or.inr rfl), rfl, rfl⟩
theorem x_copyT (hfl : l.stackTraces = false) (C : xC E p s m args c cc nL own) (hV : zV E A s s.heap) (hB : xB E A s w H locs) {index : Nat} (hw : cpW own index) {a b : Nat} {la na lb nb : Int} {fa fb : Nat → Int} {i1 i2 i3 : Int32} (ha : w a = some (rowE E la na fa)) (hb : w b = some (rowE E lb nb fb)) (hne : lnN la ≠ lnN lb) (hl : ls.size = nL) (hr : rmOK meth R cells slots rest) (hdg : decode cc pc = .ok (.invokestatic index, 3))
    (kx : thr E A w locs p l e R s m args below meth c cells slots Q (F0 m pc ls rest) "java/lang/ArrayStoreException") : W p l e R s m args below meth c H locs cells slots Q (F0 m pc ls (.int i3 :: .int i2 :: .ref b :: .int i1 :: .ref a :: rest)) := by
  obtain ⟨h1, h2, h3, h4, h5⟩ := hr
  obtain ⟨w1, w2, w3, w4⟩ := hw
  obtain ⟨-, hU, hN, -, -⟩ := hV
  have hts := C.1.2.2.2.2
  rw [rowE_at] at ha hb
  have hca := hB.1 a _ ha
  have hcb := hB.1 b _ hb
  obtain ⟨ta, hta, kta, rta, eta⟩ := lnT_ty (E := E) la
  obtain ⟨tb, htb, ktb, rtb, etb⟩ := lnT_ty (E := E) lb
  obtain ⟨-, ka, hka, cma, hkka⟩ := (C.2.1.2 _ _ hta).1 na.toNat (fun j => .int (iI (fa j)))
  obtain ⟨-, kb, hkb, cmb, hkkb⟩ := (C.2.1.2 _ _ htb).1 nb.toNat (fun j => .int (iI (fb j)))
  have hty : ta ≠ tb := by
    intro e
    apply hne
    rw [eta, etb] at e
    unfold lnN
    (repeat' split at e) <;> (repeat' split) <;> first | rfl | (exfalso; omega) | cases e
  obtain ⟨m1, m2⟩ := xv_types kta ktb
  refine xv_copyX C.1.1 C.1.2.1 C.1.2.2.2.1 (hts _ w1) (hts _ w2) (hts _ w3) (hts _ w4) (v1 := .ref a) (v2 := .ref b) rfl rfl (by rw [C.1.2.2.1]; exact hl) (by omega) h3 hB.2.2.1 (fun U hU hA fs Ep hE => ?_)
    (xv_noteM C.1.1 hfl (nb := 480) (e_ok _ (Or.inr (Or.inl rfl))).1 (e_ok _ (Or.inr (Or.inl rfl))).2.1 (e_ok _ (Or.inr (Or.inl rfl))).2.2.1 (e_ok _ (Or.inr (Or.inl rfl))).2.2.2.1 (vok.before C vw_ASE) vg_ASE hU hN hB.2.2.1 (by rw [C.1.2.2.1]; exact hl) m2 m1 (by decide) (by show 2 + 5 < _; omega) (by show 2 * 0 + (rest.map fun v => v.category).sum + _ ≤ _; omega) (by decide) h4 (by omega)) hdg
    (fun H1 q9 ce hz hq hS e1 e2 e3 => vx_widen (k := cells + 3) (n := slots + 890) (by omega) (by omega) (kx H1 q9 ((kp_x H locs hB).2 H1 hz hq hS) ⟨ce, e1, e2, e3⟩))
  obtain ⟨ka', hka', hea⟩ := hA.2.2 _ _ hka
  obtain ⟨kb', hkb', heb⟩ := hA.2.2 _ _ hkb
  exact Jvm.W.arraycopy_types (s := U.setFrames fs) (cs := vp_cell (E.2 (lnT la)) (na.toNat, .inl (fun j => iI (fa j)))) (cd := vp_cell (E.2 (lnT lb)) (nb.toNat, .inl (fun j => iI (fb j)))) (show U.heap[a]? = _ by rw [hU]; exact hca) (show U.heap[b]? = _ by rw [hU]; exact hcb)
    (fun _ h => by cases h) (fun _ h => by cases h) (show U.vm.classes[_]? = _ from hka') (show U.vm.classes[_]? = _ from hkb') (by rw [hea]; exact hkka) (by rw [heb]; exact hkkb) (by rw [rta, rtb]; simp [hty]) (hE _)
theorem x_copyZ (hfl : l.stackTraces = false) (C : xC E p s m args c cc nL own) (hV : zV E A s s.heap) (hB : xB E A s w H locs) {index : Nat} (hw : cpW own index) {a b : Nat} {la na lb nb : Int} {fa fb : Nat → Int} {z1 z2 z3 : Int} (ha : w a = some (rowE E la na fa)) (hb : w b = some (rowE E lb nb fb)) (heq : lnN la = lnN lb) (hna : 0 ≤ na ∧ na < 2 ^ 30) (hnb : 0 ≤ nb ∧ nb < 2 ^ 30) (r1 : rg z1) (r2 : rg z2) (r3 : rg z3) (hout : z1 < 0 ∨ z2 < 0 ∨ z3 < 0 ∨ na < z1 + z3 ∨ nb < z2 + z3) (hl : ls.size = nL) (hr : rmOK meth R cells slots rest) (hdg : decode cc pc = .ok (.invokestatic index, 3))
    (kx : thr E A w locs p l e R s m args below meth c cells slots Q (F0 m pc ls rest) "java/lang/ArrayIndexOutOfBoundsException") : W p l e R s m args below meth c H locs cells slots Q (F0 m pc ls (.int (iI z3) :: .int (iI z2) :: .ref b :: .int (iI z1) :: .ref a :: rest)) := by
  obtain ⟨h1, h2, h3, h4, h5⟩ := hr
  obtain ⟨w1, w2, w3, w4⟩ := hw
  obtain ⟨-, hU, hN, -, -⟩ := hV
  have hts := C.1.2.2.2.2
  rw [rowE_at] at ha hb
  have hca := hB.1 a _ ha
  have hcb := hB.1 b _ hb
  obtain ⟨ta, hta, kta, rta, eta⟩ := lnT_ty (E := E) la
  obtain ⟨tb, htb, ktb, rtb, etb⟩ := lnT_ty (E := E) lb
  obtain ⟨-, ka, hka, cma, hkka⟩ := (C.2.1.2 _ _ hta).1 na.toNat (fun j => .int (iI (fa j)))
  obtain ⟨-, kb, hkb, cmb, hkkb⟩ := (C.2.1.2 _ _ htb).1 nb.toNat (fun j => .int (iI (fb j)))
  have hty : ta = tb := by
    rw [eta, etb]
    unfold lnN at heq
    (repeat' split at heq) <;> (repeat' split) <;> first | rfl | (exfalso; omega) | (exfalso; revert heq; decide)
  obtain ⟨what, hwhat⟩ : ∃ what, copyFault ta tb na.toNat nb.toNat (iI z1) (iI z2) (iI z3) = some what := by
    unfold copyFault
    by_cases c1 : iI z1 < 0
    · exact ⟨_, if_pos c1⟩
    rw [if_neg c1]
    by_cases c2 : iI z2 < 0
    · exact ⟨_, if_pos c2⟩
    rw [if_neg c2]
    by_cases c3 : iI z3 < 0
    · exact ⟨_, if_pos c3⟩
    rw [if_neg c3]
    by_cases c4 : (iI z1).toInt + (iI z3).toInt > (na.toNat : Int)
    · exact ⟨_, if_pos c4⟩
    rw [if_neg c4]
    by_cases c5 : (iI z2).toInt + (iI z3).toInt > (nb.toNat : Int)
    · exact ⟨_, if_pos c5⟩
    exfalso
    have d1 : ¬ z1 < 0 := fun h => c1 ((iI_lt r1 rg_0).mpr h)
    have d2 : ¬ z2 < 0 := fun h => c2 ((iI_lt r2 rg_0).mpr h)
    have d3 : ¬ z3 < 0 := fun h => c3 ((iI_lt r3 rg_0).mpr h)
    rw [iI_toInt r1, iI_toInt r3] at c4
    rw [iI_toInt r2, iI_toInt r3] at c5
    omega
  obtain ⟨m1, m2⟩ := xv_fault kta ktb (a := na.toNat) (b := nb.toNat) (by omega) (by omega) hwhat
  refine xv_copyX C.1.1 C.1.2.1 C.1.2.2.2.1 (hts _ w1) (hts _ w2) (hts _ w3) (hts _ w4) (v1 := .ref a) (v2 := .ref b) rfl rfl (by rw [C.1.2.2.1]; exact hl) (by omega) h3 hB.2.2.1 (fun U hU hA fs Ep hE => ?_)
    (xv_noteM C.1.1 hfl (nb := 480) e_okA.1 e_okA.2.1 e_okA.2.2.1 e_okA.2.2.2.1 (vok.before C vw_AIO) vg_AIO hU hN hB.2.2.1 (by rw [C.1.2.2.1]; exact hl) m2 m1 (by decide) (by show 3 + 5 < _; omega) (by show 2 * 0 + (rest.map fun v => v.category).sum + _ ≤ _; omega) (by decide) h4 (by omega)) hdg
    (fun H1 q9 ce hz hq hS e1 e2 e3 => vx_widen (k := cells + 3) (n := slots + 890) (by omega) (by omega) (kx H1 q9 ((kp_x H locs hB).2 H1 hz hq hS) ⟨ce, e1, e2, e3⟩))
  obtain ⟨ka', hka', hea⟩ := hA.2.2 _ _ hka
  obtain ⟨kb', hkb', heb⟩ := hA.2.2 _ _ hkb
  exact Jvm.W.arraycopy_bounds (s := U.setFrames fs) (cs := vp_cell (E.2 (lnT la)) (na.toNat, .inl (fun j => iI (fa j)))) (cd := vp_cell (E.2 (lnT lb)) (nb.toNat, .inl (fun j => iI (fb j)))) (show U.heap[a]? = _ by rw [hU]; exact hca) (show U.heap[b]? = _ by rw [hU]; exact hcb)
    (fun _ h => by cases h) (fun _ h => by cases h) (show U.vm.classes[_]? = _ from hka') (show U.vm.classes[_]? = _ from hkb') (by rw [hea]; exact hkka) (by rw [heb]; exact hkkb) (by rw [rta, rtb, hty]; simp)
    (by show copyFault _ _ (arrV _ _ _).slots.size (arrV _ _ _).slots.size _ _ _ = _; rw [arrV_size, arrV_size]; exact hwhat) (hE _)
/-- throw new IndexOutOfBoundsException("not all there") -/
theorem x_needX (hfl : l.stackTraces = false) {w0 : xw} {sz mc ms : Nat} {Qc : Array Value → State → Outcome → State → Prop} {px : String → xw → Prop} (C : xC E p s m args c cc nL RX0) (hV : zV E (xA w0 sz) s s.heap) (hB : xB E (xA w0 sz) s w H locs) (hl : ls.size = nL) (hlocks : meth.locks = false) (hout : ∀ x ∈ c.exceptionTable.toList, False) (hf : 8 < R.frames) (hr : (rest.map fun v => v.category).sum + 10240 ≤ R.locals) (hc : cells + 1 ≤ mc) (hs : slots + 6 ≤ ms) (hcR : mc ≤ R.cells) (hsR : ms ≤ R.slots) (hp : px "java/lang/IndexOutOfBoundsException" w)
    (hlk : Cond.classLink RX0 399 "java/lang/IndexOutOfBoundsException" ∈ lw_all) (hini : Cond.initialized "java/lang/IndexOutOfBoundsException" ∈ lw_all)
    (d0 : decode cc pc = .ok (.new 399, 3)) (d3 : decode cc (pc + 3) = .ok (.dup, 1)) (d4 : decode cc (pc + 4) = .ok (.ldc_w 414, 3)) (d7 : decode cc (pc + 7) = .ok (.invokespecial 416, 3)) (d10 : decode cc (pc + 10) = .ok (.athrow, 1)) :
    W p l e R s m args below meth c H locs cells slots (vx_MQ below Qc (gXC E w0 sz px) args s mc ms (xA w0 sz)) (F0 m pc ls rest) := by
  obtain ⟨-, hU, hN, -, hstr⟩ := hV
  have hts := C.1.2.2.2.2
  refine vx_throwSW C.1.1 C.1.2.1 hfl (names := ["java/lang/RuntimeException", "java/lang/Exception"]) C.1.2.2.2.1 (by decide +kernel) (by decide +kernel) (hts _ hlk) (hts _ hini) hstr (vok.before C vw_IOO) (fun w hw => ?_) hU hN hB.2.2.1 (by rw [C.1.2.2.1]; exact hl) d0 d3 d4 d7 d10 (fun x hx => absurd (hout x hx) id) (by show 2 + 3 < _; omega) (by show _ + (13 * (2 + 1) + 43) ≤ _; omega) (by omega) (by omega) hlocks (fun t hA hz hq => ?_) hB.2.2.1.2.2 hc hs
  · rcases List.mem_cons.mp hw with e | hw
    · rw [e]; rfl
    rcases List.mem_cons.mp hw with e | hw
    · rw [e]; rfl
    · exact vg_IOO w hw
  · have hS1 : va_S (xA w0 sz) s.heap t.heap locs := ⟨Nat.le_trans hB.2.2.1.1 hz, fun q h1 h2 => (hq q (Nat.lt_of_lt_of_le h1 hB.2.2.1.1)).trans (hB.2.2.1.2.1 q h1 h2), hB.2.2.1.2.2⟩
    have hB1 := (kp_x (E := E) (A := xA w0 sz) (w := w) H locs hB).2 t.heap hz hq hS1
    exact ⟨w, trivial, ⟨hp, hB1.1, hB1.2.1⟩, hS1.F rfl⟩
end XR3
