/-! THE START: what is known of the tables and of the cells that stand outside of the world -/
set_option maxRecDepth 100000
theorem arr_prim {s : State} {args : Array Value} {ty : FieldType} (h : (Cond.arrayClass ty).before args s = true) (hp : ∀ C, ty ≠ .object C) : ∃ c : ClassId, ArrOfT s c ty ∧ va_RA s c ty := by
  obtain ⟨c, k, comp, h1, h2, h3⟩ := Cond.arrayClass_spec h
  refine ⟨c, fun N z => ⟨(fun k h => by cases h), k, h2, comp, h3⟩, ?_⟩
  cases ty with
  | object C => exact absurd rfl (hp C)
  | _ => exact h1
theorem arr_obj {s : State} {args : Array Value} {C : String} (h : (Cond.arrayOver (.object C)).before args s = true) : ∃ c : ClassId, ArrOfT s c (.object C) ∧ va_RA s c (.object C) := by
  obtain ⟨comp, c, k, h1, -, h2, h3, h4⟩ := Cond.arrayOver_spec h
  exact ⟨c, fun N z => ⟨(fun k h => by cases h), k, h2, comp, h3⟩, k, comp, h2, h3, h1, h4⟩
theorem cls_start {s : State} {args : Array Value} (hts : ∀ w ∈ lw_all, w.before args s = true) : ∀ (c : Nat) (q : vw_C), vwCl[c]? = some q → ∃ (cC : ClassId) (iS : Nat → Nat), u_Kn s q.1 q.2.1 q.2.2 cC iS := by
  intro c q hq
  match c, hq with
  | 0, hq => cases hq; exact u_known hts in_X0 (hts _ q108)
  | 1, hq => cases hq; exact u_known hts in_X1 (hts _ q147)
  | 2, hq => cases hq; exact u_known hts in_X2 (hts _ q226)
  | 3, hq => cases hq; exact u_known hts in_X3 (hts _ q1389)
  | 4, hq => cases hq; exact u_known hts in_X6 (hts _ q773)
  | 5, hq => cases hq; exact u_known hts in_X7 (hts _ q796)
  | 6, hq => cases hq; exact u_known hts in_X8 (hts _ q808)
  | 7, hq => cases hq; exact u_known hts in_X5 (hts _ q1054)
  | 8, hq => cases hq; exact u_known hts in_X10 (hts _ q390)
  | 9, hq => cases hq; exact u_known hts in_X11 (hts _ q425)
  | 10, hq => cases hq; exact u_known hts in_X12 (hts _ q465)
  | 11, hq => cases hq; exact u_known hts in_X13 (hts _ q515)
  | 12, hq => cases hq; exact u_known hts in_X14 (hts _ q570)
  | 13, hq => cases hq; exact u_known hts in_X15 (hts _ q609)
  | 14, hq => cases hq; exact u_known hts in_X16 (hts _ q658)
  | 15, hq => cases hq; exact u_known hts in_X17 (hts _ q944)
  | 16, hq => cases hq; exact u_known hts in_X18 (hts _ q1244)
  | 17, hq => cases hq; exact u_known hts in_X19 (hts _ q1357)
  | 18, hq => cases hq; exact u_known hts in_J2 (hts _ q120)
  | k + 19, hq => simp [vwCl] at hq
theorem fw_words : ∀ q ∈ fwl, Cond.declares q.2.1 ∈ lw_tbl ∧ Cond.interfaceMethod q.2.1.cls q.2.1.cls q.2.1.name q.2.1.desc ∈ lw_tbl ∧ Cond.publicMethod q.2.2 ∈ lw_tbl ∧ Cond.unhidden q.1 q.2.1.name q.2.1.desc ∈ lw_tbl ∧ Cond.castable q.1 q.2.1.cls ∈ lw_tbl := by decide +kernel
theorem ao_words : ∀ C ∈ aol, Cond.arrayOver (.object C) ∈ lw_tbl := by decide +kernel
theorem if_words : ∀ x ∈ lifl, Cond.declares x ∈ lw_tbl ∧ Cond.interfaceMethod x.cls x.cls x.name x.desc ∈ lw_tbl := by decide +kernel
theorem ld_words : Cond.declares rdaN ∈ lw_tbl ∧ Cond.interfaceMethod rdaN.cls rdaN.cls rdaN.name rdaN.desc ∈ lw_tbl ∧ Cond.publicMethod rdaN ∈ lw_tbl ∧ Cond.castable "BookPairs$Plain" rdaN.cls ∈ lw_tbl ∧ Cond.castable "BookPairs$Longer" rdaN.cls ∈ lw_tbl := by decide +kernel
theorem site_start {s : State} {args : Array Value} {x : MethodName} {pc index i : Nat} (h : (Cond.lambdaSite x pc index (lam i)).before args s = true) (hcls : x.cls = "BookPairs") (hcap : (lam i).captured ≠ []) : ∃ c : ClassId, va_La i c s ∧ va_Ls i x pc index c s := by
  obtain ⟨c, one, h1⟩ := Cond.lambdaSite_spec h
  obtain ⟨m, k, cf, i0, p0, l, e1, e2, e3, e4, -, e5, e6, e7, e8⟩ := State.lambdaAt?_spec h1
  rcases e8 with ⟨a, cell, -, -, e9, -⟩ | ⟨e9, -, -⟩
  · exact absurd e9 hcap
  · subst e9
    obtain ⟨kn, hkn, hname⟩ := className_of_methodNamed e1
    cases e2.symm.trans hkn
    have hf := findClass_of_methodNamed e1
    rw [hcls] at hf hname
    exact ⟨c, ⟨m.cls, k, hf, e2, hname, e6, e7⟩, m, k, cf, i0, p0, e1, e2, e3, e4, e5⟩
theorem env_on {w : Cond} (h : nwok w = true) : w.onTables = true := by
  cases w <;> first | rfl | cases h
theorem env_start {s : State} {b : Nat} (hts : ∀ w ∈ lw_tbl, w.before #[Value.ref b] s = true) (hgv : (Jvm.Cond.and given_1 narrow_1).before #[Value.ref b] s = true) (hmod : modulesRight_1 s = true) : ∃ E : xE, xK E s ∧ zV E (fun q => s.heap.size ≤ q) s s.heap := by
  have hta : ∀ w ∈ lw_all, w.before #[Value.ref b] s = true := fun w hw => hts w (List.mem_filter.mp hw).1
  have hA : ∀ a : Nat, a < s.heap.size → ¬ (s.heap.size ≤ a) := fun a ha => by omega
  have hs := flat_of_before _ hgv
  obtain ⟨c0, A0, B0⟩ := arr_prim (hta _ q213) (fun C h => by cases h)
  obtain ⟨c1, A1, B1⟩ := arr_prim (hta _ q932) (fun C h => by cases h)
  obtain ⟨c2, A2, B2⟩ := arr_prim (hta _ q957) (fun C h => by cases h)
  obtain ⟨c3, A3, B3⟩ := arr_obj (hts _ (ao_words "java/lang/Object" (by decide +kernel)))
  obtain ⟨c4, A4, B4⟩ := arr_obj (hts _ (ao_words "BookPairs$Sort" (by decide +kernel)))
  obtain ⟨c5, A5, B5⟩ := arr_obj (hts _ (ao_words "BookPairs$Doing" (by decide +kernel)))
  obtain ⟨c6, A6, B6⟩ := arr_obj (hts _ (ao_words "BookPairs$Sheet" (by decide +kernel)))
  have hcl := cls_start hta
  have hsite : ∀ i, i < 10 → ∃ c : ClassId, ∀ q ∈ lsites, q.1 = i → va_La i c s ∧ va_Ls i q.2.1 q.2.2.1 q.2.2.2 c s := by
    intro i hi
    have key : ∀ (x : MethodName) (pc index : Nat), (∀ q ∈ lsites, q.1 = i → q = (i, x, pc, index)) → (Cond.lambdaSite x pc index (lam i)).before #[Value.ref b] s = true → x.cls = "BookPairs" → (lam i).captured ≠ [] → ∃ c : ClassId, ∀ q ∈ lsites, q.1 = i → va_La i c s ∧ va_Ls i q.2.1 q.2.2.1 q.2.2.2 c s := by
      intro x pc index hu h1 h2 h3
      obtain ⟨c, g1, g2⟩ := site_start h1 h2 h3
      exact ⟨c, fun q hq hi => by rw [hu q hq hi]; exact ⟨g1, g2⟩⟩
    match i, hi with
    | 0, _ => exact key ⟨"BookPairs", "<init>", "()V"⟩ 124 64 (by decide +kernel) (hs _ (by decide +kernel)) rfl (by decide)
    | 1, _ => exact key ⟨"BookPairs", "<init>", "()V"⟩ 143 71 (by decide +kernel) (hs _ (by decide +kernel)) rfl (by decide)
    | 2, _ => exact key ⟨"BookPairs", "<init>", "()V"⟩ 162 72 (by decide +kernel) (hs _ (by decide +kernel)) rfl (by decide)
    | 3, _ => exact key ⟨"BookPairs", "<init>", "()V"⟩ 181 73 (by decide +kernel) (hs _ (by decide +kernel)) rfl (by decide)
    | 4, _ => exact key ⟨"BookPairs", "<init>", "()V"⟩ 200 74 (by decide +kernel) (hs _ (by decide +kernel)) rfl (by decide)
    | 5, _ => exact key ⟨"BookPairs", "<init>", "()V"⟩ 219 75 (by decide +kernel) (hs _ (by decide +kernel)) rfl (by decide)
    | 6, _ => exact key ⟨"BookPairs", "<init>", "()V"⟩ 238 82 (by decide +kernel) (hs _ (by decide +kernel)) rfl (by decide)
    | 7, _ => exact key ⟨"BookPairs", "<init>", "()V"⟩ 257 83 (by decide +kernel) (hs _ (by decide +kernel)) rfl (by decide)
    | 8, _ => exact key ⟨"BookPairs", "books", "(IIII)I"⟩ 12 438 (by decide +kernel) (hs _ (by decide +kernel)) rfl (by decide)
    | 9, _ => exact key ⟨"BookPairs", "day", "(IIIII)I"⟩ 73 449 (by decide +kernel) (hs _ (by decide +kernel)) rfl (by decide)
    | i + 10, h => omega
  obtain ⟨lc, hlc⟩ : ∃ lc : Nat → ClassId, ∀ i, i < 10 → ∀ q ∈ lsites, q.1 = i → va_La i (lc i) s ∧ va_Ls i q.2.1 q.2.2.1 q.2.2.2 (lc i) s := by
    refine ⟨fun i => if h : i < 10 then Classical.choose (hsite i h) else 0, fun i hi => ?_⟩
    dsimp only
    rw [dif_pos hi]
    exact Classical.choose_spec (hsite i hi)
  have hlen : (Term.length (.static "java/util/ArrayList" "DEFAULTCAPACITY_EMPTY_ELEMENTDATA" "[Ljava/lang/Object;")).eval #[Value.ref b] s none [] s = some (.int (Int32.ofNat 0)) := by
    have h := hs (.eq (.length (.static "java/util/ArrayList" "DEFAULTCAPACITY_EMPTY_ELEMENTDATA" "[Ljava/lang/Object;")) (.int 0)) (by decide +kernel)
    exact Cond.eq_int h rfl
  obtain ⟨t20, ht20, hT20⟩ := va_Tof (N := 0) (f := fun _ => .null) (A := fun q => s.heap.size ≤ q) (by decide) (hs (.arrayOf (.static "java/util/ArrayList" "DEFAULTCAPACITY_EMPTY_ELEMENTDATA" "[Ljava/lang/Object;") (.object "java/lang/Object")) (by decide +kernel)) hlen (fun j hj => by omega) hA
  have hZ20 := va_Zof (A := fun q => s.heap.size ≤ q) (hts _ q132) (hta _ q71) ht20 hA
  obtain ⟨mi, hMi⟩ := va_Mi.of (hs (.isRef (.mirror "[Ljava/lang/Object;")) (by decide +kernel))
  obtain ⟨t22, -, -, -, ht22, -⟩ := Cond.exactly_spec (hs (.exactly (.string "BookPairs" 414) "java/lang/String") (by decide +kernel))
  have hR := vk_R.of (hts _ q1197) ht22
  let f : Nat → ClassId := fun k => if k = 0 then c0 else if k = 1 then c1 else if k = 2 then c2 else if k = 3 then c3 else if k = 4 then c4 else if k = 5 then c5 else if k = 6 then c6 else if k = 20 then t20 else if k = 21 then mi else if k = 22 then t22 else lc (k - 10)
  obtain ⟨D1, D2, hD⟩ : ∃ (D1 : Nat → ClassId) (D2 : Nat → Nat → Nat), ∀ (c : Nat) (q : vw_C), vwCl[c]? = some q → u_Kn s q.1 q.2.1 q.2.2 (D1 c) (D2 c) := by
    have h : ∀ c : Nat, ∃ x : ClassId × (Nat → Nat), ∀ q : vw_C, vwCl[c]? = some q → u_Kn s q.1 q.2.1 q.2.2 x.1 x.2 := by
      intro c
      cases hq : vwCl[c]? with
      | none => exact ⟨(0, fun _ => 0), fun q h => by cases h⟩
      | some q =>
        obtain ⟨cC, iS, h1⟩ := hcl c q hq
        exact ⟨(cC, iS), fun q2 h => by cases h; exact h1⟩
    exact ⟨fun c => (Classical.choose (h c)).1, fun c => (Classical.choose (h c)).2, fun c q hq => Classical.choose_spec (h c) q hq⟩
  have hf : ∀ i, i < 10 → f (10 + i) = lc i := by
    intro i hi
    show (if 10 + i = 0 then c0 else if 10 + i = 1 then c1 else if 10 + i = 2 then c2 else if 10 + i = 3 then c3 else if 10 + i = 4 then c4 else if 10 + i = 5 then c5 else if 10 + i = 6 then c6 else if 10 + i = 20 then t20 else if 10 + i = 21 then mi else if 10 + i = 22 then t22 else lc (10 + i - 10)) = lc i
    rw [if_neg (by omega), if_neg (by omega), if_neg (by omega), if_neg (by omega), if_neg (by omega), if_neg (by omega), if_neg (by omega), if_neg (by omega), if_neg (by omega), if_neg (by omega)]
    congr 1
    omega
  have hls : ∀ i, i < 10 → ∃ q ∈ lsites, q.1 = i := by
    intro i hi
    match i, hi with
    | 0, _ => decide +kernel
    | 1, _ => decide +kernel
    | 2, _ => decide +kernel
    | 3, _ => decide +kernel
    | 4, _ => decide +kernel
    | 5, _ => decide +kernel
    | 6, _ => decide +kernel
    | 7, _ => decide +kernel
    | 8, _ => decide +kernel
    | 9, _ => decide +kernel
    | i + 10, h => omega
  have hls10 : ∀ q ∈ lsites, q.1 < 10 := by decide +kernel
  have hnc : ∀ q ∈ ncl, Cond.not (.castable q.1 q.2) ∈ flatC (Jvm.Cond.and given_1 narrow_1) := by decide +kernel
  refine ⟨((D1, D2), f), ⟨⟨fun c q hq => ?_, fun k q hq => ?_⟩, fun w hw ho => ?_⟩, ⟨⟨fun q hq => ?_, fun q hq => va_Nc.of (hs _ (hnc q hq)), fun C hC => va_AO.of (A := #[Value.ref b]) ?_, hMi, va_Dc.of (hts _ ?_), ⟨fun i hi => ?_, fun q hq => ?_, fun x hx => ?_, ?_, ?_, ?_⟩⟩, hZ20, hT20⟩, ?_, ?_, hmod, hR⟩
  · exact hD c q hq
  · match k, hq with
    | 0, hq => cases hq; exact ⟨A0, B0⟩
    | 1, hq => cases hq; exact ⟨A1, B1⟩
    | 2, hq => cases hq; exact ⟨A2, B2⟩
    | 3, hq => cases hq; exact ⟨A3, B3⟩
    | 4, hq => cases hq; exact ⟨A4, B4⟩
    | 5, hq => cases hq; exact ⟨A5, B5⟩
    | 6, hq => cases hq; exact ⟨A6, B6⟩
    | k + 7, hq => simp [xtys] at hq
  · exact va_Nw.of (env_on ho) (hts w hw)
  · obtain ⟨w1, w2, w3, w4, w5⟩ := fw_words q hq
    exact va_Fw.of (hts _ w1) (hts _ w2) (hts _ w3) (hts _ w4) (hts _ w5)
  · exact hts _ (ao_words C hC)
  · decide +kernel
  · obtain ⟨q, hq, e⟩ := hls i hi
    show va_La i (f (10 + i)) s
    rw [hf i hi]
    exact (hlc i hi q hq e).1
  · show va_Ls q.1 q.2.1 q.2.2.1 q.2.2.2 (f (10 + q.1)) s
    rw [hf q.1 (hls10 q hq)]
    exact (hlc q.1 (hls10 q hq) q hq rfl).2
  · obtain ⟨w1, w2⟩ := if_words x hx
    exact ⟨va_any rfl (hts _ w1), va_any rfl (hts _ w2)⟩
  · exact ⟨va_any rfl (hts _ ld_words.1), va_any rfl (hts _ ld_words.2.1), va_ldA (hs _ (by decide +kernel)), va_any rfl (hts _ ld_words.2.2.1), va_any rfl (hts _ ld_words.2.2.2.1)⟩
  · exact ⟨va_any rfl (hts _ ld_words.1), va_any rfl (hts _ ld_words.2.1), va_ldA (hs _ (by decide +kernel)), va_any rfl (hts _ ld_words.2.2.1), va_any rfl (hts _ ld_words.2.2.2.2)⟩
  · exact ⟨va_any rfl (hs (.methodLink "BookPairs$Doubled" 27 rdlN) (by decide +kernel)), va_any rfl (hs (.sameMethod "BookPairs$Longer" "BookPairs$Aloud" "readAloud" "()I") (by decide +kernel)), va_ldA (hs _ (by decide +kernel))⟩
  · exact vx_Zqof (hts _ q865) (hta _ q86) (hs _ (by decide +kernel)) hA
  · exact vx_Zqof (hts _ q867) (hta _ q86) (hs _ (by decide +kernel)) hA
