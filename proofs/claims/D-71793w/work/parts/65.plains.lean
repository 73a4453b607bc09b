/-! LEFT SENTENCES: objects by kind -/
set_option maxRecDepth 100000
section PL
variable {p : Program} {l : Launch} {e : Env} {R : Room} {s : State} {m : MethodId} {args : Array Value} {below : List Frame} {meth : Method} {c : Code} {H : Heap} {locs : List Loc} {cells slots : Nat} {Q : State → Prop}
variable {cc : ByteArray} {pc nL : Nat} {ls : Array Slot} {rest : List Value} {E : xE} {A : Nat → Prop} {o : Nat} {Ad : Nat → Nat} {I : Nat → Int} {F : Nat → Nat → Int} {X : xw} {own : String}
theorem pl_at0 {w : xw} (hI : xInv E o Ad I F w) {i : Nat} (hi : (i : Int) < I 5) (h7 : I 5 ≤ 7) (hk : F 10 i = 0) : w (Ad (100 + i)) = some (xO 4 [.int (iI (F 12 i)), .int (iI (F 11 i)), .ref o]) := by
  have h := pl_at hI hi h7
  unfold plE at h
  rwa [if_pos hk] at h
theorem pl_at1 {w : xw} (hI : xInv E o Ad I F w) {i : Nat} (hi : (i : Int) < I 5) (h7 : I 5 ≤ 7) (hk : F 10 i = 1) : w (Ad (100 + i)) = some (xO 5 [.int (iI (F 12 i)), .int (iI (F 11 i)), .ref o, .ref o]) := by
  have h := pl_at hI hi h7
  unfold plE at h
  rwa [if_neg (by omega), if_pos hk] at h
theorem pl_at2 {w : xw} (hI : xInv E o Ad I F w) {i : Nat} (hi : (i : Int) < I 5) (h7 : I 5 ≤ 7) (hk : F 10 i = 2) : w (Ad (100 + i)) = some (xO 6 [.int (iI (F 12 i)), .int (iI (F 11 i)), .ref o, .ref o, .ref o]) := by
  have h := pl_at hI hi h7
  unfold plE at h
  rwa [if_neg (by omega), if_neg (by omega)] at h
theorem b_plO (C : xC E p s m args c cc nL own) (hB : xBB E A s o Ad I F X H locs) (i : Nat) (hi : (i : Int) < I 5) (h7 : I 5 ≤ 7) {index : Nat} (hlk : (Cond.fieldLink own index "BookPairs$Plain" "this$0" "LBookPairs;") ∈ lw_all) (hdg : decode cc pc = .ok (.getfield index, 3))
    (kk : W p l e R s m args below meth c H locs cells slots Q (F0 m (pc + 3) ls (.ref o :: rest))) : W p l e R s m args below meth c H locs cells slots Q (F0 m pc ls (.ref (Ad (100 + i)) :: rest)) := by
  obtain ⟨w, hI, hd, hB⟩ := hB
  exact x_plO C hB (wU_l (X := X) (pl_at hI hi h7)) hlk hdg kk
end PL
