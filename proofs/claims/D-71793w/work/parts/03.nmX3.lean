/-! BookPairsModel -/
set_option maxRecDepth 100000
def RX3 : String := "BookPairsModel"
def TX3 : u_T := fun k => match k with
  | 0 => ("BookPairsModel", "fault", "I", false)
  | 1 => ("BookPairsModel", "trace", "I", false)
  | 2 => ("BookPairsModel", "sorts", "[I", true)
  | 3 => ("BookPairsModel", "sheetLong", "[I", true)
  | 4 => ("BookPairsModel", "cells", "[I", true)
  | 5 => ("BookPairsModel", "lefts", "I", false)
  | 6 => ("BookPairsModel", "rights", "I", false)
  | 7 => ("BookPairsModel", "skip", "I", false)
  | 8 => ("BookPairsModel", "join", "I", false)
  | 9 => ("BookPairsModel", "band", "I", false)
  | 10 => ("BookPairsModel", "kind", "[I", true)
  | 11 => ("BookPairsModel", "leftLetters", "[I", true)
  | 12 => ("BookPairsModel", "leftAnchor", "[I", true)
  | 13 => ("BookPairsModel", "rightLetters", "[I", true)
  | 14 => ("BookPairsModel", "rightAnchor", "[I", true)
  | 15 => ("BookPairsModel", "at", "I", false)
  | 16 => ("BookPairsModel", "readLefts", "I", false)
  | 17 => ("BookPairsModel", "readRights", "I", false)
  | 18 => ("BookPairsModel", "readKind", "[I", true)
  | 19 => ("BookPairsModel", "readLetters", "[I", true)
  | 20 => ("BookPairsModel", "readAnchor", "[I", true)
  | 21 => ("BookPairsModel", "least", "[I", true)
  | 22 => ("BookPairsModel", "next", "[I", true)
  | 23 => ("BookPairsModel", "alike", "[I", true)
  | 24 => ("BookPairsModel", "pairs", "I", false)
  | 25 => ("BookPairsModel", "pairSort", "[I", true)
  | 26 => ("BookPairsModel", "pairLeft", "[I", true)
  | 27 => ("BookPairsModel", "pairRight", "[I", true)
  | 28 => ("BookPairsModel", "kept", "[I", true)
  | 29 => ("BookPairsModel", "readings", "I", false)
  | 30 => ("BookPairsModel", "readBand", "[I", true)
  | _ => ("BookPairsModel", "readCost", "[I", true)
def tyX3 : Nat → FieldType := fun k => match k with
  | 0 => .int
  | 1 => .int
  | 2 => .array .int
  | 3 => .array .int
  | 4 => .array .int
  | 5 => .int
  | 6 => .int
  | 7 => .int
  | 8 => .int
  | 9 => .int
  | 10 => .array .int
  | 11 => .array .int
  | 12 => .array .int
  | 13 => .array .int
  | 14 => .array .int
  | 15 => .int
  | 16 => .int
  | 17 => .int
  | 18 => .array .int
  | 19 => .array .int
  | 20 => .array .int
  | 21 => .array .int
  | 22 => .array .int
  | 23 => .array .int
  | 24 => .int
  | 25 => .array .int
  | 26 => .array .int
  | 27 => .array .int
  | 28 => .array .int
  | 29 => .int
  | 30 => .array .int
  | _ => .array .int
abbrev wsX30 : List Cond := u_ws RX3 TX3 32
set_option maxRecDepth 100000 in
theorem nmX3 : ∀ a, a < 32 → ∀ b, b < 32 → a ≠ b → (TX3 a).2.1 ≠ (TX3 b).2.1 := by decide +kernel
set_option maxRecDepth 100000 in
theorem tyX3_ok : ∀ k, k < 32 → parseFieldDescriptor (TX3 k).2.2.1 = some (tyX3 k) := by decide +kernel
abbrev cX3_init : ByteArray := prog_25_method_1_code
def yX3_init : MethodName := ⟨RX3, "<init>", "()V"⟩
def dkwX3_init_7 : List UInt8 := [16, 8, 188, 10, 181, 0, 64, 42, 16, 8, 188, 10, 181, 0, 67, 177]
abbrev dktX3_init_7 : List UInt8 := dkwX3_init_7 ++ []
def dkwX3_init_6 : List UInt8 := [16, 14, 188, 10, 181, 0, 55, 42, 16, 14, 188, 10, 181, 0, 58, 42, 16, 17, 188, 10, 181, 0, 61, 42]
abbrev dktX3_init_6 : List UInt8 := dkwX3_init_6 ++ dktX3_init_7
def dkwX3_init_5 : List UInt8 := [16, 64, 188, 10, 181, 0, 46, 42, 16, 64, 188, 10, 181, 0, 49, 42, 16, 14, 188, 10, 181, 0, 52, 42]
abbrev dktX3_init_5 : List UInt8 := dkwX3_init_5 ++ dktX3_init_6
def dkwX3_init_4 : List UInt8 := [16, 14, 188, 10, 181, 0, 37, 42, 16, 14, 188, 10, 181, 0, 40, 42, 16, 64, 188, 10, 181, 0, 43, 42]
abbrev dktX3_init_4 : List UInt8 := dkwX3_init_4 ++ dktX3_init_5
def dkwX3_init_3 : List UInt8 := [16, 7, 188, 10, 181, 0, 28, 42, 16, 7, 188, 10, 181, 0, 31, 42, 16, 7, 188, 10, 181, 0, 34, 42]
abbrev dktX3_init_3 : List UInt8 := dkwX3_init_3 ++ dktX3_init_4
def dkwX3_init_2 : List UInt8 := [16, 7, 188, 10, 181, 0, 19, 42, 16, 7, 188, 10, 181, 0, 22, 42, 16, 7, 188, 10, 181, 0, 25, 42]
abbrev dktX3_init_2 : List UInt8 := dkwX3_init_2 ++ dktX3_init_3
def dkwX3_init_1 : List UInt8 := [6, 16, 247, 79, 181, 0, 9, 42, 7, 188, 10, 181, 0, 13, 42, 17, 0, 240, 188, 10, 181, 0, 16, 42]
abbrev dktX3_init_1 : List UInt8 := dkwX3_init_1 ++ dktX3_init_2
def dkwX3_init_0 : List UInt8 := [42, 183, 0, 1, 42, 7, 188, 10, 89, 3, 16, 247, 79, 89, 4, 16, 247, 79, 89, 5, 16, 247, 79, 89]
abbrev dktX3_init_0 : List UInt8 := dkwX3_init_0 ++ dktX3_init_1
theorem dksX3_init_0 : cX3_init.data.toList.drop 0 = dktX3_init_0 := by decide +kernel
theorem dksX3_init_1 : cX3_init.data.toList.drop 24 = dktX3_init_1 := dk_seg dksX3_init_0 24 rfl rfl
theorem dksX3_init_2 : cX3_init.data.toList.drop 48 = dktX3_init_2 := dk_seg dksX3_init_1 24 rfl rfl
theorem dksX3_init_3 : cX3_init.data.toList.drop 72 = dktX3_init_3 := dk_seg dksX3_init_2 24 rfl rfl
theorem dksX3_init_4 : cX3_init.data.toList.drop 96 = dktX3_init_4 := dk_seg dksX3_init_3 24 rfl rfl
theorem dksX3_init_5 : cX3_init.data.toList.drop 120 = dktX3_init_5 := dk_seg dksX3_init_4 24 rfl rfl
theorem dksX3_init_6 : cX3_init.data.toList.drop 144 = dktX3_init_6 := dk_seg dksX3_init_5 24 rfl rfl
theorem dksX3_init_7 : cX3_init.data.toList.drop 168 = dktX3_init_7 := dk_seg dksX3_init_6 24 rfl rfl
theorem dX3_init_0 : decode cX3_init 0 = .ok (.aload_n 0, 1) := dk_42 (dk_at dksX3_init_0 0 rfl rfl)
theorem dX3_init_1 : decode cX3_init 1 = .ok (.invokespecial 1, 3) := dk_183 0 1 (dk_at dksX3_init_0 1 rfl rfl)
theorem dX3_init_4 : decode cX3_init 4 = .ok (.aload_n 0, 1) := dk_42 (dk_at dksX3_init_0 4 rfl rfl)
theorem dX3_init_5 : decode cX3_init 5 = .ok (.iconst 4, 1) := dk_7 (dk_at dksX3_init_0 5 rfl rfl)
theorem dX3_init_6 : decode cX3_init 6 = .ok (.newarray .int, 2) := dk_188_10 (dk_at dksX3_init_0 6 rfl rfl)
theorem dX3_init_8 : decode cX3_init 8 = .ok (.dup, 1) := dk_89 (dk_at dksX3_init_0 8 rfl rfl)
theorem dX3_init_9 : decode cX3_init 9 = .ok (.iconst 0, 1) := dk_3 (dk_at dksX3_init_0 9 rfl rfl)
theorem dX3_init_10 : decode cX3_init 10 = .ok (.bipush (-9), 2) := dk_16 247 (dk_at dksX3_init_0 10 rfl rfl)
theorem dX3_init_12 : decode cX3_init 12 = .ok (.iastore, 1) := dk_79 (dk_at dksX3_init_0 12 rfl rfl)
theorem dX3_init_13 : decode cX3_init 13 = .ok (.dup, 1) := dk_89 (dk_at dksX3_init_0 13 rfl rfl)
theorem dX3_init_14 : decode cX3_init 14 = .ok (.iconst 1, 1) := dk_4 (dk_at dksX3_init_0 14 rfl rfl)
theorem dX3_init_15 : decode cX3_init 15 = .ok (.bipush (-9), 2) := dk_16 247 (dk_at dksX3_init_0 15 rfl rfl)
theorem dX3_init_17 : decode cX3_init 17 = .ok (.iastore, 1) := dk_79 (dk_at dksX3_init_0 17 rfl rfl)
theorem dX3_init_18 : decode cX3_init 18 = .ok (.dup, 1) := dk_89 (dk_at dksX3_init_0 18 rfl rfl)
theorem dX3_init_19 : decode cX3_init 19 = .ok (.iconst 2, 1) := dk_5 (dk_at dksX3_init_0 19 rfl rfl)
theorem dX3_init_20 : decode cX3_init 20 = .ok (.bipush (-9), 2) := dk_16 247 (dk_at dksX3_init_0 20 rfl rfl)
theorem dX3_init_22 : decode cX3_init 22 = .ok (.iastore, 1) := dk_79 (dk_at dksX3_init_0 22 rfl rfl)
theorem dX3_init_23 : decode cX3_init 23 = .ok (.dup, 1) := dk_89 (dk_at dksX3_init_0 23 rfl rfl)
theorem dX3_init_24 : decode cX3_init 24 = .ok (.iconst 3, 1) := dk_6 (dk_at dksX3_init_1 0 rfl rfl)
theorem dX3_init_25 : decode cX3_init 25 = .ok (.bipush (-9), 2) := dk_16 247 (dk_at dksX3_init_1 1 rfl rfl)
theorem dX3_init_27 : decode cX3_init 27 = .ok (.iastore, 1) := dk_79 (dk_at dksX3_init_1 3 rfl rfl)
theorem dX3_init_28 : decode cX3_init 28 = .ok (.putfield 9, 3) := dk_181 0 9 (dk_at dksX3_init_1 4 rfl rfl)
theorem dX3_init_31 : decode cX3_init 31 = .ok (.aload_n 0, 1) := dk_42 (dk_at dksX3_init_1 7 rfl rfl)
theorem dX3_init_32 : decode cX3_init 32 = .ok (.iconst 4, 1) := dk_7 (dk_at dksX3_init_1 8 rfl rfl)
theorem dX3_init_33 : decode cX3_init 33 = .ok (.newarray .int, 2) := dk_188_10 (dk_at dksX3_init_1 9 rfl rfl)
theorem dX3_init_35 : decode cX3_init 35 = .ok (.putfield 13, 3) := dk_181 0 13 (dk_at dksX3_init_1 11 rfl rfl)
theorem dX3_init_38 : decode cX3_init 38 = .ok (.aload_n 0, 1) := dk_42 (dk_at dksX3_init_1 14 rfl rfl)
theorem dX3_init_39 : decode cX3_init 39 = .ok (.sipush 240, 3) := dk_17 0 240 (dk_at dksX3_init_1 15 rfl rfl)
theorem dX3_init_42 : decode cX3_init 42 = .ok (.newarray .int, 2) := dk_188_10 (dk_at dksX3_init_1 18 rfl rfl)
theorem dX3_init_44 : decode cX3_init 44 = .ok (.putfield 16, 3) := dk_181 0 16 (dk_at dksX3_init_1 20 rfl rfl)
theorem dX3_init_47 : decode cX3_init 47 = .ok (.aload_n 0, 1) := dk_42 (dk_at dksX3_init_1 23 rfl rfl)
theorem dX3_init_48 : decode cX3_init 48 = .ok (.bipush 7, 2) := dk_16 7 (dk_at dksX3_init_2 0 rfl rfl)
theorem dX3_init_50 : decode cX3_init 50 = .ok (.newarray .int, 2) := dk_188_10 (dk_at dksX3_init_2 2 rfl rfl)
theorem dX3_init_52 : decode cX3_init 52 = .ok (.putfield 19, 3) := dk_181 0 19 (dk_at dksX3_init_2 4 rfl rfl)
theorem dX3_init_55 : decode cX3_init 55 = .ok (.aload_n 0, 1) := dk_42 (dk_at dksX3_init_2 7 rfl rfl)
theorem dX3_init_56 : decode cX3_init 56 = .ok (.bipush 7, 2) := dk_16 7 (dk_at dksX3_init_2 8 rfl rfl)
theorem dX3_init_58 : decode cX3_init 58 = .ok (.newarray .int, 2) := dk_188_10 (dk_at dksX3_init_2 10 rfl rfl)
theorem dX3_init_60 : decode cX3_init 60 = .ok (.putfield 22, 3) := dk_181 0 22 (dk_at dksX3_init_2 12 rfl rfl)
theorem dX3_init_63 : decode cX3_init 63 = .ok (.aload_n 0, 1) := dk_42 (dk_at dksX3_init_2 15 rfl rfl)
theorem dX3_init_64 : decode cX3_init 64 = .ok (.bipush 7, 2) := dk_16 7 (dk_at dksX3_init_2 16 rfl rfl)
theorem dX3_init_66 : decode cX3_init 66 = .ok (.newarray .int, 2) := dk_188_10 (dk_at dksX3_init_2 18 rfl rfl)
theorem dX3_init_68 : decode cX3_init 68 = .ok (.putfield 25, 3) := dk_181 0 25 (dk_at dksX3_init_2 20 rfl rfl)
theorem dX3_init_71 : decode cX3_init 71 = .ok (.aload_n 0, 1) := dk_42 (dk_at dksX3_init_2 23 rfl rfl)
theorem dX3_init_72 : decode cX3_init 72 = .ok (.bipush 7, 2) := dk_16 7 (dk_at dksX3_init_3 0 rfl rfl)
theorem dX3_init_74 : decode cX3_init 74 = .ok (.newarray .int, 2) := dk_188_10 (dk_at dksX3_init_3 2 rfl rfl)
theorem dX3_init_76 : decode cX3_init 76 = .ok (.putfield 28, 3) := dk_181 0 28 (dk_at dksX3_init_3 4 rfl rfl)
theorem dX3_init_79 : decode cX3_init 79 = .ok (.aload_n 0, 1) := dk_42 (dk_at dksX3_init_3 7 rfl rfl)
theorem dX3_init_80 : decode cX3_init 80 = .ok (.bipush 7, 2) := dk_16 7 (dk_at dksX3_init_3 8 rfl rfl)
theorem dX3_init_82 : decode cX3_init 82 = .ok (.newarray .int, 2) := dk_188_10 (dk_at dksX3_init_3 10 rfl rfl)
theorem dX3_init_84 : decode cX3_init 84 = .ok (.putfield 31, 3) := dk_181 0 31 (dk_at dksX3_init_3 12 rfl rfl)
theorem dX3_init_87 : decode cX3_init 87 = .ok (.aload_n 0, 1) := dk_42 (dk_at dksX3_init_3 15 rfl rfl)
theorem dX3_init_88 : decode cX3_init 88 = .ok (.bipush 7, 2) := dk_16 7 (dk_at dksX3_init_3 16 rfl rfl)
theorem dX3_init_90 : decode cX3_init 90 = .ok (.newarray .int, 2) := dk_188_10 (dk_at dksX3_init_3 18 rfl rfl)
theorem dX3_init_92 : decode cX3_init 92 = .ok (.putfield 34, 3) := dk_181 0 34 (dk_at dksX3_init_3 20 rfl rfl)
theorem dX3_init_95 : decode cX3_init 95 = .ok (.aload_n 0, 1) := dk_42 (dk_at dksX3_init_3 23 rfl rfl)
theorem dX3_init_96 : decode cX3_init 96 = .ok (.bipush 14, 2) := dk_16 14 (dk_at dksX3_init_4 0 rfl rfl)
theorem dX3_init_98 : decode cX3_init 98 = .ok (.newarray .int, 2) := dk_188_10 (dk_at dksX3_init_4 2 rfl rfl)
theorem dX3_init_100 : decode cX3_init 100 = .ok (.putfield 37, 3) := dk_181 0 37 (dk_at dksX3_init_4 4 rfl rfl)
theorem dX3_init_103 : decode cX3_init 103 = .ok (.aload_n 0, 1) := dk_42 (dk_at dksX3_init_4 7 rfl rfl)
theorem dX3_init_104 : decode cX3_init 104 = .ok (.bipush 14, 2) := dk_16 14 (dk_at dksX3_init_4 8 rfl rfl)
theorem dX3_init_106 : decode cX3_init 106 = .ok (.newarray .int, 2) := dk_188_10 (dk_at dksX3_init_4 10 rfl rfl)
theorem dX3_init_108 : decode cX3_init 108 = .ok (.putfield 40, 3) := dk_181 0 40 (dk_at dksX3_init_4 12 rfl rfl)
theorem dX3_init_111 : decode cX3_init 111 = .ok (.aload_n 0, 1) := dk_42 (dk_at dksX3_init_4 15 rfl rfl)
theorem dX3_init_112 : decode cX3_init 112 = .ok (.bipush 64, 2) := dk_16 64 (dk_at dksX3_init_4 16 rfl rfl)
theorem dX3_init_114 : decode cX3_init 114 = .ok (.newarray .int, 2) := dk_188_10 (dk_at dksX3_init_4 18 rfl rfl)
theorem dX3_init_116 : decode cX3_init 116 = .ok (.putfield 43, 3) := dk_181 0 43 (dk_at dksX3_init_4 20 rfl rfl)
theorem dX3_init_119 : decode cX3_init 119 = .ok (.aload_n 0, 1) := dk_42 (dk_at dksX3_init_4 23 rfl rfl)
theorem dX3_init_120 : decode cX3_init 120 = .ok (.bipush 64, 2) := dk_16 64 (dk_at dksX3_init_5 0 rfl rfl)
theorem dX3_init_122 : decode cX3_init 122 = .ok (.newarray .int, 2) := dk_188_10 (dk_at dksX3_init_5 2 rfl rfl)
theorem dX3_init_124 : decode cX3_init 124 = .ok (.putfield 46, 3) := dk_181 0 46 (dk_at dksX3_init_5 4 rfl rfl)
theorem dX3_init_127 : decode cX3_init 127 = .ok (.aload_n 0, 1) := dk_42 (dk_at dksX3_init_5 7 rfl rfl)
theorem dX3_init_128 : decode cX3_init 128 = .ok (.bipush 64, 2) := dk_16 64 (dk_at dksX3_init_5 8 rfl rfl)
theorem dX3_init_130 : decode cX3_init 130 = .ok (.newarray .int, 2) := dk_188_10 (dk_at dksX3_init_5 10 rfl rfl)
theorem dX3_init_132 : decode cX3_init 132 = .ok (.putfield 49, 3) := dk_181 0 49 (dk_at dksX3_init_5 12 rfl rfl)
theorem dX3_init_135 : decode cX3_init 135 = .ok (.aload_n 0, 1) := dk_42 (dk_at dksX3_init_5 15 rfl rfl)
theorem dX3_init_136 : decode cX3_init 136 = .ok (.bipush 14, 2) := dk_16 14 (dk_at dksX3_init_5 16 rfl rfl)
theorem dX3_init_138 : decode cX3_init 138 = .ok (.newarray .int, 2) := dk_188_10 (dk_at dksX3_init_5 18 rfl rfl)
theorem dX3_init_140 : decode cX3_init 140 = .ok (.putfield 52, 3) := dk_181 0 52 (dk_at dksX3_init_5 20 rfl rfl)
theorem dX3_init_143 : decode cX3_init 143 = .ok (.aload_n 0, 1) := dk_42 (dk_at dksX3_init_5 23 rfl rfl)
theorem dX3_init_144 : decode cX3_init 144 = .ok (.bipush 14, 2) := dk_16 14 (dk_at dksX3_init_6 0 rfl rfl)
theorem dX3_init_146 : decode cX3_init 146 = .ok (.newarray .int, 2) := dk_188_10 (dk_at dksX3_init_6 2 rfl rfl)
theorem dX3_init_148 : decode cX3_init 148 = .ok (.putfield 55, 3) := dk_181 0 55 (dk_at dksX3_init_6 4 rfl rfl)
theorem dX3_init_151 : decode cX3_init 151 = .ok (.aload_n 0, 1) := dk_42 (dk_at dksX3_init_6 7 rfl rfl)
theorem dX3_init_152 : decode cX3_init 152 = .ok (.bipush 14, 2) := dk_16 14 (dk_at dksX3_init_6 8 rfl rfl)
theorem dX3_init_154 : decode cX3_init 154 = .ok (.newarray .int, 2) := dk_188_10 (dk_at dksX3_init_6 10 rfl rfl)
theorem dX3_init_156 : decode cX3_init 156 = .ok (.putfield 58, 3) := dk_181 0 58 (dk_at dksX3_init_6 12 rfl rfl)
theorem dX3_init_159 : decode cX3_init 159 = .ok (.aload_n 0, 1) := dk_42 (dk_at dksX3_init_6 15 rfl rfl)
theorem dX3_init_160 : decode cX3_init 160 = .ok (.bipush 17, 2) := dk_16 17 (dk_at dksX3_init_6 16 rfl rfl)
theorem dX3_init_162 : decode cX3_init 162 = .ok (.newarray .int, 2) := dk_188_10 (dk_at dksX3_init_6 18 rfl rfl)
theorem dX3_init_164 : decode cX3_init 164 = .ok (.putfield 61, 3) := dk_181 0 61 (dk_at dksX3_init_6 20 rfl rfl)
theorem dX3_init_167 : decode cX3_init 167 = .ok (.aload_n 0, 1) := dk_42 (dk_at dksX3_init_6 23 rfl rfl)
theorem dX3_init_168 : decode cX3_init 168 = .ok (.bipush 8, 2) := dk_16 8 (dk_at dksX3_init_7 0 rfl rfl)
theorem dX3_init_170 : decode cX3_init 170 = .ok (.newarray .int, 2) := dk_188_10 (dk_at dksX3_init_7 2 rfl rfl)
theorem dX3_init_172 : decode cX3_init 172 = .ok (.putfield 64, 3) := dk_181 0 64 (dk_at dksX3_init_7 4 rfl rfl)
theorem dX3_init_175 : decode cX3_init 175 = .ok (.aload_n 0, 1) := dk_42 (dk_at dksX3_init_7 7 rfl rfl)
theorem dX3_init_176 : decode cX3_init 176 = .ok (.bipush 8, 2) := dk_16 8 (dk_at dksX3_init_7 8 rfl rfl)
theorem dX3_init_178 : decode cX3_init 178 = .ok (.newarray .int, 2) := dk_188_10 (dk_at dksX3_init_7 10 rfl rfl)
theorem dX3_init_180 : decode cX3_init 180 = .ok (.putfield 67, 3) := dk_181 0 67 (dk_at dksX3_init_7 12 rfl rfl)
theorem dX3_init_183 : decode cX3_init 183 = .ok (.return_, 1) := dk_177 (dk_at dksX3_init_7 15 rfl rfl)
abbrev cX3_books : ByteArray := prog_25_method_12_code
def yX3_books : MethodName := ⟨RX3, "books", "(IIII)I"⟩
def dkwX3_books_9 : List UInt8 := [181, 0, 122, 42, 180, 0, 80, 42, 180, 0, 83, 96, 172]
abbrev dktX3_books_9 : List UInt8 := dkwX3_books_9 ++ []
def dkwX3_books_8 : List UInt8 := [132, 7, 1, 167, 255, 170, 42, 7, 181, 0, 113, 42, 4, 181, 0, 116, 42, 16, 7, 181, 0, 119, 42, 3]
abbrev dktX3_books_8 : List UInt8 := dkwX3_books_8 ++ dktX3_books_9
def dkwX3_books_7 : List UInt8 := [16, 7, 21, 7, 96, 46, 79, 42, 180, 0, 31, 21, 7, 42, 180, 0, 40, 16, 7, 21, 7, 96, 46, 79]
abbrev dktX3_books_7 : List UInt8 := dkwX3_books_7 ++ dktX3_books_8
def dkwX3_books_6 : List UInt8 := [180, 0, 25, 21, 7, 42, 180, 0, 40, 21, 7, 46, 79, 42, 180, 0, 28, 21, 7, 42, 180, 0, 37]
abbrev dktX3_books_6 : List UInt8 := dkwX3_books_6 ++ dktX3_books_7
def dkwX3_books_5 : List UInt8 := [180, 0, 34, 21, 7, 46, 79, 42, 180, 0, 22, 21, 7, 42, 180, 0, 37, 21, 7, 46, 79, 42]
abbrev dktX3_books_5 : List UInt8 := dkwX3_books_5 ++ dktX3_books_6
def dkwX3_books_4 : List UInt8 := [180, 0, 110, 181, 0, 83, 3, 54, 7, 21, 7, 16, 7, 162, 0, 85, 42, 180, 0, 19, 21, 7, 42]
abbrev dktX3_books_4 : List UInt8 := dkwX3_books_4 ++ dktX3_books_5
def dkwX3_books_3 : List UInt8 := [154, 0, 14, 16, 156, 42, 180, 0, 86, 21, 6, 100, 100, 172, 42, 42, 180, 0, 107, 181, 0, 80, 42, 42]
abbrev dktX3_books_3 : List UInt8 := dkwX3_books_3 ++ dktX3_books_4
def dkwX3_books_2 : List UInt8 := [16, 60, 27, 104, 29, 96, 54, 6, 42, 21, 6, 181, 0, 86, 42, 21, 6, 21, 4, 96, 182, 0, 104]
abbrev dktX3_books_2 : List UInt8 := dkwX3_books_2 ++ dktX3_books_3
def dkwX3_books_1 : List UInt8 := [42, 27, 28, 29, 21, 4, 182, 0, 96, 54, 5, 21, 5, 153, 0, 10, 42, 21, 5, 182, 0, 100, 172]
abbrev dktX3_books_1 : List UInt8 := dkwX3_books_1 ++ dktX3_books_2
def dkwX3_books_0 : List UInt8 := [42, 3, 181, 0, 70, 27, 184, 0, 89, 154, 0, 5, 2, 172, 28, 184, 0, 93, 154, 0, 6, 16, 254, 172]
abbrev dktX3_books_0 : List UInt8 := dkwX3_books_0 ++ dktX3_books_1
theorem dksX3_books_0 : cX3_books.data.toList.drop 0 = dktX3_books_0 := by decide +kernel
theorem dksX3_books_1 : cX3_books.data.toList.drop 24 = dktX3_books_1 := dk_seg dksX3_books_0 24 rfl rfl
theorem dksX3_books_2 : cX3_books.data.toList.drop 47 = dktX3_books_2 := dk_seg dksX3_books_1 23 rfl rfl
theorem dksX3_books_3 : cX3_books.data.toList.drop 70 = dktX3_books_3 := dk_seg dksX3_books_2 23 rfl rfl
theorem dksX3_books_4 : cX3_books.data.toList.drop 94 = dktX3_books_4 := dk_seg dksX3_books_3 24 rfl rfl
theorem dksX3_books_5 : cX3_books.data.toList.drop 117 = dktX3_books_5 := dk_seg dksX3_books_4 23 rfl rfl
theorem dksX3_books_6 : cX3_books.data.toList.drop 139 = dktX3_books_6 := dk_seg dksX3_books_5 22 rfl rfl
theorem dksX3_books_7 : cX3_books.data.toList.drop 162 = dktX3_books_7 := dk_seg dksX3_books_6 23 rfl rfl
theorem dksX3_books_8 : cX3_books.data.toList.drop 186 = dktX3_books_8 := dk_seg dksX3_books_7 24 rfl rfl
theorem dksX3_books_9 : cX3_books.data.toList.drop 210 = dktX3_books_9 := dk_seg dksX3_books_8 24 rfl rfl
theorem dX3_books_0 : decode cX3_books 0 = .ok (.aload_n 0, 1) := dk_42 (dk_at dksX3_books_0 0 rfl rfl)
theorem dX3_books_1 : decode cX3_books 1 = .ok (.iconst 0, 1) := dk_3 (dk_at dksX3_books_0 1 rfl rfl)
theorem dX3_books_2 : decode cX3_books 2 = .ok (.putfield 70, 3) := dk_181 0 70 (dk_at dksX3_books_0 2 rfl rfl)
theorem dX3_books_5 : decode cX3_books 5 = .ok (.iload_n 1, 1) := dk_27 (dk_at dksX3_books_0 5 rfl rfl)
theorem dX3_books_6 : decode cX3_books 6 = .ok (.invokestatic 89, 3) := dk_184 0 89 (dk_at dksX3_books_0 6 rfl rfl)
theorem dX3_books_9 : decode cX3_books 9 = .ok (.ifCond .ne 5, 3) := dk_154 0 5 (dk_at dksX3_books_0 9 rfl rfl)
theorem dX3_books_12 : decode cX3_books 12 = .ok (.iconst (-1), 1) := dk_2 (dk_at dksX3_books_0 12 rfl rfl)
theorem dX3_books_13 : decode cX3_books 13 = .ok (.ireturn, 1) := dk_172 (dk_at dksX3_books_0 13 rfl rfl)
theorem dX3_books_14 : decode cX3_books 14 = .ok (.iload_n 2, 1) := dk_28 (dk_at dksX3_books_0 14 rfl rfl)
theorem dX3_books_15 : decode cX3_books 15 = .ok (.invokestatic 93, 3) := dk_184 0 93 (dk_at dksX3_books_0 15 rfl rfl)
theorem dX3_books_18 : decode cX3_books 18 = .ok (.ifCond .ne 6, 3) := dk_154 0 6 (dk_at dksX3_books_0 18 rfl rfl)
theorem dX3_books_21 : decode cX3_books 21 = .ok (.bipush (-2), 2) := dk_16 254 (dk_at dksX3_books_0 21 rfl rfl)
theorem dX3_books_23 : decode cX3_books 23 = .ok (.ireturn, 1) := dk_172 (dk_at dksX3_books_0 23 rfl rfl)
theorem dX3_books_24 : decode cX3_books 24 = .ok (.aload_n 0, 1) := dk_42 (dk_at dksX3_books_1 0 rfl rfl)
theorem dX3_books_25 : decode cX3_books 25 = .ok (.iload_n 1, 1) := dk_27 (dk_at dksX3_books_1 1 rfl rfl)
theorem dX3_books_26 : decode cX3_books 26 = .ok (.iload_n 2, 1) := dk_28 (dk_at dksX3_books_1 2 rfl rfl)
theorem dX3_books_27 : decode cX3_books 27 = .ok (.iload_n 3, 1) := dk_29 (dk_at dksX3_books_1 3 rfl rfl)
theorem dX3_books_28 : decode cX3_books 28 = .ok (.iload 4, 2) := dk_21 4 (dk_at dksX3_books_1 4 rfl rfl)
theorem dX3_books_30 : decode cX3_books 30 = .ok (.invokevirtual 96, 3) := dk_182 0 96 (dk_at dksX3_books_1 6 rfl rfl)
theorem dX3_books_33 : decode cX3_books 33 = .ok (.istore 5, 2) := dk_54 5 (dk_at dksX3_books_1 9 rfl rfl)
theorem dX3_books_35 : decode cX3_books 35 = .ok (.iload 5, 2) := dk_21 5 (dk_at dksX3_books_1 11 rfl rfl)
theorem dX3_books_37 : decode cX3_books 37 = .ok (.ifCond .eq 10, 3) := dk_153 0 10 (dk_at dksX3_books_1 13 rfl rfl)
theorem dX3_books_40 : decode cX3_books 40 = .ok (.aload_n 0, 1) := dk_42 (dk_at dksX3_books_1 16 rfl rfl)
theorem dX3_books_41 : decode cX3_books 41 = .ok (.iload 5, 2) := dk_21 5 (dk_at dksX3_books_1 17 rfl rfl)
theorem dX3_books_43 : decode cX3_books 43 = .ok (.invokevirtual 100, 3) := dk_182 0 100 (dk_at dksX3_books_1 19 rfl rfl)
theorem dX3_books_46 : decode cX3_books 46 = .ok (.ireturn, 1) := dk_172 (dk_at dksX3_books_1 22 rfl rfl)
theorem dX3_books_47 : decode cX3_books 47 = .ok (.bipush 60, 2) := dk_16 60 (dk_at dksX3_books_2 0 rfl rfl)
theorem dX3_books_49 : decode cX3_books 49 = .ok (.iload_n 1, 1) := dk_27 (dk_at dksX3_books_2 2 rfl rfl)
theorem dX3_books_50 : decode cX3_books 50 = .ok (.imul, 1) := dk_104 (dk_at dksX3_books_2 3 rfl rfl)
theorem dX3_books_51 : decode cX3_books 51 = .ok (.iload_n 3, 1) := dk_29 (dk_at dksX3_books_2 4 rfl rfl)
theorem dX3_books_52 : decode cX3_books 52 = .ok (.iadd, 1) := dk_96 (dk_at dksX3_books_2 5 rfl rfl)
theorem dX3_books_53 : decode cX3_books 53 = .ok (.istore 6, 2) := dk_54 6 (dk_at dksX3_books_2 6 rfl rfl)
theorem dX3_books_55 : decode cX3_books 55 = .ok (.aload_n 0, 1) := dk_42 (dk_at dksX3_books_2 8 rfl rfl)
theorem dX3_books_56 : decode cX3_books 56 = .ok (.iload 6, 2) := dk_21 6 (dk_at dksX3_books_2 9 rfl rfl)
theorem dX3_books_58 : decode cX3_books 58 = .ok (.putfield 86, 3) := dk_181 0 86 (dk_at dksX3_books_2 11 rfl rfl)
theorem dX3_books_61 : decode cX3_books 61 = .ok (.aload_n 0, 1) := dk_42 (dk_at dksX3_books_2 14 rfl rfl)
theorem dX3_books_62 : decode cX3_books 62 = .ok (.iload 6, 2) := dk_21 6 (dk_at dksX3_books_2 15 rfl rfl)
theorem dX3_books_64 : decode cX3_books 64 = .ok (.iload 4, 2) := dk_21 4 (dk_at dksX3_books_2 17 rfl rfl)
theorem dX3_books_66 : decode cX3_books 66 = .ok (.iadd, 1) := dk_96 (dk_at dksX3_books_2 19 rfl rfl)
theorem dX3_books_67 : decode cX3_books 67 = .ok (.invokevirtual 104, 3) := dk_182 0 104 (dk_at dksX3_books_2 20 rfl rfl)
theorem dX3_books_70 : decode cX3_books 70 = .ok (.ifCond .ne 14, 3) := dk_154 0 14 (dk_at dksX3_books_3 0 rfl rfl)
theorem dX3_books_73 : decode cX3_books 73 = .ok (.bipush (-100), 2) := dk_16 156 (dk_at dksX3_books_3 3 rfl rfl)
theorem dX3_books_75 : decode cX3_books 75 = .ok (.aload_n 0, 1) := dk_42 (dk_at dksX3_books_3 5 rfl rfl)
theorem dX3_books_76 : decode cX3_books 76 = .ok (.getfield 86, 3) := dk_180 0 86 (dk_at dksX3_books_3 6 rfl rfl)
theorem dX3_books_79 : decode cX3_books 79 = .ok (.iload 6, 2) := dk_21 6 (dk_at dksX3_books_3 9 rfl rfl)
theorem dX3_books_81 : decode cX3_books 81 = .ok (.isub, 1) := dk_100 (dk_at dksX3_books_3 11 rfl rfl)
theorem dX3_books_82 : decode cX3_books 82 = .ok (.isub, 1) := dk_100 (dk_at dksX3_books_3 12 rfl rfl)
theorem dX3_books_83 : decode cX3_books 83 = .ok (.ireturn, 1) := dk_172 (dk_at dksX3_books_3 13 rfl rfl)
theorem dX3_books_84 : decode cX3_books 84 = .ok (.aload_n 0, 1) := dk_42 (dk_at dksX3_books_3 14 rfl rfl)
theorem dX3_books_85 : decode cX3_books 85 = .ok (.aload_n 0, 1) := dk_42 (dk_at dksX3_books_3 15 rfl rfl)
theorem dX3_books_86 : decode cX3_books 86 = .ok (.getfield 107, 3) := dk_180 0 107 (dk_at dksX3_books_3 16 rfl rfl)
theorem dX3_books_89 : decode cX3_books 89 = .ok (.putfield 80, 3) := dk_181 0 80 (dk_at dksX3_books_3 19 rfl rfl)
theorem dX3_books_92 : decode cX3_books 92 = .ok (.aload_n 0, 1) := dk_42 (dk_at dksX3_books_3 22 rfl rfl)
theorem dX3_books_93 : decode cX3_books 93 = .ok (.aload_n 0, 1) := dk_42 (dk_at dksX3_books_3 23 rfl rfl)
theorem dX3_books_94 : decode cX3_books 94 = .ok (.getfield 110, 3) := dk_180 0 110 (dk_at dksX3_books_4 0 rfl rfl)
theorem dX3_books_97 : decode cX3_books 97 = .ok (.putfield 83, 3) := dk_181 0 83 (dk_at dksX3_books_4 3 rfl rfl)
theorem dX3_books_100 : decode cX3_books 100 = .ok (.iconst 0, 1) := dk_3 (dk_at dksX3_books_4 6 rfl rfl)
theorem dX3_books_101 : decode cX3_books 101 = .ok (.istore 7, 2) := dk_54 7 (dk_at dksX3_books_4 7 rfl rfl)
theorem dX3_books_103 : decode cX3_books 103 = .ok (.iload 7, 2) := dk_21 7 (dk_at dksX3_books_4 9 rfl rfl)
theorem dX3_books_105 : decode cX3_books 105 = .ok (.bipush 7, 2) := dk_16 7 (dk_at dksX3_books_4 11 rfl rfl)
theorem dX3_books_107 : decode cX3_books 107 = .ok (.if_icmp .ge 85, 3) := dk_162 0 85 (dk_at dksX3_books_4 13 rfl rfl)
theorem dX3_books_110 : decode cX3_books 110 = .ok (.aload_n 0, 1) := dk_42 (dk_at dksX3_books_4 16 rfl rfl)
theorem dX3_books_111 : decode cX3_books 111 = .ok (.getfield 19, 3) := dk_180 0 19 (dk_at dksX3_books_4 17 rfl rfl)
theorem dX3_books_114 : decode cX3_books 114 = .ok (.iload 7, 2) := dk_21 7 (dk_at dksX3_books_4 20 rfl rfl)
theorem dX3_books_116 : decode cX3_books 116 = .ok (.aload_n 0, 1) := dk_42 (dk_at dksX3_books_4 22 rfl rfl)
theorem dX3_books_117 : decode cX3_books 117 = .ok (.getfield 34, 3) := dk_180 0 34 (dk_at dksX3_books_5 0 rfl rfl)
theorem dX3_books_120 : decode cX3_books 120 = .ok (.iload 7, 2) := dk_21 7 (dk_at dksX3_books_5 3 rfl rfl)
theorem dX3_books_122 : decode cX3_books 122 = .ok (.iaload, 1) := dk_46 (dk_at dksX3_books_5 5 rfl rfl)
theorem dX3_books_123 : decode cX3_books 123 = .ok (.iastore, 1) := dk_79 (dk_at dksX3_books_5 6 rfl rfl)
theorem dX3_books_124 : decode cX3_books 124 = .ok (.aload_n 0, 1) := dk_42 (dk_at dksX3_books_5 7 rfl rfl)
theorem dX3_books_125 : decode cX3_books 125 = .ok (.getfield 22, 3) := dk_180 0 22 (dk_at dksX3_books_5 8 rfl rfl)
theorem dX3_books_128 : decode cX3_books 128 = .ok (.iload 7, 2) := dk_21 7 (dk_at dksX3_books_5 11 rfl rfl)
theorem dX3_books_130 : decode cX3_books 130 = .ok (.aload_n 0, 1) := dk_42 (dk_at dksX3_books_5 13 rfl rfl)
theorem dX3_books_131 : decode cX3_books 131 = .ok (.getfield 37, 3) := dk_180 0 37 (dk_at dksX3_books_5 14 rfl rfl)
theorem dX3_books_134 : decode cX3_books 134 = .ok (.iload 7, 2) := dk_21 7 (dk_at dksX3_books_5 17 rfl rfl)
theorem dX3_books_136 : decode cX3_books 136 = .ok (.iaload, 1) := dk_46 (dk_at dksX3_books_5 19 rfl rfl)
theorem dX3_books_137 : decode cX3_books 137 = .ok (.iastore, 1) := dk_79 (dk_at dksX3_books_5 20 rfl rfl)
theorem dX3_books_138 : decode cX3_books 138 = .ok (.aload_n 0, 1) := dk_42 (dk_at dksX3_books_5 21 rfl rfl)
theorem dX3_books_139 : decode cX3_books 139 = .ok (.getfield 25, 3) := dk_180 0 25 (dk_at dksX3_books_6 0 rfl rfl)
theorem dX3_books_142 : decode cX3_books 142 = .ok (.iload 7, 2) := dk_21 7 (dk_at dksX3_books_6 3 rfl rfl)
theorem dX3_books_144 : decode cX3_books 144 = .ok (.aload_n 0, 1) := dk_42 (dk_at dksX3_books_6 5 rfl rfl)
theorem dX3_books_145 : decode cX3_books 145 = .ok (.getfield 40, 3) := dk_180 0 40 (dk_at dksX3_books_6 6 rfl rfl)
theorem dX3_books_148 : decode cX3_books 148 = .ok (.iload 7, 2) := dk_21 7 (dk_at dksX3_books_6 9 rfl rfl)
theorem dX3_books_150 : decode cX3_books 150 = .ok (.iaload, 1) := dk_46 (dk_at dksX3_books_6 11 rfl rfl)
theorem dX3_books_151 : decode cX3_books 151 = .ok (.iastore, 1) := dk_79 (dk_at dksX3_books_6 12 rfl rfl)
theorem dX3_books_152 : decode cX3_books 152 = .ok (.aload_n 0, 1) := dk_42 (dk_at dksX3_books_6 13 rfl rfl)
theorem dX3_books_153 : decode cX3_books 153 = .ok (.getfield 28, 3) := dk_180 0 28 (dk_at dksX3_books_6 14 rfl rfl)
theorem dX3_books_156 : decode cX3_books 156 = .ok (.iload 7, 2) := dk_21 7 (dk_at dksX3_books_6 17 rfl rfl)
theorem dX3_books_158 : decode cX3_books 158 = .ok (.aload_n 0, 1) := dk_42 (dk_at dksX3_books_6 19 rfl rfl)
theorem dX3_books_159 : decode cX3_books 159 = .ok (.getfield 37, 3) := dk_180 0 37 (dk_at dksX3_books_6 20 rfl rfl)
theorem dX3_books_162 : decode cX3_books 162 = .ok (.bipush 7, 2) := dk_16 7 (dk_at dksX3_books_7 0 rfl rfl)
theorem dX3_books_164 : decode cX3_books 164 = .ok (.iload 7, 2) := dk_21 7 (dk_at dksX3_books_7 2 rfl rfl)
theorem dX3_books_166 : decode cX3_books 166 = .ok (.iadd, 1) := dk_96 (dk_at dksX3_books_7 4 rfl rfl)
theorem dX3_books_167 : decode cX3_books 167 = .ok (.iaload, 1) := dk_46 (dk_at dksX3_books_7 5 rfl rfl)
theorem dX3_books_168 : decode cX3_books 168 = .ok (.iastore, 1) := dk_79 (dk_at dksX3_books_7 6 rfl rfl)
theorem dX3_books_169 : decode cX3_books 169 = .ok (.aload_n 0, 1) := dk_42 (dk_at dksX3_books_7 7 rfl rfl)
theorem dX3_books_170 : decode cX3_books 170 = .ok (.getfield 31, 3) := dk_180 0 31 (dk_at dksX3_books_7 8 rfl rfl)
theorem dX3_books_173 : decode cX3_books 173 = .ok (.iload 7, 2) := dk_21 7 (dk_at dksX3_books_7 11 rfl rfl)
theorem dX3_books_175 : decode cX3_books 175 = .ok (.aload_n 0, 1) := dk_42 (dk_at dksX3_books_7 13 rfl rfl)
theorem dX3_books_176 : decode cX3_books 176 = .ok (.getfield 40, 3) := dk_180 0 40 (dk_at dksX3_books_7 14 rfl rfl)
theorem dX3_books_179 : decode cX3_books 179 = .ok (.bipush 7, 2) := dk_16 7 (dk_at dksX3_books_7 17 rfl rfl)
theorem dX3_books_181 : decode cX3_books 181 = .ok (.iload 7, 2) := dk_21 7 (dk_at dksX3_books_7 19 rfl rfl)
theorem dX3_books_183 : decode cX3_books 183 = .ok (.iadd, 1) := dk_96 (dk_at dksX3_books_7 21 rfl rfl)
theorem dX3_books_184 : decode cX3_books 184 = .ok (.iaload, 1) := dk_46 (dk_at dksX3_books_7 22 rfl rfl)
theorem dX3_books_185 : decode cX3_books 185 = .ok (.iastore, 1) := dk_79 (dk_at dksX3_books_7 23 rfl rfl)
theorem dX3_books_186 : decode cX3_books 186 = .ok (.iinc 7 1, 3) := dk_132 7 1 (dk_at dksX3_books_8 0 rfl rfl)
theorem dX3_books_189 : decode cX3_books 189 = .ok (.goto (-86), 3) := dk_167 255 170 (dk_at dksX3_books_8 3 rfl rfl)
theorem dX3_books_192 : decode cX3_books 192 = .ok (.aload_n 0, 1) := dk_42 (dk_at dksX3_books_8 6 rfl rfl)
theorem dX3_books_193 : decode cX3_books 193 = .ok (.iconst 4, 1) := dk_7 (dk_at dksX3_books_8 7 rfl rfl)
theorem dX3_books_194 : decode cX3_books 194 = .ok (.putfield 113, 3) := dk_181 0 113 (dk_at dksX3_books_8 8 rfl rfl)
theorem dX3_books_197 : decode cX3_books 197 = .ok (.aload_n 0, 1) := dk_42 (dk_at dksX3_books_8 11 rfl rfl)
theorem dX3_books_198 : decode cX3_books 198 = .ok (.iconst 1, 1) := dk_4 (dk_at dksX3_books_8 12 rfl rfl)
theorem dX3_books_199 : decode cX3_books 199 = .ok (.putfield 116, 3) := dk_181 0 116 (dk_at dksX3_books_8 13 rfl rfl)
theorem dX3_books_202 : decode cX3_books 202 = .ok (.aload_n 0, 1) := dk_42 (dk_at dksX3_books_8 16 rfl rfl)
theorem dX3_books_203 : decode cX3_books 203 = .ok (.bipush 7, 2) := dk_16 7 (dk_at dksX3_books_8 17 rfl rfl)
theorem dX3_books_205 : decode cX3_books 205 = .ok (.putfield 119, 3) := dk_181 0 119 (dk_at dksX3_books_8 19 rfl rfl)
theorem dX3_books_208 : decode cX3_books 208 = .ok (.aload_n 0, 1) := dk_42 (dk_at dksX3_books_8 22 rfl rfl)
theorem dX3_books_209 : decode cX3_books 209 = .ok (.iconst 0, 1) := dk_3 (dk_at dksX3_books_8 23 rfl rfl)
theorem dX3_books_210 : decode cX3_books 210 = .ok (.putfield 122, 3) := dk_181 0 122 (dk_at dksX3_books_9 0 rfl rfl)
theorem dX3_books_213 : decode cX3_books 213 = .ok (.aload_n 0, 1) := dk_42 (dk_at dksX3_books_9 3 rfl rfl)
theorem dX3_books_214 : decode cX3_books 214 = .ok (.getfield 80, 3) := dk_180 0 80 (dk_at dksX3_books_9 4 rfl rfl)
theorem dX3_books_217 : decode cX3_books 217 = .ok (.aload_n 0, 1) := dk_42 (dk_at dksX3_books_9 7 rfl rfl)
theorem dX3_books_218 : decode cX3_books 218 = .ok (.getfield 83, 3) := dk_180 0 83 (dk_at dksX3_books_9 8 rfl rfl)
theorem dX3_books_221 : decode cX3_books 221 = .ok (.iadd, 1) := dk_96 (dk_at dksX3_books_9 11 rfl rfl)
theorem dX3_books_222 : decode cX3_books 222 = .ok (.ireturn, 1) := dk_172 (dk_at dksX3_books_9 12 rfl rfl)
abbrev cX3_isSheet : ByteArray := prog_25_method_6_code
def yX3_isSheet : MethodName := ⟨RX3, "isSheet", "(I)Z"⟩
def dkwX3_isSheet_0 : List UInt8 := [26, 3, 6, 184, 0, 76, 172]
abbrev dktX3_isSheet_0 : List UInt8 := dkwX3_isSheet_0 ++ []
theorem dksX3_isSheet_0 : cX3_isSheet.data.toList.drop 0 = dktX3_isSheet_0 := by decide +kernel
theorem dX3_isSheet_0 : decode cX3_isSheet 0 = .ok (.iload_n 0, 1) := dk_26 (dk_at dksX3_isSheet_0 0 rfl rfl)
theorem dX3_isSheet_1 : decode cX3_isSheet 1 = .ok (.iconst 0, 1) := dk_3 (dk_at dksX3_isSheet_0 1 rfl rfl)
theorem dX3_isSheet_2 : decode cX3_isSheet 2 = .ok (.iconst 3, 1) := dk_6 (dk_at dksX3_isSheet_0 2 rfl rfl)
theorem dX3_isSheet_3 : decode cX3_isSheet 3 = .ok (.invokestatic 76, 3) := dk_184 0 76 (dk_at dksX3_isSheet_0 3 rfl rfl)
theorem dX3_isSheet_6 : decode cX3_isSheet 6 = .ok (.ireturn, 1) := dk_172 (dk_at dksX3_isSheet_0 6 rfl rfl)
abbrev cX3_within : ByteArray := prog_25_method_5_code
def yX3_within : MethodName := ⟨RX3, "within", "(III)Z"⟩
def dkwX3_within_0 : List UInt8 := [26, 27, 161, 0, 12, 26, 28, 163, 0, 7, 4, 167, 0, 4, 3, 172]
abbrev dktX3_within_0 : List UInt8 := dkwX3_within_0 ++ []
theorem dksX3_within_0 : cX3_within.data.toList.drop 0 = dktX3_within_0 := by decide +kernel
theorem dX3_within_0 : decode cX3_within 0 = .ok (.iload_n 0, 1) := dk_26 (dk_at dksX3_within_0 0 rfl rfl)
theorem dX3_within_1 : decode cX3_within 1 = .ok (.iload_n 1, 1) := dk_27 (dk_at dksX3_within_0 1 rfl rfl)
theorem dX3_within_2 : decode cX3_within 2 = .ok (.if_icmp .lt 12, 3) := dk_161 0 12 (dk_at dksX3_within_0 2 rfl rfl)
theorem dX3_within_5 : decode cX3_within 5 = .ok (.iload_n 0, 1) := dk_26 (dk_at dksX3_within_0 5 rfl rfl)
theorem dX3_within_6 : decode cX3_within 6 = .ok (.iload_n 2, 1) := dk_28 (dk_at dksX3_within_0 6 rfl rfl)
theorem dX3_within_7 : decode cX3_within 7 = .ok (.if_icmp .gt 7, 3) := dk_163 0 7 (dk_at dksX3_within_0 7 rfl rfl)
theorem dX3_within_10 : decode cX3_within 10 = .ok (.iconst 1, 1) := dk_4 (dk_at dksX3_within_0 10 rfl rfl)
theorem dX3_within_11 : decode cX3_within 11 = .ok (.goto 4, 3) := dk_167 0 4 (dk_at dksX3_within_0 11 rfl rfl)
theorem dX3_within_14 : decode cX3_within 14 = .ok (.iconst 0, 1) := dk_3 (dk_at dksX3_within_0 14 rfl rfl)
theorem dX3_within_15 : decode cX3_within 15 = .ok (.ireturn, 1) := dk_172 (dk_at dksX3_within_0 15 rfl rfl)
abbrev cX3_isSort : ByteArray := prog_25_method_7_code
def yX3_isSort : MethodName := ⟨RX3, "isSort", "(I)Z"⟩
def dkwX3_isSort_0 : List UInt8 := [26, 3, 5, 184, 0, 76, 172]
abbrev dktX3_isSort_0 : List UInt8 := dkwX3_isSort_0 ++ []
theorem dksX3_isSort_0 : cX3_isSort.data.toList.drop 0 = dktX3_isSort_0 := by decide +kernel
theorem dX3_isSort_0 : decode cX3_isSort 0 = .ok (.iload_n 0, 1) := dk_26 (dk_at dksX3_isSort_0 0 rfl rfl)
theorem dX3_isSort_1 : decode cX3_isSort 1 = .ok (.iconst 0, 1) := dk_3 (dk_at dksX3_isSort_0 1 rfl rfl)
theorem dX3_isSort_2 : decode cX3_isSort 2 = .ok (.iconst 2, 1) := dk_5 (dk_at dksX3_isSort_0 2 rfl rfl)
theorem dX3_isSort_3 : decode cX3_isSort 3 = .ok (.invokestatic 76, 3) := dk_184 0 76 (dk_at dksX3_isSort_0 3 rfl rfl)
theorem dX3_isSort_6 : decode cX3_isSort 6 = .ok (.ireturn, 1) := dk_172 (dk_at dksX3_isSort_0 6 rfl rfl)
abbrev cX3_against : ByteArray := prog_25_method_8_code
def yX3_against : MethodName := ⟨RX3, "against", "(IIII)I"⟩
def dkwX3_against_3 : List UInt8 := [167, 0, 4, 3, 172]
abbrev dktX3_against_3 : List UInt8 := dkwX3_against_3 ++ []
def dkwX3_against_2 : List UInt8 := [42, 180, 0, 13, 27, 46, 163, 0, 16, 21, 4, 42, 180, 0, 13, 27, 46, 29, 100, 164, 0, 7, 6]
abbrev dktX3_against_2 : List UInt8 := dkwX3_against_2 ++ dktX3_against_3
def dkwX3_against_1 : List UInt8 := [180, 0, 9, 27, 46, 16, 247, 160, 0, 5, 4, 172, 21, 4, 156, 0, 5, 7, 172, 29, 155, 0, 26, 29]
abbrev dktX3_against_1 : List UInt8 := dkwX3_against_1 ++ dktX3_against_2
def dkwX3_against_0 : List UInt8 := [42, 180, 0, 9, 27, 46, 16, 247, 159, 0, 15, 42, 180, 0, 9, 27, 46, 28, 159, 0, 5, 5, 172, 42]
abbrev dktX3_against_0 : List UInt8 := dkwX3_against_0 ++ dktX3_against_1
theorem dksX3_against_0 : cX3_against.data.toList.drop 0 = dktX3_against_0 := by decide +kernel
theorem dksX3_against_1 : cX3_against.data.toList.drop 24 = dktX3_against_1 := dk_seg dksX3_against_0 24 rfl rfl
theorem dksX3_against_2 : cX3_against.data.toList.drop 48 = dktX3_against_2 := dk_seg dksX3_against_1 24 rfl rfl
theorem dksX3_against_3 : cX3_against.data.toList.drop 71 = dktX3_against_3 := dk_seg dksX3_against_2 23 rfl rfl
theorem dX3_against_0 : decode cX3_against 0 = .ok (.aload_n 0, 1) := dk_42 (dk_at dksX3_against_0 0 rfl rfl)
theorem dX3_against_1 : decode cX3_against 1 = .ok (.getfield 9, 3) := dk_180 0 9 (dk_at dksX3_against_0 1 rfl rfl)
theorem dX3_against_4 : decode cX3_against 4 = .ok (.iload_n 1, 1) := dk_27 (dk_at dksX3_against_0 4 rfl rfl)
theorem dX3_against_5 : decode cX3_against 5 = .ok (.iaload, 1) := dk_46 (dk_at dksX3_against_0 5 rfl rfl)
theorem dX3_against_6 : decode cX3_against 6 = .ok (.bipush (-9), 2) := dk_16 247 (dk_at dksX3_against_0 6 rfl rfl)
theorem dX3_against_8 : decode cX3_against 8 = .ok (.if_icmp .eq 15, 3) := dk_159 0 15 (dk_at dksX3_against_0 8 rfl rfl)
theorem dX3_against_11 : decode cX3_against 11 = .ok (.aload_n 0, 1) := dk_42 (dk_at dksX3_against_0 11 rfl rfl)
theorem dX3_against_12 : decode cX3_against 12 = .ok (.getfield 9, 3) := dk_180 0 9 (dk_at dksX3_against_0 12 rfl rfl)
theorem dX3_against_15 : decode cX3_against 15 = .ok (.iload_n 1, 1) := dk_27 (dk_at dksX3_against_0 15 rfl rfl)
theorem dX3_against_16 : decode cX3_against 16 = .ok (.iaload, 1) := dk_46 (dk_at dksX3_against_0 16 rfl rfl)
theorem dX3_against_17 : decode cX3_against 17 = .ok (.iload_n 2, 1) := dk_28 (dk_at dksX3_against_0 17 rfl rfl)
theorem dX3_against_18 : decode cX3_against 18 = .ok (.if_icmp .eq 5, 3) := dk_159 0 5 (dk_at dksX3_against_0 18 rfl rfl)
theorem dX3_against_21 : decode cX3_against 21 = .ok (.iconst 2, 1) := dk_5 (dk_at dksX3_against_0 21 rfl rfl)
theorem dX3_against_22 : decode cX3_against 22 = .ok (.ireturn, 1) := dk_172 (dk_at dksX3_against_0 22 rfl rfl)
theorem dX3_against_23 : decode cX3_against 23 = .ok (.aload_n 0, 1) := dk_42 (dk_at dksX3_against_0 23 rfl rfl)
theorem dX3_against_24 : decode cX3_against 24 = .ok (.getfield 9, 3) := dk_180 0 9 (dk_at dksX3_against_1 0 rfl rfl)
theorem dX3_against_27 : decode cX3_against 27 = .ok (.iload_n 1, 1) := dk_27 (dk_at dksX3_against_1 3 rfl rfl)
theorem dX3_against_28 : decode cX3_against 28 = .ok (.iaload, 1) := dk_46 (dk_at dksX3_against_1 4 rfl rfl)
theorem dX3_against_29 : decode cX3_against 29 = .ok (.bipush (-9), 2) := dk_16 247 (dk_at dksX3_against_1 5 rfl rfl)
theorem dX3_against_31 : decode cX3_against 31 = .ok (.if_icmp .ne 5, 3) := dk_160 0 5 (dk_at dksX3_against_1 7 rfl rfl)
theorem dX3_against_34 : decode cX3_against 34 = .ok (.iconst 1, 1) := dk_4 (dk_at dksX3_against_1 10 rfl rfl)
theorem dX3_against_35 : decode cX3_against 35 = .ok (.ireturn, 1) := dk_172 (dk_at dksX3_against_1 11 rfl rfl)
theorem dX3_against_36 : decode cX3_against 36 = .ok (.iload 4, 2) := dk_21 4 (dk_at dksX3_against_1 12 rfl rfl)
theorem dX3_against_38 : decode cX3_against 38 = .ok (.ifCond .ge 5, 3) := dk_156 0 5 (dk_at dksX3_against_1 14 rfl rfl)
theorem dX3_against_41 : decode cX3_against 41 = .ok (.iconst 4, 1) := dk_7 (dk_at dksX3_against_1 17 rfl rfl)
theorem dX3_against_42 : decode cX3_against 42 = .ok (.ireturn, 1) := dk_172 (dk_at dksX3_against_1 18 rfl rfl)
theorem dX3_against_43 : decode cX3_against 43 = .ok (.iload_n 3, 1) := dk_29 (dk_at dksX3_against_1 19 rfl rfl)
theorem dX3_against_44 : decode cX3_against 44 = .ok (.ifCond .lt 26, 3) := dk_155 0 26 (dk_at dksX3_against_1 20 rfl rfl)
theorem dX3_against_47 : decode cX3_against 47 = .ok (.iload_n 3, 1) := dk_29 (dk_at dksX3_against_1 23 rfl rfl)
theorem dX3_against_48 : decode cX3_against 48 = .ok (.aload_n 0, 1) := dk_42 (dk_at dksX3_against_2 0 rfl rfl)
theorem dX3_against_49 : decode cX3_against 49 = .ok (.getfield 13, 3) := dk_180 0 13 (dk_at dksX3_against_2 1 rfl rfl)
theorem dX3_against_52 : decode cX3_against 52 = .ok (.iload_n 1, 1) := dk_27 (dk_at dksX3_against_2 4 rfl rfl)
theorem dX3_against_53 : decode cX3_against 53 = .ok (.iaload, 1) := dk_46 (dk_at dksX3_against_2 5 rfl rfl)
theorem dX3_against_54 : decode cX3_against 54 = .ok (.if_icmp .gt 16, 3) := dk_163 0 16 (dk_at dksX3_against_2 6 rfl rfl)
theorem dX3_against_57 : decode cX3_against 57 = .ok (.iload 4, 2) := dk_21 4 (dk_at dksX3_against_2 9 rfl rfl)
theorem dX3_against_59 : decode cX3_against 59 = .ok (.aload_n 0, 1) := dk_42 (dk_at dksX3_against_2 11 rfl rfl)
theorem dX3_against_60 : decode cX3_against 60 = .ok (.getfield 13, 3) := dk_180 0 13 (dk_at dksX3_against_2 12 rfl rfl)
theorem dX3_against_63 : decode cX3_against 63 = .ok (.iload_n 1, 1) := dk_27 (dk_at dksX3_against_2 15 rfl rfl)
theorem dX3_against_64 : decode cX3_against 64 = .ok (.iaload, 1) := dk_46 (dk_at dksX3_against_2 16 rfl rfl)
theorem dX3_against_65 : decode cX3_against 65 = .ok (.iload_n 3, 1) := dk_29 (dk_at dksX3_against_2 17 rfl rfl)
theorem dX3_against_66 : decode cX3_against 66 = .ok (.isub, 1) := dk_100 (dk_at dksX3_against_2 18 rfl rfl)
theorem dX3_against_67 : decode cX3_against 67 = .ok (.if_icmp .le 7, 3) := dk_164 0 7 (dk_at dksX3_against_2 19 rfl rfl)
theorem dX3_against_70 : decode cX3_against 70 = .ok (.iconst 3, 1) := dk_6 (dk_at dksX3_against_2 22 rfl rfl)
theorem dX3_against_71 : decode cX3_against 71 = .ok (.goto 4, 3) := dk_167 0 4 (dk_at dksX3_against_3 0 rfl rfl)
theorem dX3_against_74 : decode cX3_against 74 = .ok (.iconst 0, 1) := dk_3 (dk_at dksX3_against_3 3 rfl rfl)
theorem dX3_against_75 : decode cX3_against 75 = .ok (.ireturn, 1) := dk_172 (dk_at dksX3_against_3 4 rfl rfl)
abbrev cX3_fails : ByteArray := prog_25_method_3_code
def yX3_fails : MethodName := ⟨RX3, "fails", "(I)I"⟩
def dkwX3_fails_0 : List UInt8 := [42, 27, 181, 0, 70, 16, 246, 27, 100, 172]
abbrev dktX3_fails_0 : List UInt8 := dkwX3_fails_0 ++ []
theorem dksX3_fails_0 : cX3_fails.data.toList.drop 0 = dktX3_fails_0 := by decide +kernel
theorem dX3_fails_0 : decode cX3_fails 0 = .ok (.aload_n 0, 1) := dk_42 (dk_at dksX3_fails_0 0 rfl rfl)
theorem dX3_fails_1 : decode cX3_fails 1 = .ok (.iload_n 1, 1) := dk_27 (dk_at dksX3_fails_0 1 rfl rfl)
theorem dX3_fails_2 : decode cX3_fails 2 = .ok (.putfield 70, 3) := dk_181 0 70 (dk_at dksX3_fails_0 2 rfl rfl)
theorem dX3_fails_5 : decode cX3_fails 5 = .ok (.bipush (-10), 2) := dk_16 246 (dk_at dksX3_fails_0 5 rfl rfl)
theorem dX3_fails_7 : decode cX3_fails 7 = .ok (.iload_n 1, 1) := dk_27 (dk_at dksX3_fails_0 7 rfl rfl)
theorem dX3_fails_8 : decode cX3_fails 8 = .ok (.isub, 1) := dk_100 (dk_at dksX3_fails_0 8 rfl rfl)
theorem dX3_fails_9 : decode cX3_fails 9 = .ok (.ireturn, 1) := dk_172 (dk_at dksX3_fails_0 9 rfl rfl)
abbrev cX3_readAll : ByteArray := prog_25_method_13_code
def yX3_readAll : MethodName := ⟨RX3, "readAll", "(I)Z"⟩
def dkwX3_readAll_7 : List UInt8 := [181, 0, 110, 167, 255, 195, 42, 180, 0, 86, 27, 160, 0, 7, 4, 167, 0, 4, 3, 172]
abbrev dktX3_readAll_7 : List UInt8 := dkwX3_readAll_7 ++ []
def dkwX3_readAll_6 : List UInt8 := [16, 7, 42, 180, 0, 110, 96, 182, 0, 132, 154, 0, 5, 3, 172, 42, 89, 180, 0, 110, 4, 96]
abbrev dktX3_readAll_6 : List UInt8 := dkwX3_readAll_6 ++ dktX3_readAll_7
def dkwX3_readAll_5 : List UInt8 := [162, 0, 51, 42, 180, 0, 86, 27, 162, 0, 43, 42, 27, 16, 44, 182, 0, 125, 153, 0, 18, 42, 27]
abbrev dktX3_readAll_5 : List UInt8 := dkwX3_readAll_5 ++ dktX3_readAll_6
def dkwX3_readAll_4 : List UInt8 := [180, 0, 107, 4, 96, 181, 0, 107, 167, 255, 176, 42, 180, 0, 110, 153, 0, 20, 42, 180, 0, 110, 16, 7]
abbrev dktX3_readAll_4 : List UInt8 := dkwX3_readAll_4 ++ dktX3_readAll_5
def dkwX3_readAll_3 : List UInt8 := [27, 182, 0, 129, 153, 0, 15, 42, 27, 42, 180, 0, 107, 182, 0, 132, 154, 0, 5, 3, 172, 42, 89]
abbrev dktX3_readAll_3 : List UInt8 := dkwX3_readAll_3 ++ dktX3_readAll_4
def dkwX3_readAll_2 : List UInt8 := [180, 0, 16, 42, 180, 0, 86, 46, 16, 59, 160, 0, 48, 42, 27, 16, 59, 182, 0, 125, 153, 0, 23, 42]
abbrev dktX3_readAll_2 : List UInt8 := dkwX3_readAll_2 ++ dktX3_readAll_3
def dkwX3_readAll_1 : List UInt8 := [180, 0, 107, 153, 0, 34, 42, 180, 0, 107, 16, 7, 162, 0, 70, 42, 180, 0, 86, 27, 162, 0, 62, 42]
abbrev dktX3_readAll_1 : List UInt8 := dkwX3_readAll_1 ++ dktX3_readAll_2
def dkwX3_readAll_0 : List UInt8 := [42, 3, 181, 0, 107, 42, 3, 181, 0, 110, 42, 27, 16, 98, 182, 0, 125, 154, 0, 5, 3, 172, 42]
abbrev dktX3_readAll_0 : List UInt8 := dkwX3_readAll_0 ++ dktX3_readAll_1
theorem dksX3_readAll_0 : cX3_readAll.data.toList.drop 0 = dktX3_readAll_0 := by decide +kernel
theorem dksX3_readAll_1 : cX3_readAll.data.toList.drop 23 = dktX3_readAll_1 := dk_seg dksX3_readAll_0 23 rfl rfl
theorem dksX3_readAll_2 : cX3_readAll.data.toList.drop 47 = dktX3_readAll_2 := dk_seg dksX3_readAll_1 24 rfl rfl
theorem dksX3_readAll_3 : cX3_readAll.data.toList.drop 71 = dktX3_readAll_3 := dk_seg dksX3_readAll_2 24 rfl rfl
theorem dksX3_readAll_4 : cX3_readAll.data.toList.drop 94 = dktX3_readAll_4 := dk_seg dksX3_readAll_3 23 rfl rfl
theorem dksX3_readAll_5 : cX3_readAll.data.toList.drop 118 = dktX3_readAll_5 := dk_seg dksX3_readAll_4 24 rfl rfl
theorem dksX3_readAll_6 : cX3_readAll.data.toList.drop 141 = dktX3_readAll_6 := dk_seg dksX3_readAll_5 23 rfl rfl
theorem dksX3_readAll_7 : cX3_readAll.data.toList.drop 163 = dktX3_readAll_7 := dk_seg dksX3_readAll_6 22 rfl rfl
theorem dX3_readAll_0 : decode cX3_readAll 0 = .ok (.aload_n 0, 1) := dk_42 (dk_at dksX3_readAll_0 0 rfl rfl)
theorem dX3_readAll_1 : decode cX3_readAll 1 = .ok (.iconst 0, 1) := dk_3 (dk_at dksX3_readAll_0 1 rfl rfl)
theorem dX3_readAll_2 : decode cX3_readAll 2 = .ok (.putfield 107, 3) := dk_181 0 107 (dk_at dksX3_readAll_0 2 rfl rfl)
theorem dX3_readAll_5 : decode cX3_readAll 5 = .ok (.aload_n 0, 1) := dk_42 (dk_at dksX3_readAll_0 5 rfl rfl)
theorem dX3_readAll_6 : decode cX3_readAll 6 = .ok (.iconst 0, 1) := dk_3 (dk_at dksX3_readAll_0 6 rfl rfl)
theorem dX3_readAll_7 : decode cX3_readAll 7 = .ok (.putfield 110, 3) := dk_181 0 110 (dk_at dksX3_readAll_0 7 rfl rfl)
theorem dX3_readAll_10 : decode cX3_readAll 10 = .ok (.aload_n 0, 1) := dk_42 (dk_at dksX3_readAll_0 10 rfl rfl)
theorem dX3_readAll_11 : decode cX3_readAll 11 = .ok (.iload_n 1, 1) := dk_27 (dk_at dksX3_readAll_0 11 rfl rfl)
theorem dX3_readAll_12 : decode cX3_readAll 12 = .ok (.bipush 98, 2) := dk_16 98 (dk_at dksX3_readAll_0 12 rfl rfl)
theorem dX3_readAll_14 : decode cX3_readAll 14 = .ok (.invokevirtual 125, 3) := dk_182 0 125 (dk_at dksX3_readAll_0 14 rfl rfl)
theorem dX3_readAll_17 : decode cX3_readAll 17 = .ok (.ifCond .ne 5, 3) := dk_154 0 5 (dk_at dksX3_readAll_0 17 rfl rfl)
theorem dX3_readAll_20 : decode cX3_readAll 20 = .ok (.iconst 0, 1) := dk_3 (dk_at dksX3_readAll_0 20 rfl rfl)
theorem dX3_readAll_21 : decode cX3_readAll 21 = .ok (.ireturn, 1) := dk_172 (dk_at dksX3_readAll_0 21 rfl rfl)
theorem dX3_readAll_22 : decode cX3_readAll 22 = .ok (.aload_n 0, 1) := dk_42 (dk_at dksX3_readAll_0 22 rfl rfl)
theorem dX3_readAll_23 : decode cX3_readAll 23 = .ok (.getfield 107, 3) := dk_180 0 107 (dk_at dksX3_readAll_1 0 rfl rfl)
theorem dX3_readAll_26 : decode cX3_readAll 26 = .ok (.ifCond .eq 34, 3) := dk_153 0 34 (dk_at dksX3_readAll_1 3 rfl rfl)
theorem dX3_readAll_29 : decode cX3_readAll 29 = .ok (.aload_n 0, 1) := dk_42 (dk_at dksX3_readAll_1 6 rfl rfl)
theorem dX3_readAll_30 : decode cX3_readAll 30 = .ok (.getfield 107, 3) := dk_180 0 107 (dk_at dksX3_readAll_1 7 rfl rfl)
theorem dX3_readAll_33 : decode cX3_readAll 33 = .ok (.bipush 7, 2) := dk_16 7 (dk_at dksX3_readAll_1 10 rfl rfl)
theorem dX3_readAll_35 : decode cX3_readAll 35 = .ok (.if_icmp .ge 70, 3) := dk_162 0 70 (dk_at dksX3_readAll_1 12 rfl rfl)
theorem dX3_readAll_38 : decode cX3_readAll 38 = .ok (.aload_n 0, 1) := dk_42 (dk_at dksX3_readAll_1 15 rfl rfl)
theorem dX3_readAll_39 : decode cX3_readAll 39 = .ok (.getfield 86, 3) := dk_180 0 86 (dk_at dksX3_readAll_1 16 rfl rfl)
theorem dX3_readAll_42 : decode cX3_readAll 42 = .ok (.iload_n 1, 1) := dk_27 (dk_at dksX3_readAll_1 19 rfl rfl)
theorem dX3_readAll_43 : decode cX3_readAll 43 = .ok (.if_icmp .ge 62, 3) := dk_162 0 62 (dk_at dksX3_readAll_1 20 rfl rfl)
theorem dX3_readAll_46 : decode cX3_readAll 46 = .ok (.aload_n 0, 1) := dk_42 (dk_at dksX3_readAll_1 23 rfl rfl)
theorem dX3_readAll_47 : decode cX3_readAll 47 = .ok (.getfield 16, 3) := dk_180 0 16 (dk_at dksX3_readAll_2 0 rfl rfl)
theorem dX3_readAll_50 : decode cX3_readAll 50 = .ok (.aload_n 0, 1) := dk_42 (dk_at dksX3_readAll_2 3 rfl rfl)
theorem dX3_readAll_51 : decode cX3_readAll 51 = .ok (.getfield 86, 3) := dk_180 0 86 (dk_at dksX3_readAll_2 4 rfl rfl)
theorem dX3_readAll_54 : decode cX3_readAll 54 = .ok (.iaload, 1) := dk_46 (dk_at dksX3_readAll_2 7 rfl rfl)
theorem dX3_readAll_55 : decode cX3_readAll 55 = .ok (.bipush 59, 2) := dk_16 59 (dk_at dksX3_readAll_2 8 rfl rfl)
theorem dX3_readAll_57 : decode cX3_readAll 57 = .ok (.if_icmp .ne 48, 3) := dk_160 0 48 (dk_at dksX3_readAll_2 10 rfl rfl)
theorem dX3_readAll_60 : decode cX3_readAll 60 = .ok (.aload_n 0, 1) := dk_42 (dk_at dksX3_readAll_2 13 rfl rfl)
theorem dX3_readAll_61 : decode cX3_readAll 61 = .ok (.iload_n 1, 1) := dk_27 (dk_at dksX3_readAll_2 14 rfl rfl)
theorem dX3_readAll_62 : decode cX3_readAll 62 = .ok (.bipush 59, 2) := dk_16 59 (dk_at dksX3_readAll_2 15 rfl rfl)
theorem dX3_readAll_64 : decode cX3_readAll 64 = .ok (.invokevirtual 125, 3) := dk_182 0 125 (dk_at dksX3_readAll_2 17 rfl rfl)
theorem dX3_readAll_67 : decode cX3_readAll 67 = .ok (.ifCond .eq 23, 3) := dk_153 0 23 (dk_at dksX3_readAll_2 20 rfl rfl)
theorem dX3_readAll_70 : decode cX3_readAll 70 = .ok (.aload_n 0, 1) := dk_42 (dk_at dksX3_readAll_2 23 rfl rfl)
theorem dX3_readAll_71 : decode cX3_readAll 71 = .ok (.iload_n 1, 1) := dk_27 (dk_at dksX3_readAll_3 0 rfl rfl)
theorem dX3_readAll_72 : decode cX3_readAll 72 = .ok (.invokevirtual 129, 3) := dk_182 0 129 (dk_at dksX3_readAll_3 1 rfl rfl)
theorem dX3_readAll_75 : decode cX3_readAll 75 = .ok (.ifCond .eq 15, 3) := dk_153 0 15 (dk_at dksX3_readAll_3 4 rfl rfl)
theorem dX3_readAll_78 : decode cX3_readAll 78 = .ok (.aload_n 0, 1) := dk_42 (dk_at dksX3_readAll_3 7 rfl rfl)
theorem dX3_readAll_79 : decode cX3_readAll 79 = .ok (.iload_n 1, 1) := dk_27 (dk_at dksX3_readAll_3 8 rfl rfl)
theorem dX3_readAll_80 : decode cX3_readAll 80 = .ok (.aload_n 0, 1) := dk_42 (dk_at dksX3_readAll_3 9 rfl rfl)
theorem dX3_readAll_81 : decode cX3_readAll 81 = .ok (.getfield 107, 3) := dk_180 0 107 (dk_at dksX3_readAll_3 10 rfl rfl)
theorem dX3_readAll_84 : decode cX3_readAll 84 = .ok (.invokevirtual 132, 3) := dk_182 0 132 (dk_at dksX3_readAll_3 13 rfl rfl)
theorem dX3_readAll_87 : decode cX3_readAll 87 = .ok (.ifCond .ne 5, 3) := dk_154 0 5 (dk_at dksX3_readAll_3 16 rfl rfl)
theorem dX3_readAll_90 : decode cX3_readAll 90 = .ok (.iconst 0, 1) := dk_3 (dk_at dksX3_readAll_3 19 rfl rfl)
theorem dX3_readAll_91 : decode cX3_readAll 91 = .ok (.ireturn, 1) := dk_172 (dk_at dksX3_readAll_3 20 rfl rfl)
theorem dX3_readAll_92 : decode cX3_readAll 92 = .ok (.aload_n 0, 1) := dk_42 (dk_at dksX3_readAll_3 21 rfl rfl)
theorem dX3_readAll_93 : decode cX3_readAll 93 = .ok (.dup, 1) := dk_89 (dk_at dksX3_readAll_3 22 rfl rfl)
theorem dX3_readAll_94 : decode cX3_readAll 94 = .ok (.getfield 107, 3) := dk_180 0 107 (dk_at dksX3_readAll_4 0 rfl rfl)
theorem dX3_readAll_97 : decode cX3_readAll 97 = .ok (.iconst 1, 1) := dk_4 (dk_at dksX3_readAll_4 3 rfl rfl)
theorem dX3_readAll_98 : decode cX3_readAll 98 = .ok (.iadd, 1) := dk_96 (dk_at dksX3_readAll_4 4 rfl rfl)
theorem dX3_readAll_99 : decode cX3_readAll 99 = .ok (.putfield 107, 3) := dk_181 0 107 (dk_at dksX3_readAll_4 5 rfl rfl)
theorem dX3_readAll_102 : decode cX3_readAll 102 = .ok (.goto (-80), 3) := dk_167 255 176 (dk_at dksX3_readAll_4 8 rfl rfl)
theorem dX3_readAll_105 : decode cX3_readAll 105 = .ok (.aload_n 0, 1) := dk_42 (dk_at dksX3_readAll_4 11 rfl rfl)
theorem dX3_readAll_106 : decode cX3_readAll 106 = .ok (.getfield 110, 3) := dk_180 0 110 (dk_at dksX3_readAll_4 12 rfl rfl)
theorem dX3_readAll_109 : decode cX3_readAll 109 = .ok (.ifCond .eq 20, 3) := dk_153 0 20 (dk_at dksX3_readAll_4 15 rfl rfl)
theorem dX3_readAll_112 : decode cX3_readAll 112 = .ok (.aload_n 0, 1) := dk_42 (dk_at dksX3_readAll_4 18 rfl rfl)
theorem dX3_readAll_113 : decode cX3_readAll 113 = .ok (.getfield 110, 3) := dk_180 0 110 (dk_at dksX3_readAll_4 19 rfl rfl)
theorem dX3_readAll_116 : decode cX3_readAll 116 = .ok (.bipush 7, 2) := dk_16 7 (dk_at dksX3_readAll_4 22 rfl rfl)
theorem dX3_readAll_118 : decode cX3_readAll 118 = .ok (.if_icmp .ge 51, 3) := dk_162 0 51 (dk_at dksX3_readAll_5 0 rfl rfl)
theorem dX3_readAll_121 : decode cX3_readAll 121 = .ok (.aload_n 0, 1) := dk_42 (dk_at dksX3_readAll_5 3 rfl rfl)
theorem dX3_readAll_122 : decode cX3_readAll 122 = .ok (.getfield 86, 3) := dk_180 0 86 (dk_at dksX3_readAll_5 4 rfl rfl)
theorem dX3_readAll_125 : decode cX3_readAll 125 = .ok (.iload_n 1, 1) := dk_27 (dk_at dksX3_readAll_5 7 rfl rfl)
theorem dX3_readAll_126 : decode cX3_readAll 126 = .ok (.if_icmp .ge 43, 3) := dk_162 0 43 (dk_at dksX3_readAll_5 8 rfl rfl)
theorem dX3_readAll_129 : decode cX3_readAll 129 = .ok (.aload_n 0, 1) := dk_42 (dk_at dksX3_readAll_5 11 rfl rfl)
theorem dX3_readAll_130 : decode cX3_readAll 130 = .ok (.iload_n 1, 1) := dk_27 (dk_at dksX3_readAll_5 12 rfl rfl)
theorem dX3_readAll_131 : decode cX3_readAll 131 = .ok (.bipush 44, 2) := dk_16 44 (dk_at dksX3_readAll_5 13 rfl rfl)
theorem dX3_readAll_133 : decode cX3_readAll 133 = .ok (.invokevirtual 125, 3) := dk_182 0 125 (dk_at dksX3_readAll_5 15 rfl rfl)
theorem dX3_readAll_136 : decode cX3_readAll 136 = .ok (.ifCond .eq 18, 3) := dk_153 0 18 (dk_at dksX3_readAll_5 18 rfl rfl)
theorem dX3_readAll_139 : decode cX3_readAll 139 = .ok (.aload_n 0, 1) := dk_42 (dk_at dksX3_readAll_5 21 rfl rfl)
theorem dX3_readAll_140 : decode cX3_readAll 140 = .ok (.iload_n 1, 1) := dk_27 (dk_at dksX3_readAll_5 22 rfl rfl)
theorem dX3_readAll_141 : decode cX3_readAll 141 = .ok (.bipush 7, 2) := dk_16 7 (dk_at dksX3_readAll_6 0 rfl rfl)
theorem dX3_readAll_143 : decode cX3_readAll 143 = .ok (.aload_n 0, 1) := dk_42 (dk_at dksX3_readAll_6 2 rfl rfl)
theorem dX3_readAll_144 : decode cX3_readAll 144 = .ok (.getfield 110, 3) := dk_180 0 110 (dk_at dksX3_readAll_6 3 rfl rfl)
theorem dX3_readAll_147 : decode cX3_readAll 147 = .ok (.iadd, 1) := dk_96 (dk_at dksX3_readAll_6 6 rfl rfl)
theorem dX3_readAll_148 : decode cX3_readAll 148 = .ok (.invokevirtual 132, 3) := dk_182 0 132 (dk_at dksX3_readAll_6 7 rfl rfl)
theorem dX3_readAll_151 : decode cX3_readAll 151 = .ok (.ifCond .ne 5, 3) := dk_154 0 5 (dk_at dksX3_readAll_6 10 rfl rfl)
theorem dX3_readAll_154 : decode cX3_readAll 154 = .ok (.iconst 0, 1) := dk_3 (dk_at dksX3_readAll_6 13 rfl rfl)
theorem dX3_readAll_155 : decode cX3_readAll 155 = .ok (.ireturn, 1) := dk_172 (dk_at dksX3_readAll_6 14 rfl rfl)
theorem dX3_readAll_156 : decode cX3_readAll 156 = .ok (.aload_n 0, 1) := dk_42 (dk_at dksX3_readAll_6 15 rfl rfl)
theorem dX3_readAll_157 : decode cX3_readAll 157 = .ok (.dup, 1) := dk_89 (dk_at dksX3_readAll_6 16 rfl rfl)
theorem dX3_readAll_158 : decode cX3_readAll 158 = .ok (.getfield 110, 3) := dk_180 0 110 (dk_at dksX3_readAll_6 17 rfl rfl)
theorem dX3_readAll_161 : decode cX3_readAll 161 = .ok (.iconst 1, 1) := dk_4 (dk_at dksX3_readAll_6 20 rfl rfl)
theorem dX3_readAll_162 : decode cX3_readAll 162 = .ok (.iadd, 1) := dk_96 (dk_at dksX3_readAll_6 21 rfl rfl)
theorem dX3_readAll_163 : decode cX3_readAll 163 = .ok (.putfield 110, 3) := dk_181 0 110 (dk_at dksX3_readAll_7 0 rfl rfl)
theorem dX3_readAll_166 : decode cX3_readAll 166 = .ok (.goto (-61), 3) := dk_167 255 195 (dk_at dksX3_readAll_7 3 rfl rfl)
theorem dX3_readAll_169 : decode cX3_readAll 169 = .ok (.aload_n 0, 1) := dk_42 (dk_at dksX3_readAll_7 6 rfl rfl)
theorem dX3_readAll_170 : decode cX3_readAll 170 = .ok (.getfield 86, 3) := dk_180 0 86 (dk_at dksX3_readAll_7 7 rfl rfl)
theorem dX3_readAll_173 : decode cX3_readAll 173 = .ok (.iload_n 1, 1) := dk_27 (dk_at dksX3_readAll_7 10 rfl rfl)
theorem dX3_readAll_174 : decode cX3_readAll 174 = .ok (.if_icmp .ne 7, 3) := dk_160 0 7 (dk_at dksX3_readAll_7 11 rfl rfl)
theorem dX3_readAll_177 : decode cX3_readAll 177 = .ok (.iconst 1, 1) := dk_4 (dk_at dksX3_readAll_7 14 rfl rfl)
theorem dX3_readAll_178 : decode cX3_readAll 178 = .ok (.goto 4, 3) := dk_167 0 4 (dk_at dksX3_readAll_7 15 rfl rfl)
theorem dX3_readAll_181 : decode cX3_readAll 181 = .ok (.iconst 0, 1) := dk_3 (dk_at dksX3_readAll_7 18 rfl rfl)
theorem dX3_readAll_182 : decode cX3_readAll 182 = .ok (.ireturn, 1) := dk_172 (dk_at dksX3_readAll_7 19 rfl rfl)
abbrev cX3_isSign : ByteArray := prog_25_method_11_code
def yX3_isSign : MethodName := ⟨RX3, "isSign", "(II)Z"⟩
def dkwX3_isSign_1 : List UInt8 := [89, 180, 0, 86, 4, 96, 181, 0, 86, 4, 172]
abbrev dktX3_isSign_1 : List UInt8 := dkwX3_isSign_1 ++ []
def dkwX3_isSign_0 : List UInt8 := [42, 180, 0, 86, 27, 162, 0, 16, 42, 180, 0, 16, 42, 180, 0, 86, 46, 28, 159, 0, 5, 3, 172, 42]
abbrev dktX3_isSign_0 : List UInt8 := dkwX3_isSign_0 ++ dktX3_isSign_1
theorem dksX3_isSign_0 : cX3_isSign.data.toList.drop 0 = dktX3_isSign_0 := by decide +kernel
theorem dksX3_isSign_1 : cX3_isSign.data.toList.drop 24 = dktX3_isSign_1 := dk_seg dksX3_isSign_0 24 rfl rfl
theorem dX3_isSign_0 : decode cX3_isSign 0 = .ok (.aload_n 0, 1) := dk_42 (dk_at dksX3_isSign_0 0 rfl rfl)
theorem dX3_isSign_1 : decode cX3_isSign 1 = .ok (.getfield 86, 3) := dk_180 0 86 (dk_at dksX3_isSign_0 1 rfl rfl)
theorem dX3_isSign_4 : decode cX3_isSign 4 = .ok (.iload_n 1, 1) := dk_27 (dk_at dksX3_isSign_0 4 rfl rfl)
theorem dX3_isSign_5 : decode cX3_isSign 5 = .ok (.if_icmp .ge 16, 3) := dk_162 0 16 (dk_at dksX3_isSign_0 5 rfl rfl)
theorem dX3_isSign_8 : decode cX3_isSign 8 = .ok (.aload_n 0, 1) := dk_42 (dk_at dksX3_isSign_0 8 rfl rfl)
theorem dX3_isSign_9 : decode cX3_isSign 9 = .ok (.getfield 16, 3) := dk_180 0 16 (dk_at dksX3_isSign_0 9 rfl rfl)
theorem dX3_isSign_12 : decode cX3_isSign 12 = .ok (.aload_n 0, 1) := dk_42 (dk_at dksX3_isSign_0 12 rfl rfl)
theorem dX3_isSign_13 : decode cX3_isSign 13 = .ok (.getfield 86, 3) := dk_180 0 86 (dk_at dksX3_isSign_0 13 rfl rfl)
theorem dX3_isSign_16 : decode cX3_isSign 16 = .ok (.iaload, 1) := dk_46 (dk_at dksX3_isSign_0 16 rfl rfl)
theorem dX3_isSign_17 : decode cX3_isSign 17 = .ok (.iload_n 2, 1) := dk_28 (dk_at dksX3_isSign_0 17 rfl rfl)
theorem dX3_isSign_18 : decode cX3_isSign 18 = .ok (.if_icmp .eq 5, 3) := dk_159 0 5 (dk_at dksX3_isSign_0 18 rfl rfl)
theorem dX3_isSign_21 : decode cX3_isSign 21 = .ok (.iconst 0, 1) := dk_3 (dk_at dksX3_isSign_0 21 rfl rfl)
theorem dX3_isSign_22 : decode cX3_isSign 22 = .ok (.ireturn, 1) := dk_172 (dk_at dksX3_isSign_0 22 rfl rfl)
theorem dX3_isSign_23 : decode cX3_isSign 23 = .ok (.aload_n 0, 1) := dk_42 (dk_at dksX3_isSign_0 23 rfl rfl)
theorem dX3_isSign_24 : decode cX3_isSign 24 = .ok (.dup, 1) := dk_89 (dk_at dksX3_isSign_1 0 rfl rfl)
theorem dX3_isSign_25 : decode cX3_isSign 25 = .ok (.getfield 86, 3) := dk_180 0 86 (dk_at dksX3_isSign_1 1 rfl rfl)
theorem dX3_isSign_28 : decode cX3_isSign 28 = .ok (.iconst 1, 1) := dk_4 (dk_at dksX3_isSign_1 4 rfl rfl)
theorem dX3_isSign_29 : decode cX3_isSign 29 = .ok (.iadd, 1) := dk_96 (dk_at dksX3_isSign_1 5 rfl rfl)
theorem dX3_isSign_30 : decode cX3_isSign 30 = .ok (.putfield 86, 3) := dk_181 0 86 (dk_at dksX3_isSign_1 6 rfl rfl)
theorem dX3_isSign_33 : decode cX3_isSign 33 = .ok (.iconst 1, 1) := dk_4 (dk_at dksX3_isSign_1 9 rfl rfl)
theorem dX3_isSign_34 : decode cX3_isSign 34 = .ok (.ireturn, 1) := dk_172 (dk_at dksX3_isSign_1 10 rfl rfl)
abbrev cX3_readKindNext : ByteArray := prog_25_method_14_code
def yX3_readKindNext : MethodName := ⟨RX3, "readKindNext", "(I)Z"⟩
def dkwX3_readKindNext_3 : List UInt8 := [46, 16, 247, 160, 0, 5, 3, 172, 42, 89, 180, 0, 86, 4, 96, 181, 0, 86, 4, 172]
abbrev dktX3_readKindNext_3 : List UInt8 := dkwX3_readKindNext_3 ++ []
def dkwX3_readKindNext_2 : List UInt8 := [167, 0, 15, 28, 16, 68, 160, 0, 7, 5, 167, 0, 5, 16, 247, 79, 42, 180, 0, 34, 42, 180, 0, 107]
abbrev dktX3_readKindNext_2 : List UInt8 := dkwX3_readKindNext_2 ++ dktX3_readKindNext_3
def dkwX3_readKindNext_1 : List UInt8 := [180, 0, 34, 42, 180, 0, 107, 28, 16, 80, 160, 0, 7, 3, 167, 0, 25, 28, 16, 76, 160, 0, 7, 4]
abbrev dktX3_readKindNext_1 : List UInt8 := dkwX3_readKindNext_1 ++ dktX3_readKindNext_2
def dkwX3_readKindNext_0 : List UInt8 := [42, 180, 0, 86, 27, 162, 0, 15, 42, 180, 0, 16, 42, 180, 0, 86, 46, 167, 0, 4, 3, 61, 42]
abbrev dktX3_readKindNext_0 : List UInt8 := dkwX3_readKindNext_0 ++ dktX3_readKindNext_1
theorem dksX3_readKindNext_0 : cX3_readKindNext.data.toList.drop 0 = dktX3_readKindNext_0 := by decide +kernel
theorem dksX3_readKindNext_1 : cX3_readKindNext.data.toList.drop 23 = dktX3_readKindNext_1 := dk_seg dksX3_readKindNext_0 23 rfl rfl
theorem dksX3_readKindNext_2 : cX3_readKindNext.data.toList.drop 47 = dktX3_readKindNext_2 := dk_seg dksX3_readKindNext_1 24 rfl rfl
theorem dksX3_readKindNext_3 : cX3_readKindNext.data.toList.drop 71 = dktX3_readKindNext_3 := dk_seg dksX3_readKindNext_2 24 rfl rfl
theorem dX3_readKindNext_0 : decode cX3_readKindNext 0 = .ok (.aload_n 0, 1) := dk_42 (dk_at dksX3_readKindNext_0 0 rfl rfl)
theorem dX3_readKindNext_1 : decode cX3_readKindNext 1 = .ok (.getfield 86, 3) := dk_180 0 86 (dk_at dksX3_readKindNext_0 1 rfl rfl)
theorem dX3_readKindNext_4 : decode cX3_readKindNext 4 = .ok (.iload_n 1, 1) := dk_27 (dk_at dksX3_readKindNext_0 4 rfl rfl)
theorem dX3_readKindNext_5 : decode cX3_readKindNext 5 = .ok (.if_icmp .ge 15, 3) := dk_162 0 15 (dk_at dksX3_readKindNext_0 5 rfl rfl)
theorem dX3_readKindNext_8 : decode cX3_readKindNext 8 = .ok (.aload_n 0, 1) := dk_42 (dk_at dksX3_readKindNext_0 8 rfl rfl)
theorem dX3_readKindNext_9 : decode cX3_readKindNext 9 = .ok (.getfield 16, 3) := dk_180 0 16 (dk_at dksX3_readKindNext_0 9 rfl rfl)
theorem dX3_readKindNext_12 : decode cX3_readKindNext 12 = .ok (.aload_n 0, 1) := dk_42 (dk_at dksX3_readKindNext_0 12 rfl rfl)
theorem dX3_readKindNext_13 : decode cX3_readKindNext 13 = .ok (.getfield 86, 3) := dk_180 0 86 (dk_at dksX3_readKindNext_0 13 rfl rfl)
theorem dX3_readKindNext_16 : decode cX3_readKindNext 16 = .ok (.iaload, 1) := dk_46 (dk_at dksX3_readKindNext_0 16 rfl rfl)
theorem dX3_readKindNext_17 : decode cX3_readKindNext 17 = .ok (.goto 4, 3) := dk_167 0 4 (dk_at dksX3_readKindNext_0 17 rfl rfl)
theorem dX3_readKindNext_20 : decode cX3_readKindNext 20 = .ok (.iconst 0, 1) := dk_3 (dk_at dksX3_readKindNext_0 20 rfl rfl)
theorem dX3_readKindNext_21 : decode cX3_readKindNext 21 = .ok (.istore_n 2, 1) := dk_61 (dk_at dksX3_readKindNext_0 21 rfl rfl)
theorem dX3_readKindNext_22 : decode cX3_readKindNext 22 = .ok (.aload_n 0, 1) := dk_42 (dk_at dksX3_readKindNext_0 22 rfl rfl)
theorem dX3_readKindNext_23 : decode cX3_readKindNext 23 = .ok (.getfield 34, 3) := dk_180 0 34 (dk_at dksX3_readKindNext_1 0 rfl rfl)
theorem dX3_readKindNext_26 : decode cX3_readKindNext 26 = .ok (.aload_n 0, 1) := dk_42 (dk_at dksX3_readKindNext_1 3 rfl rfl)
theorem dX3_readKindNext_27 : decode cX3_readKindNext 27 = .ok (.getfield 107, 3) := dk_180 0 107 (dk_at dksX3_readKindNext_1 4 rfl rfl)
theorem dX3_readKindNext_30 : decode cX3_readKindNext 30 = .ok (.iload_n 2, 1) := dk_28 (dk_at dksX3_readKindNext_1 7 rfl rfl)
theorem dX3_readKindNext_31 : decode cX3_readKindNext 31 = .ok (.bipush 80, 2) := dk_16 80 (dk_at dksX3_readKindNext_1 8 rfl rfl)
theorem dX3_readKindNext_33 : decode cX3_readKindNext 33 = .ok (.if_icmp .ne 7, 3) := dk_160 0 7 (dk_at dksX3_readKindNext_1 10 rfl rfl)
theorem dX3_readKindNext_36 : decode cX3_readKindNext 36 = .ok (.iconst 0, 1) := dk_3 (dk_at dksX3_readKindNext_1 13 rfl rfl)
theorem dX3_readKindNext_37 : decode cX3_readKindNext 37 = .ok (.goto 25, 3) := dk_167 0 25 (dk_at dksX3_readKindNext_1 14 rfl rfl)
theorem dX3_readKindNext_40 : decode cX3_readKindNext 40 = .ok (.iload_n 2, 1) := dk_28 (dk_at dksX3_readKindNext_1 17 rfl rfl)
theorem dX3_readKindNext_41 : decode cX3_readKindNext 41 = .ok (.bipush 76, 2) := dk_16 76 (dk_at dksX3_readKindNext_1 18 rfl rfl)
theorem dX3_readKindNext_43 : decode cX3_readKindNext 43 = .ok (.if_icmp .ne 7, 3) := dk_160 0 7 (dk_at dksX3_readKindNext_1 20 rfl rfl)
theorem dX3_readKindNext_46 : decode cX3_readKindNext 46 = .ok (.iconst 1, 1) := dk_4 (dk_at dksX3_readKindNext_1 23 rfl rfl)
theorem dX3_readKindNext_47 : decode cX3_readKindNext 47 = .ok (.goto 15, 3) := dk_167 0 15 (dk_at dksX3_readKindNext_2 0 rfl rfl)
theorem dX3_readKindNext_50 : decode cX3_readKindNext 50 = .ok (.iload_n 2, 1) := dk_28 (dk_at dksX3_readKindNext_2 3 rfl rfl)
theorem dX3_readKindNext_51 : decode cX3_readKindNext 51 = .ok (.bipush 68, 2) := dk_16 68 (dk_at dksX3_readKindNext_2 4 rfl rfl)
theorem dX3_readKindNext_53 : decode cX3_readKindNext 53 = .ok (.if_icmp .ne 7, 3) := dk_160 0 7 (dk_at dksX3_readKindNext_2 6 rfl rfl)
theorem dX3_readKindNext_56 : decode cX3_readKindNext 56 = .ok (.iconst 2, 1) := dk_5 (dk_at dksX3_readKindNext_2 9 rfl rfl)
theorem dX3_readKindNext_57 : decode cX3_readKindNext 57 = .ok (.goto 5, 3) := dk_167 0 5 (dk_at dksX3_readKindNext_2 10 rfl rfl)
theorem dX3_readKindNext_60 : decode cX3_readKindNext 60 = .ok (.bipush (-9), 2) := dk_16 247 (dk_at dksX3_readKindNext_2 13 rfl rfl)
theorem dX3_readKindNext_62 : decode cX3_readKindNext 62 = .ok (.iastore, 1) := dk_79 (dk_at dksX3_readKindNext_2 15 rfl rfl)
theorem dX3_readKindNext_63 : decode cX3_readKindNext 63 = .ok (.aload_n 0, 1) := dk_42 (dk_at dksX3_readKindNext_2 16 rfl rfl)
theorem dX3_readKindNext_64 : decode cX3_readKindNext 64 = .ok (.getfield 34, 3) := dk_180 0 34 (dk_at dksX3_readKindNext_2 17 rfl rfl)
theorem dX3_readKindNext_67 : decode cX3_readKindNext 67 = .ok (.aload_n 0, 1) := dk_42 (dk_at dksX3_readKindNext_2 20 rfl rfl)
theorem dX3_readKindNext_68 : decode cX3_readKindNext 68 = .ok (.getfield 107, 3) := dk_180 0 107 (dk_at dksX3_readKindNext_2 21 rfl rfl)
theorem dX3_readKindNext_71 : decode cX3_readKindNext 71 = .ok (.iaload, 1) := dk_46 (dk_at dksX3_readKindNext_3 0 rfl rfl)
theorem dX3_readKindNext_72 : decode cX3_readKindNext 72 = .ok (.bipush (-9), 2) := dk_16 247 (dk_at dksX3_readKindNext_3 1 rfl rfl)
theorem dX3_readKindNext_74 : decode cX3_readKindNext 74 = .ok (.if_icmp .ne 5, 3) := dk_160 0 5 (dk_at dksX3_readKindNext_3 3 rfl rfl)
theorem dX3_readKindNext_77 : decode cX3_readKindNext 77 = .ok (.iconst 0, 1) := dk_3 (dk_at dksX3_readKindNext_3 6 rfl rfl)
theorem dX3_readKindNext_78 : decode cX3_readKindNext 78 = .ok (.ireturn, 1) := dk_172 (dk_at dksX3_readKindNext_3 7 rfl rfl)
theorem dX3_readKindNext_79 : decode cX3_readKindNext 79 = .ok (.aload_n 0, 1) := dk_42 (dk_at dksX3_readKindNext_3 8 rfl rfl)
theorem dX3_readKindNext_80 : decode cX3_readKindNext 80 = .ok (.dup, 1) := dk_89 (dk_at dksX3_readKindNext_3 9 rfl rfl)
theorem dX3_readKindNext_81 : decode cX3_readKindNext 81 = .ok (.getfield 86, 3) := dk_180 0 86 (dk_at dksX3_readKindNext_3 10 rfl rfl)
theorem dX3_readKindNext_84 : decode cX3_readKindNext 84 = .ok (.iconst 1, 1) := dk_4 (dk_at dksX3_readKindNext_3 13 rfl rfl)
theorem dX3_readKindNext_85 : decode cX3_readKindNext 85 = .ok (.iadd, 1) := dk_96 (dk_at dksX3_readKindNext_3 14 rfl rfl)
theorem dX3_readKindNext_86 : decode cX3_readKindNext 86 = .ok (.putfield 86, 3) := dk_181 0 86 (dk_at dksX3_readKindNext_3 15 rfl rfl)
theorem dX3_readKindNext_89 : decode cX3_readKindNext 89 = .ok (.iconst 1, 1) := dk_4 (dk_at dksX3_readKindNext_3 18 rfl rfl)
theorem dX3_readKindNext_90 : decode cX3_readKindNext 90 = .ok (.ireturn, 1) := dk_172 (dk_at dksX3_readKindNext_3 19 rfl rfl)
abbrev cX3_readSentence : ByteArray := prog_25_method_15_code
def yX3_readSentence : MethodName := ⟨RX3, "readSentence", "(II)Z"⟩
def dkwX3_readSentence_6 : List UInt8 := [180, 0, 86, 4, 96, 181, 0, 86, 4, 172]
abbrev dktX3_readSentence_6 : List UInt8 := dkwX3_readSentence_6 ++ []
def dkwX3_readSentence_5 : List UInt8 := [160, 0, 7, 7, 167, 0, 15, 42, 180, 0, 16, 42, 180, 0, 86, 46, 16, 97, 100, 79, 42, 89]
abbrev dktX3_readSentence_5 : List UInt8 := dkwX3_readSentence_5 ++ dktX3_readSentence_6
def dkwX3_readSentence_4 : List UInt8 := [184, 0, 76, 154, 0, 5, 3, 172, 42, 180, 0, 40, 28, 42, 180, 0, 16, 42, 180, 0, 86, 46, 16, 45]
abbrev dktX3_readSentence_4 : List UInt8 := dkwX3_readSentence_4 ++ dktX3_readSentence_5
def dkwX3_readSentence_3 : List UInt8 := [180, 0, 86, 46, 16, 45, 159, 0, 24, 42, 180, 0, 16, 42, 180, 0, 86, 46, 16, 97, 16, 100]
abbrev dktX3_readSentence_3 : List UInt8 := dkwX3_readSentence_3 ++ dktX3_readSentence_4
def dkwX3_readSentence_2 : List UInt8 := [89, 180, 0, 86, 4, 96, 181, 0, 86, 42, 180, 0, 86, 27, 162, 0, 36, 42, 180, 0, 16, 42]
abbrev dktX3_readSentence_2 : List UInt8 := dkwX3_readSentence_2 ++ dktX3_readSentence_3
def dkwX3_readSentence_1 : List UInt8 := [154, 0, 5, 3, 172, 42, 180, 0, 37, 28, 42, 180, 0, 16, 42, 180, 0, 86, 46, 16, 48, 100, 79, 42]
abbrev dktX3_readSentence_1 : List UInt8 := dkwX3_readSentence_1 ++ dktX3_readSentence_2
def dkwX3_readSentence_0 : List UInt8 := [42, 180, 0, 86, 27, 162, 0, 22, 42, 180, 0, 16, 42, 180, 0, 86, 46, 16, 49, 16, 57, 184, 0, 76]
abbrev dktX3_readSentence_0 : List UInt8 := dkwX3_readSentence_0 ++ dktX3_readSentence_1
theorem dksX3_readSentence_0 : cX3_readSentence.data.toList.drop 0 = dktX3_readSentence_0 := by decide +kernel
theorem dksX3_readSentence_1 : cX3_readSentence.data.toList.drop 24 = dktX3_readSentence_1 := dk_seg dksX3_readSentence_0 24 rfl rfl
theorem dksX3_readSentence_2 : cX3_readSentence.data.toList.drop 48 = dktX3_readSentence_2 := dk_seg dksX3_readSentence_1 24 rfl rfl
theorem dksX3_readSentence_3 : cX3_readSentence.data.toList.drop 70 = dktX3_readSentence_3 := dk_seg dksX3_readSentence_2 22 rfl rfl
theorem dksX3_readSentence_4 : cX3_readSentence.data.toList.drop 92 = dktX3_readSentence_4 := dk_seg dksX3_readSentence_3 22 rfl rfl
theorem dksX3_readSentence_5 : cX3_readSentence.data.toList.drop 116 = dktX3_readSentence_5 := dk_seg dksX3_readSentence_4 24 rfl rfl
theorem dksX3_readSentence_6 : cX3_readSentence.data.toList.drop 138 = dktX3_readSentence_6 := dk_seg dksX3_readSentence_5 22 rfl rfl
theorem dX3_readSentence_0 : decode cX3_readSentence 0 = .ok (.aload_n 0, 1) := dk_42 (dk_at dksX3_readSentence_0 0 rfl rfl)
theorem dX3_readSentence_1 : decode cX3_readSentence 1 = .ok (.getfield 86, 3) := dk_180 0 86 (dk_at dksX3_readSentence_0 1 rfl rfl)
theorem dX3_readSentence_4 : decode cX3_readSentence 4 = .ok (.iload_n 1, 1) := dk_27 (dk_at dksX3_readSentence_0 4 rfl rfl)
theorem dX3_readSentence_5 : decode cX3_readSentence 5 = .ok (.if_icmp .ge 22, 3) := dk_162 0 22 (dk_at dksX3_readSentence_0 5 rfl rfl)
theorem dX3_readSentence_8 : decode cX3_readSentence 8 = .ok (.aload_n 0, 1) := dk_42 (dk_at dksX3_readSentence_0 8 rfl rfl)
theorem dX3_readSentence_9 : decode cX3_readSentence 9 = .ok (.getfield 16, 3) := dk_180 0 16 (dk_at dksX3_readSentence_0 9 rfl rfl)
theorem dX3_readSentence_12 : decode cX3_readSentence 12 = .ok (.aload_n 0, 1) := dk_42 (dk_at dksX3_readSentence_0 12 rfl rfl)
theorem dX3_readSentence_13 : decode cX3_readSentence 13 = .ok (.getfield 86, 3) := dk_180 0 86 (dk_at dksX3_readSentence_0 13 rfl rfl)
theorem dX3_readSentence_16 : decode cX3_readSentence 16 = .ok (.iaload, 1) := dk_46 (dk_at dksX3_readSentence_0 16 rfl rfl)
theorem dX3_readSentence_17 : decode cX3_readSentence 17 = .ok (.bipush 49, 2) := dk_16 49 (dk_at dksX3_readSentence_0 17 rfl rfl)
theorem dX3_readSentence_19 : decode cX3_readSentence 19 = .ok (.bipush 57, 2) := dk_16 57 (dk_at dksX3_readSentence_0 19 rfl rfl)
theorem dX3_readSentence_21 : decode cX3_readSentence 21 = .ok (.invokestatic 76, 3) := dk_184 0 76 (dk_at dksX3_readSentence_0 21 rfl rfl)
theorem dX3_readSentence_24 : decode cX3_readSentence 24 = .ok (.ifCond .ne 5, 3) := dk_154 0 5 (dk_at dksX3_readSentence_1 0 rfl rfl)
theorem dX3_readSentence_27 : decode cX3_readSentence 27 = .ok (.iconst 0, 1) := dk_3 (dk_at dksX3_readSentence_1 3 rfl rfl)
theorem dX3_readSentence_28 : decode cX3_readSentence 28 = .ok (.ireturn, 1) := dk_172 (dk_at dksX3_readSentence_1 4 rfl rfl)
theorem dX3_readSentence_29 : decode cX3_readSentence 29 = .ok (.aload_n 0, 1) := dk_42 (dk_at dksX3_readSentence_1 5 rfl rfl)
theorem dX3_readSentence_30 : decode cX3_readSentence 30 = .ok (.getfield 37, 3) := dk_180 0 37 (dk_at dksX3_readSentence_1 6 rfl rfl)
theorem dX3_readSentence_33 : decode cX3_readSentence 33 = .ok (.iload_n 2, 1) := dk_28 (dk_at dksX3_readSentence_1 9 rfl rfl)
theorem dX3_readSentence_34 : decode cX3_readSentence 34 = .ok (.aload_n 0, 1) := dk_42 (dk_at dksX3_readSentence_1 10 rfl rfl)
theorem dX3_readSentence_35 : decode cX3_readSentence 35 = .ok (.getfield 16, 3) := dk_180 0 16 (dk_at dksX3_readSentence_1 11 rfl rfl)
theorem dX3_readSentence_38 : decode cX3_readSentence 38 = .ok (.aload_n 0, 1) := dk_42 (dk_at dksX3_readSentence_1 14 rfl rfl)
theorem dX3_readSentence_39 : decode cX3_readSentence 39 = .ok (.getfield 86, 3) := dk_180 0 86 (dk_at dksX3_readSentence_1 15 rfl rfl)
theorem dX3_readSentence_42 : decode cX3_readSentence 42 = .ok (.iaload, 1) := dk_46 (dk_at dksX3_readSentence_1 18 rfl rfl)
theorem dX3_readSentence_43 : decode cX3_readSentence 43 = .ok (.bipush 48, 2) := dk_16 48 (dk_at dksX3_readSentence_1 19 rfl rfl)
theorem dX3_readSentence_45 : decode cX3_readSentence 45 = .ok (.isub, 1) := dk_100 (dk_at dksX3_readSentence_1 21 rfl rfl)
theorem dX3_readSentence_46 : decode cX3_readSentence 46 = .ok (.iastore, 1) := dk_79 (dk_at dksX3_readSentence_1 22 rfl rfl)
theorem dX3_readSentence_47 : decode cX3_readSentence 47 = .ok (.aload_n 0, 1) := dk_42 (dk_at dksX3_readSentence_1 23 rfl rfl)
theorem dX3_readSentence_48 : decode cX3_readSentence 48 = .ok (.dup, 1) := dk_89 (dk_at dksX3_readSentence_2 0 rfl rfl)
theorem dX3_readSentence_49 : decode cX3_readSentence 49 = .ok (.getfield 86, 3) := dk_180 0 86 (dk_at dksX3_readSentence_2 1 rfl rfl)
theorem dX3_readSentence_52 : decode cX3_readSentence 52 = .ok (.iconst 1, 1) := dk_4 (dk_at dksX3_readSentence_2 4 rfl rfl)
theorem dX3_readSentence_53 : decode cX3_readSentence 53 = .ok (.iadd, 1) := dk_96 (dk_at dksX3_readSentence_2 5 rfl rfl)
theorem dX3_readSentence_54 : decode cX3_readSentence 54 = .ok (.putfield 86, 3) := dk_181 0 86 (dk_at dksX3_readSentence_2 6 rfl rfl)
theorem dX3_readSentence_57 : decode cX3_readSentence 57 = .ok (.aload_n 0, 1) := dk_42 (dk_at dksX3_readSentence_2 9 rfl rfl)
theorem dX3_readSentence_58 : decode cX3_readSentence 58 = .ok (.getfield 86, 3) := dk_180 0 86 (dk_at dksX3_readSentence_2 10 rfl rfl)
theorem dX3_readSentence_61 : decode cX3_readSentence 61 = .ok (.iload_n 1, 1) := dk_27 (dk_at dksX3_readSentence_2 13 rfl rfl)
theorem dX3_readSentence_62 : decode cX3_readSentence 62 = .ok (.if_icmp .ge 36, 3) := dk_162 0 36 (dk_at dksX3_readSentence_2 14 rfl rfl)
theorem dX3_readSentence_65 : decode cX3_readSentence 65 = .ok (.aload_n 0, 1) := dk_42 (dk_at dksX3_readSentence_2 17 rfl rfl)
theorem dX3_readSentence_66 : decode cX3_readSentence 66 = .ok (.getfield 16, 3) := dk_180 0 16 (dk_at dksX3_readSentence_2 18 rfl rfl)
theorem dX3_readSentence_69 : decode cX3_readSentence 69 = .ok (.aload_n 0, 1) := dk_42 (dk_at dksX3_readSentence_2 21 rfl rfl)
theorem dX3_readSentence_70 : decode cX3_readSentence 70 = .ok (.getfield 86, 3) := dk_180 0 86 (dk_at dksX3_readSentence_3 0 rfl rfl)
theorem dX3_readSentence_73 : decode cX3_readSentence 73 = .ok (.iaload, 1) := dk_46 (dk_at dksX3_readSentence_3 3 rfl rfl)
theorem dX3_readSentence_74 : decode cX3_readSentence 74 = .ok (.bipush 45, 2) := dk_16 45 (dk_at dksX3_readSentence_3 4 rfl rfl)
theorem dX3_readSentence_76 : decode cX3_readSentence 76 = .ok (.if_icmp .eq 24, 3) := dk_159 0 24 (dk_at dksX3_readSentence_3 6 rfl rfl)
theorem dX3_readSentence_79 : decode cX3_readSentence 79 = .ok (.aload_n 0, 1) := dk_42 (dk_at dksX3_readSentence_3 9 rfl rfl)
theorem dX3_readSentence_80 : decode cX3_readSentence 80 = .ok (.getfield 16, 3) := dk_180 0 16 (dk_at dksX3_readSentence_3 10 rfl rfl)
theorem dX3_readSentence_83 : decode cX3_readSentence 83 = .ok (.aload_n 0, 1) := dk_42 (dk_at dksX3_readSentence_3 13 rfl rfl)
theorem dX3_readSentence_84 : decode cX3_readSentence 84 = .ok (.getfield 86, 3) := dk_180 0 86 (dk_at dksX3_readSentence_3 14 rfl rfl)
theorem dX3_readSentence_87 : decode cX3_readSentence 87 = .ok (.iaload, 1) := dk_46 (dk_at dksX3_readSentence_3 17 rfl rfl)
theorem dX3_readSentence_88 : decode cX3_readSentence 88 = .ok (.bipush 97, 2) := dk_16 97 (dk_at dksX3_readSentence_3 18 rfl rfl)
theorem dX3_readSentence_90 : decode cX3_readSentence 90 = .ok (.bipush 100, 2) := dk_16 100 (dk_at dksX3_readSentence_3 20 rfl rfl)
theorem dX3_readSentence_92 : decode cX3_readSentence 92 = .ok (.invokestatic 76, 3) := dk_184 0 76 (dk_at dksX3_readSentence_4 0 rfl rfl)
theorem dX3_readSentence_95 : decode cX3_readSentence 95 = .ok (.ifCond .ne 5, 3) := dk_154 0 5 (dk_at dksX3_readSentence_4 3 rfl rfl)
theorem dX3_readSentence_98 : decode cX3_readSentence 98 = .ok (.iconst 0, 1) := dk_3 (dk_at dksX3_readSentence_4 6 rfl rfl)
theorem dX3_readSentence_99 : decode cX3_readSentence 99 = .ok (.ireturn, 1) := dk_172 (dk_at dksX3_readSentence_4 7 rfl rfl)
theorem dX3_readSentence_100 : decode cX3_readSentence 100 = .ok (.aload_n 0, 1) := dk_42 (dk_at dksX3_readSentence_4 8 rfl rfl)
theorem dX3_readSentence_101 : decode cX3_readSentence 101 = .ok (.getfield 40, 3) := dk_180 0 40 (dk_at dksX3_readSentence_4 9 rfl rfl)
theorem dX3_readSentence_104 : decode cX3_readSentence 104 = .ok (.iload_n 2, 1) := dk_28 (dk_at dksX3_readSentence_4 12 rfl rfl)
theorem dX3_readSentence_105 : decode cX3_readSentence 105 = .ok (.aload_n 0, 1) := dk_42 (dk_at dksX3_readSentence_4 13 rfl rfl)
theorem dX3_readSentence_106 : decode cX3_readSentence 106 = .ok (.getfield 16, 3) := dk_180 0 16 (dk_at dksX3_readSentence_4 14 rfl rfl)
theorem dX3_readSentence_109 : decode cX3_readSentence 109 = .ok (.aload_n 0, 1) := dk_42 (dk_at dksX3_readSentence_4 17 rfl rfl)
theorem dX3_readSentence_110 : decode cX3_readSentence 110 = .ok (.getfield 86, 3) := dk_180 0 86 (dk_at dksX3_readSentence_4 18 rfl rfl)
theorem dX3_readSentence_113 : decode cX3_readSentence 113 = .ok (.iaload, 1) := dk_46 (dk_at dksX3_readSentence_4 21 rfl rfl)
theorem dX3_readSentence_114 : decode cX3_readSentence 114 = .ok (.bipush 45, 2) := dk_16 45 (dk_at dksX3_readSentence_4 22 rfl rfl)
theorem dX3_readSentence_116 : decode cX3_readSentence 116 = .ok (.if_icmp .ne 7, 3) := dk_160 0 7 (dk_at dksX3_readSentence_5 0 rfl rfl)
theorem dX3_readSentence_119 : decode cX3_readSentence 119 = .ok (.iconst 4, 1) := dk_7 (dk_at dksX3_readSentence_5 3 rfl rfl)
theorem dX3_readSentence_120 : decode cX3_readSentence 120 = .ok (.goto 15, 3) := dk_167 0 15 (dk_at dksX3_readSentence_5 4 rfl rfl)
theorem dX3_readSentence_123 : decode cX3_readSentence 123 = .ok (.aload_n 0, 1) := dk_42 (dk_at dksX3_readSentence_5 7 rfl rfl)
theorem dX3_readSentence_124 : decode cX3_readSentence 124 = .ok (.getfield 16, 3) := dk_180 0 16 (dk_at dksX3_readSentence_5 8 rfl rfl)
theorem dX3_readSentence_127 : decode cX3_readSentence 127 = .ok (.aload_n 0, 1) := dk_42 (dk_at dksX3_readSentence_5 11 rfl rfl)
theorem dX3_readSentence_128 : decode cX3_readSentence 128 = .ok (.getfield 86, 3) := dk_180 0 86 (dk_at dksX3_readSentence_5 12 rfl rfl)
theorem dX3_readSentence_131 : decode cX3_readSentence 131 = .ok (.iaload, 1) := dk_46 (dk_at dksX3_readSentence_5 15 rfl rfl)
theorem dX3_readSentence_132 : decode cX3_readSentence 132 = .ok (.bipush 97, 2) := dk_16 97 (dk_at dksX3_readSentence_5 16 rfl rfl)
theorem dX3_readSentence_134 : decode cX3_readSentence 134 = .ok (.isub, 1) := dk_100 (dk_at dksX3_readSentence_5 18 rfl rfl)
theorem dX3_readSentence_135 : decode cX3_readSentence 135 = .ok (.iastore, 1) := dk_79 (dk_at dksX3_readSentence_5 19 rfl rfl)
theorem dX3_readSentence_136 : decode cX3_readSentence 136 = .ok (.aload_n 0, 1) := dk_42 (dk_at dksX3_readSentence_5 20 rfl rfl)
theorem dX3_readSentence_137 : decode cX3_readSentence 137 = .ok (.dup, 1) := dk_89 (dk_at dksX3_readSentence_5 21 rfl rfl)
theorem dX3_readSentence_138 : decode cX3_readSentence 138 = .ok (.getfield 86, 3) := dk_180 0 86 (dk_at dksX3_readSentence_6 0 rfl rfl)
theorem dX3_readSentence_141 : decode cX3_readSentence 141 = .ok (.iconst 1, 1) := dk_4 (dk_at dksX3_readSentence_6 3 rfl rfl)
theorem dX3_readSentence_142 : decode cX3_readSentence 142 = .ok (.iadd, 1) := dk_96 (dk_at dksX3_readSentence_6 4 rfl rfl)
theorem dX3_readSentence_143 : decode cX3_readSentence 143 = .ok (.putfield 86, 3) := dk_181 0 86 (dk_at dksX3_readSentence_6 5 rfl rfl)
theorem dX3_readSentence_146 : decode cX3_readSentence 146 = .ok (.iconst 1, 1) := dk_4 (dk_at dksX3_readSentence_6 8 rfl rfl)
theorem dX3_readSentence_147 : decode cX3_readSentence 147 = .ok (.ireturn, 1) := dk_172 (dk_at dksX3_readSentence_6 9 rfl rfl)
abbrev cX3_ofLeft : ByteArray := prog_25_method_28_code
def yX3_ofLeft : MethodName := ⟨RX3, "ofLeft", "(II)I"⟩
def dkwX3_ofLeft_3 : List UInt8 := [27, 46, 172, 42, 182, 0, 174, 87, 42, 3, 27, 182, 0, 178, 172, 16, 254, 172]
abbrev dktX3_ofLeft_3 : List UInt8 := dkwX3_ofLeft_3 ++ []
def dkwX3_ofLeft_2 : List UInt8 := [42, 180, 0, 19, 27, 46, 172, 42, 180, 0, 22, 27, 46, 172, 42, 27, 182, 0, 135, 172, 42, 180, 0, 25]
abbrev dktX3_ofLeft_2 : List UInt8 := dkwX3_ofLeft_2 ++ dktX3_ofLeft_3
def dkwX3_ofLeft_1 : List UInt8 := [170, 0, 0, 0, 72, 0, 0, 0, 0, 0, 0, 0, 4, 0, 0, 0, 33, 0, 0, 0, 40, 0, 0, 0, 47, 0, 0, 0, 53, 0, 0, 0, 60]
abbrev dktX3_ofLeft_1 : List UInt8 := dkwX3_ofLeft_1 ++ dktX3_ofLeft_2
def dkwX3_ofLeft_0 : List UInt8 := [42, 27, 182, 0, 171, 154, 0, 5, 2, 172, 28]
abbrev dktX3_ofLeft_0 : List UInt8 := dkwX3_ofLeft_0 ++ dktX3_ofLeft_1
theorem dksX3_ofLeft_0 : cX3_ofLeft.data.toList.drop 0 = dktX3_ofLeft_0 := by decide +kernel
theorem dksX3_ofLeft_1 : cX3_ofLeft.data.toList.drop 11 = dktX3_ofLeft_1 := dk_seg dksX3_ofLeft_0 11 rfl rfl
theorem dksX3_ofLeft_2 : cX3_ofLeft.data.toList.drop 44 = dktX3_ofLeft_2 := dk_seg dksX3_ofLeft_1 33 rfl rfl
theorem dksX3_ofLeft_3 : cX3_ofLeft.data.toList.drop 68 = dktX3_ofLeft_3 := dk_seg dksX3_ofLeft_2 24 rfl rfl
theorem dX3_ofLeft_0 : decode cX3_ofLeft 0 = .ok (.aload_n 0, 1) := dk_42 (dk_at dksX3_ofLeft_0 0 rfl rfl)
theorem dX3_ofLeft_1 : decode cX3_ofLeft 1 = .ok (.iload_n 1, 1) := dk_27 (dk_at dksX3_ofLeft_0 1 rfl rfl)
theorem dX3_ofLeft_2 : decode cX3_ofLeft 2 = .ok (.invokevirtual 171, 3) := dk_182 0 171 (dk_at dksX3_ofLeft_0 2 rfl rfl)
theorem dX3_ofLeft_5 : decode cX3_ofLeft 5 = .ok (.ifCond .ne 5, 3) := dk_154 0 5 (dk_at dksX3_ofLeft_0 5 rfl rfl)
theorem dX3_ofLeft_8 : decode cX3_ofLeft 8 = .ok (.iconst (-1), 1) := dk_2 (dk_at dksX3_ofLeft_0 8 rfl rfl)
theorem dX3_ofLeft_9 : decode cX3_ofLeft 9 = .ok (.ireturn, 1) := dk_172 (dk_at dksX3_ofLeft_0 9 rfl rfl)
theorem dX3_ofLeft_10 : decode cX3_ofLeft 10 = .ok (.iload_n 2, 1) := dk_28 (dk_at dksX3_ofLeft_0 10 rfl rfl)
theorem dX3_ofLeft_11 : decode cX3_ofLeft 11 = .ok (.tableswitch 72 0 4 #[33, 40, 47, 53, 60], 33) := by decide +kernel
theorem dX3_ofLeft_44 : decode cX3_ofLeft 44 = .ok (.aload_n 0, 1) := dk_42 (dk_at dksX3_ofLeft_2 0 rfl rfl)
theorem dX3_ofLeft_45 : decode cX3_ofLeft 45 = .ok (.getfield 19, 3) := dk_180 0 19 (dk_at dksX3_ofLeft_2 1 rfl rfl)
theorem dX3_ofLeft_48 : decode cX3_ofLeft 48 = .ok (.iload_n 1, 1) := dk_27 (dk_at dksX3_ofLeft_2 4 rfl rfl)
theorem dX3_ofLeft_49 : decode cX3_ofLeft 49 = .ok (.iaload, 1) := dk_46 (dk_at dksX3_ofLeft_2 5 rfl rfl)
theorem dX3_ofLeft_50 : decode cX3_ofLeft 50 = .ok (.ireturn, 1) := dk_172 (dk_at dksX3_ofLeft_2 6 rfl rfl)
theorem dX3_ofLeft_51 : decode cX3_ofLeft 51 = .ok (.aload_n 0, 1) := dk_42 (dk_at dksX3_ofLeft_2 7 rfl rfl)
theorem dX3_ofLeft_52 : decode cX3_ofLeft 52 = .ok (.getfield 22, 3) := dk_180 0 22 (dk_at dksX3_ofLeft_2 8 rfl rfl)
theorem dX3_ofLeft_55 : decode cX3_ofLeft 55 = .ok (.iload_n 1, 1) := dk_27 (dk_at dksX3_ofLeft_2 11 rfl rfl)
theorem dX3_ofLeft_56 : decode cX3_ofLeft 56 = .ok (.iaload, 1) := dk_46 (dk_at dksX3_ofLeft_2 12 rfl rfl)
theorem dX3_ofLeft_57 : decode cX3_ofLeft 57 = .ok (.ireturn, 1) := dk_172 (dk_at dksX3_ofLeft_2 13 rfl rfl)
theorem dX3_ofLeft_58 : decode cX3_ofLeft 58 = .ok (.aload_n 0, 1) := dk_42 (dk_at dksX3_ofLeft_2 14 rfl rfl)
theorem dX3_ofLeft_59 : decode cX3_ofLeft 59 = .ok (.iload_n 1, 1) := dk_27 (dk_at dksX3_ofLeft_2 15 rfl rfl)
theorem dX3_ofLeft_60 : decode cX3_ofLeft 60 = .ok (.invokevirtual 135, 3) := dk_182 0 135 (dk_at dksX3_ofLeft_2 16 rfl rfl)
theorem dX3_ofLeft_63 : decode cX3_ofLeft 63 = .ok (.ireturn, 1) := dk_172 (dk_at dksX3_ofLeft_2 19 rfl rfl)
theorem dX3_ofLeft_64 : decode cX3_ofLeft 64 = .ok (.aload_n 0, 1) := dk_42 (dk_at dksX3_ofLeft_2 20 rfl rfl)
theorem dX3_ofLeft_65 : decode cX3_ofLeft 65 = .ok (.getfield 25, 3) := dk_180 0 25 (dk_at dksX3_ofLeft_2 21 rfl rfl)
theorem dX3_ofLeft_68 : decode cX3_ofLeft 68 = .ok (.iload_n 1, 1) := dk_27 (dk_at dksX3_ofLeft_3 0 rfl rfl)
theorem dX3_ofLeft_69 : decode cX3_ofLeft 69 = .ok (.iaload, 1) := dk_46 (dk_at dksX3_ofLeft_3 1 rfl rfl)
theorem dX3_ofLeft_70 : decode cX3_ofLeft 70 = .ok (.ireturn, 1) := dk_172 (dk_at dksX3_ofLeft_3 2 rfl rfl)
theorem dX3_ofLeft_71 : decode cX3_ofLeft 71 = .ok (.aload_n 0, 1) := dk_42 (dk_at dksX3_ofLeft_3 3 rfl rfl)
theorem dX3_ofLeft_72 : decode cX3_ofLeft 72 = .ok (.invokevirtual 174, 3) := dk_182 0 174 (dk_at dksX3_ofLeft_3 4 rfl rfl)
theorem dX3_ofLeft_75 : decode cX3_ofLeft 75 = .ok (.pop, 1) := dk_87 (dk_at dksX3_ofLeft_3 7 rfl rfl)
theorem dX3_ofLeft_76 : decode cX3_ofLeft 76 = .ok (.aload_n 0, 1) := dk_42 (dk_at dksX3_ofLeft_3 8 rfl rfl)
theorem dX3_ofLeft_77 : decode cX3_ofLeft 77 = .ok (.iconst 0, 1) := dk_3 (dk_at dksX3_ofLeft_3 9 rfl rfl)
theorem dX3_ofLeft_78 : decode cX3_ofLeft 78 = .ok (.iload_n 1, 1) := dk_27 (dk_at dksX3_ofLeft_3 10 rfl rfl)
theorem dX3_ofLeft_79 : decode cX3_ofLeft 79 = .ok (.invokevirtual 178, 3) := dk_182 0 178 (dk_at dksX3_ofLeft_3 11 rfl rfl)
theorem dX3_ofLeft_82 : decode cX3_ofLeft 82 = .ok (.ireturn, 1) := dk_172 (dk_at dksX3_ofLeft_3 14 rfl rfl)
theorem dX3_ofLeft_83 : decode cX3_ofLeft 83 = .ok (.bipush (-2), 2) := dk_16 254 (dk_at dksX3_ofLeft_3 15 rfl rfl)
theorem dX3_ofLeft_85 : decode cX3_ofLeft 85 = .ok (.ireturn, 1) := dk_172 (dk_at dksX3_ofLeft_3 17 rfl rfl)
abbrev cX3_isLeft : ByteArray := prog_25_method_9_code
def yX3_isLeft : MethodName := ⟨RX3, "isLeft", "(I)Z"⟩
def dkwX3_isLeft_0 : List UInt8 := [27, 155, 0, 15, 27, 42, 180, 0, 80, 162, 0, 7, 4, 167, 0, 4, 3, 172]
abbrev dktX3_isLeft_0 : List UInt8 := dkwX3_isLeft_0 ++ []
theorem dksX3_isLeft_0 : cX3_isLeft.data.toList.drop 0 = dktX3_isLeft_0 := by decide +kernel
theorem dX3_isLeft_0 : decode cX3_isLeft 0 = .ok (.iload_n 1, 1) := dk_27 (dk_at dksX3_isLeft_0 0 rfl rfl)
theorem dX3_isLeft_1 : decode cX3_isLeft 1 = .ok (.ifCond .lt 15, 3) := dk_155 0 15 (dk_at dksX3_isLeft_0 1 rfl rfl)
theorem dX3_isLeft_4 : decode cX3_isLeft 4 = .ok (.iload_n 1, 1) := dk_27 (dk_at dksX3_isLeft_0 4 rfl rfl)
theorem dX3_isLeft_5 : decode cX3_isLeft 5 = .ok (.aload_n 0, 1) := dk_42 (dk_at dksX3_isLeft_0 5 rfl rfl)
theorem dX3_isLeft_6 : decode cX3_isLeft 6 = .ok (.getfield 80, 3) := dk_180 0 80 (dk_at dksX3_isLeft_0 6 rfl rfl)
theorem dX3_isLeft_9 : decode cX3_isLeft 9 = .ok (.if_icmp .ge 7, 3) := dk_162 0 7 (dk_at dksX3_isLeft_0 9 rfl rfl)
theorem dX3_isLeft_12 : decode cX3_isLeft 12 = .ok (.iconst 1, 1) := dk_4 (dk_at dksX3_isLeft_0 12 rfl rfl)
theorem dX3_isLeft_13 : decode cX3_isLeft 13 = .ok (.goto 4, 3) := dk_167 0 4 (dk_at dksX3_isLeft_0 13 rfl rfl)
theorem dX3_isLeft_16 : decode cX3_isLeft 16 = .ok (.iconst 0, 1) := dk_3 (dk_at dksX3_isLeft_0 16 rfl rfl)
theorem dX3_isLeft_17 : decode cX3_isLeft 17 = .ok (.ireturn, 1) := dk_172 (dk_at dksX3_isLeft_0 17 rfl rfl)
abbrev cX3_lengthOf : ByteArray := prog_25_method_16_code
def yX3_lengthOf : MethodName := ⟨RX3, "lengthOf", "(I)I"⟩
def dkwX3_lengthOf_1 : List UInt8 := [4, 160, 0, 14, 42, 180, 0, 22, 27, 46, 4, 96, 167, 0, 11, 5, 42, 180, 0, 22, 27, 46, 104, 172]
abbrev dktX3_lengthOf_1 : List UInt8 := dkwX3_lengthOf_1 ++ []
def dkwX3_lengthOf_0 : List UInt8 := [42, 180, 0, 19, 27, 46, 154, 0, 12, 42, 180, 0, 22, 27, 46, 167, 0, 32, 42, 180, 0, 19, 27, 46]
abbrev dktX3_lengthOf_0 : List UInt8 := dkwX3_lengthOf_0 ++ dktX3_lengthOf_1
theorem dksX3_lengthOf_0 : cX3_lengthOf.data.toList.drop 0 = dktX3_lengthOf_0 := by decide +kernel
theorem dksX3_lengthOf_1 : cX3_lengthOf.data.toList.drop 24 = dktX3_lengthOf_1 := dk_seg dksX3_lengthOf_0 24 rfl rfl
theorem dX3_lengthOf_0 : decode cX3_lengthOf 0 = .ok (.aload_n 0, 1) := dk_42 (dk_at dksX3_lengthOf_0 0 rfl rfl)
theorem dX3_lengthOf_1 : decode cX3_lengthOf 1 = .ok (.getfield 19, 3) := dk_180 0 19 (dk_at dksX3_lengthOf_0 1 rfl rfl)
theorem dX3_lengthOf_4 : decode cX3_lengthOf 4 = .ok (.iload_n 1, 1) := dk_27 (dk_at dksX3_lengthOf_0 4 rfl rfl)
theorem dX3_lengthOf_5 : decode cX3_lengthOf 5 = .ok (.iaload, 1) := dk_46 (dk_at dksX3_lengthOf_0 5 rfl rfl)
theorem dX3_lengthOf_6 : decode cX3_lengthOf 6 = .ok (.ifCond .ne 12, 3) := dk_154 0 12 (dk_at dksX3_lengthOf_0 6 rfl rfl)
theorem dX3_lengthOf_9 : decode cX3_lengthOf 9 = .ok (.aload_n 0, 1) := dk_42 (dk_at dksX3_lengthOf_0 9 rfl rfl)
theorem dX3_lengthOf_10 : decode cX3_lengthOf 10 = .ok (.getfield 22, 3) := dk_180 0 22 (dk_at dksX3_lengthOf_0 10 rfl rfl)
theorem dX3_lengthOf_13 : decode cX3_lengthOf 13 = .ok (.iload_n 1, 1) := dk_27 (dk_at dksX3_lengthOf_0 13 rfl rfl)
theorem dX3_lengthOf_14 : decode cX3_lengthOf 14 = .ok (.iaload, 1) := dk_46 (dk_at dksX3_lengthOf_0 14 rfl rfl)
theorem dX3_lengthOf_15 : decode cX3_lengthOf 15 = .ok (.goto 32, 3) := dk_167 0 32 (dk_at dksX3_lengthOf_0 15 rfl rfl)
theorem dX3_lengthOf_18 : decode cX3_lengthOf 18 = .ok (.aload_n 0, 1) := dk_42 (dk_at dksX3_lengthOf_0 18 rfl rfl)
theorem dX3_lengthOf_19 : decode cX3_lengthOf 19 = .ok (.getfield 19, 3) := dk_180 0 19 (dk_at dksX3_lengthOf_0 19 rfl rfl)
theorem dX3_lengthOf_22 : decode cX3_lengthOf 22 = .ok (.iload_n 1, 1) := dk_27 (dk_at dksX3_lengthOf_0 22 rfl rfl)
theorem dX3_lengthOf_23 : decode cX3_lengthOf 23 = .ok (.iaload, 1) := dk_46 (dk_at dksX3_lengthOf_0 23 rfl rfl)
theorem dX3_lengthOf_24 : decode cX3_lengthOf 24 = .ok (.iconst 1, 1) := dk_4 (dk_at dksX3_lengthOf_1 0 rfl rfl)
theorem dX3_lengthOf_25 : decode cX3_lengthOf 25 = .ok (.if_icmp .ne 14, 3) := dk_160 0 14 (dk_at dksX3_lengthOf_1 1 rfl rfl)
theorem dX3_lengthOf_28 : decode cX3_lengthOf 28 = .ok (.aload_n 0, 1) := dk_42 (dk_at dksX3_lengthOf_1 4 rfl rfl)
theorem dX3_lengthOf_29 : decode cX3_lengthOf 29 = .ok (.getfield 22, 3) := dk_180 0 22 (dk_at dksX3_lengthOf_1 5 rfl rfl)
theorem dX3_lengthOf_32 : decode cX3_lengthOf 32 = .ok (.iload_n 1, 1) := dk_27 (dk_at dksX3_lengthOf_1 8 rfl rfl)
theorem dX3_lengthOf_33 : decode cX3_lengthOf 33 = .ok (.iaload, 1) := dk_46 (dk_at dksX3_lengthOf_1 9 rfl rfl)
theorem dX3_lengthOf_34 : decode cX3_lengthOf 34 = .ok (.iconst 1, 1) := dk_4 (dk_at dksX3_lengthOf_1 10 rfl rfl)
theorem dX3_lengthOf_35 : decode cX3_lengthOf 35 = .ok (.iadd, 1) := dk_96 (dk_at dksX3_lengthOf_1 11 rfl rfl)
theorem dX3_lengthOf_36 : decode cX3_lengthOf 36 = .ok (.goto 11, 3) := dk_167 0 11 (dk_at dksX3_lengthOf_1 12 rfl rfl)
theorem dX3_lengthOf_39 : decode cX3_lengthOf 39 = .ok (.iconst 2, 1) := dk_5 (dk_at dksX3_lengthOf_1 15 rfl rfl)
theorem dX3_lengthOf_40 : decode cX3_lengthOf 40 = .ok (.aload_n 0, 1) := dk_42 (dk_at dksX3_lengthOf_1 16 rfl rfl)
theorem dX3_lengthOf_41 : decode cX3_lengthOf 41 = .ok (.getfield 22, 3) := dk_180 0 22 (dk_at dksX3_lengthOf_1 17 rfl rfl)
theorem dX3_lengthOf_44 : decode cX3_lengthOf 44 = .ok (.iload_n 1, 1) := dk_27 (dk_at dksX3_lengthOf_1 20 rfl rfl)
theorem dX3_lengthOf_45 : decode cX3_lengthOf 45 = .ok (.iaload, 1) := dk_46 (dk_at dksX3_lengthOf_1 21 rfl rfl)
theorem dX3_lengthOf_46 : decode cX3_lengthOf 46 = .ok (.imul, 1) := dk_104 (dk_at dksX3_lengthOf_1 22 rfl rfl)
theorem dX3_lengthOf_47 : decode cX3_lengthOf 47 = .ok (.ireturn, 1) := dk_172 (dk_at dksX3_lengthOf_1 23 rfl rfl)
abbrev cX3_findBest : ByteArray := prog_25_method_25_code
def yX3_findBest : MethodName := ⟨RX3, "findBest", "()I"⟩
def dkwX3_findBest_5 : List UInt8 := [27, 172]
abbrev dktX3_findBest_5 : List UInt8 := dkwX3_findBest_5 ++ []
def dkwX3_findBest_4 : List UInt8 := [4, 96, 181, 0, 165, 28, 21, 4, 184, 0, 138, 96, 61, 29, 21, 4, 184, 0, 144, 96, 62, 167, 255, 157]
abbrev dktX3_findBest_4 : List UInt8 := dkwX3_findBest_4 ++ dktX3_findBest_5
def dkwX3_findBest_3 : List UInt8 := [180, 0, 55, 42, 180, 0, 165, 28, 79, 42, 180, 0, 58, 42, 180, 0, 165, 29, 79, 42, 89, 180, 0, 165]
abbrev dktX3_findBest_3 : List UInt8 := dkwX3_findBest_3 ++ dktX3_findBest_4
def dkwX3_findBest_2 : List UInt8 := [182, 0, 168, 154, 0, 9, 132, 4, 1, 167, 255, 242, 42, 180, 0, 52, 42, 180, 0, 165, 21, 4, 79, 42]
abbrev dktX3_findBest_2 : List UInt8 := dkwX3_findBest_2 ++ dktX3_findBest_3
def dkwX3_findBest_1 : List UInt8 := [28, 42, 180, 0, 80, 161, 0, 11, 29, 42, 180, 0, 83, 162, 0, 83, 3, 54, 4, 42, 21, 4, 28, 29]
abbrev dktX3_findBest_1 : List UInt8 := dkwX3_findBest_1 ++ dktX3_findBest_2
def dkwX3_findBest_0 : List UInt8 := [42, 42, 180, 0, 119, 182, 0, 162, 60, 42, 3, 181, 0, 165, 3, 61, 3, 62, 27, 16, 247, 159, 0, 99]
abbrev dktX3_findBest_0 : List UInt8 := dkwX3_findBest_0 ++ dktX3_findBest_1
theorem dksX3_findBest_0 : cX3_findBest.data.toList.drop 0 = dktX3_findBest_0 := by decide +kernel
theorem dksX3_findBest_1 : cX3_findBest.data.toList.drop 24 = dktX3_findBest_1 := dk_seg dksX3_findBest_0 24 rfl rfl
theorem dksX3_findBest_2 : cX3_findBest.data.toList.drop 48 = dktX3_findBest_2 := dk_seg dksX3_findBest_1 24 rfl rfl
theorem dksX3_findBest_3 : cX3_findBest.data.toList.drop 72 = dktX3_findBest_3 := dk_seg dksX3_findBest_2 24 rfl rfl
theorem dksX3_findBest_4 : cX3_findBest.data.toList.drop 96 = dktX3_findBest_4 := dk_seg dksX3_findBest_3 24 rfl rfl
theorem dksX3_findBest_5 : cX3_findBest.data.toList.drop 120 = dktX3_findBest_5 := dk_seg dksX3_findBest_4 24 rfl rfl
theorem dX3_findBest_0 : decode cX3_findBest 0 = .ok (.aload_n 0, 1) := dk_42 (dk_at dksX3_findBest_0 0 rfl rfl)
theorem dX3_findBest_1 : decode cX3_findBest 1 = .ok (.aload_n 0, 1) := dk_42 (dk_at dksX3_findBest_0 1 rfl rfl)
theorem dX3_findBest_2 : decode cX3_findBest 2 = .ok (.getfield 119, 3) := dk_180 0 119 (dk_at dksX3_findBest_0 2 rfl rfl)
theorem dX3_findBest_5 : decode cX3_findBest 5 = .ok (.invokevirtual 162, 3) := dk_182 0 162 (dk_at dksX3_findBest_0 5 rfl rfl)
theorem dX3_findBest_8 : decode cX3_findBest 8 = .ok (.istore_n 1, 1) := dk_60 (dk_at dksX3_findBest_0 8 rfl rfl)
theorem dX3_findBest_9 : decode cX3_findBest 9 = .ok (.aload_n 0, 1) := dk_42 (dk_at dksX3_findBest_0 9 rfl rfl)
theorem dX3_findBest_10 : decode cX3_findBest 10 = .ok (.iconst 0, 1) := dk_3 (dk_at dksX3_findBest_0 10 rfl rfl)
theorem dX3_findBest_11 : decode cX3_findBest 11 = .ok (.putfield 165, 3) := dk_181 0 165 (dk_at dksX3_findBest_0 11 rfl rfl)
theorem dX3_findBest_14 : decode cX3_findBest 14 = .ok (.iconst 0, 1) := dk_3 (dk_at dksX3_findBest_0 14 rfl rfl)
theorem dX3_findBest_15 : decode cX3_findBest 15 = .ok (.istore_n 2, 1) := dk_61 (dk_at dksX3_findBest_0 15 rfl rfl)
theorem dX3_findBest_16 : decode cX3_findBest 16 = .ok (.iconst 0, 1) := dk_3 (dk_at dksX3_findBest_0 16 rfl rfl)
theorem dX3_findBest_17 : decode cX3_findBest 17 = .ok (.istore_n 3, 1) := dk_62 (dk_at dksX3_findBest_0 17 rfl rfl)
theorem dX3_findBest_18 : decode cX3_findBest 18 = .ok (.iload_n 1, 1) := dk_27 (dk_at dksX3_findBest_0 18 rfl rfl)
theorem dX3_findBest_19 : decode cX3_findBest 19 = .ok (.bipush (-9), 2) := dk_16 247 (dk_at dksX3_findBest_0 19 rfl rfl)
theorem dX3_findBest_21 : decode cX3_findBest 21 = .ok (.if_icmp .eq 99, 3) := dk_159 0 99 (dk_at dksX3_findBest_0 21 rfl rfl)
theorem dX3_findBest_24 : decode cX3_findBest 24 = .ok (.iload_n 2, 1) := dk_28 (dk_at dksX3_findBest_1 0 rfl rfl)
theorem dX3_findBest_25 : decode cX3_findBest 25 = .ok (.aload_n 0, 1) := dk_42 (dk_at dksX3_findBest_1 1 rfl rfl)
theorem dX3_findBest_26 : decode cX3_findBest 26 = .ok (.getfield 80, 3) := dk_180 0 80 (dk_at dksX3_findBest_1 2 rfl rfl)
theorem dX3_findBest_29 : decode cX3_findBest 29 = .ok (.if_icmp .lt 11, 3) := dk_161 0 11 (dk_at dksX3_findBest_1 5 rfl rfl)
theorem dX3_findBest_32 : decode cX3_findBest 32 = .ok (.iload_n 3, 1) := dk_29 (dk_at dksX3_findBest_1 8 rfl rfl)
theorem dX3_findBest_33 : decode cX3_findBest 33 = .ok (.aload_n 0, 1) := dk_42 (dk_at dksX3_findBest_1 9 rfl rfl)
theorem dX3_findBest_34 : decode cX3_findBest 34 = .ok (.getfield 83, 3) := dk_180 0 83 (dk_at dksX3_findBest_1 10 rfl rfl)
theorem dX3_findBest_37 : decode cX3_findBest 37 = .ok (.if_icmp .ge 83, 3) := dk_162 0 83 (dk_at dksX3_findBest_1 13 rfl rfl)
theorem dX3_findBest_40 : decode cX3_findBest 40 = .ok (.iconst 0, 1) := dk_3 (dk_at dksX3_findBest_1 16 rfl rfl)
theorem dX3_findBest_41 : decode cX3_findBest 41 = .ok (.istore 4, 2) := dk_54 4 (dk_at dksX3_findBest_1 17 rfl rfl)
theorem dX3_findBest_43 : decode cX3_findBest 43 = .ok (.aload_n 0, 1) := dk_42 (dk_at dksX3_findBest_1 19 rfl rfl)
theorem dX3_findBest_44 : decode cX3_findBest 44 = .ok (.iload 4, 2) := dk_21 4 (dk_at dksX3_findBest_1 20 rfl rfl)
theorem dX3_findBest_46 : decode cX3_findBest 46 = .ok (.iload_n 2, 1) := dk_28 (dk_at dksX3_findBest_1 22 rfl rfl)
theorem dX3_findBest_47 : decode cX3_findBest 47 = .ok (.iload_n 3, 1) := dk_29 (dk_at dksX3_findBest_1 23 rfl rfl)
theorem dX3_findBest_48 : decode cX3_findBest 48 = .ok (.invokevirtual 168, 3) := dk_182 0 168 (dk_at dksX3_findBest_2 0 rfl rfl)
theorem dX3_findBest_51 : decode cX3_findBest 51 = .ok (.ifCond .ne 9, 3) := dk_154 0 9 (dk_at dksX3_findBest_2 3 rfl rfl)
theorem dX3_findBest_54 : decode cX3_findBest 54 = .ok (.iinc 4 1, 3) := dk_132 4 1 (dk_at dksX3_findBest_2 6 rfl rfl)
theorem dX3_findBest_57 : decode cX3_findBest 57 = .ok (.goto (-14), 3) := dk_167 255 242 (dk_at dksX3_findBest_2 9 rfl rfl)
theorem dX3_findBest_60 : decode cX3_findBest 60 = .ok (.aload_n 0, 1) := dk_42 (dk_at dksX3_findBest_2 12 rfl rfl)
theorem dX3_findBest_61 : decode cX3_findBest 61 = .ok (.getfield 52, 3) := dk_180 0 52 (dk_at dksX3_findBest_2 13 rfl rfl)
theorem dX3_findBest_64 : decode cX3_findBest 64 = .ok (.aload_n 0, 1) := dk_42 (dk_at dksX3_findBest_2 16 rfl rfl)
theorem dX3_findBest_65 : decode cX3_findBest 65 = .ok (.getfield 165, 3) := dk_180 0 165 (dk_at dksX3_findBest_2 17 rfl rfl)
theorem dX3_findBest_68 : decode cX3_findBest 68 = .ok (.iload 4, 2) := dk_21 4 (dk_at dksX3_findBest_2 20 rfl rfl)
theorem dX3_findBest_70 : decode cX3_findBest 70 = .ok (.iastore, 1) := dk_79 (dk_at dksX3_findBest_2 22 rfl rfl)
theorem dX3_findBest_71 : decode cX3_findBest 71 = .ok (.aload_n 0, 1) := dk_42 (dk_at dksX3_findBest_2 23 rfl rfl)
theorem dX3_findBest_72 : decode cX3_findBest 72 = .ok (.getfield 55, 3) := dk_180 0 55 (dk_at dksX3_findBest_3 0 rfl rfl)
theorem dX3_findBest_75 : decode cX3_findBest 75 = .ok (.aload_n 0, 1) := dk_42 (dk_at dksX3_findBest_3 3 rfl rfl)
theorem dX3_findBest_76 : decode cX3_findBest 76 = .ok (.getfield 165, 3) := dk_180 0 165 (dk_at dksX3_findBest_3 4 rfl rfl)
theorem dX3_findBest_79 : decode cX3_findBest 79 = .ok (.iload_n 2, 1) := dk_28 (dk_at dksX3_findBest_3 7 rfl rfl)
theorem dX3_findBest_80 : decode cX3_findBest 80 = .ok (.iastore, 1) := dk_79 (dk_at dksX3_findBest_3 8 rfl rfl)
theorem dX3_findBest_81 : decode cX3_findBest 81 = .ok (.aload_n 0, 1) := dk_42 (dk_at dksX3_findBest_3 9 rfl rfl)
theorem dX3_findBest_82 : decode cX3_findBest 82 = .ok (.getfield 58, 3) := dk_180 0 58 (dk_at dksX3_findBest_3 10 rfl rfl)
theorem dX3_findBest_85 : decode cX3_findBest 85 = .ok (.aload_n 0, 1) := dk_42 (dk_at dksX3_findBest_3 13 rfl rfl)
theorem dX3_findBest_86 : decode cX3_findBest 86 = .ok (.getfield 165, 3) := dk_180 0 165 (dk_at dksX3_findBest_3 14 rfl rfl)
theorem dX3_findBest_89 : decode cX3_findBest 89 = .ok (.iload_n 3, 1) := dk_29 (dk_at dksX3_findBest_3 17 rfl rfl)
theorem dX3_findBest_90 : decode cX3_findBest 90 = .ok (.iastore, 1) := dk_79 (dk_at dksX3_findBest_3 18 rfl rfl)
theorem dX3_findBest_91 : decode cX3_findBest 91 = .ok (.aload_n 0, 1) := dk_42 (dk_at dksX3_findBest_3 19 rfl rfl)
theorem dX3_findBest_92 : decode cX3_findBest 92 = .ok (.dup, 1) := dk_89 (dk_at dksX3_findBest_3 20 rfl rfl)
theorem dX3_findBest_93 : decode cX3_findBest 93 = .ok (.getfield 165, 3) := dk_180 0 165 (dk_at dksX3_findBest_3 21 rfl rfl)
theorem dX3_findBest_96 : decode cX3_findBest 96 = .ok (.iconst 1, 1) := dk_4 (dk_at dksX3_findBest_4 0 rfl rfl)
theorem dX3_findBest_97 : decode cX3_findBest 97 = .ok (.iadd, 1) := dk_96 (dk_at dksX3_findBest_4 1 rfl rfl)
theorem dX3_findBest_98 : decode cX3_findBest 98 = .ok (.putfield 165, 3) := dk_181 0 165 (dk_at dksX3_findBest_4 2 rfl rfl)
theorem dX3_findBest_101 : decode cX3_findBest 101 = .ok (.iload_n 2, 1) := dk_28 (dk_at dksX3_findBest_4 5 rfl rfl)
theorem dX3_findBest_102 : decode cX3_findBest 102 = .ok (.iload 4, 2) := dk_21 4 (dk_at dksX3_findBest_4 6 rfl rfl)
theorem dX3_findBest_104 : decode cX3_findBest 104 = .ok (.invokestatic 138, 3) := dk_184 0 138 (dk_at dksX3_findBest_4 8 rfl rfl)
theorem dX3_findBest_107 : decode cX3_findBest 107 = .ok (.iadd, 1) := dk_96 (dk_at dksX3_findBest_4 11 rfl rfl)
theorem dX3_findBest_108 : decode cX3_findBest 108 = .ok (.istore_n 2, 1) := dk_61 (dk_at dksX3_findBest_4 12 rfl rfl)
theorem dX3_findBest_109 : decode cX3_findBest 109 = .ok (.iload_n 3, 1) := dk_29 (dk_at dksX3_findBest_4 13 rfl rfl)
theorem dX3_findBest_110 : decode cX3_findBest 110 = .ok (.iload 4, 2) := dk_21 4 (dk_at dksX3_findBest_4 14 rfl rfl)
theorem dX3_findBest_112 : decode cX3_findBest 112 = .ok (.invokestatic 144, 3) := dk_184 0 144 (dk_at dksX3_findBest_4 16 rfl rfl)
theorem dX3_findBest_115 : decode cX3_findBest 115 = .ok (.iadd, 1) := dk_96 (dk_at dksX3_findBest_4 19 rfl rfl)
theorem dX3_findBest_116 : decode cX3_findBest 116 = .ok (.istore_n 3, 1) := dk_62 (dk_at dksX3_findBest_4 20 rfl rfl)
theorem dX3_findBest_117 : decode cX3_findBest 117 = .ok (.goto (-99), 3) := dk_167 255 157 (dk_at dksX3_findBest_4 21 rfl rfl)
theorem dX3_findBest_120 : decode cX3_findBest 120 = .ok (.iload_n 1, 1) := dk_27 (dk_at dksX3_findBest_5 0 rfl rfl)
theorem dX3_findBest_121 : decode cX3_findBest 121 = .ok (.ireturn, 1) := dk_172 (dk_at dksX3_findBest_5 1 rfl rfl)
abbrev cX3_findAll : ByteArray := prog_25_method_24_code
def yX3_findAll : MethodName := ⟨RX3, "findAll", "(I)I"⟩
def dkwX3_findAll_2 : List UInt8 := [161, 0, 8, 16, 247, 167, 0, 9, 42, 180, 0, 43, 3, 46, 172]
abbrev dktX3_findAll_2 : List UInt8 := dkwX3_findAll_2 ++ []
def dkwX3_findAll_1 : List UInt8 := [182, 0, 159, 132, 3, 255, 167, 255, 242, 132, 2, 255, 167, 255, 227, 42, 180, 0, 43, 3, 46, 18, 147]
abbrev dktX3_findAll_1 : List UInt8 := dkwX3_findAll_1 ++ dktX3_findAll_2
def dkwX3_findAll_0 : List UInt8 := [42, 180, 0, 80, 61, 28, 155, 0, 31, 42, 180, 0, 83, 62, 29, 155, 0, 16, 42, 28, 29, 27]
abbrev dktX3_findAll_0 : List UInt8 := dkwX3_findAll_0 ++ dktX3_findAll_1
theorem dksX3_findAll_0 : cX3_findAll.data.toList.drop 0 = dktX3_findAll_0 := by decide +kernel
theorem dksX3_findAll_1 : cX3_findAll.data.toList.drop 22 = dktX3_findAll_1 := dk_seg dksX3_findAll_0 22 rfl rfl
theorem dksX3_findAll_2 : cX3_findAll.data.toList.drop 45 = dktX3_findAll_2 := dk_seg dksX3_findAll_1 23 rfl rfl
theorem dX3_findAll_0 : decode cX3_findAll 0 = .ok (.aload_n 0, 1) := dk_42 (dk_at dksX3_findAll_0 0 rfl rfl)
theorem dX3_findAll_1 : decode cX3_findAll 1 = .ok (.getfield 80, 3) := dk_180 0 80 (dk_at dksX3_findAll_0 1 rfl rfl)
theorem dX3_findAll_4 : decode cX3_findAll 4 = .ok (.istore_n 2, 1) := dk_61 (dk_at dksX3_findAll_0 4 rfl rfl)
theorem dX3_findAll_5 : decode cX3_findAll 5 = .ok (.iload_n 2, 1) := dk_28 (dk_at dksX3_findAll_0 5 rfl rfl)
theorem dX3_findAll_6 : decode cX3_findAll 6 = .ok (.ifCond .lt 31, 3) := dk_155 0 31 (dk_at dksX3_findAll_0 6 rfl rfl)
theorem dX3_findAll_9 : decode cX3_findAll 9 = .ok (.aload_n 0, 1) := dk_42 (dk_at dksX3_findAll_0 9 rfl rfl)
theorem dX3_findAll_10 : decode cX3_findAll 10 = .ok (.getfield 83, 3) := dk_180 0 83 (dk_at dksX3_findAll_0 10 rfl rfl)
theorem dX3_findAll_13 : decode cX3_findAll 13 = .ok (.istore_n 3, 1) := dk_62 (dk_at dksX3_findAll_0 13 rfl rfl)
theorem dX3_findAll_14 : decode cX3_findAll 14 = .ok (.iload_n 3, 1) := dk_29 (dk_at dksX3_findAll_0 14 rfl rfl)
theorem dX3_findAll_15 : decode cX3_findAll 15 = .ok (.ifCond .lt 16, 3) := dk_155 0 16 (dk_at dksX3_findAll_0 15 rfl rfl)
theorem dX3_findAll_18 : decode cX3_findAll 18 = .ok (.aload_n 0, 1) := dk_42 (dk_at dksX3_findAll_0 18 rfl rfl)
theorem dX3_findAll_19 : decode cX3_findAll 19 = .ok (.iload_n 2, 1) := dk_28 (dk_at dksX3_findAll_0 19 rfl rfl)
theorem dX3_findAll_20 : decode cX3_findAll 20 = .ok (.iload_n 3, 1) := dk_29 (dk_at dksX3_findAll_0 20 rfl rfl)
theorem dX3_findAll_21 : decode cX3_findAll 21 = .ok (.iload_n 1, 1) := dk_27 (dk_at dksX3_findAll_0 21 rfl rfl)
theorem dX3_findAll_22 : decode cX3_findAll 22 = .ok (.invokevirtual 159, 3) := dk_182 0 159 (dk_at dksX3_findAll_1 0 rfl rfl)
theorem dX3_findAll_25 : decode cX3_findAll 25 = .ok (.iinc 3 (-1), 3) := dk_132 3 255 (dk_at dksX3_findAll_1 3 rfl rfl)
theorem dX3_findAll_28 : decode cX3_findAll 28 = .ok (.goto (-14), 3) := dk_167 255 242 (dk_at dksX3_findAll_1 6 rfl rfl)
theorem dX3_findAll_31 : decode cX3_findAll 31 = .ok (.iinc 2 (-1), 3) := dk_132 2 255 (dk_at dksX3_findAll_1 9 rfl rfl)
theorem dX3_findAll_34 : decode cX3_findAll 34 = .ok (.goto (-29), 3) := dk_167 255 227 (dk_at dksX3_findAll_1 12 rfl rfl)
theorem dX3_findAll_37 : decode cX3_findAll 37 = .ok (.aload_n 0, 1) := dk_42 (dk_at dksX3_findAll_1 15 rfl rfl)
theorem dX3_findAll_38 : decode cX3_findAll 38 = .ok (.getfield 43, 3) := dk_180 0 43 (dk_at dksX3_findAll_1 16 rfl rfl)
theorem dX3_findAll_41 : decode cX3_findAll 41 = .ok (.iconst 0, 1) := dk_3 (dk_at dksX3_findAll_1 19 rfl rfl)
theorem dX3_findAll_42 : decode cX3_findAll 42 = .ok (.iaload, 1) := dk_46 (dk_at dksX3_findAll_1 20 rfl rfl)
theorem dX3_findAll_43 : decode cX3_findAll 43 = .ok (.ldc 147, 2) := dk_18 147 (dk_at dksX3_findAll_1 21 rfl rfl)
theorem dX3_findAll_45 : decode cX3_findAll 45 = .ok (.if_icmp .lt 8, 3) := dk_161 0 8 (dk_at dksX3_findAll_2 0 rfl rfl)
theorem dX3_findAll_48 : decode cX3_findAll 48 = .ok (.bipush (-9), 2) := dk_16 247 (dk_at dksX3_findAll_2 3 rfl rfl)
theorem dX3_findAll_50 : decode cX3_findAll 50 = .ok (.goto 9, 3) := dk_167 0 9 (dk_at dksX3_findAll_2 5 rfl rfl)
theorem dX3_findAll_53 : decode cX3_findAll 53 = .ok (.aload_n 0, 1) := dk_42 (dk_at dksX3_findAll_2 8 rfl rfl)
theorem dX3_findAll_54 : decode cX3_findAll 54 = .ok (.getfield 43, 3) := dk_180 0 43 (dk_at dksX3_findAll_2 9 rfl rfl)
theorem dX3_findAll_57 : decode cX3_findAll 57 = .ok (.iconst 0, 1) := dk_3 (dk_at dksX3_findAll_2 12 rfl rfl)
theorem dX3_findAll_58 : decode cX3_findAll 58 = .ok (.iaload, 1) := dk_46 (dk_at dksX3_findAll_2 13 rfl rfl)
theorem dX3_findAll_59 : decode cX3_findAll 59 = .ok (.ireturn, 1) := dk_172 (dk_at dksX3_findAll_2 14 rfl rfl)
abbrev cX3_findStand : ByteArray := prog_25_method_23_code
def yX3_findStand : MethodName := ⟨RX3, "findStand", "(III)V"⟩
def dkwX3_findStand_10 : List UInt8 := [21, 4, 46, 79, 177]
abbrev dktX3_findStand_10 : List UInt8 := dkwX3_findStand_10 ++ []
def dkwX3_findStand_9 : List UInt8 := [180, 0, 49, 21, 4, 46, 4, 164, 0, 13, 42, 180, 0, 43, 21, 4, 46, 167, 0, 10, 42, 180, 0, 46]
abbrev dktX3_findStand_9 : List UInt8 := dkwX3_findStand_9 ++ dktX3_findStand_10
def dkwX3_findStand_8 : List UInt8 := [180, 0, 46, 21, 8, 46, 96, 4, 182, 0, 155, 132, 5, 1, 167, 255, 135, 42, 180, 0, 46, 21, 4, 42]
abbrev dktX3_findStand_8 : List UInt8 := dkwX3_findStand_8 ++ dktX3_findStand_9
def dkwX3_findStand_7 : List UInt8 := [180, 0, 46, 21, 8, 46, 42, 180, 0, 43, 21, 8, 46, 160, 0, 8, 18, 147, 167, 0, 13, 21, 9, 42]
abbrev dktX3_findStand_7 : List UInt8 := dkwX3_findStand_7 ++ dktX3_findStand_8
def dkwX3_findStand_6 : List UInt8 := [21, 9, 42, 180, 0, 43, 21, 8, 46, 96, 42, 180, 0, 49, 21, 8, 46, 182, 0, 155, 42, 21, 4, 42]
abbrev dktX3_findStand_6 : List UInt8 := dkwX3_findStand_6 ++ dktX3_findStand_7
def dkwX3_findStand_5 : List UInt8 := [16, 8, 21, 6, 104, 21, 7, 96, 54, 8, 42, 21, 5, 27, 28, 182, 0, 151, 54, 9, 42, 21, 4]
abbrev dktX3_findStand_5 : List UInt8 := dkwX3_findStand_5 ++ dktX3_findStand_6
def dkwX3_findStand_4 : List UInt8 := [54, 6, 28, 21, 5, 184, 0, 144, 96, 54, 7, 42, 21, 6, 21, 7, 29, 182, 0, 148, 153, 0, 85]
abbrev dktX3_findStand_4 : List UInt8 := dkwX3_findStand_4 ++ dktX3_findStand_5
def dkwX3_findStand_3 : List UInt8 := [180, 0, 49, 21, 4, 4, 79, 177, 3, 54, 5, 21, 5, 8, 162, 0, 121, 27, 21, 5, 184, 0, 138, 96]
abbrev dktX3_findStand_3 : List UInt8 := dkwX3_findStand_3 ++ dktX3_findStand_4
def dkwX3_findStand_2 : List UInt8 := [180, 0, 80, 160, 0, 28, 28, 42, 180, 0, 83, 160, 0, 20, 42, 180, 0, 43, 21, 4, 3, 79, 42]
abbrev dktX3_findStand_2 : List UInt8 := dkwX3_findStand_2 ++ dktX3_findStand_3
def dkwX3_findStand_1 : List UInt8 := [18, 147, 79, 42, 180, 0, 49, 21, 4, 3, 79, 42, 27, 28, 29, 182, 0, 148, 154, 0, 4, 177, 27, 42]
abbrev dktX3_findStand_1 : List UInt8 := dkwX3_findStand_1 ++ dktX3_findStand_2
def dkwX3_findStand_0 : List UInt8 := [16, 8, 27, 104, 28, 96, 54, 4, 42, 180, 0, 43, 21, 4, 18, 147, 79, 42, 180, 0, 46, 21, 4]
abbrev dktX3_findStand_0 : List UInt8 := dkwX3_findStand_0 ++ dktX3_findStand_1
theorem dksX3_findStand_0 : cX3_findStand.data.toList.drop 0 = dktX3_findStand_0 := by decide +kernel
theorem dksX3_findStand_1 : cX3_findStand.data.toList.drop 23 = dktX3_findStand_1 := dk_seg dksX3_findStand_0 23 rfl rfl
theorem dksX3_findStand_2 : cX3_findStand.data.toList.drop 47 = dktX3_findStand_2 := dk_seg dksX3_findStand_1 24 rfl rfl
theorem dksX3_findStand_3 : cX3_findStand.data.toList.drop 70 = dktX3_findStand_3 := dk_seg dksX3_findStand_2 23 rfl rfl
theorem dksX3_findStand_4 : cX3_findStand.data.toList.drop 94 = dktX3_findStand_4 := dk_seg dksX3_findStand_3 24 rfl rfl
theorem dksX3_findStand_5 : cX3_findStand.data.toList.drop 117 = dktX3_findStand_5 := dk_seg dksX3_findStand_4 23 rfl rfl
theorem dksX3_findStand_6 : cX3_findStand.data.toList.drop 140 = dktX3_findStand_6 := dk_seg dksX3_findStand_5 23 rfl rfl
theorem dksX3_findStand_7 : cX3_findStand.data.toList.drop 164 = dktX3_findStand_7 := dk_seg dksX3_findStand_6 24 rfl rfl
theorem dksX3_findStand_8 : cX3_findStand.data.toList.drop 188 = dktX3_findStand_8 := dk_seg dksX3_findStand_7 24 rfl rfl
theorem dksX3_findStand_9 : cX3_findStand.data.toList.drop 212 = dktX3_findStand_9 := dk_seg dksX3_findStand_8 24 rfl rfl
theorem dksX3_findStand_10 : cX3_findStand.data.toList.drop 236 = dktX3_findStand_10 := dk_seg dksX3_findStand_9 24 rfl rfl
theorem dX3_findStand_0 : decode cX3_findStand 0 = .ok (.bipush 8, 2) := dk_16 8 (dk_at dksX3_findStand_0 0 rfl rfl)
theorem dX3_findStand_2 : decode cX3_findStand 2 = .ok (.iload_n 1, 1) := dk_27 (dk_at dksX3_findStand_0 2 rfl rfl)
theorem dX3_findStand_3 : decode cX3_findStand 3 = .ok (.imul, 1) := dk_104 (dk_at dksX3_findStand_0 3 rfl rfl)
theorem dX3_findStand_4 : decode cX3_findStand 4 = .ok (.iload_n 2, 1) := dk_28 (dk_at dksX3_findStand_0 4 rfl rfl)
theorem dX3_findStand_5 : decode cX3_findStand 5 = .ok (.iadd, 1) := dk_96 (dk_at dksX3_findStand_0 5 rfl rfl)
theorem dX3_findStand_6 : decode cX3_findStand 6 = .ok (.istore 4, 2) := dk_54 4 (dk_at dksX3_findStand_0 6 rfl rfl)
theorem dX3_findStand_8 : decode cX3_findStand 8 = .ok (.aload_n 0, 1) := dk_42 (dk_at dksX3_findStand_0 8 rfl rfl)
theorem dX3_findStand_9 : decode cX3_findStand 9 = .ok (.getfield 43, 3) := dk_180 0 43 (dk_at dksX3_findStand_0 9 rfl rfl)
theorem dX3_findStand_12 : decode cX3_findStand 12 = .ok (.iload 4, 2) := dk_21 4 (dk_at dksX3_findStand_0 12 rfl rfl)
theorem dX3_findStand_14 : decode cX3_findStand 14 = .ok (.ldc 147, 2) := dk_18 147 (dk_at dksX3_findStand_0 14 rfl rfl)
theorem dX3_findStand_16 : decode cX3_findStand 16 = .ok (.iastore, 1) := dk_79 (dk_at dksX3_findStand_0 16 rfl rfl)
theorem dX3_findStand_17 : decode cX3_findStand 17 = .ok (.aload_n 0, 1) := dk_42 (dk_at dksX3_findStand_0 17 rfl rfl)
theorem dX3_findStand_18 : decode cX3_findStand 18 = .ok (.getfield 46, 3) := dk_180 0 46 (dk_at dksX3_findStand_0 18 rfl rfl)
theorem dX3_findStand_21 : decode cX3_findStand 21 = .ok (.iload 4, 2) := dk_21 4 (dk_at dksX3_findStand_0 21 rfl rfl)
theorem dX3_findStand_23 : decode cX3_findStand 23 = .ok (.ldc 147, 2) := dk_18 147 (dk_at dksX3_findStand_1 0 rfl rfl)
theorem dX3_findStand_25 : decode cX3_findStand 25 = .ok (.iastore, 1) := dk_79 (dk_at dksX3_findStand_1 2 rfl rfl)
theorem dX3_findStand_26 : decode cX3_findStand 26 = .ok (.aload_n 0, 1) := dk_42 (dk_at dksX3_findStand_1 3 rfl rfl)
theorem dX3_findStand_27 : decode cX3_findStand 27 = .ok (.getfield 49, 3) := dk_180 0 49 (dk_at dksX3_findStand_1 4 rfl rfl)
theorem dX3_findStand_30 : decode cX3_findStand 30 = .ok (.iload 4, 2) := dk_21 4 (dk_at dksX3_findStand_1 7 rfl rfl)
theorem dX3_findStand_32 : decode cX3_findStand 32 = .ok (.iconst 0, 1) := dk_3 (dk_at dksX3_findStand_1 9 rfl rfl)
theorem dX3_findStand_33 : decode cX3_findStand 33 = .ok (.iastore, 1) := dk_79 (dk_at dksX3_findStand_1 10 rfl rfl)
theorem dX3_findStand_34 : decode cX3_findStand 34 = .ok (.aload_n 0, 1) := dk_42 (dk_at dksX3_findStand_1 11 rfl rfl)
theorem dX3_findStand_35 : decode cX3_findStand 35 = .ok (.iload_n 1, 1) := dk_27 (dk_at dksX3_findStand_1 12 rfl rfl)
theorem dX3_findStand_36 : decode cX3_findStand 36 = .ok (.iload_n 2, 1) := dk_28 (dk_at dksX3_findStand_1 13 rfl rfl)
theorem dX3_findStand_37 : decode cX3_findStand 37 = .ok (.iload_n 3, 1) := dk_29 (dk_at dksX3_findStand_1 14 rfl rfl)
theorem dX3_findStand_38 : decode cX3_findStand 38 = .ok (.invokevirtual 148, 3) := dk_182 0 148 (dk_at dksX3_findStand_1 15 rfl rfl)
theorem dX3_findStand_41 : decode cX3_findStand 41 = .ok (.ifCond .ne 4, 3) := dk_154 0 4 (dk_at dksX3_findStand_1 18 rfl rfl)
theorem dX3_findStand_44 : decode cX3_findStand 44 = .ok (.return_, 1) := dk_177 (dk_at dksX3_findStand_1 21 rfl rfl)
theorem dX3_findStand_45 : decode cX3_findStand 45 = .ok (.iload_n 1, 1) := dk_27 (dk_at dksX3_findStand_1 22 rfl rfl)
theorem dX3_findStand_46 : decode cX3_findStand 46 = .ok (.aload_n 0, 1) := dk_42 (dk_at dksX3_findStand_1 23 rfl rfl)
theorem dX3_findStand_47 : decode cX3_findStand 47 = .ok (.getfield 80, 3) := dk_180 0 80 (dk_at dksX3_findStand_2 0 rfl rfl)
theorem dX3_findStand_50 : decode cX3_findStand 50 = .ok (.if_icmp .ne 28, 3) := dk_160 0 28 (dk_at dksX3_findStand_2 3 rfl rfl)
theorem dX3_findStand_53 : decode cX3_findStand 53 = .ok (.iload_n 2, 1) := dk_28 (dk_at dksX3_findStand_2 6 rfl rfl)
theorem dX3_findStand_54 : decode cX3_findStand 54 = .ok (.aload_n 0, 1) := dk_42 (dk_at dksX3_findStand_2 7 rfl rfl)
theorem dX3_findStand_55 : decode cX3_findStand 55 = .ok (.getfield 83, 3) := dk_180 0 83 (dk_at dksX3_findStand_2 8 rfl rfl)
theorem dX3_findStand_58 : decode cX3_findStand 58 = .ok (.if_icmp .ne 20, 3) := dk_160 0 20 (dk_at dksX3_findStand_2 11 rfl rfl)
theorem dX3_findStand_61 : decode cX3_findStand 61 = .ok (.aload_n 0, 1) := dk_42 (dk_at dksX3_findStand_2 14 rfl rfl)
theorem dX3_findStand_62 : decode cX3_findStand 62 = .ok (.getfield 43, 3) := dk_180 0 43 (dk_at dksX3_findStand_2 15 rfl rfl)
theorem dX3_findStand_65 : decode cX3_findStand 65 = .ok (.iload 4, 2) := dk_21 4 (dk_at dksX3_findStand_2 18 rfl rfl)
theorem dX3_findStand_67 : decode cX3_findStand 67 = .ok (.iconst 0, 1) := dk_3 (dk_at dksX3_findStand_2 20 rfl rfl)
theorem dX3_findStand_68 : decode cX3_findStand 68 = .ok (.iastore, 1) := dk_79 (dk_at dksX3_findStand_2 21 rfl rfl)
theorem dX3_findStand_69 : decode cX3_findStand 69 = .ok (.aload_n 0, 1) := dk_42 (dk_at dksX3_findStand_2 22 rfl rfl)
theorem dX3_findStand_70 : decode cX3_findStand 70 = .ok (.getfield 49, 3) := dk_180 0 49 (dk_at dksX3_findStand_3 0 rfl rfl)
theorem dX3_findStand_73 : decode cX3_findStand 73 = .ok (.iload 4, 2) := dk_21 4 (dk_at dksX3_findStand_3 3 rfl rfl)
theorem dX3_findStand_75 : decode cX3_findStand 75 = .ok (.iconst 1, 1) := dk_4 (dk_at dksX3_findStand_3 5 rfl rfl)
theorem dX3_findStand_76 : decode cX3_findStand 76 = .ok (.iastore, 1) := dk_79 (dk_at dksX3_findStand_3 6 rfl rfl)
theorem dX3_findStand_77 : decode cX3_findStand 77 = .ok (.return_, 1) := dk_177 (dk_at dksX3_findStand_3 7 rfl rfl)
theorem dX3_findStand_78 : decode cX3_findStand 78 = .ok (.iconst 0, 1) := dk_3 (dk_at dksX3_findStand_3 8 rfl rfl)
theorem dX3_findStand_79 : decode cX3_findStand 79 = .ok (.istore 5, 2) := dk_54 5 (dk_at dksX3_findStand_3 9 rfl rfl)
theorem dX3_findStand_81 : decode cX3_findStand 81 = .ok (.iload 5, 2) := dk_21 5 (dk_at dksX3_findStand_3 11 rfl rfl)
theorem dX3_findStand_83 : decode cX3_findStand 83 = .ok (.iconst 5, 1) := dk_8 (dk_at dksX3_findStand_3 13 rfl rfl)
theorem dX3_findStand_84 : decode cX3_findStand 84 = .ok (.if_icmp .ge 121, 3) := dk_162 0 121 (dk_at dksX3_findStand_3 14 rfl rfl)
theorem dX3_findStand_87 : decode cX3_findStand 87 = .ok (.iload_n 1, 1) := dk_27 (dk_at dksX3_findStand_3 17 rfl rfl)
theorem dX3_findStand_88 : decode cX3_findStand 88 = .ok (.iload 5, 2) := dk_21 5 (dk_at dksX3_findStand_3 18 rfl rfl)
theorem dX3_findStand_90 : decode cX3_findStand 90 = .ok (.invokestatic 138, 3) := dk_184 0 138 (dk_at dksX3_findStand_3 20 rfl rfl)
theorem dX3_findStand_93 : decode cX3_findStand 93 = .ok (.iadd, 1) := dk_96 (dk_at dksX3_findStand_3 23 rfl rfl)
theorem dX3_findStand_94 : decode cX3_findStand 94 = .ok (.istore 6, 2) := dk_54 6 (dk_at dksX3_findStand_4 0 rfl rfl)
theorem dX3_findStand_96 : decode cX3_findStand 96 = .ok (.iload_n 2, 1) := dk_28 (dk_at dksX3_findStand_4 2 rfl rfl)
theorem dX3_findStand_97 : decode cX3_findStand 97 = .ok (.iload 5, 2) := dk_21 5 (dk_at dksX3_findStand_4 3 rfl rfl)
theorem dX3_findStand_99 : decode cX3_findStand 99 = .ok (.invokestatic 144, 3) := dk_184 0 144 (dk_at dksX3_findStand_4 5 rfl rfl)
theorem dX3_findStand_102 : decode cX3_findStand 102 = .ok (.iadd, 1) := dk_96 (dk_at dksX3_findStand_4 8 rfl rfl)
theorem dX3_findStand_103 : decode cX3_findStand 103 = .ok (.istore 7, 2) := dk_54 7 (dk_at dksX3_findStand_4 9 rfl rfl)
theorem dX3_findStand_105 : decode cX3_findStand 105 = .ok (.aload_n 0, 1) := dk_42 (dk_at dksX3_findStand_4 11 rfl rfl)
theorem dX3_findStand_106 : decode cX3_findStand 106 = .ok (.iload 6, 2) := dk_21 6 (dk_at dksX3_findStand_4 12 rfl rfl)
theorem dX3_findStand_108 : decode cX3_findStand 108 = .ok (.iload 7, 2) := dk_21 7 (dk_at dksX3_findStand_4 14 rfl rfl)
theorem dX3_findStand_110 : decode cX3_findStand 110 = .ok (.iload_n 3, 1) := dk_29 (dk_at dksX3_findStand_4 16 rfl rfl)
theorem dX3_findStand_111 : decode cX3_findStand 111 = .ok (.invokevirtual 148, 3) := dk_182 0 148 (dk_at dksX3_findStand_4 17 rfl rfl)
theorem dX3_findStand_114 : decode cX3_findStand 114 = .ok (.ifCond .eq 85, 3) := dk_153 0 85 (dk_at dksX3_findStand_4 20 rfl rfl)
theorem dX3_findStand_117 : decode cX3_findStand 117 = .ok (.bipush 8, 2) := dk_16 8 (dk_at dksX3_findStand_5 0 rfl rfl)
theorem dX3_findStand_119 : decode cX3_findStand 119 = .ok (.iload 6, 2) := dk_21 6 (dk_at dksX3_findStand_5 2 rfl rfl)
theorem dX3_findStand_121 : decode cX3_findStand 121 = .ok (.imul, 1) := dk_104 (dk_at dksX3_findStand_5 4 rfl rfl)
theorem dX3_findStand_122 : decode cX3_findStand 122 = .ok (.iload 7, 2) := dk_21 7 (dk_at dksX3_findStand_5 5 rfl rfl)
theorem dX3_findStand_124 : decode cX3_findStand 124 = .ok (.iadd, 1) := dk_96 (dk_at dksX3_findStand_5 7 rfl rfl)
theorem dX3_findStand_125 : decode cX3_findStand 125 = .ok (.istore 8, 2) := dk_54 8 (dk_at dksX3_findStand_5 8 rfl rfl)
theorem dX3_findStand_127 : decode cX3_findStand 127 = .ok (.aload_n 0, 1) := dk_42 (dk_at dksX3_findStand_5 10 rfl rfl)
theorem dX3_findStand_128 : decode cX3_findStand 128 = .ok (.iload 5, 2) := dk_21 5 (dk_at dksX3_findStand_5 11 rfl rfl)
theorem dX3_findStand_130 : decode cX3_findStand 130 = .ok (.iload_n 1, 1) := dk_27 (dk_at dksX3_findStand_5 13 rfl rfl)
theorem dX3_findStand_131 : decode cX3_findStand 131 = .ok (.iload_n 2, 1) := dk_28 (dk_at dksX3_findStand_5 14 rfl rfl)
theorem dX3_findStand_132 : decode cX3_findStand 132 = .ok (.invokevirtual 151, 3) := dk_182 0 151 (dk_at dksX3_findStand_5 15 rfl rfl)
theorem dX3_findStand_135 : decode cX3_findStand 135 = .ok (.istore 9, 2) := dk_54 9 (dk_at dksX3_findStand_5 18 rfl rfl)
theorem dX3_findStand_137 : decode cX3_findStand 137 = .ok (.aload_n 0, 1) := dk_42 (dk_at dksX3_findStand_5 20 rfl rfl)
theorem dX3_findStand_138 : decode cX3_findStand 138 = .ok (.iload 4, 2) := dk_21 4 (dk_at dksX3_findStand_5 21 rfl rfl)
theorem dX3_findStand_140 : decode cX3_findStand 140 = .ok (.iload 9, 2) := dk_21 9 (dk_at dksX3_findStand_6 0 rfl rfl)
theorem dX3_findStand_142 : decode cX3_findStand 142 = .ok (.aload_n 0, 1) := dk_42 (dk_at dksX3_findStand_6 2 rfl rfl)
theorem dX3_findStand_143 : decode cX3_findStand 143 = .ok (.getfield 43, 3) := dk_180 0 43 (dk_at dksX3_findStand_6 3 rfl rfl)
theorem dX3_findStand_146 : decode cX3_findStand 146 = .ok (.iload 8, 2) := dk_21 8 (dk_at dksX3_findStand_6 6 rfl rfl)
theorem dX3_findStand_148 : decode cX3_findStand 148 = .ok (.iaload, 1) := dk_46 (dk_at dksX3_findStand_6 8 rfl rfl)
theorem dX3_findStand_149 : decode cX3_findStand 149 = .ok (.iadd, 1) := dk_96 (dk_at dksX3_findStand_6 9 rfl rfl)
theorem dX3_findStand_150 : decode cX3_findStand 150 = .ok (.aload_n 0, 1) := dk_42 (dk_at dksX3_findStand_6 10 rfl rfl)
theorem dX3_findStand_151 : decode cX3_findStand 151 = .ok (.getfield 49, 3) := dk_180 0 49 (dk_at dksX3_findStand_6 11 rfl rfl)
theorem dX3_findStand_154 : decode cX3_findStand 154 = .ok (.iload 8, 2) := dk_21 8 (dk_at dksX3_findStand_6 14 rfl rfl)
theorem dX3_findStand_156 : decode cX3_findStand 156 = .ok (.iaload, 1) := dk_46 (dk_at dksX3_findStand_6 16 rfl rfl)
theorem dX3_findStand_157 : decode cX3_findStand 157 = .ok (.invokevirtual 155, 3) := dk_182 0 155 (dk_at dksX3_findStand_6 17 rfl rfl)
theorem dX3_findStand_160 : decode cX3_findStand 160 = .ok (.aload_n 0, 1) := dk_42 (dk_at dksX3_findStand_6 20 rfl rfl)
theorem dX3_findStand_161 : decode cX3_findStand 161 = .ok (.iload 4, 2) := dk_21 4 (dk_at dksX3_findStand_6 21 rfl rfl)
theorem dX3_findStand_163 : decode cX3_findStand 163 = .ok (.aload_n 0, 1) := dk_42 (dk_at dksX3_findStand_6 23 rfl rfl)
theorem dX3_findStand_164 : decode cX3_findStand 164 = .ok (.getfield 46, 3) := dk_180 0 46 (dk_at dksX3_findStand_7 0 rfl rfl)
theorem dX3_findStand_167 : decode cX3_findStand 167 = .ok (.iload 8, 2) := dk_21 8 (dk_at dksX3_findStand_7 3 rfl rfl)
theorem dX3_findStand_169 : decode cX3_findStand 169 = .ok (.iaload, 1) := dk_46 (dk_at dksX3_findStand_7 5 rfl rfl)
theorem dX3_findStand_170 : decode cX3_findStand 170 = .ok (.aload_n 0, 1) := dk_42 (dk_at dksX3_findStand_7 6 rfl rfl)
theorem dX3_findStand_171 : decode cX3_findStand 171 = .ok (.getfield 43, 3) := dk_180 0 43 (dk_at dksX3_findStand_7 7 rfl rfl)
theorem dX3_findStand_174 : decode cX3_findStand 174 = .ok (.iload 8, 2) := dk_21 8 (dk_at dksX3_findStand_7 10 rfl rfl)
theorem dX3_findStand_176 : decode cX3_findStand 176 = .ok (.iaload, 1) := dk_46 (dk_at dksX3_findStand_7 12 rfl rfl)
theorem dX3_findStand_177 : decode cX3_findStand 177 = .ok (.if_icmp .ne 8, 3) := dk_160 0 8 (dk_at dksX3_findStand_7 13 rfl rfl)
theorem dX3_findStand_180 : decode cX3_findStand 180 = .ok (.ldc 147, 2) := dk_18 147 (dk_at dksX3_findStand_7 16 rfl rfl)
theorem dX3_findStand_182 : decode cX3_findStand 182 = .ok (.goto 13, 3) := dk_167 0 13 (dk_at dksX3_findStand_7 18 rfl rfl)
theorem dX3_findStand_185 : decode cX3_findStand 185 = .ok (.iload 9, 2) := dk_21 9 (dk_at dksX3_findStand_7 21 rfl rfl)
theorem dX3_findStand_187 : decode cX3_findStand 187 = .ok (.aload_n 0, 1) := dk_42 (dk_at dksX3_findStand_7 23 rfl rfl)
theorem dX3_findStand_188 : decode cX3_findStand 188 = .ok (.getfield 46, 3) := dk_180 0 46 (dk_at dksX3_findStand_8 0 rfl rfl)
theorem dX3_findStand_191 : decode cX3_findStand 191 = .ok (.iload 8, 2) := dk_21 8 (dk_at dksX3_findStand_8 3 rfl rfl)
theorem dX3_findStand_193 : decode cX3_findStand 193 = .ok (.iaload, 1) := dk_46 (dk_at dksX3_findStand_8 5 rfl rfl)
theorem dX3_findStand_194 : decode cX3_findStand 194 = .ok (.iadd, 1) := dk_96 (dk_at dksX3_findStand_8 6 rfl rfl)
theorem dX3_findStand_195 : decode cX3_findStand 195 = .ok (.iconst 1, 1) := dk_4 (dk_at dksX3_findStand_8 7 rfl rfl)
theorem dX3_findStand_196 : decode cX3_findStand 196 = .ok (.invokevirtual 155, 3) := dk_182 0 155 (dk_at dksX3_findStand_8 8 rfl rfl)
theorem dX3_findStand_199 : decode cX3_findStand 199 = .ok (.iinc 5 1, 3) := dk_132 5 1 (dk_at dksX3_findStand_8 11 rfl rfl)
theorem dX3_findStand_202 : decode cX3_findStand 202 = .ok (.goto (-121), 3) := dk_167 255 135 (dk_at dksX3_findStand_8 14 rfl rfl)
theorem dX3_findStand_205 : decode cX3_findStand 205 = .ok (.aload_n 0, 1) := dk_42 (dk_at dksX3_findStand_8 17 rfl rfl)
theorem dX3_findStand_206 : decode cX3_findStand 206 = .ok (.getfield 46, 3) := dk_180 0 46 (dk_at dksX3_findStand_8 18 rfl rfl)
theorem dX3_findStand_209 : decode cX3_findStand 209 = .ok (.iload 4, 2) := dk_21 4 (dk_at dksX3_findStand_8 21 rfl rfl)
theorem dX3_findStand_211 : decode cX3_findStand 211 = .ok (.aload_n 0, 1) := dk_42 (dk_at dksX3_findStand_8 23 rfl rfl)
theorem dX3_findStand_212 : decode cX3_findStand 212 = .ok (.getfield 49, 3) := dk_180 0 49 (dk_at dksX3_findStand_9 0 rfl rfl)
theorem dX3_findStand_215 : decode cX3_findStand 215 = .ok (.iload 4, 2) := dk_21 4 (dk_at dksX3_findStand_9 3 rfl rfl)
theorem dX3_findStand_217 : decode cX3_findStand 217 = .ok (.iaload, 1) := dk_46 (dk_at dksX3_findStand_9 5 rfl rfl)
theorem dX3_findStand_218 : decode cX3_findStand 218 = .ok (.iconst 1, 1) := dk_4 (dk_at dksX3_findStand_9 6 rfl rfl)
theorem dX3_findStand_219 : decode cX3_findStand 219 = .ok (.if_icmp .le 13, 3) := dk_164 0 13 (dk_at dksX3_findStand_9 7 rfl rfl)
theorem dX3_findStand_222 : decode cX3_findStand 222 = .ok (.aload_n 0, 1) := dk_42 (dk_at dksX3_findStand_9 10 rfl rfl)
theorem dX3_findStand_223 : decode cX3_findStand 223 = .ok (.getfield 43, 3) := dk_180 0 43 (dk_at dksX3_findStand_9 11 rfl rfl)
theorem dX3_findStand_226 : decode cX3_findStand 226 = .ok (.iload 4, 2) := dk_21 4 (dk_at dksX3_findStand_9 14 rfl rfl)
theorem dX3_findStand_228 : decode cX3_findStand 228 = .ok (.iaload, 1) := dk_46 (dk_at dksX3_findStand_9 16 rfl rfl)
theorem dX3_findStand_229 : decode cX3_findStand 229 = .ok (.goto 10, 3) := dk_167 0 10 (dk_at dksX3_findStand_9 17 rfl rfl)
theorem dX3_findStand_232 : decode cX3_findStand 232 = .ok (.aload_n 0, 1) := dk_42 (dk_at dksX3_findStand_9 20 rfl rfl)
theorem dX3_findStand_233 : decode cX3_findStand 233 = .ok (.getfield 46, 3) := dk_180 0 46 (dk_at dksX3_findStand_9 21 rfl rfl)
theorem dX3_findStand_236 : decode cX3_findStand 236 = .ok (.iload 4, 2) := dk_21 4 (dk_at dksX3_findStand_10 0 rfl rfl)
theorem dX3_findStand_238 : decode cX3_findStand 238 = .ok (.iaload, 1) := dk_46 (dk_at dksX3_findStand_10 2 rfl rfl)
theorem dX3_findStand_239 : decode cX3_findStand 239 = .ok (.iastore, 1) := dk_79 (dk_at dksX3_findStand_10 3 rfl rfl)
theorem dX3_findStand_240 : decode cX3_findStand 240 = .ok (.return_, 1) := dk_177 (dk_at dksX3_findStand_10 4 rfl rfl)
abbrev cX3_isStand : ByteArray := prog_25_method_21_code
def yX3_isStand : MethodName := ⟨RX3, "isStand", "(III)Z"⟩
def dkwX3_isStand_1 : List UInt8 := [27, 100, 29, 163, 0, 7, 4, 167, 0, 4, 3, 172]
abbrev dktX3_isStand_1 : List UInt8 := dkwX3_isStand_1 ++ []
def dkwX3_isStand_0 : List UInt8 := [27, 42, 180, 0, 80, 163, 0, 29, 28, 42, 180, 0, 83, 163, 0, 21, 27, 28, 100, 29, 163, 0, 14, 28]
abbrev dktX3_isStand_0 : List UInt8 := dkwX3_isStand_0 ++ dktX3_isStand_1
theorem dksX3_isStand_0 : cX3_isStand.data.toList.drop 0 = dktX3_isStand_0 := by decide +kernel
theorem dksX3_isStand_1 : cX3_isStand.data.toList.drop 24 = dktX3_isStand_1 := dk_seg dksX3_isStand_0 24 rfl rfl
theorem dX3_isStand_0 : decode cX3_isStand 0 = .ok (.iload_n 1, 1) := dk_27 (dk_at dksX3_isStand_0 0 rfl rfl)
theorem dX3_isStand_1 : decode cX3_isStand 1 = .ok (.aload_n 0, 1) := dk_42 (dk_at dksX3_isStand_0 1 rfl rfl)
theorem dX3_isStand_2 : decode cX3_isStand 2 = .ok (.getfield 80, 3) := dk_180 0 80 (dk_at dksX3_isStand_0 2 rfl rfl)
theorem dX3_isStand_5 : decode cX3_isStand 5 = .ok (.if_icmp .gt 29, 3) := dk_163 0 29 (dk_at dksX3_isStand_0 5 rfl rfl)
theorem dX3_isStand_8 : decode cX3_isStand 8 = .ok (.iload_n 2, 1) := dk_28 (dk_at dksX3_isStand_0 8 rfl rfl)
theorem dX3_isStand_9 : decode cX3_isStand 9 = .ok (.aload_n 0, 1) := dk_42 (dk_at dksX3_isStand_0 9 rfl rfl)
theorem dX3_isStand_10 : decode cX3_isStand 10 = .ok (.getfield 83, 3) := dk_180 0 83 (dk_at dksX3_isStand_0 10 rfl rfl)
theorem dX3_isStand_13 : decode cX3_isStand 13 = .ok (.if_icmp .gt 21, 3) := dk_163 0 21 (dk_at dksX3_isStand_0 13 rfl rfl)
theorem dX3_isStand_16 : decode cX3_isStand 16 = .ok (.iload_n 1, 1) := dk_27 (dk_at dksX3_isStand_0 16 rfl rfl)
theorem dX3_isStand_17 : decode cX3_isStand 17 = .ok (.iload_n 2, 1) := dk_28 (dk_at dksX3_isStand_0 17 rfl rfl)
theorem dX3_isStand_18 : decode cX3_isStand 18 = .ok (.isub, 1) := dk_100 (dk_at dksX3_isStand_0 18 rfl rfl)
theorem dX3_isStand_19 : decode cX3_isStand 19 = .ok (.iload_n 3, 1) := dk_29 (dk_at dksX3_isStand_0 19 rfl rfl)
theorem dX3_isStand_20 : decode cX3_isStand 20 = .ok (.if_icmp .gt 14, 3) := dk_163 0 14 (dk_at dksX3_isStand_0 20 rfl rfl)
theorem dX3_isStand_23 : decode cX3_isStand 23 = .ok (.iload_n 2, 1) := dk_28 (dk_at dksX3_isStand_0 23 rfl rfl)
theorem dX3_isStand_24 : decode cX3_isStand 24 = .ok (.iload_n 1, 1) := dk_27 (dk_at dksX3_isStand_1 0 rfl rfl)
theorem dX3_isStand_25 : decode cX3_isStand 25 = .ok (.isub, 1) := dk_100 (dk_at dksX3_isStand_1 1 rfl rfl)
theorem dX3_isStand_26 : decode cX3_isStand 26 = .ok (.iload_n 3, 1) := dk_29 (dk_at dksX3_isStand_1 2 rfl rfl)
theorem dX3_isStand_27 : decode cX3_isStand 27 = .ok (.if_icmp .gt 7, 3) := dk_163 0 7 (dk_at dksX3_isStand_1 3 rfl rfl)
theorem dX3_isStand_30 : decode cX3_isStand 30 = .ok (.iconst 1, 1) := dk_4 (dk_at dksX3_isStand_1 6 rfl rfl)
theorem dX3_isStand_31 : decode cX3_isStand 31 = .ok (.goto 4, 3) := dk_167 0 4 (dk_at dksX3_isStand_1 7 rfl rfl)
theorem dX3_isStand_34 : decode cX3_isStand 34 = .ok (.iconst 0, 1) := dk_3 (dk_at dksX3_isStand_1 10 rfl rfl)
theorem dX3_isStand_35 : decode cX3_isStand 35 = .ok (.ireturn, 1) := dk_172 (dk_at dksX3_isStand_1 11 rfl rfl)
abbrev cX3_leftsOf : ByteArray := prog_25_method_17_code
def yX3_leftsOf : MethodName := ⟨RX3, "leftsOf", "(I)I"⟩
def dkwX3_leftsOf_0 : List UInt8 := [26, 5, 160, 0, 7, 3, 167, 0, 13, 26, 6, 160, 0, 7, 5, 167, 0, 4, 4, 172]
abbrev dktX3_leftsOf_0 : List UInt8 := dkwX3_leftsOf_0 ++ []
theorem dksX3_leftsOf_0 : cX3_leftsOf.data.toList.drop 0 = dktX3_leftsOf_0 := by decide +kernel
theorem dX3_leftsOf_0 : decode cX3_leftsOf 0 = .ok (.iload_n 0, 1) := dk_26 (dk_at dksX3_leftsOf_0 0 rfl rfl)
theorem dX3_leftsOf_1 : decode cX3_leftsOf 1 = .ok (.iconst 2, 1) := dk_5 (dk_at dksX3_leftsOf_0 1 rfl rfl)
theorem dX3_leftsOf_2 : decode cX3_leftsOf 2 = .ok (.if_icmp .ne 7, 3) := dk_160 0 7 (dk_at dksX3_leftsOf_0 2 rfl rfl)
theorem dX3_leftsOf_5 : decode cX3_leftsOf 5 = .ok (.iconst 0, 1) := dk_3 (dk_at dksX3_leftsOf_0 5 rfl rfl)
theorem dX3_leftsOf_6 : decode cX3_leftsOf 6 = .ok (.goto 13, 3) := dk_167 0 13 (dk_at dksX3_leftsOf_0 6 rfl rfl)
theorem dX3_leftsOf_9 : decode cX3_leftsOf 9 = .ok (.iload_n 0, 1) := dk_26 (dk_at dksX3_leftsOf_0 9 rfl rfl)
theorem dX3_leftsOf_10 : decode cX3_leftsOf 10 = .ok (.iconst 3, 1) := dk_6 (dk_at dksX3_leftsOf_0 10 rfl rfl)
theorem dX3_leftsOf_11 : decode cX3_leftsOf 11 = .ok (.if_icmp .ne 7, 3) := dk_160 0 7 (dk_at dksX3_leftsOf_0 11 rfl rfl)
theorem dX3_leftsOf_14 : decode cX3_leftsOf 14 = .ok (.iconst 2, 1) := dk_5 (dk_at dksX3_leftsOf_0 14 rfl rfl)
theorem dX3_leftsOf_15 : decode cX3_leftsOf 15 = .ok (.goto 4, 3) := dk_167 0 4 (dk_at dksX3_leftsOf_0 15 rfl rfl)
theorem dX3_leftsOf_18 : decode cX3_leftsOf 18 = .ok (.iconst 1, 1) := dk_4 (dk_at dksX3_leftsOf_0 18 rfl rfl)
theorem dX3_leftsOf_19 : decode cX3_leftsOf 19 = .ok (.ireturn, 1) := dk_172 (dk_at dksX3_leftsOf_0 19 rfl rfl)
abbrev cX3_rightsOf : ByteArray := prog_25_method_18_code
def yX3_rightsOf : MethodName := ⟨RX3, "rightsOf", "(I)I"⟩
def dkwX3_rightsOf_0 : List UInt8 := [26, 4, 160, 0, 7, 3, 167, 0, 13, 26, 7, 160, 0, 7, 5, 167, 0, 4, 4, 172]
abbrev dktX3_rightsOf_0 : List UInt8 := dkwX3_rightsOf_0 ++ []
theorem dksX3_rightsOf_0 : cX3_rightsOf.data.toList.drop 0 = dktX3_rightsOf_0 := by decide +kernel
theorem dX3_rightsOf_0 : decode cX3_rightsOf 0 = .ok (.iload_n 0, 1) := dk_26 (dk_at dksX3_rightsOf_0 0 rfl rfl)
theorem dX3_rightsOf_1 : decode cX3_rightsOf 1 = .ok (.iconst 1, 1) := dk_4 (dk_at dksX3_rightsOf_0 1 rfl rfl)
theorem dX3_rightsOf_2 : decode cX3_rightsOf 2 = .ok (.if_icmp .ne 7, 3) := dk_160 0 7 (dk_at dksX3_rightsOf_0 2 rfl rfl)
theorem dX3_rightsOf_5 : decode cX3_rightsOf 5 = .ok (.iconst 0, 1) := dk_3 (dk_at dksX3_rightsOf_0 5 rfl rfl)
theorem dX3_rightsOf_6 : decode cX3_rightsOf 6 = .ok (.goto 13, 3) := dk_167 0 13 (dk_at dksX3_rightsOf_0 6 rfl rfl)
theorem dX3_rightsOf_9 : decode cX3_rightsOf 9 = .ok (.iload_n 0, 1) := dk_26 (dk_at dksX3_rightsOf_0 9 rfl rfl)
theorem dX3_rightsOf_10 : decode cX3_rightsOf 10 = .ok (.iconst 4, 1) := dk_7 (dk_at dksX3_rightsOf_0 10 rfl rfl)
theorem dX3_rightsOf_11 : decode cX3_rightsOf 11 = .ok (.if_icmp .ne 7, 3) := dk_160 0 7 (dk_at dksX3_rightsOf_0 11 rfl rfl)
theorem dX3_rightsOf_14 : decode cX3_rightsOf 14 = .ok (.iconst 2, 1) := dk_5 (dk_at dksX3_rightsOf_0 14 rfl rfl)
theorem dX3_rightsOf_15 : decode cX3_rightsOf 15 = .ok (.goto 4, 3) := dk_167 0 4 (dk_at dksX3_rightsOf_0 15 rfl rfl)
theorem dX3_rightsOf_18 : decode cX3_rightsOf 18 = .ok (.iconst 1, 1) := dk_4 (dk_at dksX3_rightsOf_0 18 rfl rfl)
theorem dX3_rightsOf_19 : decode cX3_rightsOf 19 = .ok (.ireturn, 1) := dk_172 (dk_at dksX3_rightsOf_0 19 rfl rfl)
abbrev cX3_costOf : ByteArray := prog_25_method_20_code
def yX3_costOf : MethodName := ⟨RX3, "costOf", "(III)I"⟩
def dkwX3_costOf_7 : List UInt8 := [164, 0, 10, 42, 180, 0, 116, 167, 0, 4, 3, 96, 172]
abbrev dktX3_costOf_7 : List UInt8 := dkwX3_costOf_7 ++ []
def dkwX3_costOf_6 : List UInt8 := [21, 4, 116, 167, 0, 5, 21, 4, 21, 5, 21, 6, 160, 0, 7, 3, 167, 0, 4, 6, 96, 27, 5]
abbrev dktX3_costOf_6 : List UInt8 := dkwX3_costOf_6 ++ dktX3_costOf_7
def dkwX3_costOf_5 : List UInt8 := [180, 0, 31, 21, 7, 46, 184, 0, 141, 128, 54, 6, 132, 7, 1, 167, 255, 215, 21, 4, 156, 0, 9]
abbrev dktX3_costOf_5 : List UInt8 := dkwX3_costOf_5 ++ dktX3_costOf_6
def dkwX3_costOf_4 : List UInt8 := [29, 27, 184, 0, 144, 96, 162, 0, 36, 21, 4, 42, 180, 0, 28, 21, 7, 46, 100, 54, 4, 21, 6, 42]
abbrev dktX3_costOf_4 : List UInt8 := dkwX3_costOf_4 ++ dktX3_costOf_5
def dkwX3_costOf_3 : List UInt8 := [42, 180, 0, 25, 21, 7, 46, 184, 0, 141, 128, 54, 5, 132, 7, 1, 167, 255, 216, 29, 54, 7, 21, 7]
abbrev dktX3_costOf_3 : List UInt8 := dkwX3_costOf_3 ++ dktX3_costOf_4
def dkwX3_costOf_2 : List UInt8 := [21, 7, 28, 27, 184, 0, 138, 96, 162, 0, 35, 21, 4, 42, 21, 7, 182, 0, 135, 96, 54, 4, 21, 5]
abbrev dktX3_costOf_2 : List UInt8 := dkwX3_costOf_2 ++ dktX3_costOf_3
def dkwX3_costOf_1 : List UInt8 := [180, 0, 113, 42, 180, 0, 28, 29, 46, 96, 172, 3, 54, 4, 3, 54, 5, 3, 54, 6, 28, 54, 7]
abbrev dktX3_costOf_1 : List UInt8 := dkwX3_costOf_1 ++ dktX3_costOf_2
def dkwX3_costOf_0 : List UInt8 := [27, 4, 160, 0, 14, 42, 180, 0, 113, 42, 28, 182, 0, 135, 96, 172, 27, 5, 160, 0, 15, 42]
abbrev dktX3_costOf_0 : List UInt8 := dkwX3_costOf_0 ++ dktX3_costOf_1
theorem dksX3_costOf_0 : cX3_costOf.data.toList.drop 0 = dktX3_costOf_0 := by decide +kernel
theorem dksX3_costOf_1 : cX3_costOf.data.toList.drop 22 = dktX3_costOf_1 := dk_seg dksX3_costOf_0 22 rfl rfl
theorem dksX3_costOf_2 : cX3_costOf.data.toList.drop 45 = dktX3_costOf_2 := dk_seg dksX3_costOf_1 23 rfl rfl
theorem dksX3_costOf_3 : cX3_costOf.data.toList.drop 69 = dktX3_costOf_3 := dk_seg dksX3_costOf_2 24 rfl rfl
theorem dksX3_costOf_4 : cX3_costOf.data.toList.drop 93 = dktX3_costOf_4 := dk_seg dksX3_costOf_3 24 rfl rfl
theorem dksX3_costOf_5 : cX3_costOf.data.toList.drop 117 = dktX3_costOf_5 := dk_seg dksX3_costOf_4 24 rfl rfl
theorem dksX3_costOf_6 : cX3_costOf.data.toList.drop 140 = dktX3_costOf_6 := dk_seg dksX3_costOf_5 23 rfl rfl
theorem dksX3_costOf_7 : cX3_costOf.data.toList.drop 163 = dktX3_costOf_7 := dk_seg dksX3_costOf_6 23 rfl rfl
theorem dX3_costOf_0 : decode cX3_costOf 0 = .ok (.iload_n 1, 1) := dk_27 (dk_at dksX3_costOf_0 0 rfl rfl)
theorem dX3_costOf_1 : decode cX3_costOf 1 = .ok (.iconst 1, 1) := dk_4 (dk_at dksX3_costOf_0 1 rfl rfl)
theorem dX3_costOf_2 : decode cX3_costOf 2 = .ok (.if_icmp .ne 14, 3) := dk_160 0 14 (dk_at dksX3_costOf_0 2 rfl rfl)
theorem dX3_costOf_5 : decode cX3_costOf 5 = .ok (.aload_n 0, 1) := dk_42 (dk_at dksX3_costOf_0 5 rfl rfl)
theorem dX3_costOf_6 : decode cX3_costOf 6 = .ok (.getfield 113, 3) := dk_180 0 113 (dk_at dksX3_costOf_0 6 rfl rfl)
theorem dX3_costOf_9 : decode cX3_costOf 9 = .ok (.aload_n 0, 1) := dk_42 (dk_at dksX3_costOf_0 9 rfl rfl)
theorem dX3_costOf_10 : decode cX3_costOf 10 = .ok (.iload_n 2, 1) := dk_28 (dk_at dksX3_costOf_0 10 rfl rfl)
theorem dX3_costOf_11 : decode cX3_costOf 11 = .ok (.invokevirtual 135, 3) := dk_182 0 135 (dk_at dksX3_costOf_0 11 rfl rfl)
theorem dX3_costOf_14 : decode cX3_costOf 14 = .ok (.iadd, 1) := dk_96 (dk_at dksX3_costOf_0 14 rfl rfl)
theorem dX3_costOf_15 : decode cX3_costOf 15 = .ok (.ireturn, 1) := dk_172 (dk_at dksX3_costOf_0 15 rfl rfl)
theorem dX3_costOf_16 : decode cX3_costOf 16 = .ok (.iload_n 1, 1) := dk_27 (dk_at dksX3_costOf_0 16 rfl rfl)
theorem dX3_costOf_17 : decode cX3_costOf 17 = .ok (.iconst 2, 1) := dk_5 (dk_at dksX3_costOf_0 17 rfl rfl)
theorem dX3_costOf_18 : decode cX3_costOf 18 = .ok (.if_icmp .ne 15, 3) := dk_160 0 15 (dk_at dksX3_costOf_0 18 rfl rfl)
theorem dX3_costOf_21 : decode cX3_costOf 21 = .ok (.aload_n 0, 1) := dk_42 (dk_at dksX3_costOf_0 21 rfl rfl)
theorem dX3_costOf_22 : decode cX3_costOf 22 = .ok (.getfield 113, 3) := dk_180 0 113 (dk_at dksX3_costOf_1 0 rfl rfl)
theorem dX3_costOf_25 : decode cX3_costOf 25 = .ok (.aload_n 0, 1) := dk_42 (dk_at dksX3_costOf_1 3 rfl rfl)
theorem dX3_costOf_26 : decode cX3_costOf 26 = .ok (.getfield 28, 3) := dk_180 0 28 (dk_at dksX3_costOf_1 4 rfl rfl)
theorem dX3_costOf_29 : decode cX3_costOf 29 = .ok (.iload_n 3, 1) := dk_29 (dk_at dksX3_costOf_1 7 rfl rfl)
theorem dX3_costOf_30 : decode cX3_costOf 30 = .ok (.iaload, 1) := dk_46 (dk_at dksX3_costOf_1 8 rfl rfl)
theorem dX3_costOf_31 : decode cX3_costOf 31 = .ok (.iadd, 1) := dk_96 (dk_at dksX3_costOf_1 9 rfl rfl)
theorem dX3_costOf_32 : decode cX3_costOf 32 = .ok (.ireturn, 1) := dk_172 (dk_at dksX3_costOf_1 10 rfl rfl)
theorem dX3_costOf_33 : decode cX3_costOf 33 = .ok (.iconst 0, 1) := dk_3 (dk_at dksX3_costOf_1 11 rfl rfl)
theorem dX3_costOf_34 : decode cX3_costOf 34 = .ok (.istore 4, 2) := dk_54 4 (dk_at dksX3_costOf_1 12 rfl rfl)
theorem dX3_costOf_36 : decode cX3_costOf 36 = .ok (.iconst 0, 1) := dk_3 (dk_at dksX3_costOf_1 14 rfl rfl)
theorem dX3_costOf_37 : decode cX3_costOf 37 = .ok (.istore 5, 2) := dk_54 5 (dk_at dksX3_costOf_1 15 rfl rfl)
theorem dX3_costOf_39 : decode cX3_costOf 39 = .ok (.iconst 0, 1) := dk_3 (dk_at dksX3_costOf_1 17 rfl rfl)
theorem dX3_costOf_40 : decode cX3_costOf 40 = .ok (.istore 6, 2) := dk_54 6 (dk_at dksX3_costOf_1 18 rfl rfl)
theorem dX3_costOf_42 : decode cX3_costOf 42 = .ok (.iload_n 2, 1) := dk_28 (dk_at dksX3_costOf_1 20 rfl rfl)
theorem dX3_costOf_43 : decode cX3_costOf 43 = .ok (.istore 7, 2) := dk_54 7 (dk_at dksX3_costOf_1 21 rfl rfl)
theorem dX3_costOf_45 : decode cX3_costOf 45 = .ok (.iload 7, 2) := dk_21 7 (dk_at dksX3_costOf_2 0 rfl rfl)
theorem dX3_costOf_47 : decode cX3_costOf 47 = .ok (.iload_n 2, 1) := dk_28 (dk_at dksX3_costOf_2 2 rfl rfl)
theorem dX3_costOf_48 : decode cX3_costOf 48 = .ok (.iload_n 1, 1) := dk_27 (dk_at dksX3_costOf_2 3 rfl rfl)
theorem dX3_costOf_49 : decode cX3_costOf 49 = .ok (.invokestatic 138, 3) := dk_184 0 138 (dk_at dksX3_costOf_2 4 rfl rfl)
theorem dX3_costOf_52 : decode cX3_costOf 52 = .ok (.iadd, 1) := dk_96 (dk_at dksX3_costOf_2 7 rfl rfl)
theorem dX3_costOf_53 : decode cX3_costOf 53 = .ok (.if_icmp .ge 35, 3) := dk_162 0 35 (dk_at dksX3_costOf_2 8 rfl rfl)
theorem dX3_costOf_56 : decode cX3_costOf 56 = .ok (.iload 4, 2) := dk_21 4 (dk_at dksX3_costOf_2 11 rfl rfl)
theorem dX3_costOf_58 : decode cX3_costOf 58 = .ok (.aload_n 0, 1) := dk_42 (dk_at dksX3_costOf_2 13 rfl rfl)
theorem dX3_costOf_59 : decode cX3_costOf 59 = .ok (.iload 7, 2) := dk_21 7 (dk_at dksX3_costOf_2 14 rfl rfl)
theorem dX3_costOf_61 : decode cX3_costOf 61 = .ok (.invokevirtual 135, 3) := dk_182 0 135 (dk_at dksX3_costOf_2 16 rfl rfl)
theorem dX3_costOf_64 : decode cX3_costOf 64 = .ok (.iadd, 1) := dk_96 (dk_at dksX3_costOf_2 19 rfl rfl)
theorem dX3_costOf_65 : decode cX3_costOf 65 = .ok (.istore 4, 2) := dk_54 4 (dk_at dksX3_costOf_2 20 rfl rfl)
theorem dX3_costOf_67 : decode cX3_costOf 67 = .ok (.iload 5, 2) := dk_21 5 (dk_at dksX3_costOf_2 22 rfl rfl)
theorem dX3_costOf_69 : decode cX3_costOf 69 = .ok (.aload_n 0, 1) := dk_42 (dk_at dksX3_costOf_3 0 rfl rfl)
theorem dX3_costOf_70 : decode cX3_costOf 70 = .ok (.getfield 25, 3) := dk_180 0 25 (dk_at dksX3_costOf_3 1 rfl rfl)
theorem dX3_costOf_73 : decode cX3_costOf 73 = .ok (.iload 7, 2) := dk_21 7 (dk_at dksX3_costOf_3 4 rfl rfl)
theorem dX3_costOf_75 : decode cX3_costOf 75 = .ok (.iaload, 1) := dk_46 (dk_at dksX3_costOf_3 6 rfl rfl)
theorem dX3_costOf_76 : decode cX3_costOf 76 = .ok (.invokestatic 141, 3) := dk_184 0 141 (dk_at dksX3_costOf_3 7 rfl rfl)
theorem dX3_costOf_79 : decode cX3_costOf 79 = .ok (.ior, 1) := dk_128 (dk_at dksX3_costOf_3 10 rfl rfl)
theorem dX3_costOf_80 : decode cX3_costOf 80 = .ok (.istore 5, 2) := dk_54 5 (dk_at dksX3_costOf_3 11 rfl rfl)
theorem dX3_costOf_82 : decode cX3_costOf 82 = .ok (.iinc 7 1, 3) := dk_132 7 1 (dk_at dksX3_costOf_3 13 rfl rfl)
theorem dX3_costOf_85 : decode cX3_costOf 85 = .ok (.goto (-40), 3) := dk_167 255 216 (dk_at dksX3_costOf_3 16 rfl rfl)
theorem dX3_costOf_88 : decode cX3_costOf 88 = .ok (.iload_n 3, 1) := dk_29 (dk_at dksX3_costOf_3 19 rfl rfl)
theorem dX3_costOf_89 : decode cX3_costOf 89 = .ok (.istore 7, 2) := dk_54 7 (dk_at dksX3_costOf_3 20 rfl rfl)
theorem dX3_costOf_91 : decode cX3_costOf 91 = .ok (.iload 7, 2) := dk_21 7 (dk_at dksX3_costOf_3 22 rfl rfl)
theorem dX3_costOf_93 : decode cX3_costOf 93 = .ok (.iload_n 3, 1) := dk_29 (dk_at dksX3_costOf_4 0 rfl rfl)
theorem dX3_costOf_94 : decode cX3_costOf 94 = .ok (.iload_n 1, 1) := dk_27 (dk_at dksX3_costOf_4 1 rfl rfl)
theorem dX3_costOf_95 : decode cX3_costOf 95 = .ok (.invokestatic 144, 3) := dk_184 0 144 (dk_at dksX3_costOf_4 2 rfl rfl)
theorem dX3_costOf_98 : decode cX3_costOf 98 = .ok (.iadd, 1) := dk_96 (dk_at dksX3_costOf_4 5 rfl rfl)
theorem dX3_costOf_99 : decode cX3_costOf 99 = .ok (.if_icmp .ge 36, 3) := dk_162 0 36 (dk_at dksX3_costOf_4 6 rfl rfl)
theorem dX3_costOf_102 : decode cX3_costOf 102 = .ok (.iload 4, 2) := dk_21 4 (dk_at dksX3_costOf_4 9 rfl rfl)
theorem dX3_costOf_104 : decode cX3_costOf 104 = .ok (.aload_n 0, 1) := dk_42 (dk_at dksX3_costOf_4 11 rfl rfl)
theorem dX3_costOf_105 : decode cX3_costOf 105 = .ok (.getfield 28, 3) := dk_180 0 28 (dk_at dksX3_costOf_4 12 rfl rfl)
theorem dX3_costOf_108 : decode cX3_costOf 108 = .ok (.iload 7, 2) := dk_21 7 (dk_at dksX3_costOf_4 15 rfl rfl)
theorem dX3_costOf_110 : decode cX3_costOf 110 = .ok (.iaload, 1) := dk_46 (dk_at dksX3_costOf_4 17 rfl rfl)
theorem dX3_costOf_111 : decode cX3_costOf 111 = .ok (.isub, 1) := dk_100 (dk_at dksX3_costOf_4 18 rfl rfl)
theorem dX3_costOf_112 : decode cX3_costOf 112 = .ok (.istore 4, 2) := dk_54 4 (dk_at dksX3_costOf_4 19 rfl rfl)
theorem dX3_costOf_114 : decode cX3_costOf 114 = .ok (.iload 6, 2) := dk_21 6 (dk_at dksX3_costOf_4 21 rfl rfl)
theorem dX3_costOf_116 : decode cX3_costOf 116 = .ok (.aload_n 0, 1) := dk_42 (dk_at dksX3_costOf_4 23 rfl rfl)
theorem dX3_costOf_117 : decode cX3_costOf 117 = .ok (.getfield 31, 3) := dk_180 0 31 (dk_at dksX3_costOf_5 0 rfl rfl)
theorem dX3_costOf_120 : decode cX3_costOf 120 = .ok (.iload 7, 2) := dk_21 7 (dk_at dksX3_costOf_5 3 rfl rfl)
theorem dX3_costOf_122 : decode cX3_costOf 122 = .ok (.iaload, 1) := dk_46 (dk_at dksX3_costOf_5 5 rfl rfl)
theorem dX3_costOf_123 : decode cX3_costOf 123 = .ok (.invokestatic 141, 3) := dk_184 0 141 (dk_at dksX3_costOf_5 6 rfl rfl)
theorem dX3_costOf_126 : decode cX3_costOf 126 = .ok (.ior, 1) := dk_128 (dk_at dksX3_costOf_5 9 rfl rfl)
theorem dX3_costOf_127 : decode cX3_costOf 127 = .ok (.istore 6, 2) := dk_54 6 (dk_at dksX3_costOf_5 10 rfl rfl)
theorem dX3_costOf_129 : decode cX3_costOf 129 = .ok (.iinc 7 1, 3) := dk_132 7 1 (dk_at dksX3_costOf_5 12 rfl rfl)
theorem dX3_costOf_132 : decode cX3_costOf 132 = .ok (.goto (-41), 3) := dk_167 255 215 (dk_at dksX3_costOf_5 15 rfl rfl)
theorem dX3_costOf_135 : decode cX3_costOf 135 = .ok (.iload 4, 2) := dk_21 4 (dk_at dksX3_costOf_5 18 rfl rfl)
theorem dX3_costOf_137 : decode cX3_costOf 137 = .ok (.ifCond .ge 9, 3) := dk_156 0 9 (dk_at dksX3_costOf_5 20 rfl rfl)
theorem dX3_costOf_140 : decode cX3_costOf 140 = .ok (.iload 4, 2) := dk_21 4 (dk_at dksX3_costOf_6 0 rfl rfl)
theorem dX3_costOf_142 : decode cX3_costOf 142 = .ok (.ineg, 1) := dk_116 (dk_at dksX3_costOf_6 2 rfl rfl)
theorem dX3_costOf_143 : decode cX3_costOf 143 = .ok (.goto 5, 3) := dk_167 0 5 (dk_at dksX3_costOf_6 3 rfl rfl)
theorem dX3_costOf_146 : decode cX3_costOf 146 = .ok (.iload 4, 2) := dk_21 4 (dk_at dksX3_costOf_6 6 rfl rfl)
theorem dX3_costOf_148 : decode cX3_costOf 148 = .ok (.iload 5, 2) := dk_21 5 (dk_at dksX3_costOf_6 8 rfl rfl)
theorem dX3_costOf_150 : decode cX3_costOf 150 = .ok (.iload 6, 2) := dk_21 6 (dk_at dksX3_costOf_6 10 rfl rfl)
theorem dX3_costOf_152 : decode cX3_costOf 152 = .ok (.if_icmp .ne 7, 3) := dk_160 0 7 (dk_at dksX3_costOf_6 12 rfl rfl)
theorem dX3_costOf_155 : decode cX3_costOf 155 = .ok (.iconst 0, 1) := dk_3 (dk_at dksX3_costOf_6 15 rfl rfl)
theorem dX3_costOf_156 : decode cX3_costOf 156 = .ok (.goto 4, 3) := dk_167 0 4 (dk_at dksX3_costOf_6 16 rfl rfl)
theorem dX3_costOf_159 : decode cX3_costOf 159 = .ok (.iconst 3, 1) := dk_6 (dk_at dksX3_costOf_6 19 rfl rfl)
theorem dX3_costOf_160 : decode cX3_costOf 160 = .ok (.iadd, 1) := dk_96 (dk_at dksX3_costOf_6 20 rfl rfl)
theorem dX3_costOf_161 : decode cX3_costOf 161 = .ok (.iload_n 1, 1) := dk_27 (dk_at dksX3_costOf_6 21 rfl rfl)
theorem dX3_costOf_162 : decode cX3_costOf 162 = .ok (.iconst 2, 1) := dk_5 (dk_at dksX3_costOf_6 22 rfl rfl)
theorem dX3_costOf_163 : decode cX3_costOf 163 = .ok (.if_icmp .le 10, 3) := dk_164 0 10 (dk_at dksX3_costOf_7 0 rfl rfl)
theorem dX3_costOf_166 : decode cX3_costOf 166 = .ok (.aload_n 0, 1) := dk_42 (dk_at dksX3_costOf_7 3 rfl rfl)
theorem dX3_costOf_167 : decode cX3_costOf 167 = .ok (.getfield 116, 3) := dk_180 0 116 (dk_at dksX3_costOf_7 4 rfl rfl)
theorem dX3_costOf_170 : decode cX3_costOf 170 = .ok (.goto 4, 3) := dk_167 0 4 (dk_at dksX3_costOf_7 7 rfl rfl)
theorem dX3_costOf_173 : decode cX3_costOf 173 = .ok (.iconst 0, 1) := dk_3 (dk_at dksX3_costOf_7 10 rfl rfl)
theorem dX3_costOf_174 : decode cX3_costOf 174 = .ok (.iadd, 1) := dk_96 (dk_at dksX3_costOf_7 11 rfl rfl)
theorem dX3_costOf_175 : decode cX3_costOf 175 = .ok (.ireturn, 1) := dk_172 (dk_at dksX3_costOf_7 12 rfl rfl)
abbrev cX3_anchorSet : ByteArray := prog_25_method_19_code
def yX3_anchorSet : MethodName := ⟨RX3, "anchorSet", "(I)I"⟩
def dkwX3_anchorSet_0 : List UInt8 := [26, 7, 160, 0, 7, 3, 167, 0, 6, 4, 26, 120, 172]
abbrev dktX3_anchorSet_0 : List UInt8 := dkwX3_anchorSet_0 ++ []
theorem dksX3_anchorSet_0 : cX3_anchorSet.data.toList.drop 0 = dktX3_anchorSet_0 := by decide +kernel
theorem dX3_anchorSet_0 : decode cX3_anchorSet 0 = .ok (.iload_n 0, 1) := dk_26 (dk_at dksX3_anchorSet_0 0 rfl rfl)
theorem dX3_anchorSet_1 : decode cX3_anchorSet 1 = .ok (.iconst 4, 1) := dk_7 (dk_at dksX3_anchorSet_0 1 rfl rfl)
theorem dX3_anchorSet_2 : decode cX3_anchorSet 2 = .ok (.if_icmp .ne 7, 3) := dk_160 0 7 (dk_at dksX3_anchorSet_0 2 rfl rfl)
theorem dX3_anchorSet_5 : decode cX3_anchorSet 5 = .ok (.iconst 0, 1) := dk_3 (dk_at dksX3_anchorSet_0 5 rfl rfl)
theorem dX3_anchorSet_6 : decode cX3_anchorSet 6 = .ok (.goto 6, 3) := dk_167 0 6 (dk_at dksX3_anchorSet_0 6 rfl rfl)
theorem dX3_anchorSet_9 : decode cX3_anchorSet 9 = .ok (.iconst 1, 1) := dk_4 (dk_at dksX3_anchorSet_0 9 rfl rfl)
theorem dX3_anchorSet_10 : decode cX3_anchorSet 10 = .ok (.iload_n 0, 1) := dk_26 (dk_at dksX3_anchorSet_0 10 rfl rfl)
theorem dX3_anchorSet_11 : decode cX3_anchorSet 11 = .ok (.ishl, 1) := dk_120 (dk_at dksX3_anchorSet_0 11 rfl rfl)
theorem dX3_anchorSet_12 : decode cX3_anchorSet 12 = .ok (.ireturn, 1) := dk_172 (dk_at dksX3_anchorSet_0 12 rfl rfl)
abbrev cX3_comes : ByteArray := prog_25_method_22_code
def yX3_comes : MethodName := ⟨RX3, "comes", "(III)V"⟩
def dkwX3_comes_3 : List UInt8 := [28, 79, 167, 0, 20, 28, 42, 180, 0, 46, 27, 46, 162, 0, 10, 42, 180, 0, 46, 27, 28, 79, 177]
abbrev dktX3_comes_3 : List UInt8 := dkwX3_comes_3 ++ []
def dkwX3_comes_2 : List UInt8 := [42, 180, 0, 43, 27, 46, 160, 0, 23, 42, 180, 0, 49, 27, 92, 46, 29, 96, 79, 42, 180, 0, 46, 27]
abbrev dktX3_comes_2 : List UInt8 := dkwX3_comes_2 ++ dktX3_comes_3
def dkwX3_comes_1 : List UInt8 := [180, 0, 43, 27, 46, 79, 42, 180, 0, 43, 27, 28, 79, 42, 180, 0, 49, 27, 29, 79, 167, 0, 50, 28]
abbrev dktX3_comes_1 : List UInt8 := dkwX3_comes_1 ++ dktX3_comes_2
def dkwX3_comes_0 : List UInt8 := [28, 18, 147, 161, 0, 4, 177, 28, 42, 180, 0, 43, 27, 46, 162, 0, 32, 42, 180, 0, 46, 27, 42]
abbrev dktX3_comes_0 : List UInt8 := dkwX3_comes_0 ++ dktX3_comes_1
theorem dksX3_comes_0 : cX3_comes.data.toList.drop 0 = dktX3_comes_0 := by decide +kernel
theorem dksX3_comes_1 : cX3_comes.data.toList.drop 23 = dktX3_comes_1 := dk_seg dksX3_comes_0 23 rfl rfl
theorem dksX3_comes_2 : cX3_comes.data.toList.drop 47 = dktX3_comes_2 := dk_seg dksX3_comes_1 24 rfl rfl
theorem dksX3_comes_3 : cX3_comes.data.toList.drop 71 = dktX3_comes_3 := dk_seg dksX3_comes_2 24 rfl rfl
theorem dX3_comes_0 : decode cX3_comes 0 = .ok (.iload_n 2, 1) := dk_28 (dk_at dksX3_comes_0 0 rfl rfl)
theorem dX3_comes_1 : decode cX3_comes 1 = .ok (.ldc 147, 2) := dk_18 147 (dk_at dksX3_comes_0 1 rfl rfl)
theorem dX3_comes_3 : decode cX3_comes 3 = .ok (.if_icmp .lt 4, 3) := dk_161 0 4 (dk_at dksX3_comes_0 3 rfl rfl)
theorem dX3_comes_6 : decode cX3_comes 6 = .ok (.return_, 1) := dk_177 (dk_at dksX3_comes_0 6 rfl rfl)
theorem dX3_comes_7 : decode cX3_comes 7 = .ok (.iload_n 2, 1) := dk_28 (dk_at dksX3_comes_0 7 rfl rfl)
theorem dX3_comes_8 : decode cX3_comes 8 = .ok (.aload_n 0, 1) := dk_42 (dk_at dksX3_comes_0 8 rfl rfl)
theorem dX3_comes_9 : decode cX3_comes 9 = .ok (.getfield 43, 3) := dk_180 0 43 (dk_at dksX3_comes_0 9 rfl rfl)
theorem dX3_comes_12 : decode cX3_comes 12 = .ok (.iload_n 1, 1) := dk_27 (dk_at dksX3_comes_0 12 rfl rfl)
theorem dX3_comes_13 : decode cX3_comes 13 = .ok (.iaload, 1) := dk_46 (dk_at dksX3_comes_0 13 rfl rfl)
theorem dX3_comes_14 : decode cX3_comes 14 = .ok (.if_icmp .ge 32, 3) := dk_162 0 32 (dk_at dksX3_comes_0 14 rfl rfl)
theorem dX3_comes_17 : decode cX3_comes 17 = .ok (.aload_n 0, 1) := dk_42 (dk_at dksX3_comes_0 17 rfl rfl)
theorem dX3_comes_18 : decode cX3_comes 18 = .ok (.getfield 46, 3) := dk_180 0 46 (dk_at dksX3_comes_0 18 rfl rfl)
theorem dX3_comes_21 : decode cX3_comes 21 = .ok (.iload_n 1, 1) := dk_27 (dk_at dksX3_comes_0 21 rfl rfl)
theorem dX3_comes_22 : decode cX3_comes 22 = .ok (.aload_n 0, 1) := dk_42 (dk_at dksX3_comes_0 22 rfl rfl)
theorem dX3_comes_23 : decode cX3_comes 23 = .ok (.getfield 43, 3) := dk_180 0 43 (dk_at dksX3_comes_1 0 rfl rfl)
theorem dX3_comes_26 : decode cX3_comes 26 = .ok (.iload_n 1, 1) := dk_27 (dk_at dksX3_comes_1 3 rfl rfl)
theorem dX3_comes_27 : decode cX3_comes 27 = .ok (.iaload, 1) := dk_46 (dk_at dksX3_comes_1 4 rfl rfl)
theorem dX3_comes_28 : decode cX3_comes 28 = .ok (.iastore, 1) := dk_79 (dk_at dksX3_comes_1 5 rfl rfl)
theorem dX3_comes_29 : decode cX3_comes 29 = .ok (.aload_n 0, 1) := dk_42 (dk_at dksX3_comes_1 6 rfl rfl)
theorem dX3_comes_30 : decode cX3_comes 30 = .ok (.getfield 43, 3) := dk_180 0 43 (dk_at dksX3_comes_1 7 rfl rfl)
theorem dX3_comes_33 : decode cX3_comes 33 = .ok (.iload_n 1, 1) := dk_27 (dk_at dksX3_comes_1 10 rfl rfl)
theorem dX3_comes_34 : decode cX3_comes 34 = .ok (.iload_n 2, 1) := dk_28 (dk_at dksX3_comes_1 11 rfl rfl)
theorem dX3_comes_35 : decode cX3_comes 35 = .ok (.iastore, 1) := dk_79 (dk_at dksX3_comes_1 12 rfl rfl)
theorem dX3_comes_36 : decode cX3_comes 36 = .ok (.aload_n 0, 1) := dk_42 (dk_at dksX3_comes_1 13 rfl rfl)
theorem dX3_comes_37 : decode cX3_comes 37 = .ok (.getfield 49, 3) := dk_180 0 49 (dk_at dksX3_comes_1 14 rfl rfl)
theorem dX3_comes_40 : decode cX3_comes 40 = .ok (.iload_n 1, 1) := dk_27 (dk_at dksX3_comes_1 17 rfl rfl)
theorem dX3_comes_41 : decode cX3_comes 41 = .ok (.iload_n 3, 1) := dk_29 (dk_at dksX3_comes_1 18 rfl rfl)
theorem dX3_comes_42 : decode cX3_comes 42 = .ok (.iastore, 1) := dk_79 (dk_at dksX3_comes_1 19 rfl rfl)
theorem dX3_comes_43 : decode cX3_comes 43 = .ok (.goto 50, 3) := dk_167 0 50 (dk_at dksX3_comes_1 20 rfl rfl)
theorem dX3_comes_46 : decode cX3_comes 46 = .ok (.iload_n 2, 1) := dk_28 (dk_at dksX3_comes_1 23 rfl rfl)
theorem dX3_comes_47 : decode cX3_comes 47 = .ok (.aload_n 0, 1) := dk_42 (dk_at dksX3_comes_2 0 rfl rfl)
theorem dX3_comes_48 : decode cX3_comes 48 = .ok (.getfield 43, 3) := dk_180 0 43 (dk_at dksX3_comes_2 1 rfl rfl)
theorem dX3_comes_51 : decode cX3_comes 51 = .ok (.iload_n 1, 1) := dk_27 (dk_at dksX3_comes_2 4 rfl rfl)
theorem dX3_comes_52 : decode cX3_comes 52 = .ok (.iaload, 1) := dk_46 (dk_at dksX3_comes_2 5 rfl rfl)
theorem dX3_comes_53 : decode cX3_comes 53 = .ok (.if_icmp .ne 23, 3) := dk_160 0 23 (dk_at dksX3_comes_2 6 rfl rfl)
theorem dX3_comes_56 : decode cX3_comes 56 = .ok (.aload_n 0, 1) := dk_42 (dk_at dksX3_comes_2 9 rfl rfl)
theorem dX3_comes_57 : decode cX3_comes 57 = .ok (.getfield 49, 3) := dk_180 0 49 (dk_at dksX3_comes_2 10 rfl rfl)
theorem dX3_comes_60 : decode cX3_comes 60 = .ok (.iload_n 1, 1) := dk_27 (dk_at dksX3_comes_2 13 rfl rfl)
theorem dX3_comes_61 : decode cX3_comes 61 = .ok (.dup2, 1) := dk_92 (dk_at dksX3_comes_2 14 rfl rfl)
theorem dX3_comes_62 : decode cX3_comes 62 = .ok (.iaload, 1) := dk_46 (dk_at dksX3_comes_2 15 rfl rfl)
theorem dX3_comes_63 : decode cX3_comes 63 = .ok (.iload_n 3, 1) := dk_29 (dk_at dksX3_comes_2 16 rfl rfl)
theorem dX3_comes_64 : decode cX3_comes 64 = .ok (.iadd, 1) := dk_96 (dk_at dksX3_comes_2 17 rfl rfl)
theorem dX3_comes_65 : decode cX3_comes 65 = .ok (.iastore, 1) := dk_79 (dk_at dksX3_comes_2 18 rfl rfl)
theorem dX3_comes_66 : decode cX3_comes 66 = .ok (.aload_n 0, 1) := dk_42 (dk_at dksX3_comes_2 19 rfl rfl)
theorem dX3_comes_67 : decode cX3_comes 67 = .ok (.getfield 46, 3) := dk_180 0 46 (dk_at dksX3_comes_2 20 rfl rfl)
theorem dX3_comes_70 : decode cX3_comes 70 = .ok (.iload_n 1, 1) := dk_27 (dk_at dksX3_comes_2 23 rfl rfl)
theorem dX3_comes_71 : decode cX3_comes 71 = .ok (.iload_n 2, 1) := dk_28 (dk_at dksX3_comes_3 0 rfl rfl)
theorem dX3_comes_72 : decode cX3_comes 72 = .ok (.iastore, 1) := dk_79 (dk_at dksX3_comes_3 1 rfl rfl)
theorem dX3_comes_73 : decode cX3_comes 73 = .ok (.goto 20, 3) := dk_167 0 20 (dk_at dksX3_comes_3 2 rfl rfl)
theorem dX3_comes_76 : decode cX3_comes 76 = .ok (.iload_n 2, 1) := dk_28 (dk_at dksX3_comes_3 5 rfl rfl)
theorem dX3_comes_77 : decode cX3_comes 77 = .ok (.aload_n 0, 1) := dk_42 (dk_at dksX3_comes_3 6 rfl rfl)
theorem dX3_comes_78 : decode cX3_comes 78 = .ok (.getfield 46, 3) := dk_180 0 46 (dk_at dksX3_comes_3 7 rfl rfl)
theorem dX3_comes_81 : decode cX3_comes 81 = .ok (.iload_n 1, 1) := dk_27 (dk_at dksX3_comes_3 10 rfl rfl)
theorem dX3_comes_82 : decode cX3_comes 82 = .ok (.iaload, 1) := dk_46 (dk_at dksX3_comes_3 11 rfl rfl)
theorem dX3_comes_83 : decode cX3_comes 83 = .ok (.if_icmp .ge 10, 3) := dk_162 0 10 (dk_at dksX3_comes_3 12 rfl rfl)
theorem dX3_comes_86 : decode cX3_comes 86 = .ok (.aload_n 0, 1) := dk_42 (dk_at dksX3_comes_3 15 rfl rfl)
theorem dX3_comes_87 : decode cX3_comes 87 = .ok (.getfield 46, 3) := dk_180 0 46 (dk_at dksX3_comes_3 16 rfl rfl)
theorem dX3_comes_90 : decode cX3_comes 90 = .ok (.iload_n 1, 1) := dk_27 (dk_at dksX3_comes_3 19 rfl rfl)
theorem dX3_comes_91 : decode cX3_comes 91 = .ok (.iload_n 2, 1) := dk_28 (dk_at dksX3_comes_3 20 rfl rfl)
theorem dX3_comes_92 : decode cX3_comes 92 = .ok (.iastore, 1) := dk_79 (dk_at dksX3_comes_3 21 rfl rfl)
theorem dX3_comes_93 : decode cX3_comes 93 = .ok (.return_, 1) := dk_177 (dk_at dksX3_comes_3 22 rfl rfl)
abbrev cX3_isOnBest : ByteArray := prog_25_method_26_code
def yX3_isOnBest : MethodName := ⟨RX3, "isOnBest", "(III)Z"⟩
def dkwX3_isOnBest_3 : List UInt8 := [3, 172]
abbrev dktX3_isOnBest_3 : List UInt8 := dkwX3_isOnBest_3 ++ []
def dkwX3_isOnBest_2 : List UInt8 := [104, 21, 5, 96, 46, 96, 42, 180, 0, 43, 16, 8, 28, 104, 29, 96, 46, 160, 0, 7, 4, 167, 0, 4]
abbrev dktX3_isOnBest_2 : List UInt8 := dkwX3_isOnBest_2 ++ dktX3_isOnBest_3
def dkwX3_isOnBest_1 : List UInt8 := [180, 0, 119, 182, 0, 148, 153, 0, 42, 42, 27, 28, 29, 182, 0, 151, 42, 180, 0, 43, 16, 8, 21, 4]
abbrev dktX3_isOnBest_1 : List UInt8 := dkwX3_isOnBest_1 ++ dktX3_isOnBest_2
def dkwX3_isOnBest_0 : List UInt8 := [28, 27, 184, 0, 138, 96, 54, 4, 29, 27, 184, 0, 144, 96, 54, 5, 42, 21, 4, 21, 5, 42]
abbrev dktX3_isOnBest_0 : List UInt8 := dkwX3_isOnBest_0 ++ dktX3_isOnBest_1
theorem dksX3_isOnBest_0 : cX3_isOnBest.data.toList.drop 0 = dktX3_isOnBest_0 := by decide +kernel
theorem dksX3_isOnBest_1 : cX3_isOnBest.data.toList.drop 22 = dktX3_isOnBest_1 := dk_seg dksX3_isOnBest_0 22 rfl rfl
theorem dksX3_isOnBest_2 : cX3_isOnBest.data.toList.drop 46 = dktX3_isOnBest_2 := dk_seg dksX3_isOnBest_1 24 rfl rfl
theorem dksX3_isOnBest_3 : cX3_isOnBest.data.toList.drop 70 = dktX3_isOnBest_3 := dk_seg dksX3_isOnBest_2 24 rfl rfl
theorem dX3_isOnBest_0 : decode cX3_isOnBest 0 = .ok (.iload_n 2, 1) := dk_28 (dk_at dksX3_isOnBest_0 0 rfl rfl)
theorem dX3_isOnBest_1 : decode cX3_isOnBest 1 = .ok (.iload_n 1, 1) := dk_27 (dk_at dksX3_isOnBest_0 1 rfl rfl)
theorem dX3_isOnBest_2 : decode cX3_isOnBest 2 = .ok (.invokestatic 138, 3) := dk_184 0 138 (dk_at dksX3_isOnBest_0 2 rfl rfl)
theorem dX3_isOnBest_5 : decode cX3_isOnBest 5 = .ok (.iadd, 1) := dk_96 (dk_at dksX3_isOnBest_0 5 rfl rfl)
theorem dX3_isOnBest_6 : decode cX3_isOnBest 6 = .ok (.istore 4, 2) := dk_54 4 (dk_at dksX3_isOnBest_0 6 rfl rfl)
theorem dX3_isOnBest_8 : decode cX3_isOnBest 8 = .ok (.iload_n 3, 1) := dk_29 (dk_at dksX3_isOnBest_0 8 rfl rfl)
theorem dX3_isOnBest_9 : decode cX3_isOnBest 9 = .ok (.iload_n 1, 1) := dk_27 (dk_at dksX3_isOnBest_0 9 rfl rfl)
theorem dX3_isOnBest_10 : decode cX3_isOnBest 10 = .ok (.invokestatic 144, 3) := dk_184 0 144 (dk_at dksX3_isOnBest_0 10 rfl rfl)
theorem dX3_isOnBest_13 : decode cX3_isOnBest 13 = .ok (.iadd, 1) := dk_96 (dk_at dksX3_isOnBest_0 13 rfl rfl)
theorem dX3_isOnBest_14 : decode cX3_isOnBest 14 = .ok (.istore 5, 2) := dk_54 5 (dk_at dksX3_isOnBest_0 14 rfl rfl)
theorem dX3_isOnBest_16 : decode cX3_isOnBest 16 = .ok (.aload_n 0, 1) := dk_42 (dk_at dksX3_isOnBest_0 16 rfl rfl)
theorem dX3_isOnBest_17 : decode cX3_isOnBest 17 = .ok (.iload 4, 2) := dk_21 4 (dk_at dksX3_isOnBest_0 17 rfl rfl)
theorem dX3_isOnBest_19 : decode cX3_isOnBest 19 = .ok (.iload 5, 2) := dk_21 5 (dk_at dksX3_isOnBest_0 19 rfl rfl)
theorem dX3_isOnBest_21 : decode cX3_isOnBest 21 = .ok (.aload_n 0, 1) := dk_42 (dk_at dksX3_isOnBest_0 21 rfl rfl)
theorem dX3_isOnBest_22 : decode cX3_isOnBest 22 = .ok (.getfield 119, 3) := dk_180 0 119 (dk_at dksX3_isOnBest_1 0 rfl rfl)
theorem dX3_isOnBest_25 : decode cX3_isOnBest 25 = .ok (.invokevirtual 148, 3) := dk_182 0 148 (dk_at dksX3_isOnBest_1 3 rfl rfl)
theorem dX3_isOnBest_28 : decode cX3_isOnBest 28 = .ok (.ifCond .eq 42, 3) := dk_153 0 42 (dk_at dksX3_isOnBest_1 6 rfl rfl)
theorem dX3_isOnBest_31 : decode cX3_isOnBest 31 = .ok (.aload_n 0, 1) := dk_42 (dk_at dksX3_isOnBest_1 9 rfl rfl)
theorem dX3_isOnBest_32 : decode cX3_isOnBest 32 = .ok (.iload_n 1, 1) := dk_27 (dk_at dksX3_isOnBest_1 10 rfl rfl)
theorem dX3_isOnBest_33 : decode cX3_isOnBest 33 = .ok (.iload_n 2, 1) := dk_28 (dk_at dksX3_isOnBest_1 11 rfl rfl)
theorem dX3_isOnBest_34 : decode cX3_isOnBest 34 = .ok (.iload_n 3, 1) := dk_29 (dk_at dksX3_isOnBest_1 12 rfl rfl)
theorem dX3_isOnBest_35 : decode cX3_isOnBest 35 = .ok (.invokevirtual 151, 3) := dk_182 0 151 (dk_at dksX3_isOnBest_1 13 rfl rfl)
theorem dX3_isOnBest_38 : decode cX3_isOnBest 38 = .ok (.aload_n 0, 1) := dk_42 (dk_at dksX3_isOnBest_1 16 rfl rfl)
theorem dX3_isOnBest_39 : decode cX3_isOnBest 39 = .ok (.getfield 43, 3) := dk_180 0 43 (dk_at dksX3_isOnBest_1 17 rfl rfl)
theorem dX3_isOnBest_42 : decode cX3_isOnBest 42 = .ok (.bipush 8, 2) := dk_16 8 (dk_at dksX3_isOnBest_1 20 rfl rfl)
theorem dX3_isOnBest_44 : decode cX3_isOnBest 44 = .ok (.iload 4, 2) := dk_21 4 (dk_at dksX3_isOnBest_1 22 rfl rfl)
theorem dX3_isOnBest_46 : decode cX3_isOnBest 46 = .ok (.imul, 1) := dk_104 (dk_at dksX3_isOnBest_2 0 rfl rfl)
theorem dX3_isOnBest_47 : decode cX3_isOnBest 47 = .ok (.iload 5, 2) := dk_21 5 (dk_at dksX3_isOnBest_2 1 rfl rfl)
theorem dX3_isOnBest_49 : decode cX3_isOnBest 49 = .ok (.iadd, 1) := dk_96 (dk_at dksX3_isOnBest_2 3 rfl rfl)
theorem dX3_isOnBest_50 : decode cX3_isOnBest 50 = .ok (.iaload, 1) := dk_46 (dk_at dksX3_isOnBest_2 4 rfl rfl)
theorem dX3_isOnBest_51 : decode cX3_isOnBest 51 = .ok (.iadd, 1) := dk_96 (dk_at dksX3_isOnBest_2 5 rfl rfl)
theorem dX3_isOnBest_52 : decode cX3_isOnBest 52 = .ok (.aload_n 0, 1) := dk_42 (dk_at dksX3_isOnBest_2 6 rfl rfl)
theorem dX3_isOnBest_53 : decode cX3_isOnBest 53 = .ok (.getfield 43, 3) := dk_180 0 43 (dk_at dksX3_isOnBest_2 7 rfl rfl)
theorem dX3_isOnBest_56 : decode cX3_isOnBest 56 = .ok (.bipush 8, 2) := dk_16 8 (dk_at dksX3_isOnBest_2 10 rfl rfl)
theorem dX3_isOnBest_58 : decode cX3_isOnBest 58 = .ok (.iload_n 2, 1) := dk_28 (dk_at dksX3_isOnBest_2 12 rfl rfl)
theorem dX3_isOnBest_59 : decode cX3_isOnBest 59 = .ok (.imul, 1) := dk_104 (dk_at dksX3_isOnBest_2 13 rfl rfl)
theorem dX3_isOnBest_60 : decode cX3_isOnBest 60 = .ok (.iload_n 3, 1) := dk_29 (dk_at dksX3_isOnBest_2 14 rfl rfl)
theorem dX3_isOnBest_61 : decode cX3_isOnBest 61 = .ok (.iadd, 1) := dk_96 (dk_at dksX3_isOnBest_2 15 rfl rfl)
theorem dX3_isOnBest_62 : decode cX3_isOnBest 62 = .ok (.iaload, 1) := dk_46 (dk_at dksX3_isOnBest_2 16 rfl rfl)
theorem dX3_isOnBest_63 : decode cX3_isOnBest 63 = .ok (.if_icmp .ne 7, 3) := dk_160 0 7 (dk_at dksX3_isOnBest_2 17 rfl rfl)
theorem dX3_isOnBest_66 : decode cX3_isOnBest 66 = .ok (.iconst 1, 1) := dk_4 (dk_at dksX3_isOnBest_2 20 rfl rfl)
theorem dX3_isOnBest_67 : decode cX3_isOnBest 67 = .ok (.goto 4, 3) := dk_167 0 4 (dk_at dksX3_isOnBest_2 21 rfl rfl)
theorem dX3_isOnBest_70 : decode cX3_isOnBest 70 = .ok (.iconst 0, 1) := dk_3 (dk_at dksX3_isOnBest_3 0 rfl rfl)
theorem dX3_isOnBest_71 : decode cX3_isOnBest 71 = .ok (.ireturn, 1) := dk_172 (dk_at dksX3_isOnBest_3 1 rfl rfl)
abbrev cX3_pairedWith : ByteArray := prog_25_method_27_code
def yX3_pairedWith : MethodName := ⟨RX3, "pairedWith", "(II)I"⟩
def dkwX3_pairedWith_6 : List UInt8 := [120, 167, 0, 4, 3, 128, 62, 132, 4, 1, 167, 255, 109, 29, 172]
abbrev dktX3_pairedWith_6 : List UInt8 := dkwX3_pairedWith_6 ++ []
def dkwX3_pairedWith_5 : List UInt8 := [29, 28, 21, 5, 161, 0, 24, 28, 21, 5, 21, 6, 96, 162, 0, 15, 4, 21, 8, 120, 4, 100, 21, 7]
abbrev dktX3_pairedWith_5 : List UInt8 := dkwX3_pairedWith_5 ++ dktX3_pairedWith_6
def dkwX3_pairedWith_4 : List UInt8 := [180, 0, 52, 21, 4, 46, 184, 0, 144, 167, 0, 13, 42, 180, 0, 52, 21, 4, 46, 184, 0, 138, 54, 8]
abbrev dktX3_pairedWith_4 : List UInt8 := dkwX3_pairedWith_4 ++ dktX3_pairedWith_5
def dkwX3_pairedWith_3 : List UInt8 := [180, 0, 58, 21, 4, 46, 167, 0, 10, 42, 180, 0, 55, 21, 4, 46, 54, 7, 27, 154, 0, 16, 42]
abbrev dktX3_pairedWith_3 : List UInt8 := dkwX3_pairedWith_3 ++ dktX3_pairedWith_4
def dkwX3_pairedWith_2 : List UInt8 := [184, 0, 138, 167, 0, 13, 42, 180, 0, 52, 21, 4, 46, 184, 0, 144, 54, 6, 27, 154, 0, 13, 42]
abbrev dktX3_pairedWith_2 : List UInt8 := dkwX3_pairedWith_2 ++ dktX3_pairedWith_3
def dkwX3_pairedWith_1 : List UInt8 := [46, 167, 0, 10, 42, 180, 0, 58, 21, 4, 46, 54, 5, 27, 154, 0, 16, 42, 180, 0, 52, 21, 4, 46]
abbrev dktX3_pairedWith_1 : List UInt8 := dkwX3_pairedWith_1 ++ dktX3_pairedWith_2
def dkwX3_pairedWith_0 : List UInt8 := [3, 62, 3, 54, 4, 21, 4, 42, 180, 0, 165, 162, 0, 144, 27, 154, 0, 13, 42, 180, 0, 55, 21, 4]
abbrev dktX3_pairedWith_0 : List UInt8 := dkwX3_pairedWith_0 ++ dktX3_pairedWith_1
theorem dksX3_pairedWith_0 : cX3_pairedWith.data.toList.drop 0 = dktX3_pairedWith_0 := by decide +kernel
theorem dksX3_pairedWith_1 : cX3_pairedWith.data.toList.drop 24 = dktX3_pairedWith_1 := dk_seg dksX3_pairedWith_0 24 rfl rfl
theorem dksX3_pairedWith_2 : cX3_pairedWith.data.toList.drop 48 = dktX3_pairedWith_2 := dk_seg dksX3_pairedWith_1 24 rfl rfl
theorem dksX3_pairedWith_3 : cX3_pairedWith.data.toList.drop 71 = dktX3_pairedWith_3 := dk_seg dksX3_pairedWith_2 23 rfl rfl
theorem dksX3_pairedWith_4 : cX3_pairedWith.data.toList.drop 94 = dktX3_pairedWith_4 := dk_seg dksX3_pairedWith_3 23 rfl rfl
theorem dksX3_pairedWith_5 : cX3_pairedWith.data.toList.drop 118 = dktX3_pairedWith_5 := dk_seg dksX3_pairedWith_4 24 rfl rfl
theorem dksX3_pairedWith_6 : cX3_pairedWith.data.toList.drop 142 = dktX3_pairedWith_6 := dk_seg dksX3_pairedWith_5 24 rfl rfl
theorem dX3_pairedWith_0 : decode cX3_pairedWith 0 = .ok (.iconst 0, 1) := dk_3 (dk_at dksX3_pairedWith_0 0 rfl rfl)
theorem dX3_pairedWith_1 : decode cX3_pairedWith 1 = .ok (.istore_n 3, 1) := dk_62 (dk_at dksX3_pairedWith_0 1 rfl rfl)
theorem dX3_pairedWith_2 : decode cX3_pairedWith 2 = .ok (.iconst 0, 1) := dk_3 (dk_at dksX3_pairedWith_0 2 rfl rfl)
theorem dX3_pairedWith_3 : decode cX3_pairedWith 3 = .ok (.istore 4, 2) := dk_54 4 (dk_at dksX3_pairedWith_0 3 rfl rfl)
theorem dX3_pairedWith_5 : decode cX3_pairedWith 5 = .ok (.iload 4, 2) := dk_21 4 (dk_at dksX3_pairedWith_0 5 rfl rfl)
theorem dX3_pairedWith_7 : decode cX3_pairedWith 7 = .ok (.aload_n 0, 1) := dk_42 (dk_at dksX3_pairedWith_0 7 rfl rfl)
theorem dX3_pairedWith_8 : decode cX3_pairedWith 8 = .ok (.getfield 165, 3) := dk_180 0 165 (dk_at dksX3_pairedWith_0 8 rfl rfl)
theorem dX3_pairedWith_11 : decode cX3_pairedWith 11 = .ok (.if_icmp .ge 144, 3) := dk_162 0 144 (dk_at dksX3_pairedWith_0 11 rfl rfl)
theorem dX3_pairedWith_14 : decode cX3_pairedWith 14 = .ok (.iload_n 1, 1) := dk_27 (dk_at dksX3_pairedWith_0 14 rfl rfl)
theorem dX3_pairedWith_15 : decode cX3_pairedWith 15 = .ok (.ifCond .ne 13, 3) := dk_154 0 13 (dk_at dksX3_pairedWith_0 15 rfl rfl)
theorem dX3_pairedWith_18 : decode cX3_pairedWith 18 = .ok (.aload_n 0, 1) := dk_42 (dk_at dksX3_pairedWith_0 18 rfl rfl)
theorem dX3_pairedWith_19 : decode cX3_pairedWith 19 = .ok (.getfield 55, 3) := dk_180 0 55 (dk_at dksX3_pairedWith_0 19 rfl rfl)
theorem dX3_pairedWith_22 : decode cX3_pairedWith 22 = .ok (.iload 4, 2) := dk_21 4 (dk_at dksX3_pairedWith_0 22 rfl rfl)
theorem dX3_pairedWith_24 : decode cX3_pairedWith 24 = .ok (.iaload, 1) := dk_46 (dk_at dksX3_pairedWith_1 0 rfl rfl)
theorem dX3_pairedWith_25 : decode cX3_pairedWith 25 = .ok (.goto 10, 3) := dk_167 0 10 (dk_at dksX3_pairedWith_1 1 rfl rfl)
theorem dX3_pairedWith_28 : decode cX3_pairedWith 28 = .ok (.aload_n 0, 1) := dk_42 (dk_at dksX3_pairedWith_1 4 rfl rfl)
theorem dX3_pairedWith_29 : decode cX3_pairedWith 29 = .ok (.getfield 58, 3) := dk_180 0 58 (dk_at dksX3_pairedWith_1 5 rfl rfl)
theorem dX3_pairedWith_32 : decode cX3_pairedWith 32 = .ok (.iload 4, 2) := dk_21 4 (dk_at dksX3_pairedWith_1 8 rfl rfl)
theorem dX3_pairedWith_34 : decode cX3_pairedWith 34 = .ok (.iaload, 1) := dk_46 (dk_at dksX3_pairedWith_1 10 rfl rfl)
theorem dX3_pairedWith_35 : decode cX3_pairedWith 35 = .ok (.istore 5, 2) := dk_54 5 (dk_at dksX3_pairedWith_1 11 rfl rfl)
theorem dX3_pairedWith_37 : decode cX3_pairedWith 37 = .ok (.iload_n 1, 1) := dk_27 (dk_at dksX3_pairedWith_1 13 rfl rfl)
theorem dX3_pairedWith_38 : decode cX3_pairedWith 38 = .ok (.ifCond .ne 16, 3) := dk_154 0 16 (dk_at dksX3_pairedWith_1 14 rfl rfl)
theorem dX3_pairedWith_41 : decode cX3_pairedWith 41 = .ok (.aload_n 0, 1) := dk_42 (dk_at dksX3_pairedWith_1 17 rfl rfl)
theorem dX3_pairedWith_42 : decode cX3_pairedWith 42 = .ok (.getfield 52, 3) := dk_180 0 52 (dk_at dksX3_pairedWith_1 18 rfl rfl)
theorem dX3_pairedWith_45 : decode cX3_pairedWith 45 = .ok (.iload 4, 2) := dk_21 4 (dk_at dksX3_pairedWith_1 21 rfl rfl)
theorem dX3_pairedWith_47 : decode cX3_pairedWith 47 = .ok (.iaload, 1) := dk_46 (dk_at dksX3_pairedWith_1 23 rfl rfl)
theorem dX3_pairedWith_48 : decode cX3_pairedWith 48 = .ok (.invokestatic 138, 3) := dk_184 0 138 (dk_at dksX3_pairedWith_2 0 rfl rfl)
theorem dX3_pairedWith_51 : decode cX3_pairedWith 51 = .ok (.goto 13, 3) := dk_167 0 13 (dk_at dksX3_pairedWith_2 3 rfl rfl)
theorem dX3_pairedWith_54 : decode cX3_pairedWith 54 = .ok (.aload_n 0, 1) := dk_42 (dk_at dksX3_pairedWith_2 6 rfl rfl)
theorem dX3_pairedWith_55 : decode cX3_pairedWith 55 = .ok (.getfield 52, 3) := dk_180 0 52 (dk_at dksX3_pairedWith_2 7 rfl rfl)
theorem dX3_pairedWith_58 : decode cX3_pairedWith 58 = .ok (.iload 4, 2) := dk_21 4 (dk_at dksX3_pairedWith_2 10 rfl rfl)
theorem dX3_pairedWith_60 : decode cX3_pairedWith 60 = .ok (.iaload, 1) := dk_46 (dk_at dksX3_pairedWith_2 12 rfl rfl)
theorem dX3_pairedWith_61 : decode cX3_pairedWith 61 = .ok (.invokestatic 144, 3) := dk_184 0 144 (dk_at dksX3_pairedWith_2 13 rfl rfl)
theorem dX3_pairedWith_64 : decode cX3_pairedWith 64 = .ok (.istore 6, 2) := dk_54 6 (dk_at dksX3_pairedWith_2 16 rfl rfl)
theorem dX3_pairedWith_66 : decode cX3_pairedWith 66 = .ok (.iload_n 1, 1) := dk_27 (dk_at dksX3_pairedWith_2 18 rfl rfl)
theorem dX3_pairedWith_67 : decode cX3_pairedWith 67 = .ok (.ifCond .ne 13, 3) := dk_154 0 13 (dk_at dksX3_pairedWith_2 19 rfl rfl)
theorem dX3_pairedWith_70 : decode cX3_pairedWith 70 = .ok (.aload_n 0, 1) := dk_42 (dk_at dksX3_pairedWith_2 22 rfl rfl)
theorem dX3_pairedWith_71 : decode cX3_pairedWith 71 = .ok (.getfield 58, 3) := dk_180 0 58 (dk_at dksX3_pairedWith_3 0 rfl rfl)
theorem dX3_pairedWith_74 : decode cX3_pairedWith 74 = .ok (.iload 4, 2) := dk_21 4 (dk_at dksX3_pairedWith_3 3 rfl rfl)
theorem dX3_pairedWith_76 : decode cX3_pairedWith 76 = .ok (.iaload, 1) := dk_46 (dk_at dksX3_pairedWith_3 5 rfl rfl)
theorem dX3_pairedWith_77 : decode cX3_pairedWith 77 = .ok (.goto 10, 3) := dk_167 0 10 (dk_at dksX3_pairedWith_3 6 rfl rfl)
theorem dX3_pairedWith_80 : decode cX3_pairedWith 80 = .ok (.aload_n 0, 1) := dk_42 (dk_at dksX3_pairedWith_3 9 rfl rfl)
theorem dX3_pairedWith_81 : decode cX3_pairedWith 81 = .ok (.getfield 55, 3) := dk_180 0 55 (dk_at dksX3_pairedWith_3 10 rfl rfl)
theorem dX3_pairedWith_84 : decode cX3_pairedWith 84 = .ok (.iload 4, 2) := dk_21 4 (dk_at dksX3_pairedWith_3 13 rfl rfl)
theorem dX3_pairedWith_86 : decode cX3_pairedWith 86 = .ok (.iaload, 1) := dk_46 (dk_at dksX3_pairedWith_3 15 rfl rfl)
theorem dX3_pairedWith_87 : decode cX3_pairedWith 87 = .ok (.istore 7, 2) := dk_54 7 (dk_at dksX3_pairedWith_3 16 rfl rfl)
theorem dX3_pairedWith_89 : decode cX3_pairedWith 89 = .ok (.iload_n 1, 1) := dk_27 (dk_at dksX3_pairedWith_3 18 rfl rfl)
theorem dX3_pairedWith_90 : decode cX3_pairedWith 90 = .ok (.ifCond .ne 16, 3) := dk_154 0 16 (dk_at dksX3_pairedWith_3 19 rfl rfl)
theorem dX3_pairedWith_93 : decode cX3_pairedWith 93 = .ok (.aload_n 0, 1) := dk_42 (dk_at dksX3_pairedWith_3 22 rfl rfl)
theorem dX3_pairedWith_94 : decode cX3_pairedWith 94 = .ok (.getfield 52, 3) := dk_180 0 52 (dk_at dksX3_pairedWith_4 0 rfl rfl)
theorem dX3_pairedWith_97 : decode cX3_pairedWith 97 = .ok (.iload 4, 2) := dk_21 4 (dk_at dksX3_pairedWith_4 3 rfl rfl)
theorem dX3_pairedWith_99 : decode cX3_pairedWith 99 = .ok (.iaload, 1) := dk_46 (dk_at dksX3_pairedWith_4 5 rfl rfl)
theorem dX3_pairedWith_100 : decode cX3_pairedWith 100 = .ok (.invokestatic 144, 3) := dk_184 0 144 (dk_at dksX3_pairedWith_4 6 rfl rfl)
theorem dX3_pairedWith_103 : decode cX3_pairedWith 103 = .ok (.goto 13, 3) := dk_167 0 13 (dk_at dksX3_pairedWith_4 9 rfl rfl)
theorem dX3_pairedWith_106 : decode cX3_pairedWith 106 = .ok (.aload_n 0, 1) := dk_42 (dk_at dksX3_pairedWith_4 12 rfl rfl)
theorem dX3_pairedWith_107 : decode cX3_pairedWith 107 = .ok (.getfield 52, 3) := dk_180 0 52 (dk_at dksX3_pairedWith_4 13 rfl rfl)
theorem dX3_pairedWith_110 : decode cX3_pairedWith 110 = .ok (.iload 4, 2) := dk_21 4 (dk_at dksX3_pairedWith_4 16 rfl rfl)
theorem dX3_pairedWith_112 : decode cX3_pairedWith 112 = .ok (.iaload, 1) := dk_46 (dk_at dksX3_pairedWith_4 18 rfl rfl)
theorem dX3_pairedWith_113 : decode cX3_pairedWith 113 = .ok (.invokestatic 138, 3) := dk_184 0 138 (dk_at dksX3_pairedWith_4 19 rfl rfl)
theorem dX3_pairedWith_116 : decode cX3_pairedWith 116 = .ok (.istore 8, 2) := dk_54 8 (dk_at dksX3_pairedWith_4 22 rfl rfl)
theorem dX3_pairedWith_118 : decode cX3_pairedWith 118 = .ok (.iload_n 3, 1) := dk_29 (dk_at dksX3_pairedWith_5 0 rfl rfl)
theorem dX3_pairedWith_119 : decode cX3_pairedWith 119 = .ok (.iload_n 2, 1) := dk_28 (dk_at dksX3_pairedWith_5 1 rfl rfl)
theorem dX3_pairedWith_120 : decode cX3_pairedWith 120 = .ok (.iload 5, 2) := dk_21 5 (dk_at dksX3_pairedWith_5 2 rfl rfl)
theorem dX3_pairedWith_122 : decode cX3_pairedWith 122 = .ok (.if_icmp .lt 24, 3) := dk_161 0 24 (dk_at dksX3_pairedWith_5 4 rfl rfl)
theorem dX3_pairedWith_125 : decode cX3_pairedWith 125 = .ok (.iload_n 2, 1) := dk_28 (dk_at dksX3_pairedWith_5 7 rfl rfl)
theorem dX3_pairedWith_126 : decode cX3_pairedWith 126 = .ok (.iload 5, 2) := dk_21 5 (dk_at dksX3_pairedWith_5 8 rfl rfl)
theorem dX3_pairedWith_128 : decode cX3_pairedWith 128 = .ok (.iload 6, 2) := dk_21 6 (dk_at dksX3_pairedWith_5 10 rfl rfl)
theorem dX3_pairedWith_130 : decode cX3_pairedWith 130 = .ok (.iadd, 1) := dk_96 (dk_at dksX3_pairedWith_5 12 rfl rfl)
theorem dX3_pairedWith_131 : decode cX3_pairedWith 131 = .ok (.if_icmp .ge 15, 3) := dk_162 0 15 (dk_at dksX3_pairedWith_5 13 rfl rfl)
theorem dX3_pairedWith_134 : decode cX3_pairedWith 134 = .ok (.iconst 1, 1) := dk_4 (dk_at dksX3_pairedWith_5 16 rfl rfl)
theorem dX3_pairedWith_135 : decode cX3_pairedWith 135 = .ok (.iload 8, 2) := dk_21 8 (dk_at dksX3_pairedWith_5 17 rfl rfl)
theorem dX3_pairedWith_137 : decode cX3_pairedWith 137 = .ok (.ishl, 1) := dk_120 (dk_at dksX3_pairedWith_5 19 rfl rfl)
theorem dX3_pairedWith_138 : decode cX3_pairedWith 138 = .ok (.iconst 1, 1) := dk_4 (dk_at dksX3_pairedWith_5 20 rfl rfl)
theorem dX3_pairedWith_139 : decode cX3_pairedWith 139 = .ok (.isub, 1) := dk_100 (dk_at dksX3_pairedWith_5 21 rfl rfl)
theorem dX3_pairedWith_140 : decode cX3_pairedWith 140 = .ok (.iload 7, 2) := dk_21 7 (dk_at dksX3_pairedWith_5 22 rfl rfl)
theorem dX3_pairedWith_142 : decode cX3_pairedWith 142 = .ok (.ishl, 1) := dk_120 (dk_at dksX3_pairedWith_6 0 rfl rfl)
theorem dX3_pairedWith_143 : decode cX3_pairedWith 143 = .ok (.goto 4, 3) := dk_167 0 4 (dk_at dksX3_pairedWith_6 1 rfl rfl)
theorem dX3_pairedWith_146 : decode cX3_pairedWith 146 = .ok (.iconst 0, 1) := dk_3 (dk_at dksX3_pairedWith_6 4 rfl rfl)
theorem dX3_pairedWith_147 : decode cX3_pairedWith 147 = .ok (.ior, 1) := dk_128 (dk_at dksX3_pairedWith_6 5 rfl rfl)
theorem dX3_pairedWith_148 : decode cX3_pairedWith 148 = .ok (.istore_n 3, 1) := dk_62 (dk_at dksX3_pairedWith_6 6 rfl rfl)
theorem dX3_pairedWith_149 : decode cX3_pairedWith 149 = .ok (.iinc 4 1, 3) := dk_132 4 1 (dk_at dksX3_pairedWith_6 7 rfl rfl)
theorem dX3_pairedWith_152 : decode cX3_pairedWith 152 = .ok (.goto (-147), 3) := dk_167 255 109 (dk_at dksX3_pairedWith_6 10 rfl rfl)
theorem dX3_pairedWith_155 : decode cX3_pairedWith 155 = .ok (.iload_n 3, 1) := dk_29 (dk_at dksX3_pairedWith_6 13 rfl rfl)
theorem dX3_pairedWith_156 : decode cX3_pairedWith 156 = .ok (.ireturn, 1) := dk_172 (dk_at dksX3_pairedWith_6 14 rfl rfl)
abbrev cX3_ofRight : ByteArray := prog_25_method_29_code
def yX3_ofRight : MethodName := ⟨RX3, "ofRight", "(II)I"⟩
def dkwX3_ofRight_2 : List UInt8 := [180, 0, 31, 27, 46, 167, 0, 5, 16, 254, 172]
abbrev dktX3_ofRight_2 : List UInt8 := dkwX3_ofRight_2 ++ []
def dkwX3_ofRight_1 : List UInt8 := [182, 0, 178, 172, 28, 154, 0, 12, 42, 180, 0, 28, 27, 46, 167, 0, 19, 28, 4, 160, 0, 12, 42]
abbrev dktX3_ofRight_1 : List UInt8 := dkwX3_ofRight_1 ++ dktX3_ofRight_2
def dkwX3_ofRight_0 : List UInt8 := [42, 27, 182, 0, 182, 154, 0, 5, 2, 172, 28, 5, 160, 0, 15, 42, 182, 0, 174, 87, 42, 4, 27]
abbrev dktX3_ofRight_0 : List UInt8 := dkwX3_ofRight_0 ++ dktX3_ofRight_1
theorem dksX3_ofRight_0 : cX3_ofRight.data.toList.drop 0 = dktX3_ofRight_0 := by decide +kernel
theorem dksX3_ofRight_1 : cX3_ofRight.data.toList.drop 23 = dktX3_ofRight_1 := dk_seg dksX3_ofRight_0 23 rfl rfl
theorem dksX3_ofRight_2 : cX3_ofRight.data.toList.drop 46 = dktX3_ofRight_2 := dk_seg dksX3_ofRight_1 23 rfl rfl
theorem dX3_ofRight_0 : decode cX3_ofRight 0 = .ok (.aload_n 0, 1) := dk_42 (dk_at dksX3_ofRight_0 0 rfl rfl)
theorem dX3_ofRight_1 : decode cX3_ofRight 1 = .ok (.iload_n 1, 1) := dk_27 (dk_at dksX3_ofRight_0 1 rfl rfl)
theorem dX3_ofRight_2 : decode cX3_ofRight 2 = .ok (.invokevirtual 182, 3) := dk_182 0 182 (dk_at dksX3_ofRight_0 2 rfl rfl)
theorem dX3_ofRight_5 : decode cX3_ofRight 5 = .ok (.ifCond .ne 5, 3) := dk_154 0 5 (dk_at dksX3_ofRight_0 5 rfl rfl)
theorem dX3_ofRight_8 : decode cX3_ofRight 8 = .ok (.iconst (-1), 1) := dk_2 (dk_at dksX3_ofRight_0 8 rfl rfl)
theorem dX3_ofRight_9 : decode cX3_ofRight 9 = .ok (.ireturn, 1) := dk_172 (dk_at dksX3_ofRight_0 9 rfl rfl)
theorem dX3_ofRight_10 : decode cX3_ofRight 10 = .ok (.iload_n 2, 1) := dk_28 (dk_at dksX3_ofRight_0 10 rfl rfl)
theorem dX3_ofRight_11 : decode cX3_ofRight 11 = .ok (.iconst 2, 1) := dk_5 (dk_at dksX3_ofRight_0 11 rfl rfl)
theorem dX3_ofRight_12 : decode cX3_ofRight 12 = .ok (.if_icmp .ne 15, 3) := dk_160 0 15 (dk_at dksX3_ofRight_0 12 rfl rfl)
theorem dX3_ofRight_15 : decode cX3_ofRight 15 = .ok (.aload_n 0, 1) := dk_42 (dk_at dksX3_ofRight_0 15 rfl rfl)
theorem dX3_ofRight_16 : decode cX3_ofRight 16 = .ok (.invokevirtual 174, 3) := dk_182 0 174 (dk_at dksX3_ofRight_0 16 rfl rfl)
theorem dX3_ofRight_19 : decode cX3_ofRight 19 = .ok (.pop, 1) := dk_87 (dk_at dksX3_ofRight_0 19 rfl rfl)
theorem dX3_ofRight_20 : decode cX3_ofRight 20 = .ok (.aload_n 0, 1) := dk_42 (dk_at dksX3_ofRight_0 20 rfl rfl)
theorem dX3_ofRight_21 : decode cX3_ofRight 21 = .ok (.iconst 1, 1) := dk_4 (dk_at dksX3_ofRight_0 21 rfl rfl)
theorem dX3_ofRight_22 : decode cX3_ofRight 22 = .ok (.iload_n 1, 1) := dk_27 (dk_at dksX3_ofRight_0 22 rfl rfl)
theorem dX3_ofRight_23 : decode cX3_ofRight 23 = .ok (.invokevirtual 178, 3) := dk_182 0 178 (dk_at dksX3_ofRight_1 0 rfl rfl)
theorem dX3_ofRight_26 : decode cX3_ofRight 26 = .ok (.ireturn, 1) := dk_172 (dk_at dksX3_ofRight_1 3 rfl rfl)
theorem dX3_ofRight_27 : decode cX3_ofRight 27 = .ok (.iload_n 2, 1) := dk_28 (dk_at dksX3_ofRight_1 4 rfl rfl)
theorem dX3_ofRight_28 : decode cX3_ofRight 28 = .ok (.ifCond .ne 12, 3) := dk_154 0 12 (dk_at dksX3_ofRight_1 5 rfl rfl)
theorem dX3_ofRight_31 : decode cX3_ofRight 31 = .ok (.aload_n 0, 1) := dk_42 (dk_at dksX3_ofRight_1 8 rfl rfl)
theorem dX3_ofRight_32 : decode cX3_ofRight 32 = .ok (.getfield 28, 3) := dk_180 0 28 (dk_at dksX3_ofRight_1 9 rfl rfl)
theorem dX3_ofRight_35 : decode cX3_ofRight 35 = .ok (.iload_n 1, 1) := dk_27 (dk_at dksX3_ofRight_1 12 rfl rfl)
theorem dX3_ofRight_36 : decode cX3_ofRight 36 = .ok (.iaload, 1) := dk_46 (dk_at dksX3_ofRight_1 13 rfl rfl)
theorem dX3_ofRight_37 : decode cX3_ofRight 37 = .ok (.goto 19, 3) := dk_167 0 19 (dk_at dksX3_ofRight_1 14 rfl rfl)
theorem dX3_ofRight_40 : decode cX3_ofRight 40 = .ok (.iload_n 2, 1) := dk_28 (dk_at dksX3_ofRight_1 17 rfl rfl)
theorem dX3_ofRight_41 : decode cX3_ofRight 41 = .ok (.iconst 1, 1) := dk_4 (dk_at dksX3_ofRight_1 18 rfl rfl)
theorem dX3_ofRight_42 : decode cX3_ofRight 42 = .ok (.if_icmp .ne 12, 3) := dk_160 0 12 (dk_at dksX3_ofRight_1 19 rfl rfl)
theorem dX3_ofRight_45 : decode cX3_ofRight 45 = .ok (.aload_n 0, 1) := dk_42 (dk_at dksX3_ofRight_1 22 rfl rfl)
theorem dX3_ofRight_46 : decode cX3_ofRight 46 = .ok (.getfield 31, 3) := dk_180 0 31 (dk_at dksX3_ofRight_2 0 rfl rfl)
theorem dX3_ofRight_49 : decode cX3_ofRight 49 = .ok (.iload_n 1, 1) := dk_27 (dk_at dksX3_ofRight_2 3 rfl rfl)
theorem dX3_ofRight_50 : decode cX3_ofRight 50 = .ok (.iaload, 1) := dk_46 (dk_at dksX3_ofRight_2 4 rfl rfl)
theorem dX3_ofRight_51 : decode cX3_ofRight 51 = .ok (.goto 5, 3) := dk_167 0 5 (dk_at dksX3_ofRight_2 5 rfl rfl)
theorem dX3_ofRight_54 : decode cX3_ofRight 54 = .ok (.bipush (-2), 2) := dk_16 254 (dk_at dksX3_ofRight_2 8 rfl rfl)
theorem dX3_ofRight_56 : decode cX3_ofRight 56 = .ok (.ireturn, 1) := dk_172 (dk_at dksX3_ofRight_2 10 rfl rfl)
abbrev cX3_isRight : ByteArray := prog_25_method_10_code
def yX3_isRight : MethodName := ⟨RX3, "isRight", "(I)Z"⟩
def dkwX3_isRight_0 : List UInt8 := [27, 155, 0, 15, 27, 42, 180, 0, 83, 162, 0, 7, 4, 167, 0, 4, 3, 172]
abbrev dktX3_isRight_0 : List UInt8 := dkwX3_isRight_0 ++ []
theorem dksX3_isRight_0 : cX3_isRight.data.toList.drop 0 = dktX3_isRight_0 := by decide +kernel
theorem dX3_isRight_0 : decode cX3_isRight 0 = .ok (.iload_n 1, 1) := dk_27 (dk_at dksX3_isRight_0 0 rfl rfl)
theorem dX3_isRight_1 : decode cX3_isRight 1 = .ok (.ifCond .lt 15, 3) := dk_155 0 15 (dk_at dksX3_isRight_0 1 rfl rfl)
theorem dX3_isRight_4 : decode cX3_isRight 4 = .ok (.iload_n 1, 1) := dk_27 (dk_at dksX3_isRight_0 4 rfl rfl)
theorem dX3_isRight_5 : decode cX3_isRight 5 = .ok (.aload_n 0, 1) := dk_42 (dk_at dksX3_isRight_0 5 rfl rfl)
theorem dX3_isRight_6 : decode cX3_isRight 6 = .ok (.getfield 83, 3) := dk_180 0 83 (dk_at dksX3_isRight_0 6 rfl rfl)
theorem dX3_isRight_9 : decode cX3_isRight 9 = .ok (.if_icmp .ge 7, 3) := dk_162 0 7 (dk_at dksX3_isRight_0 9 rfl rfl)
theorem dX3_isRight_12 : decode cX3_isRight 12 = .ok (.iconst 1, 1) := dk_4 (dk_at dksX3_isRight_0 12 rfl rfl)
theorem dX3_isRight_13 : decode cX3_isRight 13 = .ok (.goto 4, 3) := dk_167 0 4 (dk_at dksX3_isRight_0 13 rfl rfl)
theorem dX3_isRight_16 : decode cX3_isRight 16 = .ok (.iconst 0, 1) := dk_3 (dk_at dksX3_isRight_0 16 rfl rfl)
theorem dX3_isRight_17 : decode cX3_isRight 17 = .ok (.ireturn, 1) := dk_172 (dk_at dksX3_isRight_0 17 rfl rfl)
abbrev cX3_letters : ByteArray := prog_25_method_30_code
def yX3_letters : MethodName := ⟨RX3, "letters", "(III)I"⟩
def dkwX3_letters_3 : List UInt8 := [27, 154, 0, 13, 42, 180, 0, 22, 28, 29, 79, 167, 0, 10, 42, 180, 0, 28, 28, 29, 79, 21, 4, 172]
abbrev dktX3_letters_3 : List UInt8 := dkwX3_letters_3 ++ []
def dkwX3_letters_2 : List UInt8 := [16, 254, 172, 27, 154, 0, 12, 42, 180, 0, 22, 28, 46, 167, 0, 9, 42, 180, 0, 28, 28, 46, 54, 4]
abbrev dktX3_letters_2 : List UInt8 := dkwX3_letters_2 ++ dktX3_letters_3
def dkwX3_letters_1 : List UInt8 := [167, 0, 11, 42, 28, 182, 0, 182, 154, 0, 5, 2, 172, 29, 4, 16, 9, 184, 0, 76, 154, 0, 6]
abbrev dktX3_letters_1 : List UInt8 := dkwX3_letters_1 ++ dktX3_letters_2
def dkwX3_letters_0 : List UInt8 := [27, 3, 4, 184, 0, 76, 154, 0, 6, 16, 254, 172, 27, 154, 0, 14, 42, 28, 182, 0, 171, 154, 0, 16]
abbrev dktX3_letters_0 : List UInt8 := dkwX3_letters_0 ++ dktX3_letters_1
theorem dksX3_letters_0 : cX3_letters.data.toList.drop 0 = dktX3_letters_0 := by decide +kernel
theorem dksX3_letters_1 : cX3_letters.data.toList.drop 24 = dktX3_letters_1 := dk_seg dksX3_letters_0 24 rfl rfl
theorem dksX3_letters_2 : cX3_letters.data.toList.drop 47 = dktX3_letters_2 := dk_seg dksX3_letters_1 23 rfl rfl
theorem dksX3_letters_3 : cX3_letters.data.toList.drop 71 = dktX3_letters_3 := dk_seg dksX3_letters_2 24 rfl rfl
theorem dX3_letters_0 : decode cX3_letters 0 = .ok (.iload_n 1, 1) := dk_27 (dk_at dksX3_letters_0 0 rfl rfl)
theorem dX3_letters_1 : decode cX3_letters 1 = .ok (.iconst 0, 1) := dk_3 (dk_at dksX3_letters_0 1 rfl rfl)
theorem dX3_letters_2 : decode cX3_letters 2 = .ok (.iconst 1, 1) := dk_4 (dk_at dksX3_letters_0 2 rfl rfl)
theorem dX3_letters_3 : decode cX3_letters 3 = .ok (.invokestatic 76, 3) := dk_184 0 76 (dk_at dksX3_letters_0 3 rfl rfl)
theorem dX3_letters_6 : decode cX3_letters 6 = .ok (.ifCond .ne 6, 3) := dk_154 0 6 (dk_at dksX3_letters_0 6 rfl rfl)
theorem dX3_letters_9 : decode cX3_letters 9 = .ok (.bipush (-2), 2) := dk_16 254 (dk_at dksX3_letters_0 9 rfl rfl)
theorem dX3_letters_11 : decode cX3_letters 11 = .ok (.ireturn, 1) := dk_172 (dk_at dksX3_letters_0 11 rfl rfl)
theorem dX3_letters_12 : decode cX3_letters 12 = .ok (.iload_n 1, 1) := dk_27 (dk_at dksX3_letters_0 12 rfl rfl)
theorem dX3_letters_13 : decode cX3_letters 13 = .ok (.ifCond .ne 14, 3) := dk_154 0 14 (dk_at dksX3_letters_0 13 rfl rfl)
theorem dX3_letters_16 : decode cX3_letters 16 = .ok (.aload_n 0, 1) := dk_42 (dk_at dksX3_letters_0 16 rfl rfl)
theorem dX3_letters_17 : decode cX3_letters 17 = .ok (.iload_n 2, 1) := dk_28 (dk_at dksX3_letters_0 17 rfl rfl)
theorem dX3_letters_18 : decode cX3_letters 18 = .ok (.invokevirtual 171, 3) := dk_182 0 171 (dk_at dksX3_letters_0 18 rfl rfl)
theorem dX3_letters_21 : decode cX3_letters 21 = .ok (.ifCond .ne 16, 3) := dk_154 0 16 (dk_at dksX3_letters_0 21 rfl rfl)
theorem dX3_letters_24 : decode cX3_letters 24 = .ok (.goto 11, 3) := dk_167 0 11 (dk_at dksX3_letters_1 0 rfl rfl)
theorem dX3_letters_27 : decode cX3_letters 27 = .ok (.aload_n 0, 1) := dk_42 (dk_at dksX3_letters_1 3 rfl rfl)
theorem dX3_letters_28 : decode cX3_letters 28 = .ok (.iload_n 2, 1) := dk_28 (dk_at dksX3_letters_1 4 rfl rfl)
theorem dX3_letters_29 : decode cX3_letters 29 = .ok (.invokevirtual 182, 3) := dk_182 0 182 (dk_at dksX3_letters_1 5 rfl rfl)
theorem dX3_letters_32 : decode cX3_letters 32 = .ok (.ifCond .ne 5, 3) := dk_154 0 5 (dk_at dksX3_letters_1 8 rfl rfl)
theorem dX3_letters_35 : decode cX3_letters 35 = .ok (.iconst (-1), 1) := dk_2 (dk_at dksX3_letters_1 11 rfl rfl)
theorem dX3_letters_36 : decode cX3_letters 36 = .ok (.ireturn, 1) := dk_172 (dk_at dksX3_letters_1 12 rfl rfl)
theorem dX3_letters_37 : decode cX3_letters 37 = .ok (.iload_n 3, 1) := dk_29 (dk_at dksX3_letters_1 13 rfl rfl)
theorem dX3_letters_38 : decode cX3_letters 38 = .ok (.iconst 1, 1) := dk_4 (dk_at dksX3_letters_1 14 rfl rfl)
theorem dX3_letters_39 : decode cX3_letters 39 = .ok (.bipush 9, 2) := dk_16 9 (dk_at dksX3_letters_1 15 rfl rfl)
theorem dX3_letters_41 : decode cX3_letters 41 = .ok (.invokestatic 76, 3) := dk_184 0 76 (dk_at dksX3_letters_1 17 rfl rfl)
theorem dX3_letters_44 : decode cX3_letters 44 = .ok (.ifCond .ne 6, 3) := dk_154 0 6 (dk_at dksX3_letters_1 20 rfl rfl)
theorem dX3_letters_47 : decode cX3_letters 47 = .ok (.bipush (-2), 2) := dk_16 254 (dk_at dksX3_letters_2 0 rfl rfl)
theorem dX3_letters_49 : decode cX3_letters 49 = .ok (.ireturn, 1) := dk_172 (dk_at dksX3_letters_2 2 rfl rfl)
theorem dX3_letters_50 : decode cX3_letters 50 = .ok (.iload_n 1, 1) := dk_27 (dk_at dksX3_letters_2 3 rfl rfl)
theorem dX3_letters_51 : decode cX3_letters 51 = .ok (.ifCond .ne 12, 3) := dk_154 0 12 (dk_at dksX3_letters_2 4 rfl rfl)
theorem dX3_letters_54 : decode cX3_letters 54 = .ok (.aload_n 0, 1) := dk_42 (dk_at dksX3_letters_2 7 rfl rfl)
theorem dX3_letters_55 : decode cX3_letters 55 = .ok (.getfield 22, 3) := dk_180 0 22 (dk_at dksX3_letters_2 8 rfl rfl)
theorem dX3_letters_58 : decode cX3_letters 58 = .ok (.iload_n 2, 1) := dk_28 (dk_at dksX3_letters_2 11 rfl rfl)
theorem dX3_letters_59 : decode cX3_letters 59 = .ok (.iaload, 1) := dk_46 (dk_at dksX3_letters_2 12 rfl rfl)
theorem dX3_letters_60 : decode cX3_letters 60 = .ok (.goto 9, 3) := dk_167 0 9 (dk_at dksX3_letters_2 13 rfl rfl)
theorem dX3_letters_63 : decode cX3_letters 63 = .ok (.aload_n 0, 1) := dk_42 (dk_at dksX3_letters_2 16 rfl rfl)
theorem dX3_letters_64 : decode cX3_letters 64 = .ok (.getfield 28, 3) := dk_180 0 28 (dk_at dksX3_letters_2 17 rfl rfl)
theorem dX3_letters_67 : decode cX3_letters 67 = .ok (.iload_n 2, 1) := dk_28 (dk_at dksX3_letters_2 20 rfl rfl)
theorem dX3_letters_68 : decode cX3_letters 68 = .ok (.iaload, 1) := dk_46 (dk_at dksX3_letters_2 21 rfl rfl)
theorem dX3_letters_69 : decode cX3_letters 69 = .ok (.istore 4, 2) := dk_54 4 (dk_at dksX3_letters_2 22 rfl rfl)
theorem dX3_letters_71 : decode cX3_letters 71 = .ok (.iload_n 1, 1) := dk_27 (dk_at dksX3_letters_3 0 rfl rfl)
theorem dX3_letters_72 : decode cX3_letters 72 = .ok (.ifCond .ne 13, 3) := dk_154 0 13 (dk_at dksX3_letters_3 1 rfl rfl)
theorem dX3_letters_75 : decode cX3_letters 75 = .ok (.aload_n 0, 1) := dk_42 (dk_at dksX3_letters_3 4 rfl rfl)
theorem dX3_letters_76 : decode cX3_letters 76 = .ok (.getfield 22, 3) := dk_180 0 22 (dk_at dksX3_letters_3 5 rfl rfl)
theorem dX3_letters_79 : decode cX3_letters 79 = .ok (.iload_n 2, 1) := dk_28 (dk_at dksX3_letters_3 8 rfl rfl)
theorem dX3_letters_80 : decode cX3_letters 80 = .ok (.iload_n 3, 1) := dk_29 (dk_at dksX3_letters_3 9 rfl rfl)
theorem dX3_letters_81 : decode cX3_letters 81 = .ok (.iastore, 1) := dk_79 (dk_at dksX3_letters_3 10 rfl rfl)
theorem dX3_letters_82 : decode cX3_letters 82 = .ok (.goto 10, 3) := dk_167 0 10 (dk_at dksX3_letters_3 11 rfl rfl)
theorem dX3_letters_85 : decode cX3_letters 85 = .ok (.aload_n 0, 1) := dk_42 (dk_at dksX3_letters_3 14 rfl rfl)
theorem dX3_letters_86 : decode cX3_letters 86 = .ok (.getfield 28, 3) := dk_180 0 28 (dk_at dksX3_letters_3 15 rfl rfl)
theorem dX3_letters_89 : decode cX3_letters 89 = .ok (.iload_n 2, 1) := dk_28 (dk_at dksX3_letters_3 18 rfl rfl)
theorem dX3_letters_90 : decode cX3_letters 90 = .ok (.iload_n 3, 1) := dk_29 (dk_at dksX3_letters_3 19 rfl rfl)
theorem dX3_letters_91 : decode cX3_letters 91 = .ok (.iastore, 1) := dk_79 (dk_at dksX3_letters_3 20 rfl rfl)
theorem dX3_letters_92 : decode cX3_letters 92 = .ok (.iload 4, 2) := dk_21 4 (dk_at dksX3_letters_3 21 rfl rfl)
theorem dX3_letters_94 : decode cX3_letters 94 = .ok (.ireturn, 1) := dk_172 (dk_at dksX3_letters_3 23 rfl rfl)
abbrev cX3_price : ByteArray := prog_25_method_31_code
def yX3_price : MethodName := ⟨RX3, "price", "(II)I"⟩
def dkwX3_price_5 : List UInt8 := [42, 180, 0, 119, 181, 0, 119, 29, 172]
abbrev dktX3_price_5 : List UInt8 := dkwX3_price_5 ++ []
def dkwX3_price_4 : List UInt8 := [160, 0, 7, 28, 167, 0, 7, 42, 180, 0, 116, 181, 0, 116, 42, 27, 5, 160, 0, 7, 28, 167, 0, 7]
abbrev dktX3_price_4 : List UInt8 := dkwX3_price_4 ++ dktX3_price_5
def dkwX3_price_3 : List UInt8 := [180, 0, 119, 62, 42, 27, 154, 0, 7, 28, 167, 0, 7, 42, 180, 0, 113, 181, 0, 113, 42, 27, 4]
abbrev dktX3_price_3 : List UInt8 := dkwX3_price_3 ++ dktX3_price_4
def dkwX3_price_2 : List UInt8 := [154, 0, 10, 42, 180, 0, 113, 167, 0, 19, 27, 4, 160, 0, 10, 42, 180, 0, 116, 167, 0, 7, 42]
abbrev dktX3_price_2 : List UInt8 := dkwX3_price_2 ++ dktX3_price_3
def dkwX3_price_1 : List UInt8 := [27, 5, 160, 0, 8, 16, 7, 167, 0, 5, 16, 9, 184, 0, 76, 154, 0, 6, 16, 254, 172, 27]
abbrev dktX3_price_1 : List UInt8 := dkwX3_price_1 ++ dktX3_price_2
def dkwX3_price_0 : List UInt8 := [27, 3, 5, 184, 0, 76, 154, 0, 6, 16, 254, 172, 42, 180, 0, 80, 154, 0, 6, 16, 253, 172, 28, 3]
abbrev dktX3_price_0 : List UInt8 := dkwX3_price_0 ++ dktX3_price_1
theorem dksX3_price_0 : cX3_price.data.toList.drop 0 = dktX3_price_0 := by decide +kernel
theorem dksX3_price_1 : cX3_price.data.toList.drop 24 = dktX3_price_1 := dk_seg dksX3_price_0 24 rfl rfl
theorem dksX3_price_2 : cX3_price.data.toList.drop 46 = dktX3_price_2 := dk_seg dksX3_price_1 22 rfl rfl
theorem dksX3_price_3 : cX3_price.data.toList.drop 69 = dktX3_price_3 := dk_seg dksX3_price_2 23 rfl rfl
theorem dksX3_price_4 : cX3_price.data.toList.drop 92 = dktX3_price_4 := dk_seg dksX3_price_3 23 rfl rfl
theorem dksX3_price_5 : cX3_price.data.toList.drop 116 = dktX3_price_5 := dk_seg dksX3_price_4 24 rfl rfl
theorem dX3_price_0 : decode cX3_price 0 = .ok (.iload_n 1, 1) := dk_27 (dk_at dksX3_price_0 0 rfl rfl)
theorem dX3_price_1 : decode cX3_price 1 = .ok (.iconst 0, 1) := dk_3 (dk_at dksX3_price_0 1 rfl rfl)
theorem dX3_price_2 : decode cX3_price 2 = .ok (.iconst 2, 1) := dk_5 (dk_at dksX3_price_0 2 rfl rfl)
theorem dX3_price_3 : decode cX3_price 3 = .ok (.invokestatic 76, 3) := dk_184 0 76 (dk_at dksX3_price_0 3 rfl rfl)
theorem dX3_price_6 : decode cX3_price 6 = .ok (.ifCond .ne 6, 3) := dk_154 0 6 (dk_at dksX3_price_0 6 rfl rfl)
theorem dX3_price_9 : decode cX3_price 9 = .ok (.bipush (-2), 2) := dk_16 254 (dk_at dksX3_price_0 9 rfl rfl)
theorem dX3_price_11 : decode cX3_price 11 = .ok (.ireturn, 1) := dk_172 (dk_at dksX3_price_0 11 rfl rfl)
theorem dX3_price_12 : decode cX3_price 12 = .ok (.aload_n 0, 1) := dk_42 (dk_at dksX3_price_0 12 rfl rfl)
theorem dX3_price_13 : decode cX3_price 13 = .ok (.getfield 80, 3) := dk_180 0 80 (dk_at dksX3_price_0 13 rfl rfl)
theorem dX3_price_16 : decode cX3_price 16 = .ok (.ifCond .ne 6, 3) := dk_154 0 6 (dk_at dksX3_price_0 16 rfl rfl)
theorem dX3_price_19 : decode cX3_price 19 = .ok (.bipush (-3), 2) := dk_16 253 (dk_at dksX3_price_0 19 rfl rfl)
theorem dX3_price_21 : decode cX3_price 21 = .ok (.ireturn, 1) := dk_172 (dk_at dksX3_price_0 21 rfl rfl)
theorem dX3_price_22 : decode cX3_price 22 = .ok (.iload_n 2, 1) := dk_28 (dk_at dksX3_price_0 22 rfl rfl)
theorem dX3_price_23 : decode cX3_price 23 = .ok (.iconst 0, 1) := dk_3 (dk_at dksX3_price_0 23 rfl rfl)
theorem dX3_price_24 : decode cX3_price 24 = .ok (.iload_n 1, 1) := dk_27 (dk_at dksX3_price_1 0 rfl rfl)
theorem dX3_price_25 : decode cX3_price 25 = .ok (.iconst 2, 1) := dk_5 (dk_at dksX3_price_1 1 rfl rfl)
theorem dX3_price_26 : decode cX3_price 26 = .ok (.if_icmp .ne 8, 3) := dk_160 0 8 (dk_at dksX3_price_1 2 rfl rfl)
theorem dX3_price_29 : decode cX3_price 29 = .ok (.bipush 7, 2) := dk_16 7 (dk_at dksX3_price_1 5 rfl rfl)
theorem dX3_price_31 : decode cX3_price 31 = .ok (.goto 5, 3) := dk_167 0 5 (dk_at dksX3_price_1 7 rfl rfl)
theorem dX3_price_34 : decode cX3_price 34 = .ok (.bipush 9, 2) := dk_16 9 (dk_at dksX3_price_1 10 rfl rfl)
theorem dX3_price_36 : decode cX3_price 36 = .ok (.invokestatic 76, 3) := dk_184 0 76 (dk_at dksX3_price_1 12 rfl rfl)
theorem dX3_price_39 : decode cX3_price 39 = .ok (.ifCond .ne 6, 3) := dk_154 0 6 (dk_at dksX3_price_1 15 rfl rfl)
theorem dX3_price_42 : decode cX3_price 42 = .ok (.bipush (-2), 2) := dk_16 254 (dk_at dksX3_price_1 18 rfl rfl)
theorem dX3_price_44 : decode cX3_price 44 = .ok (.ireturn, 1) := dk_172 (dk_at dksX3_price_1 20 rfl rfl)
theorem dX3_price_45 : decode cX3_price 45 = .ok (.iload_n 1, 1) := dk_27 (dk_at dksX3_price_1 21 rfl rfl)
theorem dX3_price_46 : decode cX3_price 46 = .ok (.ifCond .ne 10, 3) := dk_154 0 10 (dk_at dksX3_price_2 0 rfl rfl)
theorem dX3_price_49 : decode cX3_price 49 = .ok (.aload_n 0, 1) := dk_42 (dk_at dksX3_price_2 3 rfl rfl)
theorem dX3_price_50 : decode cX3_price 50 = .ok (.getfield 113, 3) := dk_180 0 113 (dk_at dksX3_price_2 4 rfl rfl)
theorem dX3_price_53 : decode cX3_price 53 = .ok (.goto 19, 3) := dk_167 0 19 (dk_at dksX3_price_2 7 rfl rfl)
theorem dX3_price_56 : decode cX3_price 56 = .ok (.iload_n 1, 1) := dk_27 (dk_at dksX3_price_2 10 rfl rfl)
theorem dX3_price_57 : decode cX3_price 57 = .ok (.iconst 1, 1) := dk_4 (dk_at dksX3_price_2 11 rfl rfl)
theorem dX3_price_58 : decode cX3_price 58 = .ok (.if_icmp .ne 10, 3) := dk_160 0 10 (dk_at dksX3_price_2 12 rfl rfl)
theorem dX3_price_61 : decode cX3_price 61 = .ok (.aload_n 0, 1) := dk_42 (dk_at dksX3_price_2 15 rfl rfl)
theorem dX3_price_62 : decode cX3_price 62 = .ok (.getfield 116, 3) := dk_180 0 116 (dk_at dksX3_price_2 16 rfl rfl)
theorem dX3_price_65 : decode cX3_price 65 = .ok (.goto 7, 3) := dk_167 0 7 (dk_at dksX3_price_2 19 rfl rfl)
theorem dX3_price_68 : decode cX3_price 68 = .ok (.aload_n 0, 1) := dk_42 (dk_at dksX3_price_2 22 rfl rfl)
theorem dX3_price_69 : decode cX3_price 69 = .ok (.getfield 119, 3) := dk_180 0 119 (dk_at dksX3_price_3 0 rfl rfl)
theorem dX3_price_72 : decode cX3_price 72 = .ok (.istore_n 3, 1) := dk_62 (dk_at dksX3_price_3 3 rfl rfl)
theorem dX3_price_73 : decode cX3_price 73 = .ok (.aload_n 0, 1) := dk_42 (dk_at dksX3_price_3 4 rfl rfl)
theorem dX3_price_74 : decode cX3_price 74 = .ok (.iload_n 1, 1) := dk_27 (dk_at dksX3_price_3 5 rfl rfl)
theorem dX3_price_75 : decode cX3_price 75 = .ok (.ifCond .ne 7, 3) := dk_154 0 7 (dk_at dksX3_price_3 6 rfl rfl)
theorem dX3_price_78 : decode cX3_price 78 = .ok (.iload_n 2, 1) := dk_28 (dk_at dksX3_price_3 9 rfl rfl)
theorem dX3_price_79 : decode cX3_price 79 = .ok (.goto 7, 3) := dk_167 0 7 (dk_at dksX3_price_3 10 rfl rfl)
theorem dX3_price_82 : decode cX3_price 82 = .ok (.aload_n 0, 1) := dk_42 (dk_at dksX3_price_3 13 rfl rfl)
theorem dX3_price_83 : decode cX3_price 83 = .ok (.getfield 113, 3) := dk_180 0 113 (dk_at dksX3_price_3 14 rfl rfl)
theorem dX3_price_86 : decode cX3_price 86 = .ok (.putfield 113, 3) := dk_181 0 113 (dk_at dksX3_price_3 17 rfl rfl)
theorem dX3_price_89 : decode cX3_price 89 = .ok (.aload_n 0, 1) := dk_42 (dk_at dksX3_price_3 20 rfl rfl)
theorem dX3_price_90 : decode cX3_price 90 = .ok (.iload_n 1, 1) := dk_27 (dk_at dksX3_price_3 21 rfl rfl)
theorem dX3_price_91 : decode cX3_price 91 = .ok (.iconst 1, 1) := dk_4 (dk_at dksX3_price_3 22 rfl rfl)
theorem dX3_price_92 : decode cX3_price 92 = .ok (.if_icmp .ne 7, 3) := dk_160 0 7 (dk_at dksX3_price_4 0 rfl rfl)
theorem dX3_price_95 : decode cX3_price 95 = .ok (.iload_n 2, 1) := dk_28 (dk_at dksX3_price_4 3 rfl rfl)
theorem dX3_price_96 : decode cX3_price 96 = .ok (.goto 7, 3) := dk_167 0 7 (dk_at dksX3_price_4 4 rfl rfl)
theorem dX3_price_99 : decode cX3_price 99 = .ok (.aload_n 0, 1) := dk_42 (dk_at dksX3_price_4 7 rfl rfl)
theorem dX3_price_100 : decode cX3_price 100 = .ok (.getfield 116, 3) := dk_180 0 116 (dk_at dksX3_price_4 8 rfl rfl)
theorem dX3_price_103 : decode cX3_price 103 = .ok (.putfield 116, 3) := dk_181 0 116 (dk_at dksX3_price_4 11 rfl rfl)
theorem dX3_price_106 : decode cX3_price 106 = .ok (.aload_n 0, 1) := dk_42 (dk_at dksX3_price_4 14 rfl rfl)
theorem dX3_price_107 : decode cX3_price 107 = .ok (.iload_n 1, 1) := dk_27 (dk_at dksX3_price_4 15 rfl rfl)
theorem dX3_price_108 : decode cX3_price 108 = .ok (.iconst 2, 1) := dk_5 (dk_at dksX3_price_4 16 rfl rfl)
theorem dX3_price_109 : decode cX3_price 109 = .ok (.if_icmp .ne 7, 3) := dk_160 0 7 (dk_at dksX3_price_4 17 rfl rfl)
theorem dX3_price_112 : decode cX3_price 112 = .ok (.iload_n 2, 1) := dk_28 (dk_at dksX3_price_4 20 rfl rfl)
theorem dX3_price_113 : decode cX3_price 113 = .ok (.goto 7, 3) := dk_167 0 7 (dk_at dksX3_price_4 21 rfl rfl)
theorem dX3_price_116 : decode cX3_price 116 = .ok (.aload_n 0, 1) := dk_42 (dk_at dksX3_price_5 0 rfl rfl)
theorem dX3_price_117 : decode cX3_price 117 = .ok (.getfield 119, 3) := dk_180 0 119 (dk_at dksX3_price_5 1 rfl rfl)
theorem dX3_price_120 : decode cX3_price 120 = .ok (.putfield 119, 3) := dk_181 0 119 (dk_at dksX3_price_5 4 rfl rfl)
theorem dX3_price_123 : decode cX3_price 123 = .ok (.iload_n 3, 1) := dk_29 (dk_at dksX3_price_5 7 rfl rfl)
theorem dX3_price_124 : decode cX3_price 124 = .ok (.ireturn, 1) := dk_172 (dk_at dksX3_price_5 8 rfl rfl)
abbrev cX3_move : ByteArray := prog_25_method_33_code
def yX3_move : MethodName := ⟨RX3, "move", "(III)I"⟩
def dkwX3_move_5 : List UInt8 := [167, 255, 239, 132, 4, 1, 167, 255, 224, 28, 172]
abbrev dktX3_move_5 : List UInt8 := dkwX3_move_5 ++ []
def dkwX3_move_4 : List UInt8 := [162, 0, 32, 28, 54, 5, 21, 5, 158, 0, 18, 42, 21, 4, 21, 5, 96, 182, 0, 185, 132, 5, 255]
abbrev dktX3_move_4 : List UInt8 := dkwX3_move_4 ++ dktX3_move_5
def dkwX3_move_3 : List UInt8 := [21, 5, 96, 182, 0, 185, 132, 5, 1, 167, 255, 238, 132, 4, 255, 167, 255, 223, 27, 54, 4, 21, 4, 29]
abbrev dktX3_move_3 : List UInt8 := dkwX3_move_3 ++ dktX3_move_4
def dkwX3_move_2 : List UInt8 := [16, 254, 172, 27, 54, 4, 21, 4, 29, 164, 0, 33, 3, 54, 5, 21, 5, 28, 162, 0, 18, 42, 21, 4]
abbrev dktX3_move_2 : List UInt8 := dkwX3_move_2 ++ dktX3_move_3
def dkwX3_move_1 : List UInt8 := [180, 0, 83, 27, 100, 164, 0, 5, 2, 172, 29, 3, 42, 180, 0, 83, 28, 100, 184, 0, 76, 154, 0, 6]
abbrev dktX3_move_1 : List UInt8 := dkwX3_move_1 ++ dktX3_move_2
def dkwX3_move_0 : List UInt8 := [28, 4, 162, 0, 6, 16, 254, 172, 27, 155, 0, 21, 27, 42, 180, 0, 83, 162, 0, 13, 28, 42]
abbrev dktX3_move_0 : List UInt8 := dkwX3_move_0 ++ dktX3_move_1
theorem dksX3_move_0 : cX3_move.data.toList.drop 0 = dktX3_move_0 := by decide +kernel
theorem dksX3_move_1 : cX3_move.data.toList.drop 22 = dktX3_move_1 := dk_seg dksX3_move_0 22 rfl rfl
theorem dksX3_move_2 : cX3_move.data.toList.drop 46 = dktX3_move_2 := dk_seg dksX3_move_1 24 rfl rfl
theorem dksX3_move_3 : cX3_move.data.toList.drop 70 = dktX3_move_3 := dk_seg dksX3_move_2 24 rfl rfl
theorem dksX3_move_4 : cX3_move.data.toList.drop 94 = dktX3_move_4 := dk_seg dksX3_move_3 24 rfl rfl
theorem dksX3_move_5 : cX3_move.data.toList.drop 117 = dktX3_move_5 := dk_seg dksX3_move_4 23 rfl rfl
theorem dX3_move_0 : decode cX3_move 0 = .ok (.iload_n 2, 1) := dk_28 (dk_at dksX3_move_0 0 rfl rfl)
theorem dX3_move_1 : decode cX3_move 1 = .ok (.iconst 1, 1) := dk_4 (dk_at dksX3_move_0 1 rfl rfl)
theorem dX3_move_2 : decode cX3_move 2 = .ok (.if_icmp .ge 6, 3) := dk_162 0 6 (dk_at dksX3_move_0 2 rfl rfl)
theorem dX3_move_5 : decode cX3_move 5 = .ok (.bipush (-2), 2) := dk_16 254 (dk_at dksX3_move_0 5 rfl rfl)
theorem dX3_move_7 : decode cX3_move 7 = .ok (.ireturn, 1) := dk_172 (dk_at dksX3_move_0 7 rfl rfl)
theorem dX3_move_8 : decode cX3_move 8 = .ok (.iload_n 1, 1) := dk_27 (dk_at dksX3_move_0 8 rfl rfl)
theorem dX3_move_9 : decode cX3_move 9 = .ok (.ifCond .lt 21, 3) := dk_155 0 21 (dk_at dksX3_move_0 9 rfl rfl)
theorem dX3_move_12 : decode cX3_move 12 = .ok (.iload_n 1, 1) := dk_27 (dk_at dksX3_move_0 12 rfl rfl)
theorem dX3_move_13 : decode cX3_move 13 = .ok (.aload_n 0, 1) := dk_42 (dk_at dksX3_move_0 13 rfl rfl)
theorem dX3_move_14 : decode cX3_move 14 = .ok (.getfield 83, 3) := dk_180 0 83 (dk_at dksX3_move_0 14 rfl rfl)
theorem dX3_move_17 : decode cX3_move 17 = .ok (.if_icmp .ge 13, 3) := dk_162 0 13 (dk_at dksX3_move_0 17 rfl rfl)
theorem dX3_move_20 : decode cX3_move 20 = .ok (.iload_n 2, 1) := dk_28 (dk_at dksX3_move_0 20 rfl rfl)
theorem dX3_move_21 : decode cX3_move 21 = .ok (.aload_n 0, 1) := dk_42 (dk_at dksX3_move_0 21 rfl rfl)
theorem dX3_move_22 : decode cX3_move 22 = .ok (.getfield 83, 3) := dk_180 0 83 (dk_at dksX3_move_1 0 rfl rfl)
theorem dX3_move_25 : decode cX3_move 25 = .ok (.iload_n 1, 1) := dk_27 (dk_at dksX3_move_1 3 rfl rfl)
theorem dX3_move_26 : decode cX3_move 26 = .ok (.isub, 1) := dk_100 (dk_at dksX3_move_1 4 rfl rfl)
theorem dX3_move_27 : decode cX3_move 27 = .ok (.if_icmp .le 5, 3) := dk_164 0 5 (dk_at dksX3_move_1 5 rfl rfl)
theorem dX3_move_30 : decode cX3_move 30 = .ok (.iconst (-1), 1) := dk_2 (dk_at dksX3_move_1 8 rfl rfl)
theorem dX3_move_31 : decode cX3_move 31 = .ok (.ireturn, 1) := dk_172 (dk_at dksX3_move_1 9 rfl rfl)
theorem dX3_move_32 : decode cX3_move 32 = .ok (.iload_n 3, 1) := dk_29 (dk_at dksX3_move_1 10 rfl rfl)
theorem dX3_move_33 : decode cX3_move 33 = .ok (.iconst 0, 1) := dk_3 (dk_at dksX3_move_1 11 rfl rfl)
theorem dX3_move_34 : decode cX3_move 34 = .ok (.aload_n 0, 1) := dk_42 (dk_at dksX3_move_1 12 rfl rfl)
theorem dX3_move_35 : decode cX3_move 35 = .ok (.getfield 83, 3) := dk_180 0 83 (dk_at dksX3_move_1 13 rfl rfl)
theorem dX3_move_38 : decode cX3_move 38 = .ok (.iload_n 2, 1) := dk_28 (dk_at dksX3_move_1 16 rfl rfl)
theorem dX3_move_39 : decode cX3_move 39 = .ok (.isub, 1) := dk_100 (dk_at dksX3_move_1 17 rfl rfl)
theorem dX3_move_40 : decode cX3_move 40 = .ok (.invokestatic 76, 3) := dk_184 0 76 (dk_at dksX3_move_1 18 rfl rfl)
theorem dX3_move_43 : decode cX3_move 43 = .ok (.ifCond .ne 6, 3) := dk_154 0 6 (dk_at dksX3_move_1 21 rfl rfl)
theorem dX3_move_46 : decode cX3_move 46 = .ok (.bipush (-2), 2) := dk_16 254 (dk_at dksX3_move_2 0 rfl rfl)
theorem dX3_move_48 : decode cX3_move 48 = .ok (.ireturn, 1) := dk_172 (dk_at dksX3_move_2 2 rfl rfl)
theorem dX3_move_49 : decode cX3_move 49 = .ok (.iload_n 1, 1) := dk_27 (dk_at dksX3_move_2 3 rfl rfl)
theorem dX3_move_50 : decode cX3_move 50 = .ok (.istore 4, 2) := dk_54 4 (dk_at dksX3_move_2 4 rfl rfl)
theorem dX3_move_52 : decode cX3_move 52 = .ok (.iload 4, 2) := dk_21 4 (dk_at dksX3_move_2 6 rfl rfl)
theorem dX3_move_54 : decode cX3_move 54 = .ok (.iload_n 3, 1) := dk_29 (dk_at dksX3_move_2 8 rfl rfl)
theorem dX3_move_55 : decode cX3_move 55 = .ok (.if_icmp .le 33, 3) := dk_164 0 33 (dk_at dksX3_move_2 9 rfl rfl)
theorem dX3_move_58 : decode cX3_move 58 = .ok (.iconst 0, 1) := dk_3 (dk_at dksX3_move_2 12 rfl rfl)
theorem dX3_move_59 : decode cX3_move 59 = .ok (.istore 5, 2) := dk_54 5 (dk_at dksX3_move_2 13 rfl rfl)
theorem dX3_move_61 : decode cX3_move 61 = .ok (.iload 5, 2) := dk_21 5 (dk_at dksX3_move_2 15 rfl rfl)
theorem dX3_move_63 : decode cX3_move 63 = .ok (.iload_n 2, 1) := dk_28 (dk_at dksX3_move_2 17 rfl rfl)
theorem dX3_move_64 : decode cX3_move 64 = .ok (.if_icmp .ge 18, 3) := dk_162 0 18 (dk_at dksX3_move_2 18 rfl rfl)
theorem dX3_move_67 : decode cX3_move 67 = .ok (.aload_n 0, 1) := dk_42 (dk_at dksX3_move_2 21 rfl rfl)
theorem dX3_move_68 : decode cX3_move 68 = .ok (.iload 4, 2) := dk_21 4 (dk_at dksX3_move_2 22 rfl rfl)
theorem dX3_move_70 : decode cX3_move 70 = .ok (.iload 5, 2) := dk_21 5 (dk_at dksX3_move_3 0 rfl rfl)
theorem dX3_move_72 : decode cX3_move 72 = .ok (.iadd, 1) := dk_96 (dk_at dksX3_move_3 2 rfl rfl)
theorem dX3_move_73 : decode cX3_move 73 = .ok (.invokevirtual 185, 3) := dk_182 0 185 (dk_at dksX3_move_3 3 rfl rfl)
theorem dX3_move_76 : decode cX3_move 76 = .ok (.iinc 5 1, 3) := dk_132 5 1 (dk_at dksX3_move_3 6 rfl rfl)
theorem dX3_move_79 : decode cX3_move 79 = .ok (.goto (-18), 3) := dk_167 255 238 (dk_at dksX3_move_3 9 rfl rfl)
theorem dX3_move_82 : decode cX3_move 82 = .ok (.iinc 4 (-1), 3) := dk_132 4 255 (dk_at dksX3_move_3 12 rfl rfl)
theorem dX3_move_85 : decode cX3_move 85 = .ok (.goto (-33), 3) := dk_167 255 223 (dk_at dksX3_move_3 15 rfl rfl)
theorem dX3_move_88 : decode cX3_move 88 = .ok (.iload_n 1, 1) := dk_27 (dk_at dksX3_move_3 18 rfl rfl)
theorem dX3_move_89 : decode cX3_move 89 = .ok (.istore 4, 2) := dk_54 4 (dk_at dksX3_move_3 19 rfl rfl)
theorem dX3_move_91 : decode cX3_move 91 = .ok (.iload 4, 2) := dk_21 4 (dk_at dksX3_move_3 21 rfl rfl)
theorem dX3_move_93 : decode cX3_move 93 = .ok (.iload_n 3, 1) := dk_29 (dk_at dksX3_move_3 23 rfl rfl)
theorem dX3_move_94 : decode cX3_move 94 = .ok (.if_icmp .ge 32, 3) := dk_162 0 32 (dk_at dksX3_move_4 0 rfl rfl)
theorem dX3_move_97 : decode cX3_move 97 = .ok (.iload_n 2, 1) := dk_28 (dk_at dksX3_move_4 3 rfl rfl)
theorem dX3_move_98 : decode cX3_move 98 = .ok (.istore 5, 2) := dk_54 5 (dk_at dksX3_move_4 4 rfl rfl)
theorem dX3_move_100 : decode cX3_move 100 = .ok (.iload 5, 2) := dk_21 5 (dk_at dksX3_move_4 6 rfl rfl)
theorem dX3_move_102 : decode cX3_move 102 = .ok (.ifCond .le 18, 3) := dk_158 0 18 (dk_at dksX3_move_4 8 rfl rfl)
theorem dX3_move_105 : decode cX3_move 105 = .ok (.aload_n 0, 1) := dk_42 (dk_at dksX3_move_4 11 rfl rfl)
theorem dX3_move_106 : decode cX3_move 106 = .ok (.iload 4, 2) := dk_21 4 (dk_at dksX3_move_4 12 rfl rfl)
theorem dX3_move_108 : decode cX3_move 108 = .ok (.iload 5, 2) := dk_21 5 (dk_at dksX3_move_4 14 rfl rfl)
theorem dX3_move_110 : decode cX3_move 110 = .ok (.iadd, 1) := dk_96 (dk_at dksX3_move_4 16 rfl rfl)
theorem dX3_move_111 : decode cX3_move 111 = .ok (.invokevirtual 185, 3) := dk_182 0 185 (dk_at dksX3_move_4 17 rfl rfl)
theorem dX3_move_114 : decode cX3_move 114 = .ok (.iinc 5 (-1), 3) := dk_132 5 255 (dk_at dksX3_move_4 20 rfl rfl)
theorem dX3_move_117 : decode cX3_move 117 = .ok (.goto (-17), 3) := dk_167 255 239 (dk_at dksX3_move_5 0 rfl rfl)
theorem dX3_move_120 : decode cX3_move 120 = .ok (.iinc 4 1, 3) := dk_132 4 1 (dk_at dksX3_move_5 3 rfl rfl)
theorem dX3_move_123 : decode cX3_move 123 = .ok (.goto (-32), 3) := dk_167 255 224 (dk_at dksX3_move_5 6 rfl rfl)
theorem dX3_move_126 : decode cX3_move 126 = .ok (.iload_n 2, 1) := dk_28 (dk_at dksX3_move_5 9 rfl rfl)
theorem dX3_move_127 : decode cX3_move 127 = .ok (.ireturn, 1) := dk_172 (dk_at dksX3_move_5 10 rfl rfl)
abbrev cX3_goesUp : ByteArray := prog_25_method_32_code
def yX3_goesUp : MethodName := ⟨RX3, "goesUp", "(I)V"⟩
def dkwX3_goesUp_2 : List UInt8 := [100, 28, 79, 42, 180, 0, 31, 27, 4, 100, 29, 79, 177]
abbrev dktX3_goesUp_2 : List UInt8 := dkwX3_goesUp_2 ++ []
def dkwX3_goesUp_1 : List UInt8 := [4, 100, 46, 79, 42, 180, 0, 31, 27, 42, 180, 0, 31, 27, 4, 100, 46, 79, 42, 180, 0, 28, 27, 4]
abbrev dktX3_goesUp_1 : List UInt8 := dkwX3_goesUp_1 ++ dktX3_goesUp_2
def dkwX3_goesUp_0 : List UInt8 := [42, 180, 0, 28, 27, 46, 61, 42, 180, 0, 31, 27, 46, 62, 42, 180, 0, 28, 27, 42, 180, 0, 28, 27]
abbrev dktX3_goesUp_0 : List UInt8 := dkwX3_goesUp_0 ++ dktX3_goesUp_1
theorem dksX3_goesUp_0 : cX3_goesUp.data.toList.drop 0 = dktX3_goesUp_0 := by decide +kernel
theorem dksX3_goesUp_1 : cX3_goesUp.data.toList.drop 24 = dktX3_goesUp_1 := dk_seg dksX3_goesUp_0 24 rfl rfl
theorem dksX3_goesUp_2 : cX3_goesUp.data.toList.drop 48 = dktX3_goesUp_2 := dk_seg dksX3_goesUp_1 24 rfl rfl
theorem dX3_goesUp_0 : decode cX3_goesUp 0 = .ok (.aload_n 0, 1) := dk_42 (dk_at dksX3_goesUp_0 0 rfl rfl)
theorem dX3_goesUp_1 : decode cX3_goesUp 1 = .ok (.getfield 28, 3) := dk_180 0 28 (dk_at dksX3_goesUp_0 1 rfl rfl)
theorem dX3_goesUp_4 : decode cX3_goesUp 4 = .ok (.iload_n 1, 1) := dk_27 (dk_at dksX3_goesUp_0 4 rfl rfl)
theorem dX3_goesUp_5 : decode cX3_goesUp 5 = .ok (.iaload, 1) := dk_46 (dk_at dksX3_goesUp_0 5 rfl rfl)
theorem dX3_goesUp_6 : decode cX3_goesUp 6 = .ok (.istore_n 2, 1) := dk_61 (dk_at dksX3_goesUp_0 6 rfl rfl)
theorem dX3_goesUp_7 : decode cX3_goesUp 7 = .ok (.aload_n 0, 1) := dk_42 (dk_at dksX3_goesUp_0 7 rfl rfl)
theorem dX3_goesUp_8 : decode cX3_goesUp 8 = .ok (.getfield 31, 3) := dk_180 0 31 (dk_at dksX3_goesUp_0 8 rfl rfl)
theorem dX3_goesUp_11 : decode cX3_goesUp 11 = .ok (.iload_n 1, 1) := dk_27 (dk_at dksX3_goesUp_0 11 rfl rfl)
theorem dX3_goesUp_12 : decode cX3_goesUp 12 = .ok (.iaload, 1) := dk_46 (dk_at dksX3_goesUp_0 12 rfl rfl)
theorem dX3_goesUp_13 : decode cX3_goesUp 13 = .ok (.istore_n 3, 1) := dk_62 (dk_at dksX3_goesUp_0 13 rfl rfl)
theorem dX3_goesUp_14 : decode cX3_goesUp 14 = .ok (.aload_n 0, 1) := dk_42 (dk_at dksX3_goesUp_0 14 rfl rfl)
theorem dX3_goesUp_15 : decode cX3_goesUp 15 = .ok (.getfield 28, 3) := dk_180 0 28 (dk_at dksX3_goesUp_0 15 rfl rfl)
theorem dX3_goesUp_18 : decode cX3_goesUp 18 = .ok (.iload_n 1, 1) := dk_27 (dk_at dksX3_goesUp_0 18 rfl rfl)
theorem dX3_goesUp_19 : decode cX3_goesUp 19 = .ok (.aload_n 0, 1) := dk_42 (dk_at dksX3_goesUp_0 19 rfl rfl)
theorem dX3_goesUp_20 : decode cX3_goesUp 20 = .ok (.getfield 28, 3) := dk_180 0 28 (dk_at dksX3_goesUp_0 20 rfl rfl)
theorem dX3_goesUp_23 : decode cX3_goesUp 23 = .ok (.iload_n 1, 1) := dk_27 (dk_at dksX3_goesUp_0 23 rfl rfl)
theorem dX3_goesUp_24 : decode cX3_goesUp 24 = .ok (.iconst 1, 1) := dk_4 (dk_at dksX3_goesUp_1 0 rfl rfl)
theorem dX3_goesUp_25 : decode cX3_goesUp 25 = .ok (.isub, 1) := dk_100 (dk_at dksX3_goesUp_1 1 rfl rfl)
theorem dX3_goesUp_26 : decode cX3_goesUp 26 = .ok (.iaload, 1) := dk_46 (dk_at dksX3_goesUp_1 2 rfl rfl)
theorem dX3_goesUp_27 : decode cX3_goesUp 27 = .ok (.iastore, 1) := dk_79 (dk_at dksX3_goesUp_1 3 rfl rfl)
theorem dX3_goesUp_28 : decode cX3_goesUp 28 = .ok (.aload_n 0, 1) := dk_42 (dk_at dksX3_goesUp_1 4 rfl rfl)
theorem dX3_goesUp_29 : decode cX3_goesUp 29 = .ok (.getfield 31, 3) := dk_180 0 31 (dk_at dksX3_goesUp_1 5 rfl rfl)
theorem dX3_goesUp_32 : decode cX3_goesUp 32 = .ok (.iload_n 1, 1) := dk_27 (dk_at dksX3_goesUp_1 8 rfl rfl)
theorem dX3_goesUp_33 : decode cX3_goesUp 33 = .ok (.aload_n 0, 1) := dk_42 (dk_at dksX3_goesUp_1 9 rfl rfl)
theorem dX3_goesUp_34 : decode cX3_goesUp 34 = .ok (.getfield 31, 3) := dk_180 0 31 (dk_at dksX3_goesUp_1 10 rfl rfl)
theorem dX3_goesUp_37 : decode cX3_goesUp 37 = .ok (.iload_n 1, 1) := dk_27 (dk_at dksX3_goesUp_1 13 rfl rfl)
theorem dX3_goesUp_38 : decode cX3_goesUp 38 = .ok (.iconst 1, 1) := dk_4 (dk_at dksX3_goesUp_1 14 rfl rfl)
theorem dX3_goesUp_39 : decode cX3_goesUp 39 = .ok (.isub, 1) := dk_100 (dk_at dksX3_goesUp_1 15 rfl rfl)
theorem dX3_goesUp_40 : decode cX3_goesUp 40 = .ok (.iaload, 1) := dk_46 (dk_at dksX3_goesUp_1 16 rfl rfl)
theorem dX3_goesUp_41 : decode cX3_goesUp 41 = .ok (.iastore, 1) := dk_79 (dk_at dksX3_goesUp_1 17 rfl rfl)
theorem dX3_goesUp_42 : decode cX3_goesUp 42 = .ok (.aload_n 0, 1) := dk_42 (dk_at dksX3_goesUp_1 18 rfl rfl)
theorem dX3_goesUp_43 : decode cX3_goesUp 43 = .ok (.getfield 28, 3) := dk_180 0 28 (dk_at dksX3_goesUp_1 19 rfl rfl)
theorem dX3_goesUp_46 : decode cX3_goesUp 46 = .ok (.iload_n 1, 1) := dk_27 (dk_at dksX3_goesUp_1 22 rfl rfl)
theorem dX3_goesUp_47 : decode cX3_goesUp 47 = .ok (.iconst 1, 1) := dk_4 (dk_at dksX3_goesUp_1 23 rfl rfl)
theorem dX3_goesUp_48 : decode cX3_goesUp 48 = .ok (.isub, 1) := dk_100 (dk_at dksX3_goesUp_2 0 rfl rfl)
theorem dX3_goesUp_49 : decode cX3_goesUp 49 = .ok (.iload_n 2, 1) := dk_28 (dk_at dksX3_goesUp_2 1 rfl rfl)
theorem dX3_goesUp_50 : decode cX3_goesUp 50 = .ok (.iastore, 1) := dk_79 (dk_at dksX3_goesUp_2 2 rfl rfl)
theorem dX3_goesUp_51 : decode cX3_goesUp 51 = .ok (.aload_n 0, 1) := dk_42 (dk_at dksX3_goesUp_2 3 rfl rfl)
theorem dX3_goesUp_52 : decode cX3_goesUp 52 = .ok (.getfield 31, 3) := dk_180 0 31 (dk_at dksX3_goesUp_2 4 rfl rfl)
theorem dX3_goesUp_55 : decode cX3_goesUp 55 = .ok (.iload_n 1, 1) := dk_27 (dk_at dksX3_goesUp_2 7 rfl rfl)
theorem dX3_goesUp_56 : decode cX3_goesUp 56 = .ok (.iconst 1, 1) := dk_4 (dk_at dksX3_goesUp_2 8 rfl rfl)
theorem dX3_goesUp_57 : decode cX3_goesUp 57 = .ok (.isub, 1) := dk_100 (dk_at dksX3_goesUp_2 9 rfl rfl)
theorem dX3_goesUp_58 : decode cX3_goesUp 58 = .ok (.iload_n 3, 1) := dk_29 (dk_at dksX3_goesUp_2 10 rfl rfl)
theorem dX3_goesUp_59 : decode cX3_goesUp 59 = .ok (.iastore, 1) := dk_79 (dk_at dksX3_goesUp_2 11 rfl rfl)
theorem dX3_goesUp_60 : decode cX3_goesUp 60 = .ok (.return_, 1) := dk_177 (dk_at dksX3_goesUp_2 12 rfl rfl)
abbrev cX3_best : ByteArray := prog_25_method_34_code
def yX3_best : MethodName := ⟨RX3, "best", "(I)I"⟩
def dkwX3_best_2 : List UInt8 := [167, 0, 4, 3, 182, 0, 189, 172]
abbrev dktX3_best_2 : List UInt8 := dkwX3_best_2 ++ []
def dkwX3_best_1 : List UInt8 := [4, 160, 0, 7, 5, 167, 0, 22, 27, 5, 160, 0, 7, 6, 167, 0, 13, 27, 6, 160, 0, 7, 7]
abbrev dktX3_best_1 : List UInt8 := dkwX3_best_1 ++ dktX3_best_2
def dkwX3_best_0 : List UInt8 := [27, 3, 6, 184, 0, 76, 154, 0, 6, 16, 254, 172, 42, 180, 0, 80, 154, 0, 6, 16, 253, 172, 42, 27]
abbrev dktX3_best_0 : List UInt8 := dkwX3_best_0 ++ dktX3_best_1
theorem dksX3_best_0 : cX3_best.data.toList.drop 0 = dktX3_best_0 := by decide +kernel
theorem dksX3_best_1 : cX3_best.data.toList.drop 24 = dktX3_best_1 := dk_seg dksX3_best_0 24 rfl rfl
theorem dksX3_best_2 : cX3_best.data.toList.drop 47 = dktX3_best_2 := dk_seg dksX3_best_1 23 rfl rfl
theorem dX3_best_0 : decode cX3_best 0 = .ok (.iload_n 1, 1) := dk_27 (dk_at dksX3_best_0 0 rfl rfl)
theorem dX3_best_1 : decode cX3_best 1 = .ok (.iconst 0, 1) := dk_3 (dk_at dksX3_best_0 1 rfl rfl)
theorem dX3_best_2 : decode cX3_best 2 = .ok (.iconst 3, 1) := dk_6 (dk_at dksX3_best_0 2 rfl rfl)
theorem dX3_best_3 : decode cX3_best 3 = .ok (.invokestatic 76, 3) := dk_184 0 76 (dk_at dksX3_best_0 3 rfl rfl)
theorem dX3_best_6 : decode cX3_best 6 = .ok (.ifCond .ne 6, 3) := dk_154 0 6 (dk_at dksX3_best_0 6 rfl rfl)
theorem dX3_best_9 : decode cX3_best 9 = .ok (.bipush (-2), 2) := dk_16 254 (dk_at dksX3_best_0 9 rfl rfl)
theorem dX3_best_11 : decode cX3_best 11 = .ok (.ireturn, 1) := dk_172 (dk_at dksX3_best_0 11 rfl rfl)
theorem dX3_best_12 : decode cX3_best 12 = .ok (.aload_n 0, 1) := dk_42 (dk_at dksX3_best_0 12 rfl rfl)
theorem dX3_best_13 : decode cX3_best 13 = .ok (.getfield 80, 3) := dk_180 0 80 (dk_at dksX3_best_0 13 rfl rfl)
theorem dX3_best_16 : decode cX3_best 16 = .ok (.ifCond .ne 6, 3) := dk_154 0 6 (dk_at dksX3_best_0 16 rfl rfl)
theorem dX3_best_19 : decode cX3_best 19 = .ok (.bipush (-3), 2) := dk_16 253 (dk_at dksX3_best_0 19 rfl rfl)
theorem dX3_best_21 : decode cX3_best 21 = .ok (.ireturn, 1) := dk_172 (dk_at dksX3_best_0 21 rfl rfl)
theorem dX3_best_22 : decode cX3_best 22 = .ok (.aload_n 0, 1) := dk_42 (dk_at dksX3_best_0 22 rfl rfl)
theorem dX3_best_23 : decode cX3_best 23 = .ok (.iload_n 1, 1) := dk_27 (dk_at dksX3_best_0 23 rfl rfl)
theorem dX3_best_24 : decode cX3_best 24 = .ok (.iconst 1, 1) := dk_4 (dk_at dksX3_best_1 0 rfl rfl)
theorem dX3_best_25 : decode cX3_best 25 = .ok (.if_icmp .ne 7, 3) := dk_160 0 7 (dk_at dksX3_best_1 1 rfl rfl)
theorem dX3_best_28 : decode cX3_best 28 = .ok (.iconst 2, 1) := dk_5 (dk_at dksX3_best_1 4 rfl rfl)
theorem dX3_best_29 : decode cX3_best 29 = .ok (.goto 22, 3) := dk_167 0 22 (dk_at dksX3_best_1 5 rfl rfl)
theorem dX3_best_32 : decode cX3_best 32 = .ok (.iload_n 1, 1) := dk_27 (dk_at dksX3_best_1 8 rfl rfl)
theorem dX3_best_33 : decode cX3_best 33 = .ok (.iconst 2, 1) := dk_5 (dk_at dksX3_best_1 9 rfl rfl)
theorem dX3_best_34 : decode cX3_best 34 = .ok (.if_icmp .ne 7, 3) := dk_160 0 7 (dk_at dksX3_best_1 10 rfl rfl)
theorem dX3_best_37 : decode cX3_best 37 = .ok (.iconst 3, 1) := dk_6 (dk_at dksX3_best_1 13 rfl rfl)
theorem dX3_best_38 : decode cX3_best 38 = .ok (.goto 13, 3) := dk_167 0 13 (dk_at dksX3_best_1 14 rfl rfl)
theorem dX3_best_41 : decode cX3_best 41 = .ok (.iload_n 1, 1) := dk_27 (dk_at dksX3_best_1 17 rfl rfl)
theorem dX3_best_42 : decode cX3_best 42 = .ok (.iconst 3, 1) := dk_6 (dk_at dksX3_best_1 18 rfl rfl)
theorem dX3_best_43 : decode cX3_best 43 = .ok (.if_icmp .ne 7, 3) := dk_160 0 7 (dk_at dksX3_best_1 19 rfl rfl)
theorem dX3_best_46 : decode cX3_best 46 = .ok (.iconst 4, 1) := dk_7 (dk_at dksX3_best_1 22 rfl rfl)
theorem dX3_best_47 : decode cX3_best 47 = .ok (.goto 4, 3) := dk_167 0 4 (dk_at dksX3_best_2 0 rfl rfl)
theorem dX3_best_50 : decode cX3_best 50 = .ok (.iconst 0, 1) := dk_3 (dk_at dksX3_best_2 3 rfl rfl)
theorem dX3_best_51 : decode cX3_best 51 = .ok (.invokevirtual 189, 3) := dk_182 0 189 (dk_at dksX3_best_2 4 rfl rfl)
theorem dX3_best_54 : decode cX3_best 54 = .ok (.ireturn, 1) := dk_172 (dk_at dksX3_best_2 7 rfl rfl)
abbrev cX3_tellBest : ByteArray := prog_25_method_35_code
def yX3_tellBest : MethodName := ⟨RX3, "tellBest", "(I)I"⟩
def dkwX3_tellBest_3 : List UInt8 := [167, 0, 9, 42, 180, 0, 46, 3, 46, 172]
abbrev dktX3_tellBest_3 : List UInt8 := dkwX3_tellBest_3 ++ []
def dkwX3_tellBest_2 : List UInt8 := [161, 0, 6, 16, 247, 172, 27, 154, 0, 7, 28, 167, 0, 21, 27, 5, 160, 0, 10, 42, 180, 0, 165]
abbrev dktX3_tellBest_2 : List UInt8 := dkwX3_tellBest_2 ++ dktX3_tellBest_3
def dkwX3_tellBest_1 : List UInt8 := [3, 46, 172, 28, 16, 247, 159, 0, 19, 27, 6, 160, 0, 17, 42, 180, 0, 46, 3, 46, 18, 147]
abbrev dktX3_tellBest_1 : List UInt8 := dkwX3_tellBest_1 ++ dktX3_tellBest_2
def dkwX3_tellBest_0 : List UInt8 := [42, 182, 0, 174, 61, 27, 7, 160, 0, 20, 28, 16, 247, 160, 0, 7, 3, 167, 0, 9, 42, 180, 0, 49]
abbrev dktX3_tellBest_0 : List UInt8 := dkwX3_tellBest_0 ++ dktX3_tellBest_1
theorem dksX3_tellBest_0 : cX3_tellBest.data.toList.drop 0 = dktX3_tellBest_0 := by decide +kernel
theorem dksX3_tellBest_1 : cX3_tellBest.data.toList.drop 24 = dktX3_tellBest_1 := dk_seg dksX3_tellBest_0 24 rfl rfl
theorem dksX3_tellBest_2 : cX3_tellBest.data.toList.drop 46 = dktX3_tellBest_2 := dk_seg dksX3_tellBest_1 22 rfl rfl
theorem dksX3_tellBest_3 : cX3_tellBest.data.toList.drop 69 = dktX3_tellBest_3 := dk_seg dksX3_tellBest_2 23 rfl rfl
theorem dX3_tellBest_0 : decode cX3_tellBest 0 = .ok (.aload_n 0, 1) := dk_42 (dk_at dksX3_tellBest_0 0 rfl rfl)
theorem dX3_tellBest_1 : decode cX3_tellBest 1 = .ok (.invokevirtual 174, 3) := dk_182 0 174 (dk_at dksX3_tellBest_0 1 rfl rfl)
theorem dX3_tellBest_4 : decode cX3_tellBest 4 = .ok (.istore_n 2, 1) := dk_61 (dk_at dksX3_tellBest_0 4 rfl rfl)
theorem dX3_tellBest_5 : decode cX3_tellBest 5 = .ok (.iload_n 1, 1) := dk_27 (dk_at dksX3_tellBest_0 5 rfl rfl)
theorem dX3_tellBest_6 : decode cX3_tellBest 6 = .ok (.iconst 4, 1) := dk_7 (dk_at dksX3_tellBest_0 6 rfl rfl)
theorem dX3_tellBest_7 : decode cX3_tellBest 7 = .ok (.if_icmp .ne 20, 3) := dk_160 0 20 (dk_at dksX3_tellBest_0 7 rfl rfl)
theorem dX3_tellBest_10 : decode cX3_tellBest 10 = .ok (.iload_n 2, 1) := dk_28 (dk_at dksX3_tellBest_0 10 rfl rfl)
theorem dX3_tellBest_11 : decode cX3_tellBest 11 = .ok (.bipush (-9), 2) := dk_16 247 (dk_at dksX3_tellBest_0 11 rfl rfl)
theorem dX3_tellBest_13 : decode cX3_tellBest 13 = .ok (.if_icmp .ne 7, 3) := dk_160 0 7 (dk_at dksX3_tellBest_0 13 rfl rfl)
theorem dX3_tellBest_16 : decode cX3_tellBest 16 = .ok (.iconst 0, 1) := dk_3 (dk_at dksX3_tellBest_0 16 rfl rfl)
theorem dX3_tellBest_17 : decode cX3_tellBest 17 = .ok (.goto 9, 3) := dk_167 0 9 (dk_at dksX3_tellBest_0 17 rfl rfl)
theorem dX3_tellBest_20 : decode cX3_tellBest 20 = .ok (.aload_n 0, 1) := dk_42 (dk_at dksX3_tellBest_0 20 rfl rfl)
theorem dX3_tellBest_21 : decode cX3_tellBest 21 = .ok (.getfield 49, 3) := dk_180 0 49 (dk_at dksX3_tellBest_0 21 rfl rfl)
theorem dX3_tellBest_24 : decode cX3_tellBest 24 = .ok (.iconst 0, 1) := dk_3 (dk_at dksX3_tellBest_1 0 rfl rfl)
theorem dX3_tellBest_25 : decode cX3_tellBest 25 = .ok (.iaload, 1) := dk_46 (dk_at dksX3_tellBest_1 1 rfl rfl)
theorem dX3_tellBest_26 : decode cX3_tellBest 26 = .ok (.ireturn, 1) := dk_172 (dk_at dksX3_tellBest_1 2 rfl rfl)
theorem dX3_tellBest_27 : decode cX3_tellBest 27 = .ok (.iload_n 2, 1) := dk_28 (dk_at dksX3_tellBest_1 3 rfl rfl)
theorem dX3_tellBest_28 : decode cX3_tellBest 28 = .ok (.bipush (-9), 2) := dk_16 247 (dk_at dksX3_tellBest_1 4 rfl rfl)
theorem dX3_tellBest_30 : decode cX3_tellBest 30 = .ok (.if_icmp .eq 19, 3) := dk_159 0 19 (dk_at dksX3_tellBest_1 6 rfl rfl)
theorem dX3_tellBest_33 : decode cX3_tellBest 33 = .ok (.iload_n 1, 1) := dk_27 (dk_at dksX3_tellBest_1 9 rfl rfl)
theorem dX3_tellBest_34 : decode cX3_tellBest 34 = .ok (.iconst 3, 1) := dk_6 (dk_at dksX3_tellBest_1 10 rfl rfl)
theorem dX3_tellBest_35 : decode cX3_tellBest 35 = .ok (.if_icmp .ne 17, 3) := dk_160 0 17 (dk_at dksX3_tellBest_1 11 rfl rfl)
theorem dX3_tellBest_38 : decode cX3_tellBest 38 = .ok (.aload_n 0, 1) := dk_42 (dk_at dksX3_tellBest_1 14 rfl rfl)
theorem dX3_tellBest_39 : decode cX3_tellBest 39 = .ok (.getfield 46, 3) := dk_180 0 46 (dk_at dksX3_tellBest_1 15 rfl rfl)
theorem dX3_tellBest_42 : decode cX3_tellBest 42 = .ok (.iconst 0, 1) := dk_3 (dk_at dksX3_tellBest_1 18 rfl rfl)
theorem dX3_tellBest_43 : decode cX3_tellBest 43 = .ok (.iaload, 1) := dk_46 (dk_at dksX3_tellBest_1 19 rfl rfl)
theorem dX3_tellBest_44 : decode cX3_tellBest 44 = .ok (.ldc 147, 2) := dk_18 147 (dk_at dksX3_tellBest_1 20 rfl rfl)
theorem dX3_tellBest_46 : decode cX3_tellBest 46 = .ok (.if_icmp .lt 6, 3) := dk_161 0 6 (dk_at dksX3_tellBest_2 0 rfl rfl)
theorem dX3_tellBest_49 : decode cX3_tellBest 49 = .ok (.bipush (-9), 2) := dk_16 247 (dk_at dksX3_tellBest_2 3 rfl rfl)
theorem dX3_tellBest_51 : decode cX3_tellBest 51 = .ok (.ireturn, 1) := dk_172 (dk_at dksX3_tellBest_2 5 rfl rfl)
theorem dX3_tellBest_52 : decode cX3_tellBest 52 = .ok (.iload_n 1, 1) := dk_27 (dk_at dksX3_tellBest_2 6 rfl rfl)
theorem dX3_tellBest_53 : decode cX3_tellBest 53 = .ok (.ifCond .ne 7, 3) := dk_154 0 7 (dk_at dksX3_tellBest_2 7 rfl rfl)
theorem dX3_tellBest_56 : decode cX3_tellBest 56 = .ok (.iload_n 2, 1) := dk_28 (dk_at dksX3_tellBest_2 10 rfl rfl)
theorem dX3_tellBest_57 : decode cX3_tellBest 57 = .ok (.goto 21, 3) := dk_167 0 21 (dk_at dksX3_tellBest_2 11 rfl rfl)
theorem dX3_tellBest_60 : decode cX3_tellBest 60 = .ok (.iload_n 1, 1) := dk_27 (dk_at dksX3_tellBest_2 14 rfl rfl)
theorem dX3_tellBest_61 : decode cX3_tellBest 61 = .ok (.iconst 2, 1) := dk_5 (dk_at dksX3_tellBest_2 15 rfl rfl)
theorem dX3_tellBest_62 : decode cX3_tellBest 62 = .ok (.if_icmp .ne 10, 3) := dk_160 0 10 (dk_at dksX3_tellBest_2 16 rfl rfl)
theorem dX3_tellBest_65 : decode cX3_tellBest 65 = .ok (.aload_n 0, 1) := dk_42 (dk_at dksX3_tellBest_2 19 rfl rfl)
theorem dX3_tellBest_66 : decode cX3_tellBest 66 = .ok (.getfield 165, 3) := dk_180 0 165 (dk_at dksX3_tellBest_2 20 rfl rfl)
theorem dX3_tellBest_69 : decode cX3_tellBest 69 = .ok (.goto 9, 3) := dk_167 0 9 (dk_at dksX3_tellBest_3 0 rfl rfl)
theorem dX3_tellBest_72 : decode cX3_tellBest 72 = .ok (.aload_n 0, 1) := dk_42 (dk_at dksX3_tellBest_3 3 rfl rfl)
theorem dX3_tellBest_73 : decode cX3_tellBest 73 = .ok (.getfield 46, 3) := dk_180 0 46 (dk_at dksX3_tellBest_3 4 rfl rfl)
theorem dX3_tellBest_76 : decode cX3_tellBest 76 = .ok (.iconst 0, 1) := dk_3 (dk_at dksX3_tellBest_3 7 rfl rfl)
theorem dX3_tellBest_77 : decode cX3_tellBest 77 = .ok (.iaload, 1) := dk_46 (dk_at dksX3_tellBest_3 8 rfl rfl)
theorem dX3_tellBest_78 : decode cX3_tellBest 78 = .ok (.ireturn, 1) := dk_172 (dk_at dksX3_tellBest_3 9 rfl rfl)
abbrev cX3_ofPair : ByteArray := prog_25_method_36_code
def yX3_ofPair : MethodName := ⟨RX3, "ofPair", "(II)I"⟩
def dkwX3_ofPair_3 : List UInt8 := [180, 0, 52, 27, 46, 42, 180, 0, 55, 27, 46, 42, 180, 0, 58, 27, 46, 182, 0, 151, 172, 16, 254, 172]
abbrev dktX3_ofPair_3 : List UInt8 := dkwX3_ofPair_3 ++ []
def dkwX3_ofPair_2 : List UInt8 := [42, 180, 0, 52, 27, 46, 172, 42, 180, 0, 55, 27, 46, 172, 42, 180, 0, 58, 27, 46, 172, 42, 42]
abbrev dktX3_ofPair_2 : List UInt8 := dkwX3_ofPair_2 ++ dktX3_ofPair_3
def dkwX3_ofPair_1 : List UInt8 := [170, 0, 0, 0, 0, 0, 0, 76, 0, 0, 0, 0, 0, 0, 0, 3, 0, 0, 0, 32, 0, 0, 0, 39, 0, 0, 0, 46, 0, 0, 0, 53]
abbrev dktX3_ofPair_1 : List UInt8 := dkwX3_ofPair_1 ++ dktX3_ofPair_2
def dkwX3_ofPair_0 : List UInt8 := [42, 182, 0, 174, 87, 27, 155, 0, 11, 27, 42, 180, 0, 165, 161, 0, 5, 2, 172, 28]
abbrev dktX3_ofPair_0 : List UInt8 := dkwX3_ofPair_0 ++ dktX3_ofPair_1
theorem dksX3_ofPair_0 : cX3_ofPair.data.toList.drop 0 = dktX3_ofPair_0 := by decide +kernel
theorem dksX3_ofPair_1 : cX3_ofPair.data.toList.drop 20 = dktX3_ofPair_1 := dk_seg dksX3_ofPair_0 20 rfl rfl
theorem dksX3_ofPair_2 : cX3_ofPair.data.toList.drop 52 = dktX3_ofPair_2 := dk_seg dksX3_ofPair_1 32 rfl rfl
theorem dksX3_ofPair_3 : cX3_ofPair.data.toList.drop 75 = dktX3_ofPair_3 := dk_seg dksX3_ofPair_2 23 rfl rfl
theorem dX3_ofPair_0 : decode cX3_ofPair 0 = .ok (.aload_n 0, 1) := dk_42 (dk_at dksX3_ofPair_0 0 rfl rfl)
theorem dX3_ofPair_1 : decode cX3_ofPair 1 = .ok (.invokevirtual 174, 3) := dk_182 0 174 (dk_at dksX3_ofPair_0 1 rfl rfl)
theorem dX3_ofPair_4 : decode cX3_ofPair 4 = .ok (.pop, 1) := dk_87 (dk_at dksX3_ofPair_0 4 rfl rfl)
theorem dX3_ofPair_5 : decode cX3_ofPair 5 = .ok (.iload_n 1, 1) := dk_27 (dk_at dksX3_ofPair_0 5 rfl rfl)
theorem dX3_ofPair_6 : decode cX3_ofPair 6 = .ok (.ifCond .lt 11, 3) := dk_155 0 11 (dk_at dksX3_ofPair_0 6 rfl rfl)
theorem dX3_ofPair_9 : decode cX3_ofPair 9 = .ok (.iload_n 1, 1) := dk_27 (dk_at dksX3_ofPair_0 9 rfl rfl)
theorem dX3_ofPair_10 : decode cX3_ofPair 10 = .ok (.aload_n 0, 1) := dk_42 (dk_at dksX3_ofPair_0 10 rfl rfl)
theorem dX3_ofPair_11 : decode cX3_ofPair 11 = .ok (.getfield 165, 3) := dk_180 0 165 (dk_at dksX3_ofPair_0 11 rfl rfl)
theorem dX3_ofPair_14 : decode cX3_ofPair 14 = .ok (.if_icmp .lt 5, 3) := dk_161 0 5 (dk_at dksX3_ofPair_0 14 rfl rfl)
theorem dX3_ofPair_17 : decode cX3_ofPair 17 = .ok (.iconst (-1), 1) := dk_2 (dk_at dksX3_ofPair_0 17 rfl rfl)
theorem dX3_ofPair_18 : decode cX3_ofPair 18 = .ok (.ireturn, 1) := dk_172 (dk_at dksX3_ofPair_0 18 rfl rfl)
theorem dX3_ofPair_19 : decode cX3_ofPair 19 = .ok (.iload_n 2, 1) := dk_28 (dk_at dksX3_ofPair_0 19 rfl rfl)
theorem dX3_ofPair_20 : decode cX3_ofPair 20 = .ok (.tableswitch 76 0 3 #[32, 39, 46, 53], 32) := by decide +kernel
theorem dX3_ofPair_52 : decode cX3_ofPair 52 = .ok (.aload_n 0, 1) := dk_42 (dk_at dksX3_ofPair_2 0 rfl rfl)
theorem dX3_ofPair_53 : decode cX3_ofPair 53 = .ok (.getfield 52, 3) := dk_180 0 52 (dk_at dksX3_ofPair_2 1 rfl rfl)
theorem dX3_ofPair_56 : decode cX3_ofPair 56 = .ok (.iload_n 1, 1) := dk_27 (dk_at dksX3_ofPair_2 4 rfl rfl)
theorem dX3_ofPair_57 : decode cX3_ofPair 57 = .ok (.iaload, 1) := dk_46 (dk_at dksX3_ofPair_2 5 rfl rfl)
theorem dX3_ofPair_58 : decode cX3_ofPair 58 = .ok (.ireturn, 1) := dk_172 (dk_at dksX3_ofPair_2 6 rfl rfl)
theorem dX3_ofPair_59 : decode cX3_ofPair 59 = .ok (.aload_n 0, 1) := dk_42 (dk_at dksX3_ofPair_2 7 rfl rfl)
theorem dX3_ofPair_60 : decode cX3_ofPair 60 = .ok (.getfield 55, 3) := dk_180 0 55 (dk_at dksX3_ofPair_2 8 rfl rfl)
theorem dX3_ofPair_63 : decode cX3_ofPair 63 = .ok (.iload_n 1, 1) := dk_27 (dk_at dksX3_ofPair_2 11 rfl rfl)
theorem dX3_ofPair_64 : decode cX3_ofPair 64 = .ok (.iaload, 1) := dk_46 (dk_at dksX3_ofPair_2 12 rfl rfl)
theorem dX3_ofPair_65 : decode cX3_ofPair 65 = .ok (.ireturn, 1) := dk_172 (dk_at dksX3_ofPair_2 13 rfl rfl)
theorem dX3_ofPair_66 : decode cX3_ofPair 66 = .ok (.aload_n 0, 1) := dk_42 (dk_at dksX3_ofPair_2 14 rfl rfl)
theorem dX3_ofPair_67 : decode cX3_ofPair 67 = .ok (.getfield 58, 3) := dk_180 0 58 (dk_at dksX3_ofPair_2 15 rfl rfl)
theorem dX3_ofPair_70 : decode cX3_ofPair 70 = .ok (.iload_n 1, 1) := dk_27 (dk_at dksX3_ofPair_2 18 rfl rfl)
theorem dX3_ofPair_71 : decode cX3_ofPair 71 = .ok (.iaload, 1) := dk_46 (dk_at dksX3_ofPair_2 19 rfl rfl)
theorem dX3_ofPair_72 : decode cX3_ofPair 72 = .ok (.ireturn, 1) := dk_172 (dk_at dksX3_ofPair_2 20 rfl rfl)
theorem dX3_ofPair_73 : decode cX3_ofPair 73 = .ok (.aload_n 0, 1) := dk_42 (dk_at dksX3_ofPair_2 21 rfl rfl)
theorem dX3_ofPair_74 : decode cX3_ofPair 74 = .ok (.aload_n 0, 1) := dk_42 (dk_at dksX3_ofPair_2 22 rfl rfl)
theorem dX3_ofPair_75 : decode cX3_ofPair 75 = .ok (.getfield 52, 3) := dk_180 0 52 (dk_at dksX3_ofPair_3 0 rfl rfl)
theorem dX3_ofPair_78 : decode cX3_ofPair 78 = .ok (.iload_n 1, 1) := dk_27 (dk_at dksX3_ofPair_3 3 rfl rfl)
theorem dX3_ofPair_79 : decode cX3_ofPair 79 = .ok (.iaload, 1) := dk_46 (dk_at dksX3_ofPair_3 4 rfl rfl)
theorem dX3_ofPair_80 : decode cX3_ofPair 80 = .ok (.aload_n 0, 1) := dk_42 (dk_at dksX3_ofPair_3 5 rfl rfl)
theorem dX3_ofPair_81 : decode cX3_ofPair 81 = .ok (.getfield 55, 3) := dk_180 0 55 (dk_at dksX3_ofPair_3 6 rfl rfl)
theorem dX3_ofPair_84 : decode cX3_ofPair 84 = .ok (.iload_n 1, 1) := dk_27 (dk_at dksX3_ofPair_3 9 rfl rfl)
theorem dX3_ofPair_85 : decode cX3_ofPair 85 = .ok (.iaload, 1) := dk_46 (dk_at dksX3_ofPair_3 10 rfl rfl)
theorem dX3_ofPair_86 : decode cX3_ofPair 86 = .ok (.aload_n 0, 1) := dk_42 (dk_at dksX3_ofPair_3 11 rfl rfl)
theorem dX3_ofPair_87 : decode cX3_ofPair 87 = .ok (.getfield 58, 3) := dk_180 0 58 (dk_at dksX3_ofPair_3 12 rfl rfl)
theorem dX3_ofPair_90 : decode cX3_ofPair 90 = .ok (.iload_n 1, 1) := dk_27 (dk_at dksX3_ofPair_3 15 rfl rfl)
theorem dX3_ofPair_91 : decode cX3_ofPair 91 = .ok (.iaload, 1) := dk_46 (dk_at dksX3_ofPair_3 16 rfl rfl)
theorem dX3_ofPair_92 : decode cX3_ofPair 92 = .ok (.invokevirtual 151, 3) := dk_182 0 151 (dk_at dksX3_ofPair_3 17 rfl rfl)
theorem dX3_ofPair_95 : decode cX3_ofPair 95 = .ok (.ireturn, 1) := dk_172 (dk_at dksX3_ofPair_3 20 rfl rfl)
theorem dX3_ofPair_96 : decode cX3_ofPair 96 = .ok (.bipush (-2), 2) := dk_16 254 (dk_at dksX3_ofPair_3 21 rfl rfl)
theorem dX3_ofPair_98 : decode cX3_ofPair 98 = .ok (.ireturn, 1) := dk_172 (dk_at dksX3_ofPair_3 23 rfl rfl)
abbrev cX3_cost : ByteArray := prog_25_method_37_code
def yX3_cost : MethodName := ⟨RX3, "cost", "(III)I"⟩
def dkwX3_cost_4 : List UInt8 := [182, 0, 151, 167, 0, 4, 2, 172]
abbrev dktX3_cost_4 : List UInt8 := dkwX3_cost_4 ++ []
def dkwX3_cost_3 : List UInt8 := [42, 180, 0, 83, 163, 0, 7, 4, 167, 0, 4, 3, 54, 4, 21, 4, 153, 0, 13, 42, 27, 28, 29]
abbrev dktX3_cost_3 : List UInt8 := dkwX3_cost_3 ++ dktX3_cost_4
def dkwX3_cost_2 : List UInt8 := [21, 4, 153, 0, 33, 27, 4, 159, 0, 24, 42, 29, 182, 0, 182, 153, 0, 20, 29, 27, 184, 0, 144, 96]
abbrev dktX3_cost_2 : List UInt8 := dkwX3_cost_2 ++ dktX3_cost_3
def dkwX3_cost_1 : List UInt8 := [153, 0, 20, 28, 27, 184, 0, 138, 96, 42, 180, 0, 80, 163, 0, 7, 4, 167, 0, 4, 3, 54, 4]
abbrev dktX3_cost_1 : List UInt8 := dkwX3_cost_1 ++ dktX3_cost_2
def dkwX3_cost_0 : List UInt8 := [27, 3, 7, 184, 0, 76, 154, 0, 6, 16, 254, 172, 27, 5, 159, 0, 24, 42, 28, 182, 0, 171]
abbrev dktX3_cost_0 : List UInt8 := dkwX3_cost_0 ++ dktX3_cost_1
theorem dksX3_cost_0 : cX3_cost.data.toList.drop 0 = dktX3_cost_0 := by decide +kernel
theorem dksX3_cost_1 : cX3_cost.data.toList.drop 22 = dktX3_cost_1 := dk_seg dksX3_cost_0 22 rfl rfl
theorem dksX3_cost_2 : cX3_cost.data.toList.drop 45 = dktX3_cost_2 := dk_seg dksX3_cost_1 23 rfl rfl
theorem dksX3_cost_3 : cX3_cost.data.toList.drop 69 = dktX3_cost_3 := dk_seg dksX3_cost_2 24 rfl rfl
theorem dksX3_cost_4 : cX3_cost.data.toList.drop 92 = dktX3_cost_4 := dk_seg dksX3_cost_3 23 rfl rfl
theorem dX3_cost_0 : decode cX3_cost 0 = .ok (.iload_n 1, 1) := dk_27 (dk_at dksX3_cost_0 0 rfl rfl)
theorem dX3_cost_1 : decode cX3_cost 1 = .ok (.iconst 0, 1) := dk_3 (dk_at dksX3_cost_0 1 rfl rfl)
theorem dX3_cost_2 : decode cX3_cost 2 = .ok (.iconst 4, 1) := dk_7 (dk_at dksX3_cost_0 2 rfl rfl)
theorem dX3_cost_3 : decode cX3_cost 3 = .ok (.invokestatic 76, 3) := dk_184 0 76 (dk_at dksX3_cost_0 3 rfl rfl)
theorem dX3_cost_6 : decode cX3_cost 6 = .ok (.ifCond .ne 6, 3) := dk_154 0 6 (dk_at dksX3_cost_0 6 rfl rfl)
theorem dX3_cost_9 : decode cX3_cost 9 = .ok (.bipush (-2), 2) := dk_16 254 (dk_at dksX3_cost_0 9 rfl rfl)
theorem dX3_cost_11 : decode cX3_cost 11 = .ok (.ireturn, 1) := dk_172 (dk_at dksX3_cost_0 11 rfl rfl)
theorem dX3_cost_12 : decode cX3_cost 12 = .ok (.iload_n 1, 1) := dk_27 (dk_at dksX3_cost_0 12 rfl rfl)
theorem dX3_cost_13 : decode cX3_cost 13 = .ok (.iconst 2, 1) := dk_5 (dk_at dksX3_cost_0 13 rfl rfl)
theorem dX3_cost_14 : decode cX3_cost 14 = .ok (.if_icmp .eq 24, 3) := dk_159 0 24 (dk_at dksX3_cost_0 14 rfl rfl)
theorem dX3_cost_17 : decode cX3_cost 17 = .ok (.aload_n 0, 1) := dk_42 (dk_at dksX3_cost_0 17 rfl rfl)
theorem dX3_cost_18 : decode cX3_cost 18 = .ok (.iload_n 2, 1) := dk_28 (dk_at dksX3_cost_0 18 rfl rfl)
theorem dX3_cost_19 : decode cX3_cost 19 = .ok (.invokevirtual 171, 3) := dk_182 0 171 (dk_at dksX3_cost_0 19 rfl rfl)
theorem dX3_cost_22 : decode cX3_cost 22 = .ok (.ifCond .eq 20, 3) := dk_153 0 20 (dk_at dksX3_cost_1 0 rfl rfl)
theorem dX3_cost_25 : decode cX3_cost 25 = .ok (.iload_n 2, 1) := dk_28 (dk_at dksX3_cost_1 3 rfl rfl)
theorem dX3_cost_26 : decode cX3_cost 26 = .ok (.iload_n 1, 1) := dk_27 (dk_at dksX3_cost_1 4 rfl rfl)
theorem dX3_cost_27 : decode cX3_cost 27 = .ok (.invokestatic 138, 3) := dk_184 0 138 (dk_at dksX3_cost_1 5 rfl rfl)
theorem dX3_cost_30 : decode cX3_cost 30 = .ok (.iadd, 1) := dk_96 (dk_at dksX3_cost_1 8 rfl rfl)
theorem dX3_cost_31 : decode cX3_cost 31 = .ok (.aload_n 0, 1) := dk_42 (dk_at dksX3_cost_1 9 rfl rfl)
theorem dX3_cost_32 : decode cX3_cost 32 = .ok (.getfield 80, 3) := dk_180 0 80 (dk_at dksX3_cost_1 10 rfl rfl)
theorem dX3_cost_35 : decode cX3_cost 35 = .ok (.if_icmp .gt 7, 3) := dk_163 0 7 (dk_at dksX3_cost_1 13 rfl rfl)
theorem dX3_cost_38 : decode cX3_cost 38 = .ok (.iconst 1, 1) := dk_4 (dk_at dksX3_cost_1 16 rfl rfl)
theorem dX3_cost_39 : decode cX3_cost 39 = .ok (.goto 4, 3) := dk_167 0 4 (dk_at dksX3_cost_1 17 rfl rfl)
theorem dX3_cost_42 : decode cX3_cost 42 = .ok (.iconst 0, 1) := dk_3 (dk_at dksX3_cost_1 20 rfl rfl)
theorem dX3_cost_43 : decode cX3_cost 43 = .ok (.istore 4, 2) := dk_54 4 (dk_at dksX3_cost_1 21 rfl rfl)
theorem dX3_cost_45 : decode cX3_cost 45 = .ok (.iload 4, 2) := dk_21 4 (dk_at dksX3_cost_2 0 rfl rfl)
theorem dX3_cost_47 : decode cX3_cost 47 = .ok (.ifCond .eq 33, 3) := dk_153 0 33 (dk_at dksX3_cost_2 2 rfl rfl)
theorem dX3_cost_50 : decode cX3_cost 50 = .ok (.iload_n 1, 1) := dk_27 (dk_at dksX3_cost_2 5 rfl rfl)
theorem dX3_cost_51 : decode cX3_cost 51 = .ok (.iconst 1, 1) := dk_4 (dk_at dksX3_cost_2 6 rfl rfl)
theorem dX3_cost_52 : decode cX3_cost 52 = .ok (.if_icmp .eq 24, 3) := dk_159 0 24 (dk_at dksX3_cost_2 7 rfl rfl)
theorem dX3_cost_55 : decode cX3_cost 55 = .ok (.aload_n 0, 1) := dk_42 (dk_at dksX3_cost_2 10 rfl rfl)
theorem dX3_cost_56 : decode cX3_cost 56 = .ok (.iload_n 3, 1) := dk_29 (dk_at dksX3_cost_2 11 rfl rfl)
theorem dX3_cost_57 : decode cX3_cost 57 = .ok (.invokevirtual 182, 3) := dk_182 0 182 (dk_at dksX3_cost_2 12 rfl rfl)
theorem dX3_cost_60 : decode cX3_cost 60 = .ok (.ifCond .eq 20, 3) := dk_153 0 20 (dk_at dksX3_cost_2 15 rfl rfl)
theorem dX3_cost_63 : decode cX3_cost 63 = .ok (.iload_n 3, 1) := dk_29 (dk_at dksX3_cost_2 18 rfl rfl)
theorem dX3_cost_64 : decode cX3_cost 64 = .ok (.iload_n 1, 1) := dk_27 (dk_at dksX3_cost_2 19 rfl rfl)
theorem dX3_cost_65 : decode cX3_cost 65 = .ok (.invokestatic 144, 3) := dk_184 0 144 (dk_at dksX3_cost_2 20 rfl rfl)
theorem dX3_cost_68 : decode cX3_cost 68 = .ok (.iadd, 1) := dk_96 (dk_at dksX3_cost_2 23 rfl rfl)
theorem dX3_cost_69 : decode cX3_cost 69 = .ok (.aload_n 0, 1) := dk_42 (dk_at dksX3_cost_3 0 rfl rfl)
theorem dX3_cost_70 : decode cX3_cost 70 = .ok (.getfield 83, 3) := dk_180 0 83 (dk_at dksX3_cost_3 1 rfl rfl)
theorem dX3_cost_73 : decode cX3_cost 73 = .ok (.if_icmp .gt 7, 3) := dk_163 0 7 (dk_at dksX3_cost_3 4 rfl rfl)
theorem dX3_cost_76 : decode cX3_cost 76 = .ok (.iconst 1, 1) := dk_4 (dk_at dksX3_cost_3 7 rfl rfl)
theorem dX3_cost_77 : decode cX3_cost 77 = .ok (.goto 4, 3) := dk_167 0 4 (dk_at dksX3_cost_3 8 rfl rfl)
theorem dX3_cost_80 : decode cX3_cost 80 = .ok (.iconst 0, 1) := dk_3 (dk_at dksX3_cost_3 11 rfl rfl)
theorem dX3_cost_81 : decode cX3_cost 81 = .ok (.istore 4, 2) := dk_54 4 (dk_at dksX3_cost_3 12 rfl rfl)
theorem dX3_cost_83 : decode cX3_cost 83 = .ok (.iload 4, 2) := dk_21 4 (dk_at dksX3_cost_3 14 rfl rfl)
theorem dX3_cost_85 : decode cX3_cost 85 = .ok (.ifCond .eq 13, 3) := dk_153 0 13 (dk_at dksX3_cost_3 16 rfl rfl)
theorem dX3_cost_88 : decode cX3_cost 88 = .ok (.aload_n 0, 1) := dk_42 (dk_at dksX3_cost_3 19 rfl rfl)
theorem dX3_cost_89 : decode cX3_cost 89 = .ok (.iload_n 1, 1) := dk_27 (dk_at dksX3_cost_3 20 rfl rfl)
theorem dX3_cost_90 : decode cX3_cost 90 = .ok (.iload_n 2, 1) := dk_28 (dk_at dksX3_cost_3 21 rfl rfl)
theorem dX3_cost_91 : decode cX3_cost 91 = .ok (.iload_n 3, 1) := dk_29 (dk_at dksX3_cost_3 22 rfl rfl)
theorem dX3_cost_92 : decode cX3_cost 92 = .ok (.invokevirtual 151, 3) := dk_182 0 151 (dk_at dksX3_cost_4 0 rfl rfl)
theorem dX3_cost_95 : decode cX3_cost 95 = .ok (.goto 4, 3) := dk_167 0 4 (dk_at dksX3_cost_4 3 rfl rfl)
theorem dX3_cost_98 : decode cX3_cost 98 = .ok (.iconst (-1), 1) := dk_2 (dk_at dksX3_cost_4 6 rfl rfl)
theorem dX3_cost_99 : decode cX3_cost 99 = .ok (.ireturn, 1) := dk_172 (dk_at dksX3_cost_4 7 rfl rfl)
abbrev cX3_day : ByteArray := prog_25_method_43_code
def yX3_day : MethodName := ⟨RX3, "day", "(IIIII)I"⟩
def dkwX3_day_8 : List UInt8 := [160, 0, 8, 21, 9, 167, 0, 8, 16, 156, 21, 8, 100, 172]
abbrev dktX3_day_8 : List UInt8 := dkwX3_day_8 ++ []
def dkwX3_day_7 : List UInt8 := [182, 0, 204, 54, 9, 42, 182, 0, 207, 21, 5, 4, 160, 0, 8, 21, 8, 167, 0, 20, 21, 8, 16, 247]
abbrev dktX3_day_7 : List UInt8 := dkwX3_day_7 ++ dktX3_day_8
def dkwX3_day_6 : List UInt8 := [172, 132, 8, 1, 167, 255, 211, 42, 182, 0, 198, 42, 21, 7, 21, 4, 182, 0, 201, 54, 8, 42, 21, 5]
abbrev dktX3_day_6 : List UInt8 := dkwX3_day_6 ++ dktX3_day_7
def dkwX3_day_5 : List UInt8 := [96, 46, 42, 180, 0, 16, 21, 7, 5, 21, 8, 104, 96, 4, 96, 46, 184, 0, 195, 154, 0, 6, 16, 254]
abbrev dktX3_day_5 : List UInt8 := dkwX3_day_5 ++ dktX3_day_6
def dkwX3_day_4 : List UInt8 := [29, 96, 54, 7, 3, 54, 8, 21, 8, 21, 4, 162, 0, 44, 42, 180, 0, 16, 21, 7, 5, 21, 8, 104]
abbrev dktX3_day_4 : List UInt8 := dkwX3_day_4 ++ dktX3_day_5
def dkwX3_day_3 : List UInt8 := [153, 0, 10, 42, 21, 6, 182, 0, 100, 172, 42, 180, 0, 80, 154, 0, 6, 16, 253, 172, 16, 60, 27, 104]
abbrev dktX3_day_3 : List UInt8 := dkwX3_day_3 ++ dktX3_day_4
def dkwX3_day_2 : List UInt8 := [184, 0, 76, 154, 0, 6, 16, 254, 172, 42, 27, 28, 29, 5, 21, 4, 104, 182, 0, 96, 54, 6, 21, 6]
abbrev dktX3_day_2 : List UInt8 := dkwX3_day_2 ++ dktX3_day_3
def dkwX3_day_1 : List UInt8 := [16, 20, 184, 0, 76, 153, 0, 25, 21, 5, 3, 7, 184, 0, 76, 154, 0, 18, 21, 5, 16, 10, 16, 16]
abbrev dktX3_day_1 : List UInt8 := dkwX3_day_1 ++ dktX3_day_2
def dkwX3_day_0 : List UInt8 := [42, 3, 181, 0, 70, 27, 184, 0, 89, 154, 0, 5, 2, 172, 28, 184, 0, 93, 153, 0, 36, 21, 4, 3]
abbrev dktX3_day_0 : List UInt8 := dkwX3_day_0 ++ dktX3_day_1
theorem dksX3_day_0 : cX3_day.data.toList.drop 0 = dktX3_day_0 := by decide +kernel
theorem dksX3_day_1 : cX3_day.data.toList.drop 24 = dktX3_day_1 := dk_seg dksX3_day_0 24 rfl rfl
theorem dksX3_day_2 : cX3_day.data.toList.drop 48 = dktX3_day_2 := dk_seg dksX3_day_1 24 rfl rfl
theorem dksX3_day_3 : cX3_day.data.toList.drop 72 = dktX3_day_3 := dk_seg dksX3_day_2 24 rfl rfl
theorem dksX3_day_4 : cX3_day.data.toList.drop 96 = dktX3_day_4 := dk_seg dksX3_day_3 24 rfl rfl
theorem dksX3_day_5 : cX3_day.data.toList.drop 120 = dktX3_day_5 := dk_seg dksX3_day_4 24 rfl rfl
theorem dksX3_day_6 : cX3_day.data.toList.drop 144 = dktX3_day_6 := dk_seg dksX3_day_5 24 rfl rfl
theorem dksX3_day_7 : cX3_day.data.toList.drop 168 = dktX3_day_7 := dk_seg dksX3_day_6 24 rfl rfl
theorem dksX3_day_8 : cX3_day.data.toList.drop 192 = dktX3_day_8 := dk_seg dksX3_day_7 24 rfl rfl
theorem dX3_day_0 : decode cX3_day 0 = .ok (.aload_n 0, 1) := dk_42 (dk_at dksX3_day_0 0 rfl rfl)
theorem dX3_day_1 : decode cX3_day 1 = .ok (.iconst 0, 1) := dk_3 (dk_at dksX3_day_0 1 rfl rfl)
theorem dX3_day_2 : decode cX3_day 2 = .ok (.putfield 70, 3) := dk_181 0 70 (dk_at dksX3_day_0 2 rfl rfl)
theorem dX3_day_5 : decode cX3_day 5 = .ok (.iload_n 1, 1) := dk_27 (dk_at dksX3_day_0 5 rfl rfl)
theorem dX3_day_6 : decode cX3_day 6 = .ok (.invokestatic 89, 3) := dk_184 0 89 (dk_at dksX3_day_0 6 rfl rfl)
theorem dX3_day_9 : decode cX3_day 9 = .ok (.ifCond .ne 5, 3) := dk_154 0 5 (dk_at dksX3_day_0 9 rfl rfl)
theorem dX3_day_12 : decode cX3_day 12 = .ok (.iconst (-1), 1) := dk_2 (dk_at dksX3_day_0 12 rfl rfl)
theorem dX3_day_13 : decode cX3_day 13 = .ok (.ireturn, 1) := dk_172 (dk_at dksX3_day_0 13 rfl rfl)
theorem dX3_day_14 : decode cX3_day 14 = .ok (.iload_n 2, 1) := dk_28 (dk_at dksX3_day_0 14 rfl rfl)
theorem dX3_day_15 : decode cX3_day 15 = .ok (.invokestatic 93, 3) := dk_184 0 93 (dk_at dksX3_day_0 15 rfl rfl)
theorem dX3_day_18 : decode cX3_day 18 = .ok (.ifCond .eq 36, 3) := dk_153 0 36 (dk_at dksX3_day_0 18 rfl rfl)
theorem dX3_day_21 : decode cX3_day 21 = .ok (.iload 4, 2) := dk_21 4 (dk_at dksX3_day_0 21 rfl rfl)
theorem dX3_day_23 : decode cX3_day 23 = .ok (.iconst 0, 1) := dk_3 (dk_at dksX3_day_0 23 rfl rfl)
theorem dX3_day_24 : decode cX3_day 24 = .ok (.bipush 20, 2) := dk_16 20 (dk_at dksX3_day_1 0 rfl rfl)
theorem dX3_day_26 : decode cX3_day 26 = .ok (.invokestatic 76, 3) := dk_184 0 76 (dk_at dksX3_day_1 2 rfl rfl)
theorem dX3_day_29 : decode cX3_day 29 = .ok (.ifCond .eq 25, 3) := dk_153 0 25 (dk_at dksX3_day_1 5 rfl rfl)
theorem dX3_day_32 : decode cX3_day 32 = .ok (.iload 5, 2) := dk_21 5 (dk_at dksX3_day_1 8 rfl rfl)
theorem dX3_day_34 : decode cX3_day 34 = .ok (.iconst 0, 1) := dk_3 (dk_at dksX3_day_1 10 rfl rfl)
theorem dX3_day_35 : decode cX3_day 35 = .ok (.iconst 4, 1) := dk_7 (dk_at dksX3_day_1 11 rfl rfl)
theorem dX3_day_36 : decode cX3_day 36 = .ok (.invokestatic 76, 3) := dk_184 0 76 (dk_at dksX3_day_1 12 rfl rfl)
theorem dX3_day_39 : decode cX3_day 39 = .ok (.ifCond .ne 18, 3) := dk_154 0 18 (dk_at dksX3_day_1 15 rfl rfl)
theorem dX3_day_42 : decode cX3_day 42 = .ok (.iload 5, 2) := dk_21 5 (dk_at dksX3_day_1 18 rfl rfl)
theorem dX3_day_44 : decode cX3_day 44 = .ok (.bipush 10, 2) := dk_16 10 (dk_at dksX3_day_1 20 rfl rfl)
theorem dX3_day_46 : decode cX3_day 46 = .ok (.bipush 16, 2) := dk_16 16 (dk_at dksX3_day_1 22 rfl rfl)
theorem dX3_day_48 : decode cX3_day 48 = .ok (.invokestatic 76, 3) := dk_184 0 76 (dk_at dksX3_day_2 0 rfl rfl)
theorem dX3_day_51 : decode cX3_day 51 = .ok (.ifCond .ne 6, 3) := dk_154 0 6 (dk_at dksX3_day_2 3 rfl rfl)
theorem dX3_day_54 : decode cX3_day 54 = .ok (.bipush (-2), 2) := dk_16 254 (dk_at dksX3_day_2 6 rfl rfl)
theorem dX3_day_56 : decode cX3_day 56 = .ok (.ireturn, 1) := dk_172 (dk_at dksX3_day_2 8 rfl rfl)
theorem dX3_day_57 : decode cX3_day 57 = .ok (.aload_n 0, 1) := dk_42 (dk_at dksX3_day_2 9 rfl rfl)
theorem dX3_day_58 : decode cX3_day 58 = .ok (.iload_n 1, 1) := dk_27 (dk_at dksX3_day_2 10 rfl rfl)
theorem dX3_day_59 : decode cX3_day 59 = .ok (.iload_n 2, 1) := dk_28 (dk_at dksX3_day_2 11 rfl rfl)
theorem dX3_day_60 : decode cX3_day 60 = .ok (.iload_n 3, 1) := dk_29 (dk_at dksX3_day_2 12 rfl rfl)
theorem dX3_day_61 : decode cX3_day 61 = .ok (.iconst 2, 1) := dk_5 (dk_at dksX3_day_2 13 rfl rfl)
theorem dX3_day_62 : decode cX3_day 62 = .ok (.iload 4, 2) := dk_21 4 (dk_at dksX3_day_2 14 rfl rfl)
theorem dX3_day_64 : decode cX3_day 64 = .ok (.imul, 1) := dk_104 (dk_at dksX3_day_2 16 rfl rfl)
theorem dX3_day_65 : decode cX3_day 65 = .ok (.invokevirtual 96, 3) := dk_182 0 96 (dk_at dksX3_day_2 17 rfl rfl)
theorem dX3_day_68 : decode cX3_day 68 = .ok (.istore 6, 2) := dk_54 6 (dk_at dksX3_day_2 20 rfl rfl)
theorem dX3_day_70 : decode cX3_day 70 = .ok (.iload 6, 2) := dk_21 6 (dk_at dksX3_day_2 22 rfl rfl)
theorem dX3_day_72 : decode cX3_day 72 = .ok (.ifCond .eq 10, 3) := dk_153 0 10 (dk_at dksX3_day_3 0 rfl rfl)
theorem dX3_day_75 : decode cX3_day 75 = .ok (.aload_n 0, 1) := dk_42 (dk_at dksX3_day_3 3 rfl rfl)
theorem dX3_day_76 : decode cX3_day 76 = .ok (.iload 6, 2) := dk_21 6 (dk_at dksX3_day_3 4 rfl rfl)
theorem dX3_day_78 : decode cX3_day 78 = .ok (.invokevirtual 100, 3) := dk_182 0 100 (dk_at dksX3_day_3 6 rfl rfl)
theorem dX3_day_81 : decode cX3_day 81 = .ok (.ireturn, 1) := dk_172 (dk_at dksX3_day_3 9 rfl rfl)
theorem dX3_day_82 : decode cX3_day 82 = .ok (.aload_n 0, 1) := dk_42 (dk_at dksX3_day_3 10 rfl rfl)
theorem dX3_day_83 : decode cX3_day 83 = .ok (.getfield 80, 3) := dk_180 0 80 (dk_at dksX3_day_3 11 rfl rfl)
theorem dX3_day_86 : decode cX3_day 86 = .ok (.ifCond .ne 6, 3) := dk_154 0 6 (dk_at dksX3_day_3 14 rfl rfl)
theorem dX3_day_89 : decode cX3_day 89 = .ok (.bipush (-3), 2) := dk_16 253 (dk_at dksX3_day_3 17 rfl rfl)
theorem dX3_day_91 : decode cX3_day 91 = .ok (.ireturn, 1) := dk_172 (dk_at dksX3_day_3 19 rfl rfl)
theorem dX3_day_92 : decode cX3_day 92 = .ok (.bipush 60, 2) := dk_16 60 (dk_at dksX3_day_3 20 rfl rfl)
theorem dX3_day_94 : decode cX3_day 94 = .ok (.iload_n 1, 1) := dk_27 (dk_at dksX3_day_3 22 rfl rfl)
theorem dX3_day_95 : decode cX3_day 95 = .ok (.imul, 1) := dk_104 (dk_at dksX3_day_3 23 rfl rfl)
theorem dX3_day_96 : decode cX3_day 96 = .ok (.iload_n 3, 1) := dk_29 (dk_at dksX3_day_4 0 rfl rfl)
theorem dX3_day_97 : decode cX3_day 97 = .ok (.iadd, 1) := dk_96 (dk_at dksX3_day_4 1 rfl rfl)
theorem dX3_day_98 : decode cX3_day 98 = .ok (.istore 7, 2) := dk_54 7 (dk_at dksX3_day_4 2 rfl rfl)
theorem dX3_day_100 : decode cX3_day 100 = .ok (.iconst 0, 1) := dk_3 (dk_at dksX3_day_4 4 rfl rfl)
theorem dX3_day_101 : decode cX3_day 101 = .ok (.istore 8, 2) := dk_54 8 (dk_at dksX3_day_4 5 rfl rfl)
theorem dX3_day_103 : decode cX3_day 103 = .ok (.iload 8, 2) := dk_21 8 (dk_at dksX3_day_4 7 rfl rfl)
theorem dX3_day_105 : decode cX3_day 105 = .ok (.iload 4, 2) := dk_21 4 (dk_at dksX3_day_4 9 rfl rfl)
theorem dX3_day_107 : decode cX3_day 107 = .ok (.if_icmp .ge 44, 3) := dk_162 0 44 (dk_at dksX3_day_4 11 rfl rfl)
theorem dX3_day_110 : decode cX3_day 110 = .ok (.aload_n 0, 1) := dk_42 (dk_at dksX3_day_4 14 rfl rfl)
theorem dX3_day_111 : decode cX3_day 111 = .ok (.getfield 16, 3) := dk_180 0 16 (dk_at dksX3_day_4 15 rfl rfl)
theorem dX3_day_114 : decode cX3_day 114 = .ok (.iload 7, 2) := dk_21 7 (dk_at dksX3_day_4 18 rfl rfl)
theorem dX3_day_116 : decode cX3_day 116 = .ok (.iconst 2, 1) := dk_5 (dk_at dksX3_day_4 20 rfl rfl)
theorem dX3_day_117 : decode cX3_day 117 = .ok (.iload 8, 2) := dk_21 8 (dk_at dksX3_day_4 21 rfl rfl)
theorem dX3_day_119 : decode cX3_day 119 = .ok (.imul, 1) := dk_104 (dk_at dksX3_day_4 23 rfl rfl)
theorem dX3_day_120 : decode cX3_day 120 = .ok (.iadd, 1) := dk_96 (dk_at dksX3_day_5 0 rfl rfl)
theorem dX3_day_121 : decode cX3_day 121 = .ok (.iaload, 1) := dk_46 (dk_at dksX3_day_5 1 rfl rfl)
theorem dX3_day_122 : decode cX3_day 122 = .ok (.aload_n 0, 1) := dk_42 (dk_at dksX3_day_5 2 rfl rfl)
theorem dX3_day_123 : decode cX3_day 123 = .ok (.getfield 16, 3) := dk_180 0 16 (dk_at dksX3_day_5 3 rfl rfl)
theorem dX3_day_126 : decode cX3_day 126 = .ok (.iload 7, 2) := dk_21 7 (dk_at dksX3_day_5 6 rfl rfl)
theorem dX3_day_128 : decode cX3_day 128 = .ok (.iconst 2, 1) := dk_5 (dk_at dksX3_day_5 8 rfl rfl)
theorem dX3_day_129 : decode cX3_day 129 = .ok (.iload 8, 2) := dk_21 8 (dk_at dksX3_day_5 9 rfl rfl)
theorem dX3_day_131 : decode cX3_day 131 = .ok (.imul, 1) := dk_104 (dk_at dksX3_day_5 11 rfl rfl)
theorem dX3_day_132 : decode cX3_day 132 = .ok (.iadd, 1) := dk_96 (dk_at dksX3_day_5 12 rfl rfl)
theorem dX3_day_133 : decode cX3_day 133 = .ok (.iconst 1, 1) := dk_4 (dk_at dksX3_day_5 13 rfl rfl)
theorem dX3_day_134 : decode cX3_day 134 = .ok (.iadd, 1) := dk_96 (dk_at dksX3_day_5 14 rfl rfl)
theorem dX3_day_135 : decode cX3_day 135 = .ok (.iaload, 1) := dk_46 (dk_at dksX3_day_5 15 rfl rfl)
theorem dX3_day_136 : decode cX3_day 136 = .ok (.invokestatic 195, 3) := dk_184 0 195 (dk_at dksX3_day_5 16 rfl rfl)
theorem dX3_day_139 : decode cX3_day 139 = .ok (.ifCond .ne 6, 3) := dk_154 0 6 (dk_at dksX3_day_5 19 rfl rfl)
theorem dX3_day_142 : decode cX3_day 142 = .ok (.bipush (-2), 2) := dk_16 254 (dk_at dksX3_day_5 22 rfl rfl)
theorem dX3_day_144 : decode cX3_day 144 = .ok (.ireturn, 1) := dk_172 (dk_at dksX3_day_6 0 rfl rfl)
theorem dX3_day_145 : decode cX3_day 145 = .ok (.iinc 8 1, 3) := dk_132 8 1 (dk_at dksX3_day_6 1 rfl rfl)
theorem dX3_day_148 : decode cX3_day 148 = .ok (.goto (-45), 3) := dk_167 255 211 (dk_at dksX3_day_6 4 rfl rfl)
theorem dX3_day_151 : decode cX3_day 151 = .ok (.aload_n 0, 1) := dk_42 (dk_at dksX3_day_6 7 rfl rfl)
theorem dX3_day_152 : decode cX3_day 152 = .ok (.invokevirtual 198, 3) := dk_182 0 198 (dk_at dksX3_day_6 8 rfl rfl)
theorem dX3_day_155 : decode cX3_day 155 = .ok (.aload_n 0, 1) := dk_42 (dk_at dksX3_day_6 11 rfl rfl)
theorem dX3_day_156 : decode cX3_day 156 = .ok (.iload 7, 2) := dk_21 7 (dk_at dksX3_day_6 12 rfl rfl)
theorem dX3_day_158 : decode cX3_day 158 = .ok (.iload 4, 2) := dk_21 4 (dk_at dksX3_day_6 14 rfl rfl)
theorem dX3_day_160 : decode cX3_day 160 = .ok (.invokevirtual 201, 3) := dk_182 0 201 (dk_at dksX3_day_6 16 rfl rfl)
theorem dX3_day_163 : decode cX3_day 163 = .ok (.istore 8, 2) := dk_54 8 (dk_at dksX3_day_6 19 rfl rfl)
theorem dX3_day_165 : decode cX3_day 165 = .ok (.aload_n 0, 1) := dk_42 (dk_at dksX3_day_6 21 rfl rfl)
theorem dX3_day_166 : decode cX3_day 166 = .ok (.iload 5, 2) := dk_21 5 (dk_at dksX3_day_6 22 rfl rfl)
theorem dX3_day_168 : decode cX3_day 168 = .ok (.invokevirtual 204, 3) := dk_182 0 204 (dk_at dksX3_day_7 0 rfl rfl)
theorem dX3_day_171 : decode cX3_day 171 = .ok (.istore 9, 2) := dk_54 9 (dk_at dksX3_day_7 3 rfl rfl)
theorem dX3_day_173 : decode cX3_day 173 = .ok (.aload_n 0, 1) := dk_42 (dk_at dksX3_day_7 5 rfl rfl)
theorem dX3_day_174 : decode cX3_day 174 = .ok (.invokevirtual 207, 3) := dk_182 0 207 (dk_at dksX3_day_7 6 rfl rfl)
theorem dX3_day_177 : decode cX3_day 177 = .ok (.iload 5, 2) := dk_21 5 (dk_at dksX3_day_7 9 rfl rfl)
theorem dX3_day_179 : decode cX3_day 179 = .ok (.iconst 1, 1) := dk_4 (dk_at dksX3_day_7 11 rfl rfl)
theorem dX3_day_180 : decode cX3_day 180 = .ok (.if_icmp .ne 8, 3) := dk_160 0 8 (dk_at dksX3_day_7 12 rfl rfl)
theorem dX3_day_183 : decode cX3_day 183 = .ok (.iload 8, 2) := dk_21 8 (dk_at dksX3_day_7 15 rfl rfl)
theorem dX3_day_185 : decode cX3_day 185 = .ok (.goto 20, 3) := dk_167 0 20 (dk_at dksX3_day_7 17 rfl rfl)
theorem dX3_day_188 : decode cX3_day 188 = .ok (.iload 8, 2) := dk_21 8 (dk_at dksX3_day_7 20 rfl rfl)
theorem dX3_day_190 : decode cX3_day 190 = .ok (.bipush (-9), 2) := dk_16 247 (dk_at dksX3_day_7 22 rfl rfl)
theorem dX3_day_192 : decode cX3_day 192 = .ok (.if_icmp .ne 8, 3) := dk_160 0 8 (dk_at dksX3_day_8 0 rfl rfl)
theorem dX3_day_195 : decode cX3_day 195 = .ok (.iload 9, 2) := dk_21 9 (dk_at dksX3_day_8 3 rfl rfl)
theorem dX3_day_197 : decode cX3_day 197 = .ok (.goto 8, 3) := dk_167 0 8 (dk_at dksX3_day_8 5 rfl rfl)
theorem dX3_day_200 : decode cX3_day 200 = .ok (.bipush (-100), 2) := dk_16 156 (dk_at dksX3_day_8 8 rfl rfl)
theorem dX3_day_202 : decode cX3_day 202 = .ok (.iload 8, 2) := dk_21 8 (dk_at dksX3_day_8 10 rfl rfl)
theorem dX3_day_204 : decode cX3_day 204 = .ok (.isub, 1) := dk_100 (dk_at dksX3_day_8 12 rfl rfl)
theorem dX3_day_205 : decode cX3_day 205 = .ok (.ireturn, 1) := dk_172 (dk_at dksX3_day_8 13 rfl rfl)
abbrev cX3_isPair : ByteArray := prog_25_method_41_code
def yX3_isPair : MethodName := ⟨RX3, "isPair", "(II)Z"⟩
def dkwX3_isPair_2 : List UInt8 := [153, 0, 17, 26, 4, 16, 9, 184, 0, 76, 153, 0, 7, 4, 167, 0, 4, 3, 172]
abbrev dktX3_isPair_2 : List UInt8 := dkwX3_isPair_2 ++ []
def dkwX3_isPair_1 : List UInt8 := [16, 9, 184, 0, 76, 172, 27, 3, 16, 6, 184, 0, 76, 154, 0, 14, 27, 16, 10, 16, 16, 184, 0, 76]
abbrev dktX3_isPair_1 : List UInt8 := dkwX3_isPair_1 ++ dktX3_isPair_2
def dkwX3_isPair_0 : List UInt8 := [27, 16, 20, 16, 22, 184, 0, 76, 153, 0, 22, 26, 3, 27, 16, 22, 160, 0, 8, 16, 7, 167, 0, 5]
abbrev dktX3_isPair_0 : List UInt8 := dkwX3_isPair_0 ++ dktX3_isPair_1
theorem dksX3_isPair_0 : cX3_isPair.data.toList.drop 0 = dktX3_isPair_0 := by decide +kernel
theorem dksX3_isPair_1 : cX3_isPair.data.toList.drop 24 = dktX3_isPair_1 := dk_seg dksX3_isPair_0 24 rfl rfl
theorem dksX3_isPair_2 : cX3_isPair.data.toList.drop 48 = dktX3_isPair_2 := dk_seg dksX3_isPair_1 24 rfl rfl
theorem dX3_isPair_0 : decode cX3_isPair 0 = .ok (.iload_n 1, 1) := dk_27 (dk_at dksX3_isPair_0 0 rfl rfl)
theorem dX3_isPair_1 : decode cX3_isPair 1 = .ok (.bipush 20, 2) := dk_16 20 (dk_at dksX3_isPair_0 1 rfl rfl)
theorem dX3_isPair_3 : decode cX3_isPair 3 = .ok (.bipush 22, 2) := dk_16 22 (dk_at dksX3_isPair_0 3 rfl rfl)
theorem dX3_isPair_5 : decode cX3_isPair 5 = .ok (.invokestatic 76, 3) := dk_184 0 76 (dk_at dksX3_isPair_0 5 rfl rfl)
theorem dX3_isPair_8 : decode cX3_isPair 8 = .ok (.ifCond .eq 22, 3) := dk_153 0 22 (dk_at dksX3_isPair_0 8 rfl rfl)
theorem dX3_isPair_11 : decode cX3_isPair 11 = .ok (.iload_n 0, 1) := dk_26 (dk_at dksX3_isPair_0 11 rfl rfl)
theorem dX3_isPair_12 : decode cX3_isPair 12 = .ok (.iconst 0, 1) := dk_3 (dk_at dksX3_isPair_0 12 rfl rfl)
theorem dX3_isPair_13 : decode cX3_isPair 13 = .ok (.iload_n 1, 1) := dk_27 (dk_at dksX3_isPair_0 13 rfl rfl)
theorem dX3_isPair_14 : decode cX3_isPair 14 = .ok (.bipush 22, 2) := dk_16 22 (dk_at dksX3_isPair_0 14 rfl rfl)
theorem dX3_isPair_16 : decode cX3_isPair 16 = .ok (.if_icmp .ne 8, 3) := dk_160 0 8 (dk_at dksX3_isPair_0 16 rfl rfl)
theorem dX3_isPair_19 : decode cX3_isPair 19 = .ok (.bipush 7, 2) := dk_16 7 (dk_at dksX3_isPair_0 19 rfl rfl)
theorem dX3_isPair_21 : decode cX3_isPair 21 = .ok (.goto 5, 3) := dk_167 0 5 (dk_at dksX3_isPair_0 21 rfl rfl)
theorem dX3_isPair_24 : decode cX3_isPair 24 = .ok (.bipush 9, 2) := dk_16 9 (dk_at dksX3_isPair_1 0 rfl rfl)
theorem dX3_isPair_26 : decode cX3_isPair 26 = .ok (.invokestatic 76, 3) := dk_184 0 76 (dk_at dksX3_isPair_1 2 rfl rfl)
theorem dX3_isPair_29 : decode cX3_isPair 29 = .ok (.ireturn, 1) := dk_172 (dk_at dksX3_isPair_1 5 rfl rfl)
theorem dX3_isPair_30 : decode cX3_isPair 30 = .ok (.iload_n 1, 1) := dk_27 (dk_at dksX3_isPair_1 6 rfl rfl)
theorem dX3_isPair_31 : decode cX3_isPair 31 = .ok (.iconst 0, 1) := dk_3 (dk_at dksX3_isPair_1 7 rfl rfl)
theorem dX3_isPair_32 : decode cX3_isPair 32 = .ok (.bipush 6, 2) := dk_16 6 (dk_at dksX3_isPair_1 8 rfl rfl)
theorem dX3_isPair_34 : decode cX3_isPair 34 = .ok (.invokestatic 76, 3) := dk_184 0 76 (dk_at dksX3_isPair_1 10 rfl rfl)
theorem dX3_isPair_37 : decode cX3_isPair 37 = .ok (.ifCond .ne 14, 3) := dk_154 0 14 (dk_at dksX3_isPair_1 13 rfl rfl)
theorem dX3_isPair_40 : decode cX3_isPair 40 = .ok (.iload_n 1, 1) := dk_27 (dk_at dksX3_isPair_1 16 rfl rfl)
theorem dX3_isPair_41 : decode cX3_isPair 41 = .ok (.bipush 10, 2) := dk_16 10 (dk_at dksX3_isPair_1 17 rfl rfl)
theorem dX3_isPair_43 : decode cX3_isPair 43 = .ok (.bipush 16, 2) := dk_16 16 (dk_at dksX3_isPair_1 19 rfl rfl)
theorem dX3_isPair_45 : decode cX3_isPair 45 = .ok (.invokestatic 76, 3) := dk_184 0 76 (dk_at dksX3_isPair_1 21 rfl rfl)
theorem dX3_isPair_48 : decode cX3_isPair 48 = .ok (.ifCond .eq 17, 3) := dk_153 0 17 (dk_at dksX3_isPair_2 0 rfl rfl)
theorem dX3_isPair_51 : decode cX3_isPair 51 = .ok (.iload_n 0, 1) := dk_26 (dk_at dksX3_isPair_2 3 rfl rfl)
theorem dX3_isPair_52 : decode cX3_isPair 52 = .ok (.iconst 1, 1) := dk_4 (dk_at dksX3_isPair_2 4 rfl rfl)
theorem dX3_isPair_53 : decode cX3_isPair 53 = .ok (.bipush 9, 2) := dk_16 9 (dk_at dksX3_isPair_2 5 rfl rfl)
theorem dX3_isPair_55 : decode cX3_isPair 55 = .ok (.invokestatic 76, 3) := dk_184 0 76 (dk_at dksX3_isPair_2 7 rfl rfl)
theorem dX3_isPair_58 : decode cX3_isPair 58 = .ok (.ifCond .eq 7, 3) := dk_153 0 7 (dk_at dksX3_isPair_2 10 rfl rfl)
theorem dX3_isPair_61 : decode cX3_isPair 61 = .ok (.iconst 1, 1) := dk_4 (dk_at dksX3_isPair_2 13 rfl rfl)
theorem dX3_isPair_62 : decode cX3_isPair 62 = .ok (.goto 4, 3) := dk_167 0 4 (dk_at dksX3_isPair_2 14 rfl rfl)
theorem dX3_isPair_65 : decode cX3_isPair 65 = .ok (.iconst 0, 1) := dk_3 (dk_at dksX3_isPair_2 17 rfl rfl)
theorem dX3_isPair_66 : decode cX3_isPair 66 = .ok (.ireturn, 1) := dk_172 (dk_at dksX3_isPair_2 18 rfl rfl)
abbrev cX3_keep : ByteArray := prog_25_method_38_code
def yX3_keep : MethodName := ⟨RX3, "keep", "()V"⟩
def dkwX3_keep_3 : List UInt8 := [180, 0, 119, 79, 177]
abbrev dktX3_keep_3 : List UInt8 := dkwX3_keep_3 ++ []
def dkwX3_keep_2 : List UInt8 := [180, 0, 113, 79, 42, 180, 0, 61, 16, 15, 42, 180, 0, 116, 79, 42, 180, 0, 61, 16, 16, 42]
abbrev dktX3_keep_2 : List UInt8 := dkwX3_keep_2 ++ dktX3_keep_3
def dkwX3_keep_1 : List UInt8 := [16, 7, 27, 96, 42, 180, 0, 28, 27, 46, 79, 132, 1, 1, 167, 255, 220, 42, 180, 0, 61, 16, 14, 42]
abbrev dktX3_keep_1 : List UInt8 := dkwX3_keep_1 ++ dktX3_keep_2
def dkwX3_keep_0 : List UInt8 := [3, 60, 27, 16, 7, 162, 0, 36, 42, 180, 0, 61, 27, 42, 180, 0, 22, 27, 46, 79, 42, 180, 0, 61]
abbrev dktX3_keep_0 : List UInt8 := dkwX3_keep_0 ++ dktX3_keep_1
theorem dksX3_keep_0 : cX3_keep.data.toList.drop 0 = dktX3_keep_0 := by decide +kernel
theorem dksX3_keep_1 : cX3_keep.data.toList.drop 24 = dktX3_keep_1 := dk_seg dksX3_keep_0 24 rfl rfl
theorem dksX3_keep_2 : cX3_keep.data.toList.drop 48 = dktX3_keep_2 := dk_seg dksX3_keep_1 24 rfl rfl
theorem dksX3_keep_3 : cX3_keep.data.toList.drop 70 = dktX3_keep_3 := dk_seg dksX3_keep_2 22 rfl rfl
theorem dX3_keep_0 : decode cX3_keep 0 = .ok (.iconst 0, 1) := dk_3 (dk_at dksX3_keep_0 0 rfl rfl)
theorem dX3_keep_1 : decode cX3_keep 1 = .ok (.istore_n 1, 1) := dk_60 (dk_at dksX3_keep_0 1 rfl rfl)
theorem dX3_keep_2 : decode cX3_keep 2 = .ok (.iload_n 1, 1) := dk_27 (dk_at dksX3_keep_0 2 rfl rfl)
theorem dX3_keep_3 : decode cX3_keep 3 = .ok (.bipush 7, 2) := dk_16 7 (dk_at dksX3_keep_0 3 rfl rfl)
theorem dX3_keep_5 : decode cX3_keep 5 = .ok (.if_icmp .ge 36, 3) := dk_162 0 36 (dk_at dksX3_keep_0 5 rfl rfl)
theorem dX3_keep_8 : decode cX3_keep 8 = .ok (.aload_n 0, 1) := dk_42 (dk_at dksX3_keep_0 8 rfl rfl)
theorem dX3_keep_9 : decode cX3_keep 9 = .ok (.getfield 61, 3) := dk_180 0 61 (dk_at dksX3_keep_0 9 rfl rfl)
theorem dX3_keep_12 : decode cX3_keep 12 = .ok (.iload_n 1, 1) := dk_27 (dk_at dksX3_keep_0 12 rfl rfl)
theorem dX3_keep_13 : decode cX3_keep 13 = .ok (.aload_n 0, 1) := dk_42 (dk_at dksX3_keep_0 13 rfl rfl)
theorem dX3_keep_14 : decode cX3_keep 14 = .ok (.getfield 22, 3) := dk_180 0 22 (dk_at dksX3_keep_0 14 rfl rfl)
theorem dX3_keep_17 : decode cX3_keep 17 = .ok (.iload_n 1, 1) := dk_27 (dk_at dksX3_keep_0 17 rfl rfl)
theorem dX3_keep_18 : decode cX3_keep 18 = .ok (.iaload, 1) := dk_46 (dk_at dksX3_keep_0 18 rfl rfl)
theorem dX3_keep_19 : decode cX3_keep 19 = .ok (.iastore, 1) := dk_79 (dk_at dksX3_keep_0 19 rfl rfl)
theorem dX3_keep_20 : decode cX3_keep 20 = .ok (.aload_n 0, 1) := dk_42 (dk_at dksX3_keep_0 20 rfl rfl)
theorem dX3_keep_21 : decode cX3_keep 21 = .ok (.getfield 61, 3) := dk_180 0 61 (dk_at dksX3_keep_0 21 rfl rfl)
theorem dX3_keep_24 : decode cX3_keep 24 = .ok (.bipush 7, 2) := dk_16 7 (dk_at dksX3_keep_1 0 rfl rfl)
theorem dX3_keep_26 : decode cX3_keep 26 = .ok (.iload_n 1, 1) := dk_27 (dk_at dksX3_keep_1 2 rfl rfl)
theorem dX3_keep_27 : decode cX3_keep 27 = .ok (.iadd, 1) := dk_96 (dk_at dksX3_keep_1 3 rfl rfl)
theorem dX3_keep_28 : decode cX3_keep 28 = .ok (.aload_n 0, 1) := dk_42 (dk_at dksX3_keep_1 4 rfl rfl)
theorem dX3_keep_29 : decode cX3_keep 29 = .ok (.getfield 28, 3) := dk_180 0 28 (dk_at dksX3_keep_1 5 rfl rfl)
theorem dX3_keep_32 : decode cX3_keep 32 = .ok (.iload_n 1, 1) := dk_27 (dk_at dksX3_keep_1 8 rfl rfl)
theorem dX3_keep_33 : decode cX3_keep 33 = .ok (.iaload, 1) := dk_46 (dk_at dksX3_keep_1 9 rfl rfl)
theorem dX3_keep_34 : decode cX3_keep 34 = .ok (.iastore, 1) := dk_79 (dk_at dksX3_keep_1 10 rfl rfl)
theorem dX3_keep_35 : decode cX3_keep 35 = .ok (.iinc 1 1, 3) := dk_132 1 1 (dk_at dksX3_keep_1 11 rfl rfl)
theorem dX3_keep_38 : decode cX3_keep 38 = .ok (.goto (-36), 3) := dk_167 255 220 (dk_at dksX3_keep_1 14 rfl rfl)
theorem dX3_keep_41 : decode cX3_keep 41 = .ok (.aload_n 0, 1) := dk_42 (dk_at dksX3_keep_1 17 rfl rfl)
theorem dX3_keep_42 : decode cX3_keep 42 = .ok (.getfield 61, 3) := dk_180 0 61 (dk_at dksX3_keep_1 18 rfl rfl)
theorem dX3_keep_45 : decode cX3_keep 45 = .ok (.bipush 14, 2) := dk_16 14 (dk_at dksX3_keep_1 21 rfl rfl)
theorem dX3_keep_47 : decode cX3_keep 47 = .ok (.aload_n 0, 1) := dk_42 (dk_at dksX3_keep_1 23 rfl rfl)
theorem dX3_keep_48 : decode cX3_keep 48 = .ok (.getfield 113, 3) := dk_180 0 113 (dk_at dksX3_keep_2 0 rfl rfl)
theorem dX3_keep_51 : decode cX3_keep 51 = .ok (.iastore, 1) := dk_79 (dk_at dksX3_keep_2 3 rfl rfl)
theorem dX3_keep_52 : decode cX3_keep 52 = .ok (.aload_n 0, 1) := dk_42 (dk_at dksX3_keep_2 4 rfl rfl)
theorem dX3_keep_53 : decode cX3_keep 53 = .ok (.getfield 61, 3) := dk_180 0 61 (dk_at dksX3_keep_2 5 rfl rfl)
theorem dX3_keep_56 : decode cX3_keep 56 = .ok (.bipush 15, 2) := dk_16 15 (dk_at dksX3_keep_2 8 rfl rfl)
theorem dX3_keep_58 : decode cX3_keep 58 = .ok (.aload_n 0, 1) := dk_42 (dk_at dksX3_keep_2 10 rfl rfl)
theorem dX3_keep_59 : decode cX3_keep 59 = .ok (.getfield 116, 3) := dk_180 0 116 (dk_at dksX3_keep_2 11 rfl rfl)
theorem dX3_keep_62 : decode cX3_keep 62 = .ok (.iastore, 1) := dk_79 (dk_at dksX3_keep_2 14 rfl rfl)
theorem dX3_keep_63 : decode cX3_keep 63 = .ok (.aload_n 0, 1) := dk_42 (dk_at dksX3_keep_2 15 rfl rfl)
theorem dX3_keep_64 : decode cX3_keep 64 = .ok (.getfield 61, 3) := dk_180 0 61 (dk_at dksX3_keep_2 16 rfl rfl)
theorem dX3_keep_67 : decode cX3_keep 67 = .ok (.bipush 16, 2) := dk_16 16 (dk_at dksX3_keep_2 19 rfl rfl)
theorem dX3_keep_69 : decode cX3_keep 69 = .ok (.aload_n 0, 1) := dk_42 (dk_at dksX3_keep_2 21 rfl rfl)
theorem dX3_keep_70 : decode cX3_keep 70 = .ok (.getfield 119, 3) := dk_180 0 119 (dk_at dksX3_keep_3 0 rfl rfl)
theorem dX3_keep_73 : decode cX3_keep 73 = .ok (.iastore, 1) := dk_79 (dk_at dksX3_keep_3 3 rfl rfl)
theorem dX3_keep_74 : decode cX3_keep 74 = .ok (.return_, 1) := dk_177 (dk_at dksX3_keep_3 4 rfl rfl)
abbrev cX3_goDay : ByteArray := prog_25_method_42_code
def yX3_goDay : MethodName := ⟨RX3, "goDay", "(II)I"⟩
def dkwX3_goDay_1 : List UInt8 := [29, 104, 96, 4, 96, 46, 182, 0, 192, 154, 0, 5, 29, 172, 132, 3, 1, 167, 255, 217, 16, 247, 172]
abbrev dktX3_goDay_1 : List UInt8 := dkwX3_goDay_1 ++ []
def dkwX3_goDay_0 : List UInt8 := [3, 62, 29, 28, 162, 0, 40, 42, 42, 180, 0, 16, 27, 5, 29, 104, 96, 46, 42, 180, 0, 16, 27, 5]
abbrev dktX3_goDay_0 : List UInt8 := dkwX3_goDay_0 ++ dktX3_goDay_1
theorem dksX3_goDay_0 : cX3_goDay.data.toList.drop 0 = dktX3_goDay_0 := by decide +kernel
theorem dksX3_goDay_1 : cX3_goDay.data.toList.drop 24 = dktX3_goDay_1 := dk_seg dksX3_goDay_0 24 rfl rfl
theorem dX3_goDay_0 : decode cX3_goDay 0 = .ok (.iconst 0, 1) := dk_3 (dk_at dksX3_goDay_0 0 rfl rfl)
theorem dX3_goDay_1 : decode cX3_goDay 1 = .ok (.istore_n 3, 1) := dk_62 (dk_at dksX3_goDay_0 1 rfl rfl)
theorem dX3_goDay_2 : decode cX3_goDay 2 = .ok (.iload_n 3, 1) := dk_29 (dk_at dksX3_goDay_0 2 rfl rfl)
theorem dX3_goDay_3 : decode cX3_goDay 3 = .ok (.iload_n 2, 1) := dk_28 (dk_at dksX3_goDay_0 3 rfl rfl)
theorem dX3_goDay_4 : decode cX3_goDay 4 = .ok (.if_icmp .ge 40, 3) := dk_162 0 40 (dk_at dksX3_goDay_0 4 rfl rfl)
theorem dX3_goDay_7 : decode cX3_goDay 7 = .ok (.aload_n 0, 1) := dk_42 (dk_at dksX3_goDay_0 7 rfl rfl)
theorem dX3_goDay_8 : decode cX3_goDay 8 = .ok (.aload_n 0, 1) := dk_42 (dk_at dksX3_goDay_0 8 rfl rfl)
theorem dX3_goDay_9 : decode cX3_goDay 9 = .ok (.getfield 16, 3) := dk_180 0 16 (dk_at dksX3_goDay_0 9 rfl rfl)
theorem dX3_goDay_12 : decode cX3_goDay 12 = .ok (.iload_n 1, 1) := dk_27 (dk_at dksX3_goDay_0 12 rfl rfl)
theorem dX3_goDay_13 : decode cX3_goDay 13 = .ok (.iconst 2, 1) := dk_5 (dk_at dksX3_goDay_0 13 rfl rfl)
theorem dX3_goDay_14 : decode cX3_goDay 14 = .ok (.iload_n 3, 1) := dk_29 (dk_at dksX3_goDay_0 14 rfl rfl)
theorem dX3_goDay_15 : decode cX3_goDay 15 = .ok (.imul, 1) := dk_104 (dk_at dksX3_goDay_0 15 rfl rfl)
theorem dX3_goDay_16 : decode cX3_goDay 16 = .ok (.iadd, 1) := dk_96 (dk_at dksX3_goDay_0 16 rfl rfl)
theorem dX3_goDay_17 : decode cX3_goDay 17 = .ok (.iaload, 1) := dk_46 (dk_at dksX3_goDay_0 17 rfl rfl)
theorem dX3_goDay_18 : decode cX3_goDay 18 = .ok (.aload_n 0, 1) := dk_42 (dk_at dksX3_goDay_0 18 rfl rfl)
theorem dX3_goDay_19 : decode cX3_goDay 19 = .ok (.getfield 16, 3) := dk_180 0 16 (dk_at dksX3_goDay_0 19 rfl rfl)
theorem dX3_goDay_22 : decode cX3_goDay 22 = .ok (.iload_n 1, 1) := dk_27 (dk_at dksX3_goDay_0 22 rfl rfl)
theorem dX3_goDay_23 : decode cX3_goDay 23 = .ok (.iconst 2, 1) := dk_5 (dk_at dksX3_goDay_0 23 rfl rfl)
theorem dX3_goDay_24 : decode cX3_goDay 24 = .ok (.iload_n 3, 1) := dk_29 (dk_at dksX3_goDay_1 0 rfl rfl)
theorem dX3_goDay_25 : decode cX3_goDay 25 = .ok (.imul, 1) := dk_104 (dk_at dksX3_goDay_1 1 rfl rfl)
theorem dX3_goDay_26 : decode cX3_goDay 26 = .ok (.iadd, 1) := dk_96 (dk_at dksX3_goDay_1 2 rfl rfl)
theorem dX3_goDay_27 : decode cX3_goDay 27 = .ok (.iconst 1, 1) := dk_4 (dk_at dksX3_goDay_1 3 rfl rfl)
theorem dX3_goDay_28 : decode cX3_goDay 28 = .ok (.iadd, 1) := dk_96 (dk_at dksX3_goDay_1 4 rfl rfl)
theorem dX3_goDay_29 : decode cX3_goDay 29 = .ok (.iaload, 1) := dk_46 (dk_at dksX3_goDay_1 5 rfl rfl)
theorem dX3_goDay_30 : decode cX3_goDay 30 = .ok (.invokevirtual 192, 3) := dk_182 0 192 (dk_at dksX3_goDay_1 6 rfl rfl)
theorem dX3_goDay_33 : decode cX3_goDay 33 = .ok (.ifCond .ne 5, 3) := dk_154 0 5 (dk_at dksX3_goDay_1 9 rfl rfl)
theorem dX3_goDay_36 : decode cX3_goDay 36 = .ok (.iload_n 3, 1) := dk_29 (dk_at dksX3_goDay_1 12 rfl rfl)
theorem dX3_goDay_37 : decode cX3_goDay 37 = .ok (.ireturn, 1) := dk_172 (dk_at dksX3_goDay_1 13 rfl rfl)
theorem dX3_goDay_38 : decode cX3_goDay 38 = .ok (.iinc 3 1, 3) := dk_132 3 1 (dk_at dksX3_goDay_1 14 rfl rfl)
theorem dX3_goDay_41 : decode cX3_goDay 41 = .ok (.goto (-39), 3) := dk_167 255 217 (dk_at dksX3_goDay_1 17 rfl rfl)
theorem dX3_goDay_44 : decode cX3_goDay 44 = .ok (.bipush (-9), 2) := dk_16 247 (dk_at dksX3_goDay_1 20 rfl rfl)
theorem dX3_goDay_46 : decode cX3_goDay 46 = .ok (.ireturn, 1) := dk_172 (dk_at dksX3_goDay_1 22 rfl rfl)
abbrev cX3_does : ByteArray := prog_25_method_40_code
def yX3_does : MethodName := ⟨RX3, "does", "(II)Z"⟩
def dkwX3_does_5 : List UInt8 := [79, 4, 172]
abbrev dktX3_does_5 : List UInt8 := dkwX3_does_5 ++ []
def dkwX3_does_4 : List UInt8 := [16, 10, 161, 0, 16, 42, 180, 0, 28, 28, 16, 10, 100, 27, 79, 167, 0, 10, 42, 180, 0, 22, 28, 27]
abbrev dktX3_does_4 : List UInt8 := dkwX3_does_4 ++ dktX3_does_5
def dkwX3_does_3 : List UInt8 := [16, 10, 100, 182, 0, 182, 154, 0, 16, 167, 0, 11, 42, 28, 182, 0, 171, 154, 0, 5, 3, 172, 28]
abbrev dktX3_does_3 : List UInt8 := dkwX3_does_3 ++ dktX3_does_4
def dkwX3_does_2 : List UInt8 := [160, 0, 7, 27, 167, 0, 7, 42, 180, 0, 119, 181, 0, 119, 4, 172, 28, 16, 10, 161, 0, 17, 42, 28]
abbrev dktX3_does_2 : List UInt8 := dkwX3_does_2 ++ dktX3_does_3
def dkwX3_does_1 : List UInt8 := [42, 28, 16, 21, 160, 0, 7, 27, 167, 0, 7, 42, 180, 0, 116, 181, 0, 116, 42, 28, 16, 22]
abbrev dktX3_does_1 : List UInt8 := dkwX3_does_1 ++ dktX3_does_2
def dkwX3_does_0 : List UInt8 := [28, 16, 20, 161, 0, 59, 42, 28, 16, 20, 160, 0, 7, 27, 167, 0, 7, 42, 180, 0, 113, 181, 0, 113]
abbrev dktX3_does_0 : List UInt8 := dkwX3_does_0 ++ dktX3_does_1
theorem dksX3_does_0 : cX3_does.data.toList.drop 0 = dktX3_does_0 := by decide +kernel
theorem dksX3_does_1 : cX3_does.data.toList.drop 24 = dktX3_does_1 := dk_seg dksX3_does_0 24 rfl rfl
theorem dksX3_does_2 : cX3_does.data.toList.drop 46 = dktX3_does_2 := dk_seg dksX3_does_1 22 rfl rfl
theorem dksX3_does_3 : cX3_does.data.toList.drop 70 = dktX3_does_3 := dk_seg dksX3_does_2 24 rfl rfl
theorem dksX3_does_4 : cX3_does.data.toList.drop 93 = dktX3_does_4 := dk_seg dksX3_does_3 23 rfl rfl
theorem dksX3_does_5 : cX3_does.data.toList.drop 117 = dktX3_does_5 := dk_seg dksX3_does_4 24 rfl rfl
theorem dX3_does_0 : decode cX3_does 0 = .ok (.iload_n 2, 1) := dk_28 (dk_at dksX3_does_0 0 rfl rfl)
theorem dX3_does_1 : decode cX3_does 1 = .ok (.bipush 20, 2) := dk_16 20 (dk_at dksX3_does_0 1 rfl rfl)
theorem dX3_does_3 : decode cX3_does 3 = .ok (.if_icmp .lt 59, 3) := dk_161 0 59 (dk_at dksX3_does_0 3 rfl rfl)
theorem dX3_does_6 : decode cX3_does 6 = .ok (.aload_n 0, 1) := dk_42 (dk_at dksX3_does_0 6 rfl rfl)
theorem dX3_does_7 : decode cX3_does 7 = .ok (.iload_n 2, 1) := dk_28 (dk_at dksX3_does_0 7 rfl rfl)
theorem dX3_does_8 : decode cX3_does 8 = .ok (.bipush 20, 2) := dk_16 20 (dk_at dksX3_does_0 8 rfl rfl)
theorem dX3_does_10 : decode cX3_does 10 = .ok (.if_icmp .ne 7, 3) := dk_160 0 7 (dk_at dksX3_does_0 10 rfl rfl)
theorem dX3_does_13 : decode cX3_does 13 = .ok (.iload_n 1, 1) := dk_27 (dk_at dksX3_does_0 13 rfl rfl)
theorem dX3_does_14 : decode cX3_does 14 = .ok (.goto 7, 3) := dk_167 0 7 (dk_at dksX3_does_0 14 rfl rfl)
theorem dX3_does_17 : decode cX3_does 17 = .ok (.aload_n 0, 1) := dk_42 (dk_at dksX3_does_0 17 rfl rfl)
theorem dX3_does_18 : decode cX3_does 18 = .ok (.getfield 113, 3) := dk_180 0 113 (dk_at dksX3_does_0 18 rfl rfl)
theorem dX3_does_21 : decode cX3_does 21 = .ok (.putfield 113, 3) := dk_181 0 113 (dk_at dksX3_does_0 21 rfl rfl)
theorem dX3_does_24 : decode cX3_does 24 = .ok (.aload_n 0, 1) := dk_42 (dk_at dksX3_does_1 0 rfl rfl)
theorem dX3_does_25 : decode cX3_does 25 = .ok (.iload_n 2, 1) := dk_28 (dk_at dksX3_does_1 1 rfl rfl)
theorem dX3_does_26 : decode cX3_does 26 = .ok (.bipush 21, 2) := dk_16 21 (dk_at dksX3_does_1 2 rfl rfl)
theorem dX3_does_28 : decode cX3_does 28 = .ok (.if_icmp .ne 7, 3) := dk_160 0 7 (dk_at dksX3_does_1 4 rfl rfl)
theorem dX3_does_31 : decode cX3_does 31 = .ok (.iload_n 1, 1) := dk_27 (dk_at dksX3_does_1 7 rfl rfl)
theorem dX3_does_32 : decode cX3_does 32 = .ok (.goto 7, 3) := dk_167 0 7 (dk_at dksX3_does_1 8 rfl rfl)
theorem dX3_does_35 : decode cX3_does 35 = .ok (.aload_n 0, 1) := dk_42 (dk_at dksX3_does_1 11 rfl rfl)
theorem dX3_does_36 : decode cX3_does 36 = .ok (.getfield 116, 3) := dk_180 0 116 (dk_at dksX3_does_1 12 rfl rfl)
theorem dX3_does_39 : decode cX3_does 39 = .ok (.putfield 116, 3) := dk_181 0 116 (dk_at dksX3_does_1 15 rfl rfl)
theorem dX3_does_42 : decode cX3_does 42 = .ok (.aload_n 0, 1) := dk_42 (dk_at dksX3_does_1 18 rfl rfl)
theorem dX3_does_43 : decode cX3_does 43 = .ok (.iload_n 2, 1) := dk_28 (dk_at dksX3_does_1 19 rfl rfl)
theorem dX3_does_44 : decode cX3_does 44 = .ok (.bipush 22, 2) := dk_16 22 (dk_at dksX3_does_1 20 rfl rfl)
theorem dX3_does_46 : decode cX3_does 46 = .ok (.if_icmp .ne 7, 3) := dk_160 0 7 (dk_at dksX3_does_2 0 rfl rfl)
theorem dX3_does_49 : decode cX3_does 49 = .ok (.iload_n 1, 1) := dk_27 (dk_at dksX3_does_2 3 rfl rfl)
theorem dX3_does_50 : decode cX3_does 50 = .ok (.goto 7, 3) := dk_167 0 7 (dk_at dksX3_does_2 4 rfl rfl)
theorem dX3_does_53 : decode cX3_does 53 = .ok (.aload_n 0, 1) := dk_42 (dk_at dksX3_does_2 7 rfl rfl)
theorem dX3_does_54 : decode cX3_does 54 = .ok (.getfield 119, 3) := dk_180 0 119 (dk_at dksX3_does_2 8 rfl rfl)
theorem dX3_does_57 : decode cX3_does 57 = .ok (.putfield 119, 3) := dk_181 0 119 (dk_at dksX3_does_2 11 rfl rfl)
theorem dX3_does_60 : decode cX3_does 60 = .ok (.iconst 1, 1) := dk_4 (dk_at dksX3_does_2 14 rfl rfl)
theorem dX3_does_61 : decode cX3_does 61 = .ok (.ireturn, 1) := dk_172 (dk_at dksX3_does_2 15 rfl rfl)
theorem dX3_does_62 : decode cX3_does 62 = .ok (.iload_n 2, 1) := dk_28 (dk_at dksX3_does_2 16 rfl rfl)
theorem dX3_does_63 : decode cX3_does 63 = .ok (.bipush 10, 2) := dk_16 10 (dk_at dksX3_does_2 17 rfl rfl)
theorem dX3_does_65 : decode cX3_does 65 = .ok (.if_icmp .lt 17, 3) := dk_161 0 17 (dk_at dksX3_does_2 19 rfl rfl)
theorem dX3_does_68 : decode cX3_does 68 = .ok (.aload_n 0, 1) := dk_42 (dk_at dksX3_does_2 22 rfl rfl)
theorem dX3_does_69 : decode cX3_does 69 = .ok (.iload_n 2, 1) := dk_28 (dk_at dksX3_does_2 23 rfl rfl)
theorem dX3_does_70 : decode cX3_does 70 = .ok (.bipush 10, 2) := dk_16 10 (dk_at dksX3_does_3 0 rfl rfl)
theorem dX3_does_72 : decode cX3_does 72 = .ok (.isub, 1) := dk_100 (dk_at dksX3_does_3 2 rfl rfl)
theorem dX3_does_73 : decode cX3_does 73 = .ok (.invokevirtual 182, 3) := dk_182 0 182 (dk_at dksX3_does_3 3 rfl rfl)
theorem dX3_does_76 : decode cX3_does 76 = .ok (.ifCond .ne 16, 3) := dk_154 0 16 (dk_at dksX3_does_3 6 rfl rfl)
theorem dX3_does_79 : decode cX3_does 79 = .ok (.goto 11, 3) := dk_167 0 11 (dk_at dksX3_does_3 9 rfl rfl)
theorem dX3_does_82 : decode cX3_does 82 = .ok (.aload_n 0, 1) := dk_42 (dk_at dksX3_does_3 12 rfl rfl)
theorem dX3_does_83 : decode cX3_does 83 = .ok (.iload_n 2, 1) := dk_28 (dk_at dksX3_does_3 13 rfl rfl)
theorem dX3_does_84 : decode cX3_does 84 = .ok (.invokevirtual 171, 3) := dk_182 0 171 (dk_at dksX3_does_3 14 rfl rfl)
theorem dX3_does_87 : decode cX3_does 87 = .ok (.ifCond .ne 5, 3) := dk_154 0 5 (dk_at dksX3_does_3 17 rfl rfl)
theorem dX3_does_90 : decode cX3_does 90 = .ok (.iconst 0, 1) := dk_3 (dk_at dksX3_does_3 20 rfl rfl)
theorem dX3_does_91 : decode cX3_does 91 = .ok (.ireturn, 1) := dk_172 (dk_at dksX3_does_3 21 rfl rfl)
theorem dX3_does_92 : decode cX3_does 92 = .ok (.iload_n 2, 1) := dk_28 (dk_at dksX3_does_3 22 rfl rfl)
theorem dX3_does_93 : decode cX3_does 93 = .ok (.bipush 10, 2) := dk_16 10 (dk_at dksX3_does_4 0 rfl rfl)
theorem dX3_does_95 : decode cX3_does 95 = .ok (.if_icmp .lt 16, 3) := dk_161 0 16 (dk_at dksX3_does_4 2 rfl rfl)
theorem dX3_does_98 : decode cX3_does 98 = .ok (.aload_n 0, 1) := dk_42 (dk_at dksX3_does_4 5 rfl rfl)
theorem dX3_does_99 : decode cX3_does 99 = .ok (.getfield 28, 3) := dk_180 0 28 (dk_at dksX3_does_4 6 rfl rfl)
theorem dX3_does_102 : decode cX3_does 102 = .ok (.iload_n 2, 1) := dk_28 (dk_at dksX3_does_4 9 rfl rfl)
theorem dX3_does_103 : decode cX3_does 103 = .ok (.bipush 10, 2) := dk_16 10 (dk_at dksX3_does_4 10 rfl rfl)
theorem dX3_does_105 : decode cX3_does 105 = .ok (.isub, 1) := dk_100 (dk_at dksX3_does_4 12 rfl rfl)
theorem dX3_does_106 : decode cX3_does 106 = .ok (.iload_n 1, 1) := dk_27 (dk_at dksX3_does_4 13 rfl rfl)
theorem dX3_does_107 : decode cX3_does 107 = .ok (.iastore, 1) := dk_79 (dk_at dksX3_does_4 14 rfl rfl)
theorem dX3_does_108 : decode cX3_does 108 = .ok (.goto 10, 3) := dk_167 0 10 (dk_at dksX3_does_4 15 rfl rfl)
theorem dX3_does_111 : decode cX3_does 111 = .ok (.aload_n 0, 1) := dk_42 (dk_at dksX3_does_4 18 rfl rfl)
theorem dX3_does_112 : decode cX3_does 112 = .ok (.getfield 22, 3) := dk_180 0 22 (dk_at dksX3_does_4 19 rfl rfl)
theorem dX3_does_115 : decode cX3_does 115 = .ok (.iload_n 2, 1) := dk_28 (dk_at dksX3_does_4 22 rfl rfl)
theorem dX3_does_116 : decode cX3_does 116 = .ok (.iload_n 1, 1) := dk_27 (dk_at dksX3_does_4 23 rfl rfl)
theorem dX3_does_117 : decode cX3_does 117 = .ok (.iastore, 1) := dk_79 (dk_at dksX3_does_5 0 rfl rfl)
theorem dX3_does_118 : decode cX3_does 118 = .ok (.iconst 1, 1) := dk_4 (dk_at dksX3_does_5 1 rfl rfl)
theorem dX3_does_119 : decode cX3_does 119 = .ok (.ireturn, 1) := dk_172 (dk_at dksX3_does_5 2 rfl rfl)
abbrev cX3_tellDay : ByteArray := prog_25_method_44_code
def yX3_tellDay : MethodName := ⟨RX3, "tellDay", "(I)I"⟩
def dkwX3_tellDay_1 : List UInt8 := [182, 0, 171, 153, 0, 15, 42, 3, 27, 16, 10, 100, 182, 0, 178, 167, 0, 5, 16, 247, 172]
abbrev dktX3_tellDay_1 : List UInt8 := dkwX3_tellDay_1 ++ []
def dkwX3_tellDay_0 : List UInt8 := [27, 16, 10, 162, 0, 9, 42, 27, 182, 0, 189, 172, 42, 182, 0, 174, 87, 42, 27, 16, 10, 100]
abbrev dktX3_tellDay_0 : List UInt8 := dkwX3_tellDay_0 ++ dktX3_tellDay_1
theorem dksX3_tellDay_0 : cX3_tellDay.data.toList.drop 0 = dktX3_tellDay_0 := by decide +kernel
theorem dksX3_tellDay_1 : cX3_tellDay.data.toList.drop 22 = dktX3_tellDay_1 := dk_seg dksX3_tellDay_0 22 rfl rfl
theorem dX3_tellDay_0 : decode cX3_tellDay 0 = .ok (.iload_n 1, 1) := dk_27 (dk_at dksX3_tellDay_0 0 rfl rfl)
theorem dX3_tellDay_1 : decode cX3_tellDay 1 = .ok (.bipush 10, 2) := dk_16 10 (dk_at dksX3_tellDay_0 1 rfl rfl)
theorem dX3_tellDay_3 : decode cX3_tellDay 3 = .ok (.if_icmp .ge 9, 3) := dk_162 0 9 (dk_at dksX3_tellDay_0 3 rfl rfl)
theorem dX3_tellDay_6 : decode cX3_tellDay 6 = .ok (.aload_n 0, 1) := dk_42 (dk_at dksX3_tellDay_0 6 rfl rfl)
theorem dX3_tellDay_7 : decode cX3_tellDay 7 = .ok (.iload_n 1, 1) := dk_27 (dk_at dksX3_tellDay_0 7 rfl rfl)
theorem dX3_tellDay_8 : decode cX3_tellDay 8 = .ok (.invokevirtual 189, 3) := dk_182 0 189 (dk_at dksX3_tellDay_0 8 rfl rfl)
theorem dX3_tellDay_11 : decode cX3_tellDay 11 = .ok (.ireturn, 1) := dk_172 (dk_at dksX3_tellDay_0 11 rfl rfl)
theorem dX3_tellDay_12 : decode cX3_tellDay 12 = .ok (.aload_n 0, 1) := dk_42 (dk_at dksX3_tellDay_0 12 rfl rfl)
theorem dX3_tellDay_13 : decode cX3_tellDay 13 = .ok (.invokevirtual 174, 3) := dk_182 0 174 (dk_at dksX3_tellDay_0 13 rfl rfl)
theorem dX3_tellDay_16 : decode cX3_tellDay 16 = .ok (.pop, 1) := dk_87 (dk_at dksX3_tellDay_0 16 rfl rfl)
theorem dX3_tellDay_17 : decode cX3_tellDay 17 = .ok (.aload_n 0, 1) := dk_42 (dk_at dksX3_tellDay_0 17 rfl rfl)
theorem dX3_tellDay_18 : decode cX3_tellDay 18 = .ok (.iload_n 1, 1) := dk_27 (dk_at dksX3_tellDay_0 18 rfl rfl)
theorem dX3_tellDay_19 : decode cX3_tellDay 19 = .ok (.bipush 10, 2) := dk_16 10 (dk_at dksX3_tellDay_0 19 rfl rfl)
theorem dX3_tellDay_21 : decode cX3_tellDay 21 = .ok (.isub, 1) := dk_100 (dk_at dksX3_tellDay_0 21 rfl rfl)
theorem dX3_tellDay_22 : decode cX3_tellDay 22 = .ok (.invokevirtual 171, 3) := dk_182 0 171 (dk_at dksX3_tellDay_1 0 rfl rfl)
theorem dX3_tellDay_25 : decode cX3_tellDay 25 = .ok (.ifCond .eq 15, 3) := dk_153 0 15 (dk_at dksX3_tellDay_1 3 rfl rfl)
theorem dX3_tellDay_28 : decode cX3_tellDay 28 = .ok (.aload_n 0, 1) := dk_42 (dk_at dksX3_tellDay_1 6 rfl rfl)
theorem dX3_tellDay_29 : decode cX3_tellDay 29 = .ok (.iconst 0, 1) := dk_3 (dk_at dksX3_tellDay_1 7 rfl rfl)
theorem dX3_tellDay_30 : decode cX3_tellDay 30 = .ok (.iload_n 1, 1) := dk_27 (dk_at dksX3_tellDay_1 8 rfl rfl)
theorem dX3_tellDay_31 : decode cX3_tellDay 31 = .ok (.bipush 10, 2) := dk_16 10 (dk_at dksX3_tellDay_1 9 rfl rfl)
theorem dX3_tellDay_33 : decode cX3_tellDay 33 = .ok (.isub, 1) := dk_100 (dk_at dksX3_tellDay_1 11 rfl rfl)
theorem dX3_tellDay_34 : decode cX3_tellDay 34 = .ok (.invokevirtual 178, 3) := dk_182 0 178 (dk_at dksX3_tellDay_1 12 rfl rfl)
theorem dX3_tellDay_37 : decode cX3_tellDay 37 = .ok (.goto 5, 3) := dk_167 0 5 (dk_at dksX3_tellDay_1 15 rfl rfl)
theorem dX3_tellDay_40 : decode cX3_tellDay 40 = .ok (.bipush (-9), 2) := dk_16 247 (dk_at dksX3_tellDay_1 18 rfl rfl)
theorem dX3_tellDay_42 : decode cX3_tellDay 42 = .ok (.ireturn, 1) := dk_172 (dk_at dksX3_tellDay_1 20 rfl rfl)
abbrev cX3_putBack : ByteArray := prog_25_method_39_code
def yX3_putBack : MethodName := ⟨RX3, "putBack", "()V"⟩
def dkwX3_putBack_3 : List UInt8 := [181, 0, 119, 177]
abbrev dktX3_putBack_3 : List UInt8 := dkwX3_putBack_3 ++ []
def dkwX3_putBack_2 : List UInt8 := [46, 181, 0, 113, 42, 42, 180, 0, 61, 16, 15, 46, 181, 0, 116, 42, 42, 180, 0, 61, 16, 16, 46]
abbrev dktX3_putBack_2 : List UInt8 := dkwX3_putBack_2 ++ dktX3_putBack_3
def dkwX3_putBack_1 : List UInt8 := [27, 42, 180, 0, 61, 16, 7, 27, 96, 46, 79, 132, 1, 1, 167, 255, 220, 42, 42, 180, 0, 61, 16, 14]
abbrev dktX3_putBack_1 : List UInt8 := dkwX3_putBack_1 ++ dktX3_putBack_2
def dkwX3_putBack_0 : List UInt8 := [3, 60, 27, 16, 7, 162, 0, 36, 42, 180, 0, 22, 27, 42, 180, 0, 61, 27, 46, 79, 42, 180, 0, 28]
abbrev dktX3_putBack_0 : List UInt8 := dkwX3_putBack_0 ++ dktX3_putBack_1
theorem dksX3_putBack_0 : cX3_putBack.data.toList.drop 0 = dktX3_putBack_0 := by decide +kernel
theorem dksX3_putBack_1 : cX3_putBack.data.toList.drop 24 = dktX3_putBack_1 := dk_seg dksX3_putBack_0 24 rfl rfl
theorem dksX3_putBack_2 : cX3_putBack.data.toList.drop 48 = dktX3_putBack_2 := dk_seg dksX3_putBack_1 24 rfl rfl
theorem dksX3_putBack_3 : cX3_putBack.data.toList.drop 71 = dktX3_putBack_3 := dk_seg dksX3_putBack_2 23 rfl rfl
theorem dX3_putBack_0 : decode cX3_putBack 0 = .ok (.iconst 0, 1) := dk_3 (dk_at dksX3_putBack_0 0 rfl rfl)
theorem dX3_putBack_1 : decode cX3_putBack 1 = .ok (.istore_n 1, 1) := dk_60 (dk_at dksX3_putBack_0 1 rfl rfl)
theorem dX3_putBack_2 : decode cX3_putBack 2 = .ok (.iload_n 1, 1) := dk_27 (dk_at dksX3_putBack_0 2 rfl rfl)
theorem dX3_putBack_3 : decode cX3_putBack 3 = .ok (.bipush 7, 2) := dk_16 7 (dk_at dksX3_putBack_0 3 rfl rfl)
theorem dX3_putBack_5 : decode cX3_putBack 5 = .ok (.if_icmp .ge 36, 3) := dk_162 0 36 (dk_at dksX3_putBack_0 5 rfl rfl)
theorem dX3_putBack_8 : decode cX3_putBack 8 = .ok (.aload_n 0, 1) := dk_42 (dk_at dksX3_putBack_0 8 rfl rfl)
theorem dX3_putBack_9 : decode cX3_putBack 9 = .ok (.getfield 22, 3) := dk_180 0 22 (dk_at dksX3_putBack_0 9 rfl rfl)
theorem dX3_putBack_12 : decode cX3_putBack 12 = .ok (.iload_n 1, 1) := dk_27 (dk_at dksX3_putBack_0 12 rfl rfl)
theorem dX3_putBack_13 : decode cX3_putBack 13 = .ok (.aload_n 0, 1) := dk_42 (dk_at dksX3_putBack_0 13 rfl rfl)
theorem dX3_putBack_14 : decode cX3_putBack 14 = .ok (.getfield 61, 3) := dk_180 0 61 (dk_at dksX3_putBack_0 14 rfl rfl)
theorem dX3_putBack_17 : decode cX3_putBack 17 = .ok (.iload_n 1, 1) := dk_27 (dk_at dksX3_putBack_0 17 rfl rfl)
theorem dX3_putBack_18 : decode cX3_putBack 18 = .ok (.iaload, 1) := dk_46 (dk_at dksX3_putBack_0 18 rfl rfl)
theorem dX3_putBack_19 : decode cX3_putBack 19 = .ok (.iastore, 1) := dk_79 (dk_at dksX3_putBack_0 19 rfl rfl)
theorem dX3_putBack_20 : decode cX3_putBack 20 = .ok (.aload_n 0, 1) := dk_42 (dk_at dksX3_putBack_0 20 rfl rfl)
theorem dX3_putBack_21 : decode cX3_putBack 21 = .ok (.getfield 28, 3) := dk_180 0 28 (dk_at dksX3_putBack_0 21 rfl rfl)
theorem dX3_putBack_24 : decode cX3_putBack 24 = .ok (.iload_n 1, 1) := dk_27 (dk_at dksX3_putBack_1 0 rfl rfl)
theorem dX3_putBack_25 : decode cX3_putBack 25 = .ok (.aload_n 0, 1) := dk_42 (dk_at dksX3_putBack_1 1 rfl rfl)
theorem dX3_putBack_26 : decode cX3_putBack 26 = .ok (.getfield 61, 3) := dk_180 0 61 (dk_at dksX3_putBack_1 2 rfl rfl)
theorem dX3_putBack_29 : decode cX3_putBack 29 = .ok (.bipush 7, 2) := dk_16 7 (dk_at dksX3_putBack_1 5 rfl rfl)
theorem dX3_putBack_31 : decode cX3_putBack 31 = .ok (.iload_n 1, 1) := dk_27 (dk_at dksX3_putBack_1 7 rfl rfl)
theorem dX3_putBack_32 : decode cX3_putBack 32 = .ok (.iadd, 1) := dk_96 (dk_at dksX3_putBack_1 8 rfl rfl)
theorem dX3_putBack_33 : decode cX3_putBack 33 = .ok (.iaload, 1) := dk_46 (dk_at dksX3_putBack_1 9 rfl rfl)
theorem dX3_putBack_34 : decode cX3_putBack 34 = .ok (.iastore, 1) := dk_79 (dk_at dksX3_putBack_1 10 rfl rfl)
theorem dX3_putBack_35 : decode cX3_putBack 35 = .ok (.iinc 1 1, 3) := dk_132 1 1 (dk_at dksX3_putBack_1 11 rfl rfl)
theorem dX3_putBack_38 : decode cX3_putBack 38 = .ok (.goto (-36), 3) := dk_167 255 220 (dk_at dksX3_putBack_1 14 rfl rfl)
theorem dX3_putBack_41 : decode cX3_putBack 41 = .ok (.aload_n 0, 1) := dk_42 (dk_at dksX3_putBack_1 17 rfl rfl)
theorem dX3_putBack_42 : decode cX3_putBack 42 = .ok (.aload_n 0, 1) := dk_42 (dk_at dksX3_putBack_1 18 rfl rfl)
theorem dX3_putBack_43 : decode cX3_putBack 43 = .ok (.getfield 61, 3) := dk_180 0 61 (dk_at dksX3_putBack_1 19 rfl rfl)
theorem dX3_putBack_46 : decode cX3_putBack 46 = .ok (.bipush 14, 2) := dk_16 14 (dk_at dksX3_putBack_1 22 rfl rfl)
theorem dX3_putBack_48 : decode cX3_putBack 48 = .ok (.iaload, 1) := dk_46 (dk_at dksX3_putBack_2 0 rfl rfl)
theorem dX3_putBack_49 : decode cX3_putBack 49 = .ok (.putfield 113, 3) := dk_181 0 113 (dk_at dksX3_putBack_2 1 rfl rfl)
theorem dX3_putBack_52 : decode cX3_putBack 52 = .ok (.aload_n 0, 1) := dk_42 (dk_at dksX3_putBack_2 4 rfl rfl)
theorem dX3_putBack_53 : decode cX3_putBack 53 = .ok (.aload_n 0, 1) := dk_42 (dk_at dksX3_putBack_2 5 rfl rfl)
theorem dX3_putBack_54 : decode cX3_putBack 54 = .ok (.getfield 61, 3) := dk_180 0 61 (dk_at dksX3_putBack_2 6 rfl rfl)
theorem dX3_putBack_57 : decode cX3_putBack 57 = .ok (.bipush 15, 2) := dk_16 15 (dk_at dksX3_putBack_2 9 rfl rfl)
theorem dX3_putBack_59 : decode cX3_putBack 59 = .ok (.iaload, 1) := dk_46 (dk_at dksX3_putBack_2 11 rfl rfl)
theorem dX3_putBack_60 : decode cX3_putBack 60 = .ok (.putfield 116, 3) := dk_181 0 116 (dk_at dksX3_putBack_2 12 rfl rfl)
theorem dX3_putBack_63 : decode cX3_putBack 63 = .ok (.aload_n 0, 1) := dk_42 (dk_at dksX3_putBack_2 15 rfl rfl)
theorem dX3_putBack_64 : decode cX3_putBack 64 = .ok (.aload_n 0, 1) := dk_42 (dk_at dksX3_putBack_2 16 rfl rfl)
theorem dX3_putBack_65 : decode cX3_putBack 65 = .ok (.getfield 61, 3) := dk_180 0 61 (dk_at dksX3_putBack_2 17 rfl rfl)
theorem dX3_putBack_68 : decode cX3_putBack 68 = .ok (.bipush 16, 2) := dk_16 16 (dk_at dksX3_putBack_2 20 rfl rfl)
theorem dX3_putBack_70 : decode cX3_putBack 70 = .ok (.iaload, 1) := dk_46 (dk_at dksX3_putBack_2 22 rfl rfl)
theorem dX3_putBack_71 : decode cX3_putBack 71 = .ok (.putfield 119, 3) := dk_181 0 119 (dk_at dksX3_putBack_3 0 rfl rfl)
theorem dX3_putBack_74 : decode cX3_putBack 74 = .ok (.return_, 1) := dk_177 (dk_at dksX3_putBack_3 3 rfl rfl)
abbrev cX3_by : ByteArray := prog_25_method_45_code
def yX3_by : MethodName := ⟨RX3, "by", "(I)I"⟩
def dkwX3_by_1 : List UInt8 := [167, 0, 8, 42, 27, 182, 0, 162, 172]
abbrev dktX3_by_1 : List UInt8 := dkwX3_by_1 ++ []
def dkwX3_by_0 : List UInt8 := [27, 3, 16, 7, 184, 0, 76, 154, 0, 6, 16, 254, 172, 42, 180, 0, 80, 154, 0, 8, 16, 253]
abbrev dktX3_by_0 : List UInt8 := dkwX3_by_0 ++ dktX3_by_1
theorem dksX3_by_0 : cX3_by.data.toList.drop 0 = dktX3_by_0 := by decide +kernel
theorem dksX3_by_1 : cX3_by.data.toList.drop 22 = dktX3_by_1 := dk_seg dksX3_by_0 22 rfl rfl
theorem dX3_by_0 : decode cX3_by 0 = .ok (.iload_n 1, 1) := dk_27 (dk_at dksX3_by_0 0 rfl rfl)
theorem dX3_by_1 : decode cX3_by 1 = .ok (.iconst 0, 1) := dk_3 (dk_at dksX3_by_0 1 rfl rfl)
theorem dX3_by_2 : decode cX3_by 2 = .ok (.bipush 7, 2) := dk_16 7 (dk_at dksX3_by_0 2 rfl rfl)
theorem dX3_by_4 : decode cX3_by 4 = .ok (.invokestatic 76, 3) := dk_184 0 76 (dk_at dksX3_by_0 4 rfl rfl)
theorem dX3_by_7 : decode cX3_by 7 = .ok (.ifCond .ne 6, 3) := dk_154 0 6 (dk_at dksX3_by_0 7 rfl rfl)
theorem dX3_by_10 : decode cX3_by 10 = .ok (.bipush (-2), 2) := dk_16 254 (dk_at dksX3_by_0 10 rfl rfl)
theorem dX3_by_12 : decode cX3_by 12 = .ok (.ireturn, 1) := dk_172 (dk_at dksX3_by_0 12 rfl rfl)
theorem dX3_by_13 : decode cX3_by 13 = .ok (.aload_n 0, 1) := dk_42 (dk_at dksX3_by_0 13 rfl rfl)
theorem dX3_by_14 : decode cX3_by 14 = .ok (.getfield 80, 3) := dk_180 0 80 (dk_at dksX3_by_0 14 rfl rfl)
theorem dX3_by_17 : decode cX3_by 17 = .ok (.ifCond .ne 8, 3) := dk_154 0 8 (dk_at dksX3_by_0 17 rfl rfl)
theorem dX3_by_20 : decode cX3_by 20 = .ok (.bipush (-3), 2) := dk_16 253 (dk_at dksX3_by_0 20 rfl rfl)
theorem dX3_by_22 : decode cX3_by 22 = .ok (.goto 8, 3) := dk_167 0 8 (dk_at dksX3_by_1 0 rfl rfl)
theorem dX3_by_25 : decode cX3_by 25 = .ok (.aload_n 0, 1) := dk_42 (dk_at dksX3_by_1 3 rfl rfl)
theorem dX3_by_26 : decode cX3_by 26 = .ok (.iload_n 1, 1) := dk_27 (dk_at dksX3_by_1 4 rfl rfl)
theorem dX3_by_27 : decode cX3_by 27 = .ok (.invokevirtual 162, 3) := dk_182 0 162 (dk_at dksX3_by_1 5 rfl rfl)
theorem dX3_by_30 : decode cX3_by 30 = .ok (.ireturn, 1) := dk_172 (dk_at dksX3_by_1 8 rfl rfl)
abbrev cX3_enough : ByteArray := prog_25_method_46_code
def yX3_enough : MethodName := ⟨RX3, "enough", "()I"⟩
def dkwX3_enough_1 : List UInt8 := [27, 159, 0, 9, 132, 2, 1, 167, 255, 244, 28, 172]
abbrev dktX3_enough_1 : List UInt8 := dkwX3_enough_1 ++ []
def dkwX3_enough_0 : List UInt8 := [42, 180, 0, 80, 154, 0, 6, 16, 253, 172, 42, 16, 7, 182, 0, 162, 60, 3, 61, 42, 28, 182, 0, 162]
abbrev dktX3_enough_0 : List UInt8 := dkwX3_enough_0 ++ dktX3_enough_1
theorem dksX3_enough_0 : cX3_enough.data.toList.drop 0 = dktX3_enough_0 := by decide +kernel
theorem dksX3_enough_1 : cX3_enough.data.toList.drop 24 = dktX3_enough_1 := dk_seg dksX3_enough_0 24 rfl rfl
theorem dX3_enough_0 : decode cX3_enough 0 = .ok (.aload_n 0, 1) := dk_42 (dk_at dksX3_enough_0 0 rfl rfl)
theorem dX3_enough_1 : decode cX3_enough 1 = .ok (.getfield 80, 3) := dk_180 0 80 (dk_at dksX3_enough_0 1 rfl rfl)
theorem dX3_enough_4 : decode cX3_enough 4 = .ok (.ifCond .ne 6, 3) := dk_154 0 6 (dk_at dksX3_enough_0 4 rfl rfl)
theorem dX3_enough_7 : decode cX3_enough 7 = .ok (.bipush (-3), 2) := dk_16 253 (dk_at dksX3_enough_0 7 rfl rfl)
theorem dX3_enough_9 : decode cX3_enough 9 = .ok (.ireturn, 1) := dk_172 (dk_at dksX3_enough_0 9 rfl rfl)
theorem dX3_enough_10 : decode cX3_enough 10 = .ok (.aload_n 0, 1) := dk_42 (dk_at dksX3_enough_0 10 rfl rfl)
theorem dX3_enough_11 : decode cX3_enough 11 = .ok (.bipush 7, 2) := dk_16 7 (dk_at dksX3_enough_0 11 rfl rfl)
theorem dX3_enough_13 : decode cX3_enough 13 = .ok (.invokevirtual 162, 3) := dk_182 0 162 (dk_at dksX3_enough_0 13 rfl rfl)
theorem dX3_enough_16 : decode cX3_enough 16 = .ok (.istore_n 1, 1) := dk_60 (dk_at dksX3_enough_0 16 rfl rfl)
theorem dX3_enough_17 : decode cX3_enough 17 = .ok (.iconst 0, 1) := dk_3 (dk_at dksX3_enough_0 17 rfl rfl)
theorem dX3_enough_18 : decode cX3_enough 18 = .ok (.istore_n 2, 1) := dk_61 (dk_at dksX3_enough_0 18 rfl rfl)
theorem dX3_enough_19 : decode cX3_enough 19 = .ok (.aload_n 0, 1) := dk_42 (dk_at dksX3_enough_0 19 rfl rfl)
theorem dX3_enough_20 : decode cX3_enough 20 = .ok (.iload_n 2, 1) := dk_28 (dk_at dksX3_enough_0 20 rfl rfl)
theorem dX3_enough_21 : decode cX3_enough 21 = .ok (.invokevirtual 162, 3) := dk_182 0 162 (dk_at dksX3_enough_0 21 rfl rfl)
theorem dX3_enough_24 : decode cX3_enough 24 = .ok (.iload_n 1, 1) := dk_27 (dk_at dksX3_enough_1 0 rfl rfl)
theorem dX3_enough_25 : decode cX3_enough 25 = .ok (.if_icmp .eq 9, 3) := dk_159 0 9 (dk_at dksX3_enough_1 1 rfl rfl)
theorem dX3_enough_28 : decode cX3_enough 28 = .ok (.iinc 2 1, 3) := dk_132 2 1 (dk_at dksX3_enough_1 4 rfl rfl)
theorem dX3_enough_31 : decode cX3_enough 31 = .ok (.goto (-12), 3) := dk_167 255 244 (dk_at dksX3_enough_1 7 rfl rfl)
theorem dX3_enough_34 : decode cX3_enough 34 = .ok (.iload_n 2, 1) := dk_28 (dk_at dksX3_enough_1 10 rfl rfl)
theorem dX3_enough_35 : decode cX3_enough 35 = .ok (.ireturn, 1) := dk_172 (dk_at dksX3_enough_1 11 rfl rfl)
abbrev cX3_reading : ByteArray := prog_25_method_47_code
def yX3_reading : MethodName := ⟨RX3, "reading", "(II)I"⟩
def dkwX3_reading_3 : List UInt8 := [28, 79, 42, 89, 180, 0, 122, 4, 96, 181, 0, 122, 42, 180, 0, 122, 4, 100, 172]
abbrev dktX3_reading_3 : List UInt8 := dkwX3_reading_3 ++ []
def dkwX3_reading_2 : List UInt8 := [160, 0, 6, 16, 252, 172, 42, 180, 0, 64, 42, 180, 0, 122, 27, 79, 42, 180, 0, 67, 42, 180, 0, 122]
abbrev dktX3_reading_2 : List UInt8 := dkwX3_reading_2 ++ dktX3_reading_3
def dkwX3_reading_1 : List UInt8 := [159, 0, 17, 28, 3, 17, 1, 244, 184, 0, 76, 154, 0, 6, 16, 254, 172, 42, 180, 0, 122, 16, 8]
abbrev dktX3_reading_1 : List UInt8 := dkwX3_reading_1 ++ dktX3_reading_2
def dkwX3_reading_0 : List UInt8 := [42, 180, 0, 80, 154, 0, 6, 16, 253, 172, 27, 3, 16, 7, 184, 0, 76, 153, 0, 20, 28, 16, 247]
abbrev dktX3_reading_0 : List UInt8 := dkwX3_reading_0 ++ dktX3_reading_1
theorem dksX3_reading_0 : cX3_reading.data.toList.drop 0 = dktX3_reading_0 := by decide +kernel
theorem dksX3_reading_1 : cX3_reading.data.toList.drop 23 = dktX3_reading_1 := dk_seg dksX3_reading_0 23 rfl rfl
theorem dksX3_reading_2 : cX3_reading.data.toList.drop 46 = dktX3_reading_2 := dk_seg dksX3_reading_1 23 rfl rfl
theorem dksX3_reading_3 : cX3_reading.data.toList.drop 70 = dktX3_reading_3 := dk_seg dksX3_reading_2 24 rfl rfl
theorem dX3_reading_0 : decode cX3_reading 0 = .ok (.aload_n 0, 1) := dk_42 (dk_at dksX3_reading_0 0 rfl rfl)
theorem dX3_reading_1 : decode cX3_reading 1 = .ok (.getfield 80, 3) := dk_180 0 80 (dk_at dksX3_reading_0 1 rfl rfl)
theorem dX3_reading_4 : decode cX3_reading 4 = .ok (.ifCond .ne 6, 3) := dk_154 0 6 (dk_at dksX3_reading_0 4 rfl rfl)
theorem dX3_reading_7 : decode cX3_reading 7 = .ok (.bipush (-3), 2) := dk_16 253 (dk_at dksX3_reading_0 7 rfl rfl)
theorem dX3_reading_9 : decode cX3_reading 9 = .ok (.ireturn, 1) := dk_172 (dk_at dksX3_reading_0 9 rfl rfl)
theorem dX3_reading_10 : decode cX3_reading 10 = .ok (.iload_n 1, 1) := dk_27 (dk_at dksX3_reading_0 10 rfl rfl)
theorem dX3_reading_11 : decode cX3_reading 11 = .ok (.iconst 0, 1) := dk_3 (dk_at dksX3_reading_0 11 rfl rfl)
theorem dX3_reading_12 : decode cX3_reading 12 = .ok (.bipush 7, 2) := dk_16 7 (dk_at dksX3_reading_0 12 rfl rfl)
theorem dX3_reading_14 : decode cX3_reading 14 = .ok (.invokestatic 76, 3) := dk_184 0 76 (dk_at dksX3_reading_0 14 rfl rfl)
theorem dX3_reading_17 : decode cX3_reading 17 = .ok (.ifCond .eq 20, 3) := dk_153 0 20 (dk_at dksX3_reading_0 17 rfl rfl)
theorem dX3_reading_20 : decode cX3_reading 20 = .ok (.iload_n 2, 1) := dk_28 (dk_at dksX3_reading_0 20 rfl rfl)
theorem dX3_reading_21 : decode cX3_reading 21 = .ok (.bipush (-9), 2) := dk_16 247 (dk_at dksX3_reading_0 21 rfl rfl)
theorem dX3_reading_23 : decode cX3_reading 23 = .ok (.if_icmp .eq 17, 3) := dk_159 0 17 (dk_at dksX3_reading_1 0 rfl rfl)
theorem dX3_reading_26 : decode cX3_reading 26 = .ok (.iload_n 2, 1) := dk_28 (dk_at dksX3_reading_1 3 rfl rfl)
theorem dX3_reading_27 : decode cX3_reading 27 = .ok (.iconst 0, 1) := dk_3 (dk_at dksX3_reading_1 4 rfl rfl)
theorem dX3_reading_28 : decode cX3_reading 28 = .ok (.sipush 500, 3) := dk_17 1 244 (dk_at dksX3_reading_1 5 rfl rfl)
theorem dX3_reading_31 : decode cX3_reading 31 = .ok (.invokestatic 76, 3) := dk_184 0 76 (dk_at dksX3_reading_1 8 rfl rfl)
theorem dX3_reading_34 : decode cX3_reading 34 = .ok (.ifCond .ne 6, 3) := dk_154 0 6 (dk_at dksX3_reading_1 11 rfl rfl)
theorem dX3_reading_37 : decode cX3_reading 37 = .ok (.bipush (-2), 2) := dk_16 254 (dk_at dksX3_reading_1 14 rfl rfl)
theorem dX3_reading_39 : decode cX3_reading 39 = .ok (.ireturn, 1) := dk_172 (dk_at dksX3_reading_1 16 rfl rfl)
theorem dX3_reading_40 : decode cX3_reading 40 = .ok (.aload_n 0, 1) := dk_42 (dk_at dksX3_reading_1 17 rfl rfl)
theorem dX3_reading_41 : decode cX3_reading 41 = .ok (.getfield 122, 3) := dk_180 0 122 (dk_at dksX3_reading_1 18 rfl rfl)
theorem dX3_reading_44 : decode cX3_reading 44 = .ok (.bipush 8, 2) := dk_16 8 (dk_at dksX3_reading_1 21 rfl rfl)
theorem dX3_reading_46 : decode cX3_reading 46 = .ok (.if_icmp .ne 6, 3) := dk_160 0 6 (dk_at dksX3_reading_2 0 rfl rfl)
theorem dX3_reading_49 : decode cX3_reading 49 = .ok (.bipush (-4), 2) := dk_16 252 (dk_at dksX3_reading_2 3 rfl rfl)
theorem dX3_reading_51 : decode cX3_reading 51 = .ok (.ireturn, 1) := dk_172 (dk_at dksX3_reading_2 5 rfl rfl)
theorem dX3_reading_52 : decode cX3_reading 52 = .ok (.aload_n 0, 1) := dk_42 (dk_at dksX3_reading_2 6 rfl rfl)
theorem dX3_reading_53 : decode cX3_reading 53 = .ok (.getfield 64, 3) := dk_180 0 64 (dk_at dksX3_reading_2 7 rfl rfl)
theorem dX3_reading_56 : decode cX3_reading 56 = .ok (.aload_n 0, 1) := dk_42 (dk_at dksX3_reading_2 10 rfl rfl)
theorem dX3_reading_57 : decode cX3_reading 57 = .ok (.getfield 122, 3) := dk_180 0 122 (dk_at dksX3_reading_2 11 rfl rfl)
theorem dX3_reading_60 : decode cX3_reading 60 = .ok (.iload_n 1, 1) := dk_27 (dk_at dksX3_reading_2 14 rfl rfl)
theorem dX3_reading_61 : decode cX3_reading 61 = .ok (.iastore, 1) := dk_79 (dk_at dksX3_reading_2 15 rfl rfl)
theorem dX3_reading_62 : decode cX3_reading 62 = .ok (.aload_n 0, 1) := dk_42 (dk_at dksX3_reading_2 16 rfl rfl)
theorem dX3_reading_63 : decode cX3_reading 63 = .ok (.getfield 67, 3) := dk_180 0 67 (dk_at dksX3_reading_2 17 rfl rfl)
theorem dX3_reading_66 : decode cX3_reading 66 = .ok (.aload_n 0, 1) := dk_42 (dk_at dksX3_reading_2 20 rfl rfl)
theorem dX3_reading_67 : decode cX3_reading 67 = .ok (.getfield 122, 3) := dk_180 0 122 (dk_at dksX3_reading_2 21 rfl rfl)
theorem dX3_reading_70 : decode cX3_reading 70 = .ok (.iload_n 2, 1) := dk_28 (dk_at dksX3_reading_3 0 rfl rfl)
theorem dX3_reading_71 : decode cX3_reading 71 = .ok (.iastore, 1) := dk_79 (dk_at dksX3_reading_3 1 rfl rfl)
theorem dX3_reading_72 : decode cX3_reading 72 = .ok (.aload_n 0, 1) := dk_42 (dk_at dksX3_reading_3 2 rfl rfl)
theorem dX3_reading_73 : decode cX3_reading 73 = .ok (.dup, 1) := dk_89 (dk_at dksX3_reading_3 3 rfl rfl)
theorem dX3_reading_74 : decode cX3_reading 74 = .ok (.getfield 122, 3) := dk_180 0 122 (dk_at dksX3_reading_3 4 rfl rfl)
theorem dX3_reading_77 : decode cX3_reading 77 = .ok (.iconst 1, 1) := dk_4 (dk_at dksX3_reading_3 7 rfl rfl)
theorem dX3_reading_78 : decode cX3_reading 78 = .ok (.iadd, 1) := dk_96 (dk_at dksX3_reading_3 8 rfl rfl)
theorem dX3_reading_79 : decode cX3_reading 79 = .ok (.putfield 122, 3) := dk_181 0 122 (dk_at dksX3_reading_3 9 rfl rfl)
theorem dX3_reading_82 : decode cX3_reading 82 = .ok (.aload_n 0, 1) := dk_42 (dk_at dksX3_reading_3 12 rfl rfl)
theorem dX3_reading_83 : decode cX3_reading 83 = .ok (.getfield 122, 3) := dk_180 0 122 (dk_at dksX3_reading_3 13 rfl rfl)
theorem dX3_reading_86 : decode cX3_reading 86 = .ok (.iconst 1, 1) := dk_4 (dk_at dksX3_reading_3 16 rfl rfl)
theorem dX3_reading_87 : decode cX3_reading 87 = .ok (.isub, 1) := dk_100 (dk_at dksX3_reading_3 17 rfl rfl)
theorem dX3_reading_88 : decode cX3_reading 88 = .ok (.ireturn, 1) := dk_172 (dk_at dksX3_reading_3 18 rfl rfl)
abbrev cX3_back : ByteArray := prog_25_method_48_code
def yX3_back : MethodName := ⟨RX3, "back", "(I)I"⟩
def dkwX3_back_1 : List UInt8 := [181, 0, 122, 42, 180, 0, 122, 172]
abbrev dktX3_back_1 : List UInt8 := dkwX3_back_1 ++ []
def dkwX3_back_0 : List UInt8 := [27, 3, 42, 180, 0, 122, 184, 0, 76, 154, 0, 6, 16, 254, 172, 42, 89, 180, 0, 122, 27, 100]
abbrev dktX3_back_0 : List UInt8 := dkwX3_back_0 ++ dktX3_back_1
theorem dksX3_back_0 : cX3_back.data.toList.drop 0 = dktX3_back_0 := by decide +kernel
theorem dksX3_back_1 : cX3_back.data.toList.drop 22 = dktX3_back_1 := dk_seg dksX3_back_0 22 rfl rfl
theorem dX3_back_0 : decode cX3_back 0 = .ok (.iload_n 1, 1) := dk_27 (dk_at dksX3_back_0 0 rfl rfl)
theorem dX3_back_1 : decode cX3_back 1 = .ok (.iconst 0, 1) := dk_3 (dk_at dksX3_back_0 1 rfl rfl)
theorem dX3_back_2 : decode cX3_back 2 = .ok (.aload_n 0, 1) := dk_42 (dk_at dksX3_back_0 2 rfl rfl)
theorem dX3_back_3 : decode cX3_back 3 = .ok (.getfield 122, 3) := dk_180 0 122 (dk_at dksX3_back_0 3 rfl rfl)
theorem dX3_back_6 : decode cX3_back 6 = .ok (.invokestatic 76, 3) := dk_184 0 76 (dk_at dksX3_back_0 6 rfl rfl)
theorem dX3_back_9 : decode cX3_back 9 = .ok (.ifCond .ne 6, 3) := dk_154 0 6 (dk_at dksX3_back_0 9 rfl rfl)
theorem dX3_back_12 : decode cX3_back 12 = .ok (.bipush (-2), 2) := dk_16 254 (dk_at dksX3_back_0 12 rfl rfl)
theorem dX3_back_14 : decode cX3_back 14 = .ok (.ireturn, 1) := dk_172 (dk_at dksX3_back_0 14 rfl rfl)
theorem dX3_back_15 : decode cX3_back 15 = .ok (.aload_n 0, 1) := dk_42 (dk_at dksX3_back_0 15 rfl rfl)
theorem dX3_back_16 : decode cX3_back 16 = .ok (.dup, 1) := dk_89 (dk_at dksX3_back_0 16 rfl rfl)
theorem dX3_back_17 : decode cX3_back 17 = .ok (.getfield 122, 3) := dk_180 0 122 (dk_at dksX3_back_0 17 rfl rfl)
theorem dX3_back_20 : decode cX3_back 20 = .ok (.iload_n 1, 1) := dk_27 (dk_at dksX3_back_0 20 rfl rfl)
theorem dX3_back_21 : decode cX3_back 21 = .ok (.isub, 1) := dk_100 (dk_at dksX3_back_0 21 rfl rfl)
theorem dX3_back_22 : decode cX3_back 22 = .ok (.putfield 122, 3) := dk_181 0 122 (dk_at dksX3_back_1 0 rfl rfl)
theorem dX3_back_25 : decode cX3_back 25 = .ok (.aload_n 0, 1) := dk_42 (dk_at dksX3_back_1 3 rfl rfl)
theorem dX3_back_26 : decode cX3_back 26 = .ok (.getfield 122, 3) := dk_180 0 122 (dk_at dksX3_back_1 4 rfl rfl)
theorem dX3_back_29 : decode cX3_back 29 = .ok (.ireturn, 1) := dk_172 (dk_at dksX3_back_1 7 rfl rfl)
abbrev cX3_kinds : ByteArray := prog_25_method_50_code
def yX3_kinds : MethodName := ⟨RX3, "kinds", "(I)I"⟩
def dkwX3_kinds_2 : List UInt8 := [167, 0, 4, 3, 128, 62, 132, 4, 1, 167, 255, 221, 42, 180, 0, 19, 27, 28, 79, 29, 172]
abbrev dktX3_kinds_2 : List UInt8 := dkwX3_kinds_2 ++ []
def dkwX3_kinds_1 : List UInt8 := [6, 162, 0, 35, 42, 180, 0, 19, 27, 21, 4, 79, 29, 42, 182, 0, 210, 153, 0, 10, 4, 21, 4, 120]
abbrev dktX3_kinds_1 : List UInt8 := dkwX3_kinds_1 ++ dktX3_kinds_2
def dkwX3_kinds_0 : List UInt8 := [42, 27, 182, 0, 171, 154, 0, 5, 2, 172, 42, 180, 0, 19, 27, 46, 61, 3, 62, 3, 54, 4, 21, 4]
abbrev dktX3_kinds_0 : List UInt8 := dkwX3_kinds_0 ++ dktX3_kinds_1
theorem dksX3_kinds_0 : cX3_kinds.data.toList.drop 0 = dktX3_kinds_0 := by decide +kernel
theorem dksX3_kinds_1 : cX3_kinds.data.toList.drop 24 = dktX3_kinds_1 := dk_seg dksX3_kinds_0 24 rfl rfl
theorem dksX3_kinds_2 : cX3_kinds.data.toList.drop 48 = dktX3_kinds_2 := dk_seg dksX3_kinds_1 24 rfl rfl
theorem dX3_kinds_0 : decode cX3_kinds 0 = .ok (.aload_n 0, 1) := dk_42 (dk_at dksX3_kinds_0 0 rfl rfl)
theorem dX3_kinds_1 : decode cX3_kinds 1 = .ok (.iload_n 1, 1) := dk_27 (dk_at dksX3_kinds_0 1 rfl rfl)
theorem dX3_kinds_2 : decode cX3_kinds 2 = .ok (.invokevirtual 171, 3) := dk_182 0 171 (dk_at dksX3_kinds_0 2 rfl rfl)
theorem dX3_kinds_5 : decode cX3_kinds 5 = .ok (.ifCond .ne 5, 3) := dk_154 0 5 (dk_at dksX3_kinds_0 5 rfl rfl)
theorem dX3_kinds_8 : decode cX3_kinds 8 = .ok (.iconst (-1), 1) := dk_2 (dk_at dksX3_kinds_0 8 rfl rfl)
theorem dX3_kinds_9 : decode cX3_kinds 9 = .ok (.ireturn, 1) := dk_172 (dk_at dksX3_kinds_0 9 rfl rfl)
theorem dX3_kinds_10 : decode cX3_kinds 10 = .ok (.aload_n 0, 1) := dk_42 (dk_at dksX3_kinds_0 10 rfl rfl)
theorem dX3_kinds_11 : decode cX3_kinds 11 = .ok (.getfield 19, 3) := dk_180 0 19 (dk_at dksX3_kinds_0 11 rfl rfl)
theorem dX3_kinds_14 : decode cX3_kinds 14 = .ok (.iload_n 1, 1) := dk_27 (dk_at dksX3_kinds_0 14 rfl rfl)
theorem dX3_kinds_15 : decode cX3_kinds 15 = .ok (.iaload, 1) := dk_46 (dk_at dksX3_kinds_0 15 rfl rfl)
theorem dX3_kinds_16 : decode cX3_kinds 16 = .ok (.istore_n 2, 1) := dk_61 (dk_at dksX3_kinds_0 16 rfl rfl)
theorem dX3_kinds_17 : decode cX3_kinds 17 = .ok (.iconst 0, 1) := dk_3 (dk_at dksX3_kinds_0 17 rfl rfl)
theorem dX3_kinds_18 : decode cX3_kinds 18 = .ok (.istore_n 3, 1) := dk_62 (dk_at dksX3_kinds_0 18 rfl rfl)
theorem dX3_kinds_19 : decode cX3_kinds 19 = .ok (.iconst 0, 1) := dk_3 (dk_at dksX3_kinds_0 19 rfl rfl)
theorem dX3_kinds_20 : decode cX3_kinds 20 = .ok (.istore 4, 2) := dk_54 4 (dk_at dksX3_kinds_0 20 rfl rfl)
theorem dX3_kinds_22 : decode cX3_kinds 22 = .ok (.iload 4, 2) := dk_21 4 (dk_at dksX3_kinds_0 22 rfl rfl)
theorem dX3_kinds_24 : decode cX3_kinds 24 = .ok (.iconst 3, 1) := dk_6 (dk_at dksX3_kinds_1 0 rfl rfl)
theorem dX3_kinds_25 : decode cX3_kinds 25 = .ok (.if_icmp .ge 35, 3) := dk_162 0 35 (dk_at dksX3_kinds_1 1 rfl rfl)
theorem dX3_kinds_28 : decode cX3_kinds 28 = .ok (.aload_n 0, 1) := dk_42 (dk_at dksX3_kinds_1 4 rfl rfl)
theorem dX3_kinds_29 : decode cX3_kinds 29 = .ok (.getfield 19, 3) := dk_180 0 19 (dk_at dksX3_kinds_1 5 rfl rfl)
theorem dX3_kinds_32 : decode cX3_kinds 32 = .ok (.iload_n 1, 1) := dk_27 (dk_at dksX3_kinds_1 8 rfl rfl)
theorem dX3_kinds_33 : decode cX3_kinds 33 = .ok (.iload 4, 2) := dk_21 4 (dk_at dksX3_kinds_1 9 rfl rfl)
theorem dX3_kinds_35 : decode cX3_kinds 35 = .ok (.iastore, 1) := dk_79 (dk_at dksX3_kinds_1 11 rfl rfl)
theorem dX3_kinds_36 : decode cX3_kinds 36 = .ok (.iload_n 3, 1) := dk_29 (dk_at dksX3_kinds_1 12 rfl rfl)
theorem dX3_kinds_37 : decode cX3_kinds 37 = .ok (.aload_n 0, 1) := dk_42 (dk_at dksX3_kinds_1 13 rfl rfl)
theorem dX3_kinds_38 : decode cX3_kinds 38 = .ok (.invokevirtual 210, 3) := dk_182 0 210 (dk_at dksX3_kinds_1 14 rfl rfl)
theorem dX3_kinds_41 : decode cX3_kinds 41 = .ok (.ifCond .eq 10, 3) := dk_153 0 10 (dk_at dksX3_kinds_1 17 rfl rfl)
theorem dX3_kinds_44 : decode cX3_kinds 44 = .ok (.iconst 1, 1) := dk_4 (dk_at dksX3_kinds_1 20 rfl rfl)
theorem dX3_kinds_45 : decode cX3_kinds 45 = .ok (.iload 4, 2) := dk_21 4 (dk_at dksX3_kinds_1 21 rfl rfl)
theorem dX3_kinds_47 : decode cX3_kinds 47 = .ok (.ishl, 1) := dk_120 (dk_at dksX3_kinds_1 23 rfl rfl)
theorem dX3_kinds_48 : decode cX3_kinds 48 = .ok (.goto 4, 3) := dk_167 0 4 (dk_at dksX3_kinds_2 0 rfl rfl)
theorem dX3_kinds_51 : decode cX3_kinds 51 = .ok (.iconst 0, 1) := dk_3 (dk_at dksX3_kinds_2 3 rfl rfl)
theorem dX3_kinds_52 : decode cX3_kinds 52 = .ok (.ior, 1) := dk_128 (dk_at dksX3_kinds_2 4 rfl rfl)
theorem dX3_kinds_53 : decode cX3_kinds 53 = .ok (.istore_n 3, 1) := dk_62 (dk_at dksX3_kinds_2 5 rfl rfl)
theorem dX3_kinds_54 : decode cX3_kinds 54 = .ok (.iinc 4 1, 3) := dk_132 4 1 (dk_at dksX3_kinds_2 6 rfl rfl)
theorem dX3_kinds_57 : decode cX3_kinds 57 = .ok (.goto (-35), 3) := dk_167 255 221 (dk_at dksX3_kinds_2 9 rfl rfl)
theorem dX3_kinds_60 : decode cX3_kinds 60 = .ok (.aload_n 0, 1) := dk_42 (dk_at dksX3_kinds_2 12 rfl rfl)
theorem dX3_kinds_61 : decode cX3_kinds 61 = .ok (.getfield 19, 3) := dk_180 0 19 (dk_at dksX3_kinds_2 13 rfl rfl)
theorem dX3_kinds_64 : decode cX3_kinds 64 = .ok (.iload_n 1, 1) := dk_27 (dk_at dksX3_kinds_2 16 rfl rfl)
theorem dX3_kinds_65 : decode cX3_kinds 65 = .ok (.iload_n 2, 1) := dk_28 (dk_at dksX3_kinds_2 17 rfl rfl)
theorem dX3_kinds_66 : decode cX3_kinds 66 = .ok (.iastore, 1) := dk_79 (dk_at dksX3_kinds_2 18 rfl rfl)
theorem dX3_kinds_67 : decode cX3_kinds 67 = .ok (.iload_n 3, 1) := dk_29 (dk_at dksX3_kinds_2 19 rfl rfl)
theorem dX3_kinds_68 : decode cX3_kinds 68 = .ok (.ireturn, 1) := dk_172 (dk_at dksX3_kinds_2 20 rfl rfl)
abbrev cX3_areSo : ByteArray := prog_25_method_49_code
def yX3_areSo : MethodName := ⟨RX3, "areSo", "()Z"⟩
def dkwX3_areSo_1 : List UInt8 := [27, 46, 159, 0, 5, 3, 172, 132, 1, 1, 167, 255, 224, 4, 172]
abbrev dktX3_areSo_1 : List UInt8 := dkwX3_areSo_1 ++ []
def dkwX3_areSo_0 : List UInt8 := [3, 60, 27, 42, 180, 0, 122, 162, 0, 30, 42, 42, 180, 0, 64, 27, 46, 182, 0, 162, 42, 180, 0, 67]
abbrev dktX3_areSo_0 : List UInt8 := dkwX3_areSo_0 ++ dktX3_areSo_1
theorem dksX3_areSo_0 : cX3_areSo.data.toList.drop 0 = dktX3_areSo_0 := by decide +kernel
theorem dksX3_areSo_1 : cX3_areSo.data.toList.drop 24 = dktX3_areSo_1 := dk_seg dksX3_areSo_0 24 rfl rfl
theorem dX3_areSo_0 : decode cX3_areSo 0 = .ok (.iconst 0, 1) := dk_3 (dk_at dksX3_areSo_0 0 rfl rfl)
theorem dX3_areSo_1 : decode cX3_areSo 1 = .ok (.istore_n 1, 1) := dk_60 (dk_at dksX3_areSo_0 1 rfl rfl)
theorem dX3_areSo_2 : decode cX3_areSo 2 = .ok (.iload_n 1, 1) := dk_27 (dk_at dksX3_areSo_0 2 rfl rfl)
theorem dX3_areSo_3 : decode cX3_areSo 3 = .ok (.aload_n 0, 1) := dk_42 (dk_at dksX3_areSo_0 3 rfl rfl)
theorem dX3_areSo_4 : decode cX3_areSo 4 = .ok (.getfield 122, 3) := dk_180 0 122 (dk_at dksX3_areSo_0 4 rfl rfl)
theorem dX3_areSo_7 : decode cX3_areSo 7 = .ok (.if_icmp .ge 30, 3) := dk_162 0 30 (dk_at dksX3_areSo_0 7 rfl rfl)
theorem dX3_areSo_10 : decode cX3_areSo 10 = .ok (.aload_n 0, 1) := dk_42 (dk_at dksX3_areSo_0 10 rfl rfl)
theorem dX3_areSo_11 : decode cX3_areSo 11 = .ok (.aload_n 0, 1) := dk_42 (dk_at dksX3_areSo_0 11 rfl rfl)
theorem dX3_areSo_12 : decode cX3_areSo 12 = .ok (.getfield 64, 3) := dk_180 0 64 (dk_at dksX3_areSo_0 12 rfl rfl)
theorem dX3_areSo_15 : decode cX3_areSo 15 = .ok (.iload_n 1, 1) := dk_27 (dk_at dksX3_areSo_0 15 rfl rfl)
theorem dX3_areSo_16 : decode cX3_areSo 16 = .ok (.iaload, 1) := dk_46 (dk_at dksX3_areSo_0 16 rfl rfl)
theorem dX3_areSo_17 : decode cX3_areSo 17 = .ok (.invokevirtual 162, 3) := dk_182 0 162 (dk_at dksX3_areSo_0 17 rfl rfl)
theorem dX3_areSo_20 : decode cX3_areSo 20 = .ok (.aload_n 0, 1) := dk_42 (dk_at dksX3_areSo_0 20 rfl rfl)
theorem dX3_areSo_21 : decode cX3_areSo 21 = .ok (.getfield 67, 3) := dk_180 0 67 (dk_at dksX3_areSo_0 21 rfl rfl)
theorem dX3_areSo_24 : decode cX3_areSo 24 = .ok (.iload_n 1, 1) := dk_27 (dk_at dksX3_areSo_1 0 rfl rfl)
theorem dX3_areSo_25 : decode cX3_areSo 25 = .ok (.iaload, 1) := dk_46 (dk_at dksX3_areSo_1 1 rfl rfl)
theorem dX3_areSo_26 : decode cX3_areSo 26 = .ok (.if_icmp .eq 5, 3) := dk_159 0 5 (dk_at dksX3_areSo_1 2 rfl rfl)
theorem dX3_areSo_29 : decode cX3_areSo 29 = .ok (.iconst 0, 1) := dk_3 (dk_at dksX3_areSo_1 5 rfl rfl)
theorem dX3_areSo_30 : decode cX3_areSo 30 = .ok (.ireturn, 1) := dk_172 (dk_at dksX3_areSo_1 6 rfl rfl)
theorem dX3_areSo_31 : decode cX3_areSo 31 = .ok (.iinc 1 1, 3) := dk_132 1 1 (dk_at dksX3_areSo_1 7 rfl rfl)
theorem dX3_areSo_34 : decode cX3_areSo 34 = .ok (.goto (-32), 3) := dk_167 255 224 (dk_at dksX3_areSo_1 10 rfl rfl)
theorem dX3_areSo_37 : decode cX3_areSo 37 = .ok (.iconst 1, 1) := dk_4 (dk_at dksX3_areSo_1 13 rfl rfl)
theorem dX3_areSo_38 : decode cX3_areSo 38 = .ok (.ireturn, 1) := dk_172 (dk_at dksX3_areSo_1 14 rfl rfl)
abbrev cX3_letterings : ByteArray := prog_25_method_51_code
def yX3_letterings : MethodName := ⟨RX3, "letterings", "(I)I"⟩
def dkwX3_letterings_2 : List UInt8 := [120, 167, 0, 4, 3, 128, 62, 132, 4, 1, 167, 255, 220, 42, 180, 0, 22, 27, 28, 79, 29, 172]
abbrev dktX3_letterings_2 : List UInt8 := dkwX3_letterings_2 ++ []
def dkwX3_letterings_1 : List UInt8 := [16, 9, 163, 0, 35, 42, 180, 0, 22, 27, 21, 4, 79, 29, 42, 182, 0, 210, 153, 0, 10, 4, 21, 4]
abbrev dktX3_letterings_1 : List UInt8 := dkwX3_letterings_1 ++ dktX3_letterings_2
def dkwX3_letterings_0 : List UInt8 := [42, 27, 182, 0, 171, 154, 0, 5, 2, 172, 42, 180, 0, 22, 27, 46, 61, 3, 62, 4, 54, 4, 21, 4]
abbrev dktX3_letterings_0 : List UInt8 := dkwX3_letterings_0 ++ dktX3_letterings_1
theorem dksX3_letterings_0 : cX3_letterings.data.toList.drop 0 = dktX3_letterings_0 := by decide +kernel
theorem dksX3_letterings_1 : cX3_letterings.data.toList.drop 24 = dktX3_letterings_1 := dk_seg dksX3_letterings_0 24 rfl rfl
theorem dksX3_letterings_2 : cX3_letterings.data.toList.drop 48 = dktX3_letterings_2 := dk_seg dksX3_letterings_1 24 rfl rfl
theorem dX3_letterings_0 : decode cX3_letterings 0 = .ok (.aload_n 0, 1) := dk_42 (dk_at dksX3_letterings_0 0 rfl rfl)
theorem dX3_letterings_1 : decode cX3_letterings 1 = .ok (.iload_n 1, 1) := dk_27 (dk_at dksX3_letterings_0 1 rfl rfl)
theorem dX3_letterings_2 : decode cX3_letterings 2 = .ok (.invokevirtual 171, 3) := dk_182 0 171 (dk_at dksX3_letterings_0 2 rfl rfl)
theorem dX3_letterings_5 : decode cX3_letterings 5 = .ok (.ifCond .ne 5, 3) := dk_154 0 5 (dk_at dksX3_letterings_0 5 rfl rfl)
theorem dX3_letterings_8 : decode cX3_letterings 8 = .ok (.iconst (-1), 1) := dk_2 (dk_at dksX3_letterings_0 8 rfl rfl)
theorem dX3_letterings_9 : decode cX3_letterings 9 = .ok (.ireturn, 1) := dk_172 (dk_at dksX3_letterings_0 9 rfl rfl)
theorem dX3_letterings_10 : decode cX3_letterings 10 = .ok (.aload_n 0, 1) := dk_42 (dk_at dksX3_letterings_0 10 rfl rfl)
theorem dX3_letterings_11 : decode cX3_letterings 11 = .ok (.getfield 22, 3) := dk_180 0 22 (dk_at dksX3_letterings_0 11 rfl rfl)
theorem dX3_letterings_14 : decode cX3_letterings 14 = .ok (.iload_n 1, 1) := dk_27 (dk_at dksX3_letterings_0 14 rfl rfl)
theorem dX3_letterings_15 : decode cX3_letterings 15 = .ok (.iaload, 1) := dk_46 (dk_at dksX3_letterings_0 15 rfl rfl)
theorem dX3_letterings_16 : decode cX3_letterings 16 = .ok (.istore_n 2, 1) := dk_61 (dk_at dksX3_letterings_0 16 rfl rfl)
theorem dX3_letterings_17 : decode cX3_letterings 17 = .ok (.iconst 0, 1) := dk_3 (dk_at dksX3_letterings_0 17 rfl rfl)
theorem dX3_letterings_18 : decode cX3_letterings 18 = .ok (.istore_n 3, 1) := dk_62 (dk_at dksX3_letterings_0 18 rfl rfl)
theorem dX3_letterings_19 : decode cX3_letterings 19 = .ok (.iconst 1, 1) := dk_4 (dk_at dksX3_letterings_0 19 rfl rfl)
theorem dX3_letterings_20 : decode cX3_letterings 20 = .ok (.istore 4, 2) := dk_54 4 (dk_at dksX3_letterings_0 20 rfl rfl)
theorem dX3_letterings_22 : decode cX3_letterings 22 = .ok (.iload 4, 2) := dk_21 4 (dk_at dksX3_letterings_0 22 rfl rfl)
theorem dX3_letterings_24 : decode cX3_letterings 24 = .ok (.bipush 9, 2) := dk_16 9 (dk_at dksX3_letterings_1 0 rfl rfl)
theorem dX3_letterings_26 : decode cX3_letterings 26 = .ok (.if_icmp .gt 35, 3) := dk_163 0 35 (dk_at dksX3_letterings_1 2 rfl rfl)
theorem dX3_letterings_29 : decode cX3_letterings 29 = .ok (.aload_n 0, 1) := dk_42 (dk_at dksX3_letterings_1 5 rfl rfl)
theorem dX3_letterings_30 : decode cX3_letterings 30 = .ok (.getfield 22, 3) := dk_180 0 22 (dk_at dksX3_letterings_1 6 rfl rfl)
theorem dX3_letterings_33 : decode cX3_letterings 33 = .ok (.iload_n 1, 1) := dk_27 (dk_at dksX3_letterings_1 9 rfl rfl)
theorem dX3_letterings_34 : decode cX3_letterings 34 = .ok (.iload 4, 2) := dk_21 4 (dk_at dksX3_letterings_1 10 rfl rfl)
theorem dX3_letterings_36 : decode cX3_letterings 36 = .ok (.iastore, 1) := dk_79 (dk_at dksX3_letterings_1 12 rfl rfl)
theorem dX3_letterings_37 : decode cX3_letterings 37 = .ok (.iload_n 3, 1) := dk_29 (dk_at dksX3_letterings_1 13 rfl rfl)
theorem dX3_letterings_38 : decode cX3_letterings 38 = .ok (.aload_n 0, 1) := dk_42 (dk_at dksX3_letterings_1 14 rfl rfl)
theorem dX3_letterings_39 : decode cX3_letterings 39 = .ok (.invokevirtual 210, 3) := dk_182 0 210 (dk_at dksX3_letterings_1 15 rfl rfl)
theorem dX3_letterings_42 : decode cX3_letterings 42 = .ok (.ifCond .eq 10, 3) := dk_153 0 10 (dk_at dksX3_letterings_1 18 rfl rfl)
theorem dX3_letterings_45 : decode cX3_letterings 45 = .ok (.iconst 1, 1) := dk_4 (dk_at dksX3_letterings_1 21 rfl rfl)
theorem dX3_letterings_46 : decode cX3_letterings 46 = .ok (.iload 4, 2) := dk_21 4 (dk_at dksX3_letterings_1 22 rfl rfl)
theorem dX3_letterings_48 : decode cX3_letterings 48 = .ok (.ishl, 1) := dk_120 (dk_at dksX3_letterings_2 0 rfl rfl)
theorem dX3_letterings_49 : decode cX3_letterings 49 = .ok (.goto 4, 3) := dk_167 0 4 (dk_at dksX3_letterings_2 1 rfl rfl)
theorem dX3_letterings_52 : decode cX3_letterings 52 = .ok (.iconst 0, 1) := dk_3 (dk_at dksX3_letterings_2 4 rfl rfl)
theorem dX3_letterings_53 : decode cX3_letterings 53 = .ok (.ior, 1) := dk_128 (dk_at dksX3_letterings_2 5 rfl rfl)
theorem dX3_letterings_54 : decode cX3_letterings 54 = .ok (.istore_n 3, 1) := dk_62 (dk_at dksX3_letterings_2 6 rfl rfl)
theorem dX3_letterings_55 : decode cX3_letterings 55 = .ok (.iinc 4 1, 3) := dk_132 4 1 (dk_at dksX3_letterings_2 7 rfl rfl)
theorem dX3_letterings_58 : decode cX3_letterings 58 = .ok (.goto (-36), 3) := dk_167 255 220 (dk_at dksX3_letterings_2 10 rfl rfl)
theorem dX3_letterings_61 : decode cX3_letterings 61 = .ok (.aload_n 0, 1) := dk_42 (dk_at dksX3_letterings_2 13 rfl rfl)
theorem dX3_letterings_62 : decode cX3_letterings 62 = .ok (.getfield 22, 3) := dk_180 0 22 (dk_at dksX3_letterings_2 14 rfl rfl)
theorem dX3_letterings_65 : decode cX3_letterings 65 = .ok (.iload_n 1, 1) := dk_27 (dk_at dksX3_letterings_2 17 rfl rfl)
theorem dX3_letterings_66 : decode cX3_letterings 66 = .ok (.iload_n 2, 1) := dk_28 (dk_at dksX3_letterings_2 18 rfl rfl)
theorem dX3_letterings_67 : decode cX3_letterings 67 = .ok (.iastore, 1) := dk_79 (dk_at dksX3_letterings_2 19 rfl rfl)
theorem dX3_letterings_68 : decode cX3_letterings 68 = .ok (.iload_n 3, 1) := dk_29 (dk_at dksX3_letterings_2 20 rfl rfl)
theorem dX3_letterings_69 : decode cX3_letterings 69 = .ok (.ireturn, 1) := dk_172 (dk_at dksX3_letterings_2 21 rfl rfl)
abbrev cX3_odds : ByteArray := prog_25_method_53_code
def yX3_odds : MethodName := ⟨RX3, "odds", "(II)J"⟩
def dkwX3_odds_3 : List UInt8 := [62, 132, 4, 1, 167, 255, 225, 29, 133, 42, 180, 0, 165, 133, 28, 184, 0, 214, 173]
abbrev dktX3_odds_3 : List UInt8 := dkwX3_odds_3 ++ []
def dkwX3_odds_2 : List UInt8 := [180, 0, 165, 162, 0, 28, 29, 42, 180, 0, 52, 21, 4, 46, 27, 160, 0, 7, 4, 167, 0, 4, 3, 96]
abbrev dktX3_odds_2 : List UInt8 := dkwX3_odds_2 ++ dktX3_odds_3
def dkwX3_odds_1 : List UInt8 := [153, 0, 12, 42, 182, 0, 174, 16, 247, 160, 0, 7, 20, 0, 74, 173, 3, 62, 3, 54, 4, 21, 4, 42]
abbrev dktX3_odds_1 : List UInt8 := dkwX3_odds_1 ++ dktX3_odds_2
def dkwX3_odds_0 : List UInt8 := [27, 3, 7, 184, 0, 76, 153, 0, 28, 28, 3, 4, 184, 0, 76, 153, 0, 19, 42, 180, 0, 80]
abbrev dktX3_odds_0 : List UInt8 := dkwX3_odds_0 ++ dktX3_odds_1
theorem dksX3_odds_0 : cX3_odds.data.toList.drop 0 = dktX3_odds_0 := by decide +kernel
theorem dksX3_odds_1 : cX3_odds.data.toList.drop 22 = dktX3_odds_1 := dk_seg dksX3_odds_0 22 rfl rfl
theorem dksX3_odds_2 : cX3_odds.data.toList.drop 46 = dktX3_odds_2 := dk_seg dksX3_odds_1 24 rfl rfl
theorem dksX3_odds_3 : cX3_odds.data.toList.drop 70 = dktX3_odds_3 := dk_seg dksX3_odds_2 24 rfl rfl
theorem dX3_odds_0 : decode cX3_odds 0 = .ok (.iload_n 1, 1) := dk_27 (dk_at dksX3_odds_0 0 rfl rfl)
theorem dX3_odds_1 : decode cX3_odds 1 = .ok (.iconst 0, 1) := dk_3 (dk_at dksX3_odds_0 1 rfl rfl)
theorem dX3_odds_2 : decode cX3_odds 2 = .ok (.iconst 4, 1) := dk_7 (dk_at dksX3_odds_0 2 rfl rfl)
theorem dX3_odds_3 : decode cX3_odds 3 = .ok (.invokestatic 76, 3) := dk_184 0 76 (dk_at dksX3_odds_0 3 rfl rfl)
theorem dX3_odds_6 : decode cX3_odds 6 = .ok (.ifCond .eq 28, 3) := dk_153 0 28 (dk_at dksX3_odds_0 6 rfl rfl)
theorem dX3_odds_9 : decode cX3_odds 9 = .ok (.iload_n 2, 1) := dk_28 (dk_at dksX3_odds_0 9 rfl rfl)
theorem dX3_odds_10 : decode cX3_odds 10 = .ok (.iconst 0, 1) := dk_3 (dk_at dksX3_odds_0 10 rfl rfl)
theorem dX3_odds_11 : decode cX3_odds 11 = .ok (.iconst 1, 1) := dk_4 (dk_at dksX3_odds_0 11 rfl rfl)
theorem dX3_odds_12 : decode cX3_odds 12 = .ok (.invokestatic 76, 3) := dk_184 0 76 (dk_at dksX3_odds_0 12 rfl rfl)
theorem dX3_odds_15 : decode cX3_odds 15 = .ok (.ifCond .eq 19, 3) := dk_153 0 19 (dk_at dksX3_odds_0 15 rfl rfl)
theorem dX3_odds_18 : decode cX3_odds 18 = .ok (.aload_n 0, 1) := dk_42 (dk_at dksX3_odds_0 18 rfl rfl)
theorem dX3_odds_19 : decode cX3_odds 19 = .ok (.getfield 80, 3) := dk_180 0 80 (dk_at dksX3_odds_0 19 rfl rfl)
theorem dX3_odds_22 : decode cX3_odds 22 = .ok (.ifCond .eq 12, 3) := dk_153 0 12 (dk_at dksX3_odds_1 0 rfl rfl)
theorem dX3_odds_25 : decode cX3_odds 25 = .ok (.aload_n 0, 1) := dk_42 (dk_at dksX3_odds_1 3 rfl rfl)
theorem dX3_odds_26 : decode cX3_odds 26 = .ok (.invokevirtual 174, 3) := dk_182 0 174 (dk_at dksX3_odds_1 4 rfl rfl)
theorem dX3_odds_29 : decode cX3_odds 29 = .ok (.bipush (-9), 2) := dk_16 247 (dk_at dksX3_odds_1 7 rfl rfl)
theorem dX3_odds_31 : decode cX3_odds 31 = .ok (.if_icmp .ne 7, 3) := dk_160 0 7 (dk_at dksX3_odds_1 9 rfl rfl)
theorem dX3_odds_34 : decode cX3_odds 34 = .ok (.ldc2_w 74, 3) := dk_20 0 74 (dk_at dksX3_odds_1 12 rfl rfl)
theorem dX3_odds_37 : decode cX3_odds 37 = .ok (.lreturn, 1) := dk_173 (dk_at dksX3_odds_1 15 rfl rfl)
theorem dX3_odds_38 : decode cX3_odds 38 = .ok (.iconst 0, 1) := dk_3 (dk_at dksX3_odds_1 16 rfl rfl)
theorem dX3_odds_39 : decode cX3_odds 39 = .ok (.istore_n 3, 1) := dk_62 (dk_at dksX3_odds_1 17 rfl rfl)
theorem dX3_odds_40 : decode cX3_odds 40 = .ok (.iconst 0, 1) := dk_3 (dk_at dksX3_odds_1 18 rfl rfl)
theorem dX3_odds_41 : decode cX3_odds 41 = .ok (.istore 4, 2) := dk_54 4 (dk_at dksX3_odds_1 19 rfl rfl)
theorem dX3_odds_43 : decode cX3_odds 43 = .ok (.iload 4, 2) := dk_21 4 (dk_at dksX3_odds_1 21 rfl rfl)
theorem dX3_odds_45 : decode cX3_odds 45 = .ok (.aload_n 0, 1) := dk_42 (dk_at dksX3_odds_1 23 rfl rfl)
theorem dX3_odds_46 : decode cX3_odds 46 = .ok (.getfield 165, 3) := dk_180 0 165 (dk_at dksX3_odds_2 0 rfl rfl)
theorem dX3_odds_49 : decode cX3_odds 49 = .ok (.if_icmp .ge 28, 3) := dk_162 0 28 (dk_at dksX3_odds_2 3 rfl rfl)
theorem dX3_odds_52 : decode cX3_odds 52 = .ok (.iload_n 3, 1) := dk_29 (dk_at dksX3_odds_2 6 rfl rfl)
theorem dX3_odds_53 : decode cX3_odds 53 = .ok (.aload_n 0, 1) := dk_42 (dk_at dksX3_odds_2 7 rfl rfl)
theorem dX3_odds_54 : decode cX3_odds 54 = .ok (.getfield 52, 3) := dk_180 0 52 (dk_at dksX3_odds_2 8 rfl rfl)
theorem dX3_odds_57 : decode cX3_odds 57 = .ok (.iload 4, 2) := dk_21 4 (dk_at dksX3_odds_2 11 rfl rfl)
theorem dX3_odds_59 : decode cX3_odds 59 = .ok (.iaload, 1) := dk_46 (dk_at dksX3_odds_2 13 rfl rfl)
theorem dX3_odds_60 : decode cX3_odds 60 = .ok (.iload_n 1, 1) := dk_27 (dk_at dksX3_odds_2 14 rfl rfl)
theorem dX3_odds_61 : decode cX3_odds 61 = .ok (.if_icmp .ne 7, 3) := dk_160 0 7 (dk_at dksX3_odds_2 15 rfl rfl)
theorem dX3_odds_64 : decode cX3_odds 64 = .ok (.iconst 1, 1) := dk_4 (dk_at dksX3_odds_2 18 rfl rfl)
theorem dX3_odds_65 : decode cX3_odds 65 = .ok (.goto 4, 3) := dk_167 0 4 (dk_at dksX3_odds_2 19 rfl rfl)
theorem dX3_odds_68 : decode cX3_odds 68 = .ok (.iconst 0, 1) := dk_3 (dk_at dksX3_odds_2 22 rfl rfl)
theorem dX3_odds_69 : decode cX3_odds 69 = .ok (.iadd, 1) := dk_96 (dk_at dksX3_odds_2 23 rfl rfl)
theorem dX3_odds_70 : decode cX3_odds 70 = .ok (.istore_n 3, 1) := dk_62 (dk_at dksX3_odds_3 0 rfl rfl)
theorem dX3_odds_71 : decode cX3_odds 71 = .ok (.iinc 4 1, 3) := dk_132 4 1 (dk_at dksX3_odds_3 1 rfl rfl)
theorem dX3_odds_74 : decode cX3_odds 74 = .ok (.goto (-31), 3) := dk_167 255 225 (dk_at dksX3_odds_3 4 rfl rfl)
theorem dX3_odds_77 : decode cX3_odds 77 = .ok (.iload_n 3, 1) := dk_29 (dk_at dksX3_odds_3 7 rfl rfl)
theorem dX3_odds_78 : decode cX3_odds 78 = .ok (.i2l, 1) := dk_133 (dk_at dksX3_odds_3 8 rfl rfl)
theorem dX3_odds_79 : decode cX3_odds 79 = .ok (.aload_n 0, 1) := dk_42 (dk_at dksX3_odds_3 9 rfl rfl)
theorem dX3_odds_80 : decode cX3_odds 80 = .ok (.getfield 165, 3) := dk_180 0 165 (dk_at dksX3_odds_3 10 rfl rfl)
theorem dX3_odds_83 : decode cX3_odds 83 = .ok (.i2l, 1) := dk_133 (dk_at dksX3_odds_3 13 rfl rfl)
theorem dX3_odds_84 : decode cX3_odds 84 = .ok (.iload_n 2, 1) := dk_28 (dk_at dksX3_odds_3 14 rfl rfl)
theorem dX3_odds_85 : decode cX3_odds 85 = .ok (.invokestatic 214, 3) := dk_184 0 214 (dk_at dksX3_odds_3 15 rfl rfl)
theorem dX3_odds_88 : decode cX3_odds 88 = .ok (.lreturn, 1) := dk_173 (dk_at dksX3_odds_3 18 rfl rfl)
abbrev cX3_inLeastTerms : ByteArray := prog_25_method_52_code
def yX3_inLeastTerms : MethodName := ⟨RX3, "inLeastTerms", "(JJI)J"⟩
def dkwX3_inLeastTerms_1 : List UInt8 := [22, 9, 55, 7, 167, 255, 234, 21, 4, 154, 0, 10, 30, 22, 5, 109, 167, 0, 7, 32, 22, 5, 109, 173]
abbrev dktX3_inLeastTerms_1 : List UInt8 := dkwX3_inLeastTerms_1 ++ []
def dkwX3_inLeastTerms_0 : List UInt8 := [30, 55, 5, 32, 55, 7, 22, 7, 9, 148, 153, 0, 21, 22, 5, 22, 7, 113, 55, 9, 22, 7, 55, 5]
abbrev dktX3_inLeastTerms_0 : List UInt8 := dkwX3_inLeastTerms_0 ++ dktX3_inLeastTerms_1
theorem dksX3_inLeastTerms_0 : cX3_inLeastTerms.data.toList.drop 0 = dktX3_inLeastTerms_0 := by decide +kernel
theorem dksX3_inLeastTerms_1 : cX3_inLeastTerms.data.toList.drop 24 = dktX3_inLeastTerms_1 := dk_seg dksX3_inLeastTerms_0 24 rfl rfl
theorem dX3_inLeastTerms_0 : decode cX3_inLeastTerms 0 = .ok (.lload_n 0, 1) := dk_30 (dk_at dksX3_inLeastTerms_0 0 rfl rfl)
theorem dX3_inLeastTerms_1 : decode cX3_inLeastTerms 1 = .ok (.lstore 5, 2) := dk_55 5 (dk_at dksX3_inLeastTerms_0 1 rfl rfl)
theorem dX3_inLeastTerms_3 : decode cX3_inLeastTerms 3 = .ok (.lload_n 2, 1) := dk_32 (dk_at dksX3_inLeastTerms_0 3 rfl rfl)
theorem dX3_inLeastTerms_4 : decode cX3_inLeastTerms 4 = .ok (.lstore 7, 2) := dk_55 7 (dk_at dksX3_inLeastTerms_0 4 rfl rfl)
theorem dX3_inLeastTerms_6 : decode cX3_inLeastTerms 6 = .ok (.lload 7, 2) := dk_22 7 (dk_at dksX3_inLeastTerms_0 6 rfl rfl)
theorem dX3_inLeastTerms_8 : decode cX3_inLeastTerms 8 = .ok (.lconst 0, 1) := dk_9 (dk_at dksX3_inLeastTerms_0 8 rfl rfl)
theorem dX3_inLeastTerms_9 : decode cX3_inLeastTerms 9 = .ok (.lcmp, 1) := dk_148 (dk_at dksX3_inLeastTerms_0 9 rfl rfl)
theorem dX3_inLeastTerms_10 : decode cX3_inLeastTerms 10 = .ok (.ifCond .eq 21, 3) := dk_153 0 21 (dk_at dksX3_inLeastTerms_0 10 rfl rfl)
theorem dX3_inLeastTerms_13 : decode cX3_inLeastTerms 13 = .ok (.lload 5, 2) := dk_22 5 (dk_at dksX3_inLeastTerms_0 13 rfl rfl)
theorem dX3_inLeastTerms_15 : decode cX3_inLeastTerms 15 = .ok (.lload 7, 2) := dk_22 7 (dk_at dksX3_inLeastTerms_0 15 rfl rfl)
theorem dX3_inLeastTerms_17 : decode cX3_inLeastTerms 17 = .ok (.lrem, 1) := dk_113 (dk_at dksX3_inLeastTerms_0 17 rfl rfl)
theorem dX3_inLeastTerms_18 : decode cX3_inLeastTerms 18 = .ok (.lstore 9, 2) := dk_55 9 (dk_at dksX3_inLeastTerms_0 18 rfl rfl)
theorem dX3_inLeastTerms_20 : decode cX3_inLeastTerms 20 = .ok (.lload 7, 2) := dk_22 7 (dk_at dksX3_inLeastTerms_0 20 rfl rfl)
theorem dX3_inLeastTerms_22 : decode cX3_inLeastTerms 22 = .ok (.lstore 5, 2) := dk_55 5 (dk_at dksX3_inLeastTerms_0 22 rfl rfl)
theorem dX3_inLeastTerms_24 : decode cX3_inLeastTerms 24 = .ok (.lload 9, 2) := dk_22 9 (dk_at dksX3_inLeastTerms_1 0 rfl rfl)
theorem dX3_inLeastTerms_26 : decode cX3_inLeastTerms 26 = .ok (.lstore 7, 2) := dk_55 7 (dk_at dksX3_inLeastTerms_1 2 rfl rfl)
theorem dX3_inLeastTerms_28 : decode cX3_inLeastTerms 28 = .ok (.goto (-22), 3) := dk_167 255 234 (dk_at dksX3_inLeastTerms_1 4 rfl rfl)
theorem dX3_inLeastTerms_31 : decode cX3_inLeastTerms 31 = .ok (.iload 4, 2) := dk_21 4 (dk_at dksX3_inLeastTerms_1 7 rfl rfl)
theorem dX3_inLeastTerms_33 : decode cX3_inLeastTerms 33 = .ok (.ifCond .ne 10, 3) := dk_154 0 10 (dk_at dksX3_inLeastTerms_1 9 rfl rfl)
theorem dX3_inLeastTerms_36 : decode cX3_inLeastTerms 36 = .ok (.lload_n 0, 1) := dk_30 (dk_at dksX3_inLeastTerms_1 12 rfl rfl)
theorem dX3_inLeastTerms_37 : decode cX3_inLeastTerms 37 = .ok (.lload 5, 2) := dk_22 5 (dk_at dksX3_inLeastTerms_1 13 rfl rfl)
theorem dX3_inLeastTerms_39 : decode cX3_inLeastTerms 39 = .ok (.ldiv, 1) := dk_109 (dk_at dksX3_inLeastTerms_1 15 rfl rfl)
theorem dX3_inLeastTerms_40 : decode cX3_inLeastTerms 40 = .ok (.goto 7, 3) := dk_167 0 7 (dk_at dksX3_inLeastTerms_1 16 rfl rfl)
theorem dX3_inLeastTerms_43 : decode cX3_inLeastTerms 43 = .ok (.lload_n 2, 1) := dk_32 (dk_at dksX3_inLeastTerms_1 19 rfl rfl)
theorem dX3_inLeastTerms_44 : decode cX3_inLeastTerms 44 = .ok (.lload 5, 2) := dk_22 5 (dk_at dksX3_inLeastTerms_1 20 rfl rfl)
theorem dX3_inLeastTerms_46 : decode cX3_inLeastTerms 46 = .ok (.ldiv, 1) := dk_109 (dk_at dksX3_inLeastTerms_1 22 rfl rfl)
theorem dX3_inLeastTerms_47 : decode cX3_inLeastTerms 47 = .ok (.lreturn, 1) := dk_173 (dk_at dksX3_inLeastTerms_1 23 rfl rfl)
abbrev cX3_sheet : ByteArray := prog_25_method_54_code
def yX3_sheet : MethodName := ⟨RX3, "sheet", "(III)I"⟩
def dkwX3_sheet_3 : List UInt8 := [21, 4, 96, 3, 79, 132, 4, 1, 167, 255, 233, 4, 172]
abbrev dktX3_sheet_3 : List UInt8 := dkwX3_sheet_3 ++ []
def dkwX3_sheet_2 : List UInt8 := [180, 0, 13, 27, 29, 79, 3, 54, 4, 21, 4, 16, 60, 162, 0, 22, 42, 180, 0, 16, 16, 60, 27, 104]
abbrev dktX3_sheet_2 : List UInt8 := dkwX3_sheet_2 ++ dktX3_sheet_3
def dkwX3_sheet_1 : List UInt8 := [164, 0, 6, 16, 254, 172, 29, 156, 0, 9, 42, 7, 182, 0, 100, 172, 42, 180, 0, 9, 27, 28, 79, 42]
abbrev dktX3_sheet_1 : List UInt8 := dkwX3_sheet_1 ++ dktX3_sheet_2
def dkwX3_sheet_0 : List UInt8 := [42, 3, 181, 0, 70, 27, 184, 0, 89, 154, 0, 5, 2, 172, 28, 184, 0, 93, 153, 0, 9, 29, 16, 60]
abbrev dktX3_sheet_0 : List UInt8 := dkwX3_sheet_0 ++ dktX3_sheet_1
theorem dksX3_sheet_0 : cX3_sheet.data.toList.drop 0 = dktX3_sheet_0 := by decide +kernel
theorem dksX3_sheet_1 : cX3_sheet.data.toList.drop 24 = dktX3_sheet_1 := dk_seg dksX3_sheet_0 24 rfl rfl
theorem dksX3_sheet_2 : cX3_sheet.data.toList.drop 48 = dktX3_sheet_2 := dk_seg dksX3_sheet_1 24 rfl rfl
theorem dksX3_sheet_3 : cX3_sheet.data.toList.drop 72 = dktX3_sheet_3 := dk_seg dksX3_sheet_2 24 rfl rfl
theorem dX3_sheet_0 : decode cX3_sheet 0 = .ok (.aload_n 0, 1) := dk_42 (dk_at dksX3_sheet_0 0 rfl rfl)
theorem dX3_sheet_1 : decode cX3_sheet 1 = .ok (.iconst 0, 1) := dk_3 (dk_at dksX3_sheet_0 1 rfl rfl)
theorem dX3_sheet_2 : decode cX3_sheet 2 = .ok (.putfield 70, 3) := dk_181 0 70 (dk_at dksX3_sheet_0 2 rfl rfl)
theorem dX3_sheet_5 : decode cX3_sheet 5 = .ok (.iload_n 1, 1) := dk_27 (dk_at dksX3_sheet_0 5 rfl rfl)
theorem dX3_sheet_6 : decode cX3_sheet 6 = .ok (.invokestatic 89, 3) := dk_184 0 89 (dk_at dksX3_sheet_0 6 rfl rfl)
theorem dX3_sheet_9 : decode cX3_sheet 9 = .ok (.ifCond .ne 5, 3) := dk_154 0 5 (dk_at dksX3_sheet_0 9 rfl rfl)
theorem dX3_sheet_12 : decode cX3_sheet 12 = .ok (.iconst (-1), 1) := dk_2 (dk_at dksX3_sheet_0 12 rfl rfl)
theorem dX3_sheet_13 : decode cX3_sheet 13 = .ok (.ireturn, 1) := dk_172 (dk_at dksX3_sheet_0 13 rfl rfl)
theorem dX3_sheet_14 : decode cX3_sheet 14 = .ok (.iload_n 2, 1) := dk_28 (dk_at dksX3_sheet_0 14 rfl rfl)
theorem dX3_sheet_15 : decode cX3_sheet 15 = .ok (.invokestatic 93, 3) := dk_184 0 93 (dk_at dksX3_sheet_0 15 rfl rfl)
theorem dX3_sheet_18 : decode cX3_sheet 18 = .ok (.ifCond .eq 9, 3) := dk_153 0 9 (dk_at dksX3_sheet_0 18 rfl rfl)
theorem dX3_sheet_21 : decode cX3_sheet 21 = .ok (.iload_n 3, 1) := dk_29 (dk_at dksX3_sheet_0 21 rfl rfl)
theorem dX3_sheet_22 : decode cX3_sheet 22 = .ok (.bipush 60, 2) := dk_16 60 (dk_at dksX3_sheet_0 22 rfl rfl)
theorem dX3_sheet_24 : decode cX3_sheet 24 = .ok (.if_icmp .le 6, 3) := dk_164 0 6 (dk_at dksX3_sheet_1 0 rfl rfl)
theorem dX3_sheet_27 : decode cX3_sheet 27 = .ok (.bipush (-2), 2) := dk_16 254 (dk_at dksX3_sheet_1 3 rfl rfl)
theorem dX3_sheet_29 : decode cX3_sheet 29 = .ok (.ireturn, 1) := dk_172 (dk_at dksX3_sheet_1 5 rfl rfl)
theorem dX3_sheet_30 : decode cX3_sheet 30 = .ok (.iload_n 3, 1) := dk_29 (dk_at dksX3_sheet_1 6 rfl rfl)
theorem dX3_sheet_31 : decode cX3_sheet 31 = .ok (.ifCond .ge 9, 3) := dk_156 0 9 (dk_at dksX3_sheet_1 7 rfl rfl)
theorem dX3_sheet_34 : decode cX3_sheet 34 = .ok (.aload_n 0, 1) := dk_42 (dk_at dksX3_sheet_1 10 rfl rfl)
theorem dX3_sheet_35 : decode cX3_sheet 35 = .ok (.iconst 4, 1) := dk_7 (dk_at dksX3_sheet_1 11 rfl rfl)
theorem dX3_sheet_36 : decode cX3_sheet 36 = .ok (.invokevirtual 100, 3) := dk_182 0 100 (dk_at dksX3_sheet_1 12 rfl rfl)
theorem dX3_sheet_39 : decode cX3_sheet 39 = .ok (.ireturn, 1) := dk_172 (dk_at dksX3_sheet_1 15 rfl rfl)
theorem dX3_sheet_40 : decode cX3_sheet 40 = .ok (.aload_n 0, 1) := dk_42 (dk_at dksX3_sheet_1 16 rfl rfl)
theorem dX3_sheet_41 : decode cX3_sheet 41 = .ok (.getfield 9, 3) := dk_180 0 9 (dk_at dksX3_sheet_1 17 rfl rfl)
theorem dX3_sheet_44 : decode cX3_sheet 44 = .ok (.iload_n 1, 1) := dk_27 (dk_at dksX3_sheet_1 20 rfl rfl)
theorem dX3_sheet_45 : decode cX3_sheet 45 = .ok (.iload_n 2, 1) := dk_28 (dk_at dksX3_sheet_1 21 rfl rfl)
theorem dX3_sheet_46 : decode cX3_sheet 46 = .ok (.iastore, 1) := dk_79 (dk_at dksX3_sheet_1 22 rfl rfl)
theorem dX3_sheet_47 : decode cX3_sheet 47 = .ok (.aload_n 0, 1) := dk_42 (dk_at dksX3_sheet_1 23 rfl rfl)
theorem dX3_sheet_48 : decode cX3_sheet 48 = .ok (.getfield 13, 3) := dk_180 0 13 (dk_at dksX3_sheet_2 0 rfl rfl)
theorem dX3_sheet_51 : decode cX3_sheet 51 = .ok (.iload_n 1, 1) := dk_27 (dk_at dksX3_sheet_2 3 rfl rfl)
theorem dX3_sheet_52 : decode cX3_sheet 52 = .ok (.iload_n 3, 1) := dk_29 (dk_at dksX3_sheet_2 4 rfl rfl)
theorem dX3_sheet_53 : decode cX3_sheet 53 = .ok (.iastore, 1) := dk_79 (dk_at dksX3_sheet_2 5 rfl rfl)
theorem dX3_sheet_54 : decode cX3_sheet 54 = .ok (.iconst 0, 1) := dk_3 (dk_at dksX3_sheet_2 6 rfl rfl)
theorem dX3_sheet_55 : decode cX3_sheet 55 = .ok (.istore 4, 2) := dk_54 4 (dk_at dksX3_sheet_2 7 rfl rfl)
theorem dX3_sheet_57 : decode cX3_sheet 57 = .ok (.iload 4, 2) := dk_21 4 (dk_at dksX3_sheet_2 9 rfl rfl)
theorem dX3_sheet_59 : decode cX3_sheet 59 = .ok (.bipush 60, 2) := dk_16 60 (dk_at dksX3_sheet_2 11 rfl rfl)
theorem dX3_sheet_61 : decode cX3_sheet 61 = .ok (.if_icmp .ge 22, 3) := dk_162 0 22 (dk_at dksX3_sheet_2 13 rfl rfl)
theorem dX3_sheet_64 : decode cX3_sheet 64 = .ok (.aload_n 0, 1) := dk_42 (dk_at dksX3_sheet_2 16 rfl rfl)
theorem dX3_sheet_65 : decode cX3_sheet 65 = .ok (.getfield 16, 3) := dk_180 0 16 (dk_at dksX3_sheet_2 17 rfl rfl)
theorem dX3_sheet_68 : decode cX3_sheet 68 = .ok (.bipush 60, 2) := dk_16 60 (dk_at dksX3_sheet_2 20 rfl rfl)
theorem dX3_sheet_70 : decode cX3_sheet 70 = .ok (.iload_n 1, 1) := dk_27 (dk_at dksX3_sheet_2 22 rfl rfl)
theorem dX3_sheet_71 : decode cX3_sheet 71 = .ok (.imul, 1) := dk_104 (dk_at dksX3_sheet_2 23 rfl rfl)
theorem dX3_sheet_72 : decode cX3_sheet 72 = .ok (.iload 4, 2) := dk_21 4 (dk_at dksX3_sheet_3 0 rfl rfl)
theorem dX3_sheet_74 : decode cX3_sheet 74 = .ok (.iadd, 1) := dk_96 (dk_at dksX3_sheet_3 2 rfl rfl)
theorem dX3_sheet_75 : decode cX3_sheet 75 = .ok (.iconst 0, 1) := dk_3 (dk_at dksX3_sheet_3 3 rfl rfl)
theorem dX3_sheet_76 : decode cX3_sheet 76 = .ok (.iastore, 1) := dk_79 (dk_at dksX3_sheet_3 4 rfl rfl)
theorem dX3_sheet_77 : decode cX3_sheet 77 = .ok (.iinc 4 1, 3) := dk_132 4 1 (dk_at dksX3_sheet_3 5 rfl rfl)
theorem dX3_sheet_80 : decode cX3_sheet 80 = .ok (.goto (-23), 3) := dk_167 255 233 (dk_at dksX3_sheet_3 8 rfl rfl)
theorem dX3_sheet_83 : decode cX3_sheet 83 = .ok (.iconst 1, 1) := dk_4 (dk_at dksX3_sheet_3 11 rfl rfl)
theorem dX3_sheet_84 : decode cX3_sheet 84 = .ok (.ireturn, 1) := dk_172 (dk_at dksX3_sheet_3 12 rfl rfl)
abbrev cX3_lose : ByteArray := prog_25_method_55_code
def yX3_lose : MethodName := ⟨RX3, "lose", "(I)I"⟩
def dkwX3_lose_1 : List UInt8 := [4, 61, 42, 180, 0, 9, 27, 16, 247, 79, 28, 172]
abbrev dktX3_lose_1 : List UInt8 := dkwX3_lose_1 ++ []
def dkwX3_lose_0 : List UInt8 := [27, 184, 0, 89, 154, 0, 5, 2, 172, 42, 180, 0, 9, 27, 46, 16, 247, 160, 0, 7, 3, 167, 0, 4]
abbrev dktX3_lose_0 : List UInt8 := dkwX3_lose_0 ++ dktX3_lose_1
theorem dksX3_lose_0 : cX3_lose.data.toList.drop 0 = dktX3_lose_0 := by decide +kernel
theorem dksX3_lose_1 : cX3_lose.data.toList.drop 24 = dktX3_lose_1 := dk_seg dksX3_lose_0 24 rfl rfl
theorem dX3_lose_0 : decode cX3_lose 0 = .ok (.iload_n 1, 1) := dk_27 (dk_at dksX3_lose_0 0 rfl rfl)
theorem dX3_lose_1 : decode cX3_lose 1 = .ok (.invokestatic 89, 3) := dk_184 0 89 (dk_at dksX3_lose_0 1 rfl rfl)
theorem dX3_lose_4 : decode cX3_lose 4 = .ok (.ifCond .ne 5, 3) := dk_154 0 5 (dk_at dksX3_lose_0 4 rfl rfl)
theorem dX3_lose_7 : decode cX3_lose 7 = .ok (.iconst (-1), 1) := dk_2 (dk_at dksX3_lose_0 7 rfl rfl)
theorem dX3_lose_8 : decode cX3_lose 8 = .ok (.ireturn, 1) := dk_172 (dk_at dksX3_lose_0 8 rfl rfl)
theorem dX3_lose_9 : decode cX3_lose 9 = .ok (.aload_n 0, 1) := dk_42 (dk_at dksX3_lose_0 9 rfl rfl)
theorem dX3_lose_10 : decode cX3_lose 10 = .ok (.getfield 9, 3) := dk_180 0 9 (dk_at dksX3_lose_0 10 rfl rfl)
theorem dX3_lose_13 : decode cX3_lose 13 = .ok (.iload_n 1, 1) := dk_27 (dk_at dksX3_lose_0 13 rfl rfl)
theorem dX3_lose_14 : decode cX3_lose 14 = .ok (.iaload, 1) := dk_46 (dk_at dksX3_lose_0 14 rfl rfl)
theorem dX3_lose_15 : decode cX3_lose 15 = .ok (.bipush (-9), 2) := dk_16 247 (dk_at dksX3_lose_0 15 rfl rfl)
theorem dX3_lose_17 : decode cX3_lose 17 = .ok (.if_icmp .ne 7, 3) := dk_160 0 7 (dk_at dksX3_lose_0 17 rfl rfl)
theorem dX3_lose_20 : decode cX3_lose 20 = .ok (.iconst 0, 1) := dk_3 (dk_at dksX3_lose_0 20 rfl rfl)
theorem dX3_lose_21 : decode cX3_lose 21 = .ok (.goto 4, 3) := dk_167 0 4 (dk_at dksX3_lose_0 21 rfl rfl)
theorem dX3_lose_24 : decode cX3_lose 24 = .ok (.iconst 1, 1) := dk_4 (dk_at dksX3_lose_1 0 rfl rfl)
theorem dX3_lose_25 : decode cX3_lose 25 = .ok (.istore_n 2, 1) := dk_61 (dk_at dksX3_lose_1 1 rfl rfl)
theorem dX3_lose_26 : decode cX3_lose 26 = .ok (.aload_n 0, 1) := dk_42 (dk_at dksX3_lose_1 2 rfl rfl)
theorem dX3_lose_27 : decode cX3_lose 27 = .ok (.getfield 9, 3) := dk_180 0 9 (dk_at dksX3_lose_1 3 rfl rfl)
theorem dX3_lose_30 : decode cX3_lose 30 = .ok (.iload_n 1, 1) := dk_27 (dk_at dksX3_lose_1 6 rfl rfl)
theorem dX3_lose_31 : decode cX3_lose 31 = .ok (.bipush (-9), 2) := dk_16 247 (dk_at dksX3_lose_1 7 rfl rfl)
theorem dX3_lose_33 : decode cX3_lose 33 = .ok (.iastore, 1) := dk_79 (dk_at dksX3_lose_1 9 rfl rfl)
theorem dX3_lose_34 : decode cX3_lose 34 = .ok (.iload_n 2, 1) := dk_28 (dk_at dksX3_lose_1 10 rfl rfl)
theorem dX3_lose_35 : decode cX3_lose 35 = .ok (.ireturn, 1) := dk_172 (dk_at dksX3_lose_1 11 rfl rfl)
abbrev cX3_put : ByteArray := prog_25_method_56_code
def yX3_put : MethodName := ⟨RX3, "put", "(III)I"⟩
def dkwX3_put_4 : List UInt8 := [29, 79, 4, 172]
abbrev dktX3_put_4 : List UInt8 := dkwX3_put_4 ++ []
def dkwX3_put_3 : List UInt8 := [46, 154, 0, 8, 29, 145, 167, 0, 19, 42, 180, 0, 9, 27, 46, 4, 160, 0, 8, 29, 147, 167, 0, 4]
abbrev dktX3_put_3 : List UInt8 := dkwX3_put_3 ++ dktX3_put_4
def dkwX3_put_2 : List UInt8 := [154, 0, 9, 42, 6, 182, 0, 100, 172, 42, 180, 0, 16, 16, 60, 27, 104, 28, 96, 42, 180, 0, 9, 27]
abbrev dktX3_put_2 : List UInt8 := dkwX3_put_2 ++ dktX3_put_3
def dkwX3_put_1 : List UInt8 := [160, 0, 9, 42, 4, 182, 0, 100, 172, 28, 3, 42, 180, 0, 13, 27, 46, 4, 100, 184, 0, 76]
abbrev dktX3_put_1 : List UInt8 := dkwX3_put_1 ++ dktX3_put_2
def dkwX3_put_0 : List UInt8 := [42, 3, 181, 0, 70, 27, 184, 0, 89, 154, 0, 5, 2, 172, 42, 180, 0, 9, 27, 46, 16, 247]
abbrev dktX3_put_0 : List UInt8 := dkwX3_put_0 ++ dktX3_put_1
theorem dksX3_put_0 : cX3_put.data.toList.drop 0 = dktX3_put_0 := by decide +kernel
theorem dksX3_put_1 : cX3_put.data.toList.drop 22 = dktX3_put_1 := dk_seg dksX3_put_0 22 rfl rfl
theorem dksX3_put_2 : cX3_put.data.toList.drop 44 = dktX3_put_2 := dk_seg dksX3_put_1 22 rfl rfl
theorem dksX3_put_3 : cX3_put.data.toList.drop 68 = dktX3_put_3 := dk_seg dksX3_put_2 24 rfl rfl
theorem dksX3_put_4 : cX3_put.data.toList.drop 92 = dktX3_put_4 := dk_seg dksX3_put_3 24 rfl rfl
theorem dX3_put_0 : decode cX3_put 0 = .ok (.aload_n 0, 1) := dk_42 (dk_at dksX3_put_0 0 rfl rfl)
theorem dX3_put_1 : decode cX3_put 1 = .ok (.iconst 0, 1) := dk_3 (dk_at dksX3_put_0 1 rfl rfl)
theorem dX3_put_2 : decode cX3_put 2 = .ok (.putfield 70, 3) := dk_181 0 70 (dk_at dksX3_put_0 2 rfl rfl)
theorem dX3_put_5 : decode cX3_put 5 = .ok (.iload_n 1, 1) := dk_27 (dk_at dksX3_put_0 5 rfl rfl)
theorem dX3_put_6 : decode cX3_put 6 = .ok (.invokestatic 89, 3) := dk_184 0 89 (dk_at dksX3_put_0 6 rfl rfl)
theorem dX3_put_9 : decode cX3_put 9 = .ok (.ifCond .ne 5, 3) := dk_154 0 5 (dk_at dksX3_put_0 9 rfl rfl)
theorem dX3_put_12 : decode cX3_put 12 = .ok (.iconst (-1), 1) := dk_2 (dk_at dksX3_put_0 12 rfl rfl)
theorem dX3_put_13 : decode cX3_put 13 = .ok (.ireturn, 1) := dk_172 (dk_at dksX3_put_0 13 rfl rfl)
theorem dX3_put_14 : decode cX3_put 14 = .ok (.aload_n 0, 1) := dk_42 (dk_at dksX3_put_0 14 rfl rfl)
theorem dX3_put_15 : decode cX3_put 15 = .ok (.getfield 9, 3) := dk_180 0 9 (dk_at dksX3_put_0 15 rfl rfl)
theorem dX3_put_18 : decode cX3_put 18 = .ok (.iload_n 1, 1) := dk_27 (dk_at dksX3_put_0 18 rfl rfl)
theorem dX3_put_19 : decode cX3_put 19 = .ok (.iaload, 1) := dk_46 (dk_at dksX3_put_0 19 rfl rfl)
theorem dX3_put_20 : decode cX3_put 20 = .ok (.bipush (-9), 2) := dk_16 247 (dk_at dksX3_put_0 20 rfl rfl)
theorem dX3_put_22 : decode cX3_put 22 = .ok (.if_icmp .ne 9, 3) := dk_160 0 9 (dk_at dksX3_put_1 0 rfl rfl)
theorem dX3_put_25 : decode cX3_put 25 = .ok (.aload_n 0, 1) := dk_42 (dk_at dksX3_put_1 3 rfl rfl)
theorem dX3_put_26 : decode cX3_put 26 = .ok (.iconst 1, 1) := dk_4 (dk_at dksX3_put_1 4 rfl rfl)
theorem dX3_put_27 : decode cX3_put 27 = .ok (.invokevirtual 100, 3) := dk_182 0 100 (dk_at dksX3_put_1 5 rfl rfl)
theorem dX3_put_30 : decode cX3_put 30 = .ok (.ireturn, 1) := dk_172 (dk_at dksX3_put_1 8 rfl rfl)
theorem dX3_put_31 : decode cX3_put 31 = .ok (.iload_n 2, 1) := dk_28 (dk_at dksX3_put_1 9 rfl rfl)
theorem dX3_put_32 : decode cX3_put 32 = .ok (.iconst 0, 1) := dk_3 (dk_at dksX3_put_1 10 rfl rfl)
theorem dX3_put_33 : decode cX3_put 33 = .ok (.aload_n 0, 1) := dk_42 (dk_at dksX3_put_1 11 rfl rfl)
theorem dX3_put_34 : decode cX3_put 34 = .ok (.getfield 13, 3) := dk_180 0 13 (dk_at dksX3_put_1 12 rfl rfl)
theorem dX3_put_37 : decode cX3_put 37 = .ok (.iload_n 1, 1) := dk_27 (dk_at dksX3_put_1 15 rfl rfl)
theorem dX3_put_38 : decode cX3_put 38 = .ok (.iaload, 1) := dk_46 (dk_at dksX3_put_1 16 rfl rfl)
theorem dX3_put_39 : decode cX3_put 39 = .ok (.iconst 1, 1) := dk_4 (dk_at dksX3_put_1 17 rfl rfl)
theorem dX3_put_40 : decode cX3_put 40 = .ok (.isub, 1) := dk_100 (dk_at dksX3_put_1 18 rfl rfl)
theorem dX3_put_41 : decode cX3_put 41 = .ok (.invokestatic 76, 3) := dk_184 0 76 (dk_at dksX3_put_1 19 rfl rfl)
theorem dX3_put_44 : decode cX3_put 44 = .ok (.ifCond .ne 9, 3) := dk_154 0 9 (dk_at dksX3_put_2 0 rfl rfl)
theorem dX3_put_47 : decode cX3_put 47 = .ok (.aload_n 0, 1) := dk_42 (dk_at dksX3_put_2 3 rfl rfl)
theorem dX3_put_48 : decode cX3_put 48 = .ok (.iconst 3, 1) := dk_6 (dk_at dksX3_put_2 4 rfl rfl)
theorem dX3_put_49 : decode cX3_put 49 = .ok (.invokevirtual 100, 3) := dk_182 0 100 (dk_at dksX3_put_2 5 rfl rfl)
theorem dX3_put_52 : decode cX3_put 52 = .ok (.ireturn, 1) := dk_172 (dk_at dksX3_put_2 8 rfl rfl)
theorem dX3_put_53 : decode cX3_put 53 = .ok (.aload_n 0, 1) := dk_42 (dk_at dksX3_put_2 9 rfl rfl)
theorem dX3_put_54 : decode cX3_put 54 = .ok (.getfield 16, 3) := dk_180 0 16 (dk_at dksX3_put_2 10 rfl rfl)
theorem dX3_put_57 : decode cX3_put 57 = .ok (.bipush 60, 2) := dk_16 60 (dk_at dksX3_put_2 13 rfl rfl)
theorem dX3_put_59 : decode cX3_put 59 = .ok (.iload_n 1, 1) := dk_27 (dk_at dksX3_put_2 15 rfl rfl)
theorem dX3_put_60 : decode cX3_put 60 = .ok (.imul, 1) := dk_104 (dk_at dksX3_put_2 16 rfl rfl)
theorem dX3_put_61 : decode cX3_put 61 = .ok (.iload_n 2, 1) := dk_28 (dk_at dksX3_put_2 17 rfl rfl)
theorem dX3_put_62 : decode cX3_put 62 = .ok (.iadd, 1) := dk_96 (dk_at dksX3_put_2 18 rfl rfl)
theorem dX3_put_63 : decode cX3_put 63 = .ok (.aload_n 0, 1) := dk_42 (dk_at dksX3_put_2 19 rfl rfl)
theorem dX3_put_64 : decode cX3_put 64 = .ok (.getfield 9, 3) := dk_180 0 9 (dk_at dksX3_put_2 20 rfl rfl)
theorem dX3_put_67 : decode cX3_put 67 = .ok (.iload_n 1, 1) := dk_27 (dk_at dksX3_put_2 23 rfl rfl)
theorem dX3_put_68 : decode cX3_put 68 = .ok (.iaload, 1) := dk_46 (dk_at dksX3_put_3 0 rfl rfl)
theorem dX3_put_69 : decode cX3_put 69 = .ok (.ifCond .ne 8, 3) := dk_154 0 8 (dk_at dksX3_put_3 1 rfl rfl)
theorem dX3_put_72 : decode cX3_put 72 = .ok (.iload_n 3, 1) := dk_29 (dk_at dksX3_put_3 4 rfl rfl)
theorem dX3_put_73 : decode cX3_put 73 = .ok (.i2b, 1) := dk_145 (dk_at dksX3_put_3 5 rfl rfl)
theorem dX3_put_74 : decode cX3_put 74 = .ok (.goto 19, 3) := dk_167 0 19 (dk_at dksX3_put_3 6 rfl rfl)
theorem dX3_put_77 : decode cX3_put 77 = .ok (.aload_n 0, 1) := dk_42 (dk_at dksX3_put_3 9 rfl rfl)
theorem dX3_put_78 : decode cX3_put 78 = .ok (.getfield 9, 3) := dk_180 0 9 (dk_at dksX3_put_3 10 rfl rfl)
theorem dX3_put_81 : decode cX3_put 81 = .ok (.iload_n 1, 1) := dk_27 (dk_at dksX3_put_3 13 rfl rfl)
theorem dX3_put_82 : decode cX3_put 82 = .ok (.iaload, 1) := dk_46 (dk_at dksX3_put_3 14 rfl rfl)
theorem dX3_put_83 : decode cX3_put 83 = .ok (.iconst 1, 1) := dk_4 (dk_at dksX3_put_3 15 rfl rfl)
theorem dX3_put_84 : decode cX3_put 84 = .ok (.if_icmp .ne 8, 3) := dk_160 0 8 (dk_at dksX3_put_3 16 rfl rfl)
theorem dX3_put_87 : decode cX3_put 87 = .ok (.iload_n 3, 1) := dk_29 (dk_at dksX3_put_3 19 rfl rfl)
theorem dX3_put_88 : decode cX3_put 88 = .ok (.i2s, 1) := dk_147 (dk_at dksX3_put_3 20 rfl rfl)
theorem dX3_put_89 : decode cX3_put 89 = .ok (.goto 4, 3) := dk_167 0 4 (dk_at dksX3_put_3 21 rfl rfl)
theorem dX3_put_92 : decode cX3_put 92 = .ok (.iload_n 3, 1) := dk_29 (dk_at dksX3_put_4 0 rfl rfl)
theorem dX3_put_93 : decode cX3_put 93 = .ok (.iastore, 1) := dk_79 (dk_at dksX3_put_4 1 rfl rfl)
theorem dX3_put_94 : decode cX3_put 94 = .ok (.iconst 1, 1) := dk_4 (dk_at dksX3_put_4 2 rfl rfl)
theorem dX3_put_95 : decode cX3_put 95 = .ok (.ireturn, 1) := dk_172 (dk_at dksX3_put_4 3 rfl rfl)
abbrev cX3_cell : ByteArray := prog_25_method_57_code
def yX3_cell : MethodName := ⟨RX3, "cell", "(III)J"⟩
def dkwX3_cell_4 : List UInt8 := [16, 60, 27, 104, 28, 96, 46, 133, 173]
abbrev dktX3_cell_4 : List UInt8 := dkwX3_cell_4 ++ []
def dkwX3_cell_3 : List UInt8 := [180, 0, 13, 27, 46, 4, 100, 184, 0, 76, 154, 0, 9, 42, 6, 182, 0, 218, 173, 42, 180, 0, 16]
abbrev dktX3_cell_3 : List UInt8 := dkwX3_cell_3 ++ dktX3_cell_4
def dkwX3_cell_2 : List UInt8 := [182, 0, 218, 173, 42, 180, 0, 9, 27, 46, 16, 247, 160, 0, 9, 42, 4, 182, 0, 218, 173, 28, 3, 42]
abbrev dktX3_cell_2 : List UInt8 := dkwX3_cell_2 ++ dktX3_cell_3
def dkwX3_cell_1 : List UInt8 := [180, 0, 9, 27, 46, 16, 247, 159, 0, 19, 42, 180, 0, 9, 27, 46, 29, 159, 0, 9, 42, 5]
abbrev dktX3_cell_1 : List UInt8 := dkwX3_cell_1 ++ dktX3_cell_2
def dkwX3_cell_0 : List UInt8 := [42, 3, 181, 0, 70, 27, 184, 0, 89, 153, 0, 10, 29, 184, 0, 93, 154, 0, 7, 20, 0, 74, 173, 42]
abbrev dktX3_cell_0 : List UInt8 := dkwX3_cell_0 ++ dktX3_cell_1
theorem dksX3_cell_0 : cX3_cell.data.toList.drop 0 = dktX3_cell_0 := by decide +kernel
theorem dksX3_cell_1 : cX3_cell.data.toList.drop 24 = dktX3_cell_1 := dk_seg dksX3_cell_0 24 rfl rfl
theorem dksX3_cell_2 : cX3_cell.data.toList.drop 46 = dktX3_cell_2 := dk_seg dksX3_cell_1 22 rfl rfl
theorem dksX3_cell_3 : cX3_cell.data.toList.drop 70 = dktX3_cell_3 := dk_seg dksX3_cell_2 24 rfl rfl
theorem dksX3_cell_4 : cX3_cell.data.toList.drop 93 = dktX3_cell_4 := dk_seg dksX3_cell_3 23 rfl rfl
theorem dX3_cell_0 : decode cX3_cell 0 = .ok (.aload_n 0, 1) := dk_42 (dk_at dksX3_cell_0 0 rfl rfl)
theorem dX3_cell_1 : decode cX3_cell 1 = .ok (.iconst 0, 1) := dk_3 (dk_at dksX3_cell_0 1 rfl rfl)
theorem dX3_cell_2 : decode cX3_cell 2 = .ok (.putfield 70, 3) := dk_181 0 70 (dk_at dksX3_cell_0 2 rfl rfl)
theorem dX3_cell_5 : decode cX3_cell 5 = .ok (.iload_n 1, 1) := dk_27 (dk_at dksX3_cell_0 5 rfl rfl)
theorem dX3_cell_6 : decode cX3_cell 6 = .ok (.invokestatic 89, 3) := dk_184 0 89 (dk_at dksX3_cell_0 6 rfl rfl)
theorem dX3_cell_9 : decode cX3_cell 9 = .ok (.ifCond .eq 10, 3) := dk_153 0 10 (dk_at dksX3_cell_0 9 rfl rfl)
theorem dX3_cell_12 : decode cX3_cell 12 = .ok (.iload_n 3, 1) := dk_29 (dk_at dksX3_cell_0 12 rfl rfl)
theorem dX3_cell_13 : decode cX3_cell 13 = .ok (.invokestatic 93, 3) := dk_184 0 93 (dk_at dksX3_cell_0 13 rfl rfl)
theorem dX3_cell_16 : decode cX3_cell 16 = .ok (.ifCond .ne 7, 3) := dk_154 0 7 (dk_at dksX3_cell_0 16 rfl rfl)
theorem dX3_cell_19 : decode cX3_cell 19 = .ok (.ldc2_w 74, 3) := dk_20 0 74 (dk_at dksX3_cell_0 19 rfl rfl)
theorem dX3_cell_22 : decode cX3_cell 22 = .ok (.lreturn, 1) := dk_173 (dk_at dksX3_cell_0 22 rfl rfl)
theorem dX3_cell_23 : decode cX3_cell 23 = .ok (.aload_n 0, 1) := dk_42 (dk_at dksX3_cell_0 23 rfl rfl)
theorem dX3_cell_24 : decode cX3_cell 24 = .ok (.getfield 9, 3) := dk_180 0 9 (dk_at dksX3_cell_1 0 rfl rfl)
theorem dX3_cell_27 : decode cX3_cell 27 = .ok (.iload_n 1, 1) := dk_27 (dk_at dksX3_cell_1 3 rfl rfl)
theorem dX3_cell_28 : decode cX3_cell 28 = .ok (.iaload, 1) := dk_46 (dk_at dksX3_cell_1 4 rfl rfl)
theorem dX3_cell_29 : decode cX3_cell 29 = .ok (.bipush (-9), 2) := dk_16 247 (dk_at dksX3_cell_1 5 rfl rfl)
theorem dX3_cell_31 : decode cX3_cell 31 = .ok (.if_icmp .eq 19, 3) := dk_159 0 19 (dk_at dksX3_cell_1 7 rfl rfl)
theorem dX3_cell_34 : decode cX3_cell 34 = .ok (.aload_n 0, 1) := dk_42 (dk_at dksX3_cell_1 10 rfl rfl)
theorem dX3_cell_35 : decode cX3_cell 35 = .ok (.getfield 9, 3) := dk_180 0 9 (dk_at dksX3_cell_1 11 rfl rfl)
theorem dX3_cell_38 : decode cX3_cell 38 = .ok (.iload_n 1, 1) := dk_27 (dk_at dksX3_cell_1 14 rfl rfl)
theorem dX3_cell_39 : decode cX3_cell 39 = .ok (.iaload, 1) := dk_46 (dk_at dksX3_cell_1 15 rfl rfl)
theorem dX3_cell_40 : decode cX3_cell 40 = .ok (.iload_n 3, 1) := dk_29 (dk_at dksX3_cell_1 16 rfl rfl)
theorem dX3_cell_41 : decode cX3_cell 41 = .ok (.if_icmp .eq 9, 3) := dk_159 0 9 (dk_at dksX3_cell_1 17 rfl rfl)
theorem dX3_cell_44 : decode cX3_cell 44 = .ok (.aload_n 0, 1) := dk_42 (dk_at dksX3_cell_1 20 rfl rfl)
theorem dX3_cell_45 : decode cX3_cell 45 = .ok (.iconst 2, 1) := dk_5 (dk_at dksX3_cell_1 21 rfl rfl)
theorem dX3_cell_46 : decode cX3_cell 46 = .ok (.invokevirtual 218, 3) := dk_182 0 218 (dk_at dksX3_cell_2 0 rfl rfl)
theorem dX3_cell_49 : decode cX3_cell 49 = .ok (.lreturn, 1) := dk_173 (dk_at dksX3_cell_2 3 rfl rfl)
theorem dX3_cell_50 : decode cX3_cell 50 = .ok (.aload_n 0, 1) := dk_42 (dk_at dksX3_cell_2 4 rfl rfl)
theorem dX3_cell_51 : decode cX3_cell 51 = .ok (.getfield 9, 3) := dk_180 0 9 (dk_at dksX3_cell_2 5 rfl rfl)
theorem dX3_cell_54 : decode cX3_cell 54 = .ok (.iload_n 1, 1) := dk_27 (dk_at dksX3_cell_2 8 rfl rfl)
theorem dX3_cell_55 : decode cX3_cell 55 = .ok (.iaload, 1) := dk_46 (dk_at dksX3_cell_2 9 rfl rfl)
theorem dX3_cell_56 : decode cX3_cell 56 = .ok (.bipush (-9), 2) := dk_16 247 (dk_at dksX3_cell_2 10 rfl rfl)
theorem dX3_cell_58 : decode cX3_cell 58 = .ok (.if_icmp .ne 9, 3) := dk_160 0 9 (dk_at dksX3_cell_2 12 rfl rfl)
theorem dX3_cell_61 : decode cX3_cell 61 = .ok (.aload_n 0, 1) := dk_42 (dk_at dksX3_cell_2 15 rfl rfl)
theorem dX3_cell_62 : decode cX3_cell 62 = .ok (.iconst 1, 1) := dk_4 (dk_at dksX3_cell_2 16 rfl rfl)
theorem dX3_cell_63 : decode cX3_cell 63 = .ok (.invokevirtual 218, 3) := dk_182 0 218 (dk_at dksX3_cell_2 17 rfl rfl)
theorem dX3_cell_66 : decode cX3_cell 66 = .ok (.lreturn, 1) := dk_173 (dk_at dksX3_cell_2 20 rfl rfl)
theorem dX3_cell_67 : decode cX3_cell 67 = .ok (.iload_n 2, 1) := dk_28 (dk_at dksX3_cell_2 21 rfl rfl)
theorem dX3_cell_68 : decode cX3_cell 68 = .ok (.iconst 0, 1) := dk_3 (dk_at dksX3_cell_2 22 rfl rfl)
theorem dX3_cell_69 : decode cX3_cell 69 = .ok (.aload_n 0, 1) := dk_42 (dk_at dksX3_cell_2 23 rfl rfl)
theorem dX3_cell_70 : decode cX3_cell 70 = .ok (.getfield 13, 3) := dk_180 0 13 (dk_at dksX3_cell_3 0 rfl rfl)
theorem dX3_cell_73 : decode cX3_cell 73 = .ok (.iload_n 1, 1) := dk_27 (dk_at dksX3_cell_3 3 rfl rfl)
theorem dX3_cell_74 : decode cX3_cell 74 = .ok (.iaload, 1) := dk_46 (dk_at dksX3_cell_3 4 rfl rfl)
theorem dX3_cell_75 : decode cX3_cell 75 = .ok (.iconst 1, 1) := dk_4 (dk_at dksX3_cell_3 5 rfl rfl)
theorem dX3_cell_76 : decode cX3_cell 76 = .ok (.isub, 1) := dk_100 (dk_at dksX3_cell_3 6 rfl rfl)
theorem dX3_cell_77 : decode cX3_cell 77 = .ok (.invokestatic 76, 3) := dk_184 0 76 (dk_at dksX3_cell_3 7 rfl rfl)
theorem dX3_cell_80 : decode cX3_cell 80 = .ok (.ifCond .ne 9, 3) := dk_154 0 9 (dk_at dksX3_cell_3 10 rfl rfl)
theorem dX3_cell_83 : decode cX3_cell 83 = .ok (.aload_n 0, 1) := dk_42 (dk_at dksX3_cell_3 13 rfl rfl)
theorem dX3_cell_84 : decode cX3_cell 84 = .ok (.iconst 3, 1) := dk_6 (dk_at dksX3_cell_3 14 rfl rfl)
theorem dX3_cell_85 : decode cX3_cell 85 = .ok (.invokevirtual 218, 3) := dk_182 0 218 (dk_at dksX3_cell_3 15 rfl rfl)
theorem dX3_cell_88 : decode cX3_cell 88 = .ok (.lreturn, 1) := dk_173 (dk_at dksX3_cell_3 18 rfl rfl)
theorem dX3_cell_89 : decode cX3_cell 89 = .ok (.aload_n 0, 1) := dk_42 (dk_at dksX3_cell_3 19 rfl rfl)
theorem dX3_cell_90 : decode cX3_cell 90 = .ok (.getfield 16, 3) := dk_180 0 16 (dk_at dksX3_cell_3 20 rfl rfl)
theorem dX3_cell_93 : decode cX3_cell 93 = .ok (.bipush 60, 2) := dk_16 60 (dk_at dksX3_cell_4 0 rfl rfl)
theorem dX3_cell_95 : decode cX3_cell 95 = .ok (.iload_n 1, 1) := dk_27 (dk_at dksX3_cell_4 2 rfl rfl)
theorem dX3_cell_96 : decode cX3_cell 96 = .ok (.imul, 1) := dk_104 (dk_at dksX3_cell_4 3 rfl rfl)
theorem dX3_cell_97 : decode cX3_cell 97 = .ok (.iload_n 2, 1) := dk_28 (dk_at dksX3_cell_4 4 rfl rfl)
theorem dX3_cell_98 : decode cX3_cell 98 = .ok (.iadd, 1) := dk_96 (dk_at dksX3_cell_4 5 rfl rfl)
theorem dX3_cell_99 : decode cX3_cell 99 = .ok (.iaload, 1) := dk_46 (dk_at dksX3_cell_4 6 rfl rfl)
theorem dX3_cell_100 : decode cX3_cell 100 = .ok (.i2l, 1) := dk_133 (dk_at dksX3_cell_4 7 rfl rfl)
theorem dX3_cell_101 : decode cX3_cell 101 = .ok (.lreturn, 1) := dk_173 (dk_at dksX3_cell_4 8 rfl rfl)
abbrev cX3_lost : ByteArray := prog_25_method_4_code
def yX3_lost : MethodName := ⟨RX3, "lost", "(I)J"⟩
def dkwX3_lost_0 : List UInt8 := [42, 27, 181, 0, 70, 20, 0, 74, 173]
abbrev dktX3_lost_0 : List UInt8 := dkwX3_lost_0 ++ []
theorem dksX3_lost_0 : cX3_lost.data.toList.drop 0 = dktX3_lost_0 := by decide +kernel
theorem dX3_lost_0 : decode cX3_lost 0 = .ok (.aload_n 0, 1) := dk_42 (dk_at dksX3_lost_0 0 rfl rfl)
theorem dX3_lost_1 : decode cX3_lost 1 = .ok (.iload_n 1, 1) := dk_27 (dk_at dksX3_lost_0 1 rfl rfl)
theorem dX3_lost_2 : decode cX3_lost 2 = .ok (.putfield 70, 3) := dk_181 0 70 (dk_at dksX3_lost_0 2 rfl rfl)
theorem dX3_lost_5 : decode cX3_lost 5 = .ok (.ldc2_w 74, 3) := dk_20 0 74 (dk_at dksX3_lost_0 5 rfl rfl)
theorem dX3_lost_8 : decode cX3_lost 8 = .ok (.lreturn, 1) := dk_173 (dk_at dksX3_lost_0 8 rfl rfl)
abbrev cX3_copy : ByteArray := prog_25_method_58_code
def yX3_copy : MethodName := ⟨RX3, "copy", "(IIIII)I"⟩
def dkwX3_copy_9 : List UInt8 := [180, 0, 16, 16, 60, 27, 104, 28, 96, 21, 9, 96, 46, 79, 132, 8, 1, 167, 255, 198, 21, 5, 172]
abbrev dktX3_copy_9 : List UInt8 := dkwX3_copy_9 ++ []
def dkwX3_copy_8 : List UInt8 := [167, 0, 5, 21, 8, 54, 9, 42, 180, 0, 16, 16, 60, 29, 104, 21, 4, 96, 21, 9, 96, 42]
abbrev dktX3_copy_8 : List UInt8 := dkwX3_copy_8 ++ dktX3_copy_9
def dkwX3_copy_7 : List UInt8 := [54, 7, 3, 54, 8, 21, 8, 21, 5, 162, 0, 57, 21, 7, 153, 0, 13, 21, 5, 4, 100, 21, 8, 100]
abbrev dktX3_copy_7 : List UInt8 := dkwX3_copy_7 ++ dktX3_copy_8
def dkwX3_copy_6 : List UInt8 := [21, 4, 100, 164, 0, 9, 42, 6, 182, 0, 100, 172, 28, 21, 4, 162, 0, 7, 4, 167, 0, 4, 3]
abbrev dktX3_copy_6 : List UInt8 := dkwX3_copy_6 ++ dktX3_copy_7
def dkwX3_copy_5 : List UInt8 := [153, 0, 30, 21, 5, 42, 180, 0, 13, 27, 46, 28, 100, 163, 0, 17, 21, 5, 42, 180, 0, 13, 29, 46]
abbrev dktX3_copy_5 : List UInt8 := dkwX3_copy_5 ++ dktX3_copy_6
def dkwX3_copy_4 : List UInt8 := [163, 0, 18, 21, 4, 42, 180, 0, 13, 29, 46, 163, 0, 7, 4, 167, 0, 4, 3, 54, 6, 21, 6]
abbrev dktX3_copy_4 : List UInt8 := dkwX3_copy_4 ++ dktX3_copy_5
def dkwX3_copy_3 : List UInt8 := [172, 28, 155, 0, 38, 21, 4, 155, 0, 33, 21, 5, 155, 0, 28, 28, 42, 180, 0, 13, 27, 46]
abbrev dktX3_copy_3 : List UInt8 := dkwX3_copy_3 ++ dktX3_copy_4
def dkwX3_copy_2 : List UInt8 := [182, 0, 100, 172, 42, 180, 0, 9, 27, 46, 42, 180, 0, 9, 29, 46, 159, 0, 9, 42, 5, 182, 0, 100]
abbrev dktX3_copy_2 : List UInt8 := dkwX3_copy_2 ++ dktX3_copy_3
def dkwX3_copy_1 : List UInt8 := [180, 0, 9, 27, 46, 16, 247, 159, 0, 14, 42, 180, 0, 9, 29, 46, 16, 247, 160, 0, 9, 42, 4]
abbrev dktX3_copy_1 : List UInt8 := dkwX3_copy_1 ++ dktX3_copy_2
def dkwX3_copy_0 : List UInt8 := [42, 3, 181, 0, 70, 27, 184, 0, 89, 153, 0, 10, 29, 184, 0, 89, 154, 0, 5, 2, 172, 42]
abbrev dktX3_copy_0 : List UInt8 := dkwX3_copy_0 ++ dktX3_copy_1
theorem dksX3_copy_0 : cX3_copy.data.toList.drop 0 = dktX3_copy_0 := by decide +kernel
theorem dksX3_copy_1 : cX3_copy.data.toList.drop 22 = dktX3_copy_1 := dk_seg dksX3_copy_0 22 rfl rfl
theorem dksX3_copy_2 : cX3_copy.data.toList.drop 45 = dktX3_copy_2 := dk_seg dksX3_copy_1 23 rfl rfl
theorem dksX3_copy_3 : cX3_copy.data.toList.drop 69 = dktX3_copy_3 := dk_seg dksX3_copy_2 24 rfl rfl
theorem dksX3_copy_4 : cX3_copy.data.toList.drop 91 = dktX3_copy_4 := dk_seg dksX3_copy_3 22 rfl rfl
theorem dksX3_copy_5 : cX3_copy.data.toList.drop 114 = dktX3_copy_5 := dk_seg dksX3_copy_4 23 rfl rfl
theorem dksX3_copy_6 : cX3_copy.data.toList.drop 138 = dktX3_copy_6 := dk_seg dksX3_copy_5 24 rfl rfl
theorem dksX3_copy_7 : cX3_copy.data.toList.drop 161 = dktX3_copy_7 := dk_seg dksX3_copy_6 23 rfl rfl
theorem dksX3_copy_8 : cX3_copy.data.toList.drop 185 = dktX3_copy_8 := dk_seg dksX3_copy_7 24 rfl rfl
theorem dksX3_copy_9 : cX3_copy.data.toList.drop 207 = dktX3_copy_9 := dk_seg dksX3_copy_8 22 rfl rfl
theorem dX3_copy_0 : decode cX3_copy 0 = .ok (.aload_n 0, 1) := dk_42 (dk_at dksX3_copy_0 0 rfl rfl)
theorem dX3_copy_1 : decode cX3_copy 1 = .ok (.iconst 0, 1) := dk_3 (dk_at dksX3_copy_0 1 rfl rfl)
theorem dX3_copy_2 : decode cX3_copy 2 = .ok (.putfield 70, 3) := dk_181 0 70 (dk_at dksX3_copy_0 2 rfl rfl)
theorem dX3_copy_5 : decode cX3_copy 5 = .ok (.iload_n 1, 1) := dk_27 (dk_at dksX3_copy_0 5 rfl rfl)
theorem dX3_copy_6 : decode cX3_copy 6 = .ok (.invokestatic 89, 3) := dk_184 0 89 (dk_at dksX3_copy_0 6 rfl rfl)
theorem dX3_copy_9 : decode cX3_copy 9 = .ok (.ifCond .eq 10, 3) := dk_153 0 10 (dk_at dksX3_copy_0 9 rfl rfl)
theorem dX3_copy_12 : decode cX3_copy 12 = .ok (.iload_n 3, 1) := dk_29 (dk_at dksX3_copy_0 12 rfl rfl)
theorem dX3_copy_13 : decode cX3_copy 13 = .ok (.invokestatic 89, 3) := dk_184 0 89 (dk_at dksX3_copy_0 13 rfl rfl)
theorem dX3_copy_16 : decode cX3_copy 16 = .ok (.ifCond .ne 5, 3) := dk_154 0 5 (dk_at dksX3_copy_0 16 rfl rfl)
theorem dX3_copy_19 : decode cX3_copy 19 = .ok (.iconst (-1), 1) := dk_2 (dk_at dksX3_copy_0 19 rfl rfl)
theorem dX3_copy_20 : decode cX3_copy 20 = .ok (.ireturn, 1) := dk_172 (dk_at dksX3_copy_0 20 rfl rfl)
theorem dX3_copy_21 : decode cX3_copy 21 = .ok (.aload_n 0, 1) := dk_42 (dk_at dksX3_copy_0 21 rfl rfl)
theorem dX3_copy_22 : decode cX3_copy 22 = .ok (.getfield 9, 3) := dk_180 0 9 (dk_at dksX3_copy_1 0 rfl rfl)
theorem dX3_copy_25 : decode cX3_copy 25 = .ok (.iload_n 1, 1) := dk_27 (dk_at dksX3_copy_1 3 rfl rfl)
theorem dX3_copy_26 : decode cX3_copy 26 = .ok (.iaload, 1) := dk_46 (dk_at dksX3_copy_1 4 rfl rfl)
theorem dX3_copy_27 : decode cX3_copy 27 = .ok (.bipush (-9), 2) := dk_16 247 (dk_at dksX3_copy_1 5 rfl rfl)
theorem dX3_copy_29 : decode cX3_copy 29 = .ok (.if_icmp .eq 14, 3) := dk_159 0 14 (dk_at dksX3_copy_1 7 rfl rfl)
theorem dX3_copy_32 : decode cX3_copy 32 = .ok (.aload_n 0, 1) := dk_42 (dk_at dksX3_copy_1 10 rfl rfl)
theorem dX3_copy_33 : decode cX3_copy 33 = .ok (.getfield 9, 3) := dk_180 0 9 (dk_at dksX3_copy_1 11 rfl rfl)
theorem dX3_copy_36 : decode cX3_copy 36 = .ok (.iload_n 3, 1) := dk_29 (dk_at dksX3_copy_1 14 rfl rfl)
theorem dX3_copy_37 : decode cX3_copy 37 = .ok (.iaload, 1) := dk_46 (dk_at dksX3_copy_1 15 rfl rfl)
theorem dX3_copy_38 : decode cX3_copy 38 = .ok (.bipush (-9), 2) := dk_16 247 (dk_at dksX3_copy_1 16 rfl rfl)
theorem dX3_copy_40 : decode cX3_copy 40 = .ok (.if_icmp .ne 9, 3) := dk_160 0 9 (dk_at dksX3_copy_1 18 rfl rfl)
theorem dX3_copy_43 : decode cX3_copy 43 = .ok (.aload_n 0, 1) := dk_42 (dk_at dksX3_copy_1 21 rfl rfl)
theorem dX3_copy_44 : decode cX3_copy 44 = .ok (.iconst 1, 1) := dk_4 (dk_at dksX3_copy_1 22 rfl rfl)
theorem dX3_copy_45 : decode cX3_copy 45 = .ok (.invokevirtual 100, 3) := dk_182 0 100 (dk_at dksX3_copy_2 0 rfl rfl)
theorem dX3_copy_48 : decode cX3_copy 48 = .ok (.ireturn, 1) := dk_172 (dk_at dksX3_copy_2 3 rfl rfl)
theorem dX3_copy_49 : decode cX3_copy 49 = .ok (.aload_n 0, 1) := dk_42 (dk_at dksX3_copy_2 4 rfl rfl)
theorem dX3_copy_50 : decode cX3_copy 50 = .ok (.getfield 9, 3) := dk_180 0 9 (dk_at dksX3_copy_2 5 rfl rfl)
theorem dX3_copy_53 : decode cX3_copy 53 = .ok (.iload_n 1, 1) := dk_27 (dk_at dksX3_copy_2 8 rfl rfl)
theorem dX3_copy_54 : decode cX3_copy 54 = .ok (.iaload, 1) := dk_46 (dk_at dksX3_copy_2 9 rfl rfl)
theorem dX3_copy_55 : decode cX3_copy 55 = .ok (.aload_n 0, 1) := dk_42 (dk_at dksX3_copy_2 10 rfl rfl)
theorem dX3_copy_56 : decode cX3_copy 56 = .ok (.getfield 9, 3) := dk_180 0 9 (dk_at dksX3_copy_2 11 rfl rfl)
theorem dX3_copy_59 : decode cX3_copy 59 = .ok (.iload_n 3, 1) := dk_29 (dk_at dksX3_copy_2 14 rfl rfl)
theorem dX3_copy_60 : decode cX3_copy 60 = .ok (.iaload, 1) := dk_46 (dk_at dksX3_copy_2 15 rfl rfl)
theorem dX3_copy_61 : decode cX3_copy 61 = .ok (.if_icmp .eq 9, 3) := dk_159 0 9 (dk_at dksX3_copy_2 16 rfl rfl)
theorem dX3_copy_64 : decode cX3_copy 64 = .ok (.aload_n 0, 1) := dk_42 (dk_at dksX3_copy_2 19 rfl rfl)
theorem dX3_copy_65 : decode cX3_copy 65 = .ok (.iconst 2, 1) := dk_5 (dk_at dksX3_copy_2 20 rfl rfl)
theorem dX3_copy_66 : decode cX3_copy 66 = .ok (.invokevirtual 100, 3) := dk_182 0 100 (dk_at dksX3_copy_2 21 rfl rfl)
theorem dX3_copy_69 : decode cX3_copy 69 = .ok (.ireturn, 1) := dk_172 (dk_at dksX3_copy_3 0 rfl rfl)
theorem dX3_copy_70 : decode cX3_copy 70 = .ok (.iload_n 2, 1) := dk_28 (dk_at dksX3_copy_3 1 rfl rfl)
theorem dX3_copy_71 : decode cX3_copy 71 = .ok (.ifCond .lt 38, 3) := dk_155 0 38 (dk_at dksX3_copy_3 2 rfl rfl)
theorem dX3_copy_74 : decode cX3_copy 74 = .ok (.iload 4, 2) := dk_21 4 (dk_at dksX3_copy_3 5 rfl rfl)
theorem dX3_copy_76 : decode cX3_copy 76 = .ok (.ifCond .lt 33, 3) := dk_155 0 33 (dk_at dksX3_copy_3 7 rfl rfl)
theorem dX3_copy_79 : decode cX3_copy 79 = .ok (.iload 5, 2) := dk_21 5 (dk_at dksX3_copy_3 10 rfl rfl)
theorem dX3_copy_81 : decode cX3_copy 81 = .ok (.ifCond .lt 28, 3) := dk_155 0 28 (dk_at dksX3_copy_3 12 rfl rfl)
theorem dX3_copy_84 : decode cX3_copy 84 = .ok (.iload_n 2, 1) := dk_28 (dk_at dksX3_copy_3 15 rfl rfl)
theorem dX3_copy_85 : decode cX3_copy 85 = .ok (.aload_n 0, 1) := dk_42 (dk_at dksX3_copy_3 16 rfl rfl)
theorem dX3_copy_86 : decode cX3_copy 86 = .ok (.getfield 13, 3) := dk_180 0 13 (dk_at dksX3_copy_3 17 rfl rfl)
theorem dX3_copy_89 : decode cX3_copy 89 = .ok (.iload_n 1, 1) := dk_27 (dk_at dksX3_copy_3 20 rfl rfl)
theorem dX3_copy_90 : decode cX3_copy 90 = .ok (.iaload, 1) := dk_46 (dk_at dksX3_copy_3 21 rfl rfl)
theorem dX3_copy_91 : decode cX3_copy 91 = .ok (.if_icmp .gt 18, 3) := dk_163 0 18 (dk_at dksX3_copy_4 0 rfl rfl)
theorem dX3_copy_94 : decode cX3_copy 94 = .ok (.iload 4, 2) := dk_21 4 (dk_at dksX3_copy_4 3 rfl rfl)
theorem dX3_copy_96 : decode cX3_copy 96 = .ok (.aload_n 0, 1) := dk_42 (dk_at dksX3_copy_4 5 rfl rfl)
theorem dX3_copy_97 : decode cX3_copy 97 = .ok (.getfield 13, 3) := dk_180 0 13 (dk_at dksX3_copy_4 6 rfl rfl)
theorem dX3_copy_100 : decode cX3_copy 100 = .ok (.iload_n 3, 1) := dk_29 (dk_at dksX3_copy_4 9 rfl rfl)
theorem dX3_copy_101 : decode cX3_copy 101 = .ok (.iaload, 1) := dk_46 (dk_at dksX3_copy_4 10 rfl rfl)
theorem dX3_copy_102 : decode cX3_copy 102 = .ok (.if_icmp .gt 7, 3) := dk_163 0 7 (dk_at dksX3_copy_4 11 rfl rfl)
theorem dX3_copy_105 : decode cX3_copy 105 = .ok (.iconst 1, 1) := dk_4 (dk_at dksX3_copy_4 14 rfl rfl)
theorem dX3_copy_106 : decode cX3_copy 106 = .ok (.goto 4, 3) := dk_167 0 4 (dk_at dksX3_copy_4 15 rfl rfl)
theorem dX3_copy_109 : decode cX3_copy 109 = .ok (.iconst 0, 1) := dk_3 (dk_at dksX3_copy_4 18 rfl rfl)
theorem dX3_copy_110 : decode cX3_copy 110 = .ok (.istore 6, 2) := dk_54 6 (dk_at dksX3_copy_4 19 rfl rfl)
theorem dX3_copy_112 : decode cX3_copy 112 = .ok (.iload 6, 2) := dk_21 6 (dk_at dksX3_copy_4 21 rfl rfl)
theorem dX3_copy_114 : decode cX3_copy 114 = .ok (.ifCond .eq 30, 3) := dk_153 0 30 (dk_at dksX3_copy_5 0 rfl rfl)
theorem dX3_copy_117 : decode cX3_copy 117 = .ok (.iload 5, 2) := dk_21 5 (dk_at dksX3_copy_5 3 rfl rfl)
theorem dX3_copy_119 : decode cX3_copy 119 = .ok (.aload_n 0, 1) := dk_42 (dk_at dksX3_copy_5 5 rfl rfl)
theorem dX3_copy_120 : decode cX3_copy 120 = .ok (.getfield 13, 3) := dk_180 0 13 (dk_at dksX3_copy_5 6 rfl rfl)
theorem dX3_copy_123 : decode cX3_copy 123 = .ok (.iload_n 1, 1) := dk_27 (dk_at dksX3_copy_5 9 rfl rfl)
theorem dX3_copy_124 : decode cX3_copy 124 = .ok (.iaload, 1) := dk_46 (dk_at dksX3_copy_5 10 rfl rfl)
theorem dX3_copy_125 : decode cX3_copy 125 = .ok (.iload_n 2, 1) := dk_28 (dk_at dksX3_copy_5 11 rfl rfl)
theorem dX3_copy_126 : decode cX3_copy 126 = .ok (.isub, 1) := dk_100 (dk_at dksX3_copy_5 12 rfl rfl)
theorem dX3_copy_127 : decode cX3_copy 127 = .ok (.if_icmp .gt 17, 3) := dk_163 0 17 (dk_at dksX3_copy_5 13 rfl rfl)
theorem dX3_copy_130 : decode cX3_copy 130 = .ok (.iload 5, 2) := dk_21 5 (dk_at dksX3_copy_5 16 rfl rfl)
theorem dX3_copy_132 : decode cX3_copy 132 = .ok (.aload_n 0, 1) := dk_42 (dk_at dksX3_copy_5 18 rfl rfl)
theorem dX3_copy_133 : decode cX3_copy 133 = .ok (.getfield 13, 3) := dk_180 0 13 (dk_at dksX3_copy_5 19 rfl rfl)
theorem dX3_copy_136 : decode cX3_copy 136 = .ok (.iload_n 3, 1) := dk_29 (dk_at dksX3_copy_5 22 rfl rfl)
theorem dX3_copy_137 : decode cX3_copy 137 = .ok (.iaload, 1) := dk_46 (dk_at dksX3_copy_5 23 rfl rfl)
theorem dX3_copy_138 : decode cX3_copy 138 = .ok (.iload 4, 2) := dk_21 4 (dk_at dksX3_copy_6 0 rfl rfl)
theorem dX3_copy_140 : decode cX3_copy 140 = .ok (.isub, 1) := dk_100 (dk_at dksX3_copy_6 2 rfl rfl)
theorem dX3_copy_141 : decode cX3_copy 141 = .ok (.if_icmp .le 9, 3) := dk_164 0 9 (dk_at dksX3_copy_6 3 rfl rfl)
theorem dX3_copy_144 : decode cX3_copy 144 = .ok (.aload_n 0, 1) := dk_42 (dk_at dksX3_copy_6 6 rfl rfl)
theorem dX3_copy_145 : decode cX3_copy 145 = .ok (.iconst 3, 1) := dk_6 (dk_at dksX3_copy_6 7 rfl rfl)
theorem dX3_copy_146 : decode cX3_copy 146 = .ok (.invokevirtual 100, 3) := dk_182 0 100 (dk_at dksX3_copy_6 8 rfl rfl)
theorem dX3_copy_149 : decode cX3_copy 149 = .ok (.ireturn, 1) := dk_172 (dk_at dksX3_copy_6 11 rfl rfl)
theorem dX3_copy_150 : decode cX3_copy 150 = .ok (.iload_n 2, 1) := dk_28 (dk_at dksX3_copy_6 12 rfl rfl)
theorem dX3_copy_151 : decode cX3_copy 151 = .ok (.iload 4, 2) := dk_21 4 (dk_at dksX3_copy_6 13 rfl rfl)
theorem dX3_copy_153 : decode cX3_copy 153 = .ok (.if_icmp .ge 7, 3) := dk_162 0 7 (dk_at dksX3_copy_6 15 rfl rfl)
theorem dX3_copy_156 : decode cX3_copy 156 = .ok (.iconst 1, 1) := dk_4 (dk_at dksX3_copy_6 18 rfl rfl)
theorem dX3_copy_157 : decode cX3_copy 157 = .ok (.goto 4, 3) := dk_167 0 4 (dk_at dksX3_copy_6 19 rfl rfl)
theorem dX3_copy_160 : decode cX3_copy 160 = .ok (.iconst 0, 1) := dk_3 (dk_at dksX3_copy_6 22 rfl rfl)
theorem dX3_copy_161 : decode cX3_copy 161 = .ok (.istore 7, 2) := dk_54 7 (dk_at dksX3_copy_7 0 rfl rfl)
theorem dX3_copy_163 : decode cX3_copy 163 = .ok (.iconst 0, 1) := dk_3 (dk_at dksX3_copy_7 2 rfl rfl)
theorem dX3_copy_164 : decode cX3_copy 164 = .ok (.istore 8, 2) := dk_54 8 (dk_at dksX3_copy_7 3 rfl rfl)
theorem dX3_copy_166 : decode cX3_copy 166 = .ok (.iload 8, 2) := dk_21 8 (dk_at dksX3_copy_7 5 rfl rfl)
theorem dX3_copy_168 : decode cX3_copy 168 = .ok (.iload 5, 2) := dk_21 5 (dk_at dksX3_copy_7 7 rfl rfl)
theorem dX3_copy_170 : decode cX3_copy 170 = .ok (.if_icmp .ge 57, 3) := dk_162 0 57 (dk_at dksX3_copy_7 9 rfl rfl)
theorem dX3_copy_173 : decode cX3_copy 173 = .ok (.iload 7, 2) := dk_21 7 (dk_at dksX3_copy_7 12 rfl rfl)
theorem dX3_copy_175 : decode cX3_copy 175 = .ok (.ifCond .eq 13, 3) := dk_153 0 13 (dk_at dksX3_copy_7 14 rfl rfl)
theorem dX3_copy_178 : decode cX3_copy 178 = .ok (.iload 5, 2) := dk_21 5 (dk_at dksX3_copy_7 17 rfl rfl)
theorem dX3_copy_180 : decode cX3_copy 180 = .ok (.iconst 1, 1) := dk_4 (dk_at dksX3_copy_7 19 rfl rfl)
theorem dX3_copy_181 : decode cX3_copy 181 = .ok (.isub, 1) := dk_100 (dk_at dksX3_copy_7 20 rfl rfl)
theorem dX3_copy_182 : decode cX3_copy 182 = .ok (.iload 8, 2) := dk_21 8 (dk_at dksX3_copy_7 21 rfl rfl)
theorem dX3_copy_184 : decode cX3_copy 184 = .ok (.isub, 1) := dk_100 (dk_at dksX3_copy_7 23 rfl rfl)
theorem dX3_copy_185 : decode cX3_copy 185 = .ok (.goto 5, 3) := dk_167 0 5 (dk_at dksX3_copy_8 0 rfl rfl)
theorem dX3_copy_188 : decode cX3_copy 188 = .ok (.iload 8, 2) := dk_21 8 (dk_at dksX3_copy_8 3 rfl rfl)
theorem dX3_copy_190 : decode cX3_copy 190 = .ok (.istore 9, 2) := dk_54 9 (dk_at dksX3_copy_8 5 rfl rfl)
theorem dX3_copy_192 : decode cX3_copy 192 = .ok (.aload_n 0, 1) := dk_42 (dk_at dksX3_copy_8 7 rfl rfl)
theorem dX3_copy_193 : decode cX3_copy 193 = .ok (.getfield 16, 3) := dk_180 0 16 (dk_at dksX3_copy_8 8 rfl rfl)
theorem dX3_copy_196 : decode cX3_copy 196 = .ok (.bipush 60, 2) := dk_16 60 (dk_at dksX3_copy_8 11 rfl rfl)
theorem dX3_copy_198 : decode cX3_copy 198 = .ok (.iload_n 3, 1) := dk_29 (dk_at dksX3_copy_8 13 rfl rfl)
theorem dX3_copy_199 : decode cX3_copy 199 = .ok (.imul, 1) := dk_104 (dk_at dksX3_copy_8 14 rfl rfl)
theorem dX3_copy_200 : decode cX3_copy 200 = .ok (.iload 4, 2) := dk_21 4 (dk_at dksX3_copy_8 15 rfl rfl)
theorem dX3_copy_202 : decode cX3_copy 202 = .ok (.iadd, 1) := dk_96 (dk_at dksX3_copy_8 17 rfl rfl)
theorem dX3_copy_203 : decode cX3_copy 203 = .ok (.iload 9, 2) := dk_21 9 (dk_at dksX3_copy_8 18 rfl rfl)
theorem dX3_copy_205 : decode cX3_copy 205 = .ok (.iadd, 1) := dk_96 (dk_at dksX3_copy_8 20 rfl rfl)
theorem dX3_copy_206 : decode cX3_copy 206 = .ok (.aload_n 0, 1) := dk_42 (dk_at dksX3_copy_8 21 rfl rfl)
theorem dX3_copy_207 : decode cX3_copy 207 = .ok (.getfield 16, 3) := dk_180 0 16 (dk_at dksX3_copy_9 0 rfl rfl)
theorem dX3_copy_210 : decode cX3_copy 210 = .ok (.bipush 60, 2) := dk_16 60 (dk_at dksX3_copy_9 3 rfl rfl)
theorem dX3_copy_212 : decode cX3_copy 212 = .ok (.iload_n 1, 1) := dk_27 (dk_at dksX3_copy_9 5 rfl rfl)
theorem dX3_copy_213 : decode cX3_copy 213 = .ok (.imul, 1) := dk_104 (dk_at dksX3_copy_9 6 rfl rfl)
theorem dX3_copy_214 : decode cX3_copy 214 = .ok (.iload_n 2, 1) := dk_28 (dk_at dksX3_copy_9 7 rfl rfl)
theorem dX3_copy_215 : decode cX3_copy 215 = .ok (.iadd, 1) := dk_96 (dk_at dksX3_copy_9 8 rfl rfl)
theorem dX3_copy_216 : decode cX3_copy 216 = .ok (.iload 9, 2) := dk_21 9 (dk_at dksX3_copy_9 9 rfl rfl)
theorem dX3_copy_218 : decode cX3_copy 218 = .ok (.iadd, 1) := dk_96 (dk_at dksX3_copy_9 11 rfl rfl)
theorem dX3_copy_219 : decode cX3_copy 219 = .ok (.iaload, 1) := dk_46 (dk_at dksX3_copy_9 12 rfl rfl)
theorem dX3_copy_220 : decode cX3_copy 220 = .ok (.iastore, 1) := dk_79 (dk_at dksX3_copy_9 13 rfl rfl)
theorem dX3_copy_221 : decode cX3_copy 221 = .ok (.iinc 8 1, 3) := dk_132 8 1 (dk_at dksX3_copy_9 14 rfl rfl)
theorem dX3_copy_224 : decode cX3_copy 224 = .ok (.goto (-58), 3) := dk_167 255 198 (dk_at dksX3_copy_9 17 rfl rfl)
theorem dX3_copy_227 : decode cX3_copy 227 = .ok (.iload 5, 2) := dk_21 5 (dk_at dksX3_copy_9 20 rfl rfl)
theorem dX3_copy_229 : decode cX3_copy 229 = .ok (.ireturn, 1) := dk_172 (dk_at dksX3_copy_9 22 rfl rfl)
abbrev cX3_tell : ByteArray := prog_25_method_60_code
def yX3_tell : MethodName := ⟨RX3, "tell", "(I)I"⟩
def dkwX3_tell_4 : List UInt8 := [182, 0, 225, 28, 172]
abbrev dktX3_tell_4 : List UInt8 := dkwX3_tell_4 ++ []
def dkwX3_tell_3 : List UInt8 := [182, 0, 225, 42, 4, 182, 0, 225, 42, 4, 182, 0, 225, 5, 28, 104, 16, 100, 96, 172, 42, 4]
abbrev dktX3_tell_3 : List UInt8 := dkwX3_tell_3 ++ dktX3_tell_4
def dkwX3_tell_2 : List UInt8 := [42, 5, 182, 0, 225, 42, 4, 182, 0, 225, 28, 16, 100, 96, 172, 42, 6, 182, 0, 225, 42, 5]
abbrev dktX3_tell_2 : List UInt8 := dkwX3_tell_2 ++ dktX3_tell_3
def dkwX3_tell_1 : List UInt8 := [171, 0, 0, 0, 67, 0, 0, 0, 2, 0, 0, 0, 1, 0, 0, 0, 25, 0, 0, 0, 2, 0, 0, 0, 40]
abbrev dktX3_tell_1 : List UInt8 := dkwX3_tell_1 ++ dktX3_tell_2
def dkwX3_tell_0 : List UInt8 := [42, 27, 182, 0, 171, 154, 0, 5, 2, 172, 42, 180, 0, 22, 27, 46, 61, 42, 180, 0, 19, 27, 46]
abbrev dktX3_tell_0 : List UInt8 := dkwX3_tell_0 ++ dktX3_tell_1
theorem dksX3_tell_0 : cX3_tell.data.toList.drop 0 = dktX3_tell_0 := by decide +kernel
theorem dksX3_tell_1 : cX3_tell.data.toList.drop 23 = dktX3_tell_1 := dk_seg dksX3_tell_0 23 rfl rfl
theorem dksX3_tell_2 : cX3_tell.data.toList.drop 48 = dktX3_tell_2 := dk_seg dksX3_tell_1 25 rfl rfl
theorem dksX3_tell_3 : cX3_tell.data.toList.drop 70 = dktX3_tell_3 := dk_seg dksX3_tell_2 22 rfl rfl
theorem dksX3_tell_4 : cX3_tell.data.toList.drop 92 = dktX3_tell_4 := dk_seg dksX3_tell_3 22 rfl rfl
theorem dX3_tell_0 : decode cX3_tell 0 = .ok (.aload_n 0, 1) := dk_42 (dk_at dksX3_tell_0 0 rfl rfl)
theorem dX3_tell_1 : decode cX3_tell 1 = .ok (.iload_n 1, 1) := dk_27 (dk_at dksX3_tell_0 1 rfl rfl)
theorem dX3_tell_2 : decode cX3_tell 2 = .ok (.invokevirtual 171, 3) := dk_182 0 171 (dk_at dksX3_tell_0 2 rfl rfl)
theorem dX3_tell_5 : decode cX3_tell 5 = .ok (.ifCond .ne 5, 3) := dk_154 0 5 (dk_at dksX3_tell_0 5 rfl rfl)
theorem dX3_tell_8 : decode cX3_tell 8 = .ok (.iconst (-1), 1) := dk_2 (dk_at dksX3_tell_0 8 rfl rfl)
theorem dX3_tell_9 : decode cX3_tell 9 = .ok (.ireturn, 1) := dk_172 (dk_at dksX3_tell_0 9 rfl rfl)
theorem dX3_tell_10 : decode cX3_tell 10 = .ok (.aload_n 0, 1) := dk_42 (dk_at dksX3_tell_0 10 rfl rfl)
theorem dX3_tell_11 : decode cX3_tell 11 = .ok (.getfield 22, 3) := dk_180 0 22 (dk_at dksX3_tell_0 11 rfl rfl)
theorem dX3_tell_14 : decode cX3_tell 14 = .ok (.iload_n 1, 1) := dk_27 (dk_at dksX3_tell_0 14 rfl rfl)
theorem dX3_tell_15 : decode cX3_tell 15 = .ok (.iaload, 1) := dk_46 (dk_at dksX3_tell_0 15 rfl rfl)
theorem dX3_tell_16 : decode cX3_tell 16 = .ok (.istore_n 2, 1) := dk_61 (dk_at dksX3_tell_0 16 rfl rfl)
theorem dX3_tell_17 : decode cX3_tell 17 = .ok (.aload_n 0, 1) := dk_42 (dk_at dksX3_tell_0 17 rfl rfl)
theorem dX3_tell_18 : decode cX3_tell 18 = .ok (.getfield 19, 3) := dk_180 0 19 (dk_at dksX3_tell_0 18 rfl rfl)
theorem dX3_tell_21 : decode cX3_tell 21 = .ok (.iload_n 1, 1) := dk_27 (dk_at dksX3_tell_0 21 rfl rfl)
theorem dX3_tell_22 : decode cX3_tell 22 = .ok (.iaload, 1) := dk_46 (dk_at dksX3_tell_0 22 rfl rfl)
theorem dX3_tell_23 : decode cX3_tell 23 = .ok (.lookupswitch 67 #[(1, 25), (2, 40)], 25) := by decide +kernel
theorem dX3_tell_48 : decode cX3_tell 48 = .ok (.aload_n 0, 1) := dk_42 (dk_at dksX3_tell_2 0 rfl rfl)
theorem dX3_tell_49 : decode cX3_tell 49 = .ok (.iconst 2, 1) := dk_5 (dk_at dksX3_tell_2 1 rfl rfl)
theorem dX3_tell_50 : decode cX3_tell 50 = .ok (.invokevirtual 225, 3) := dk_182 0 225 (dk_at dksX3_tell_2 2 rfl rfl)
theorem dX3_tell_53 : decode cX3_tell 53 = .ok (.aload_n 0, 1) := dk_42 (dk_at dksX3_tell_2 5 rfl rfl)
theorem dX3_tell_54 : decode cX3_tell 54 = .ok (.iconst 1, 1) := dk_4 (dk_at dksX3_tell_2 6 rfl rfl)
theorem dX3_tell_55 : decode cX3_tell 55 = .ok (.invokevirtual 225, 3) := dk_182 0 225 (dk_at dksX3_tell_2 7 rfl rfl)
theorem dX3_tell_58 : decode cX3_tell 58 = .ok (.iload_n 2, 1) := dk_28 (dk_at dksX3_tell_2 10 rfl rfl)
theorem dX3_tell_59 : decode cX3_tell 59 = .ok (.bipush 100, 2) := dk_16 100 (dk_at dksX3_tell_2 11 rfl rfl)
theorem dX3_tell_61 : decode cX3_tell 61 = .ok (.iadd, 1) := dk_96 (dk_at dksX3_tell_2 13 rfl rfl)
theorem dX3_tell_62 : decode cX3_tell 62 = .ok (.ireturn, 1) := dk_172 (dk_at dksX3_tell_2 14 rfl rfl)
theorem dX3_tell_63 : decode cX3_tell 63 = .ok (.aload_n 0, 1) := dk_42 (dk_at dksX3_tell_2 15 rfl rfl)
theorem dX3_tell_64 : decode cX3_tell 64 = .ok (.iconst 3, 1) := dk_6 (dk_at dksX3_tell_2 16 rfl rfl)
theorem dX3_tell_65 : decode cX3_tell 65 = .ok (.invokevirtual 225, 3) := dk_182 0 225 (dk_at dksX3_tell_2 17 rfl rfl)
theorem dX3_tell_68 : decode cX3_tell 68 = .ok (.aload_n 0, 1) := dk_42 (dk_at dksX3_tell_2 20 rfl rfl)
theorem dX3_tell_69 : decode cX3_tell 69 = .ok (.iconst 2, 1) := dk_5 (dk_at dksX3_tell_2 21 rfl rfl)
theorem dX3_tell_70 : decode cX3_tell 70 = .ok (.invokevirtual 225, 3) := dk_182 0 225 (dk_at dksX3_tell_3 0 rfl rfl)
theorem dX3_tell_73 : decode cX3_tell 73 = .ok (.aload_n 0, 1) := dk_42 (dk_at dksX3_tell_3 3 rfl rfl)
theorem dX3_tell_74 : decode cX3_tell 74 = .ok (.iconst 1, 1) := dk_4 (dk_at dksX3_tell_3 4 rfl rfl)
theorem dX3_tell_75 : decode cX3_tell 75 = .ok (.invokevirtual 225, 3) := dk_182 0 225 (dk_at dksX3_tell_3 5 rfl rfl)
theorem dX3_tell_78 : decode cX3_tell 78 = .ok (.aload_n 0, 1) := dk_42 (dk_at dksX3_tell_3 8 rfl rfl)
theorem dX3_tell_79 : decode cX3_tell 79 = .ok (.iconst 1, 1) := dk_4 (dk_at dksX3_tell_3 9 rfl rfl)
theorem dX3_tell_80 : decode cX3_tell 80 = .ok (.invokevirtual 225, 3) := dk_182 0 225 (dk_at dksX3_tell_3 10 rfl rfl)
theorem dX3_tell_83 : decode cX3_tell 83 = .ok (.iconst 2, 1) := dk_5 (dk_at dksX3_tell_3 13 rfl rfl)
theorem dX3_tell_84 : decode cX3_tell 84 = .ok (.iload_n 2, 1) := dk_28 (dk_at dksX3_tell_3 14 rfl rfl)
theorem dX3_tell_85 : decode cX3_tell 85 = .ok (.imul, 1) := dk_104 (dk_at dksX3_tell_3 15 rfl rfl)
theorem dX3_tell_86 : decode cX3_tell 86 = .ok (.bipush 100, 2) := dk_16 100 (dk_at dksX3_tell_3 16 rfl rfl)
theorem dX3_tell_88 : decode cX3_tell 88 = .ok (.iadd, 1) := dk_96 (dk_at dksX3_tell_3 18 rfl rfl)
theorem dX3_tell_89 : decode cX3_tell 89 = .ok (.ireturn, 1) := dk_172 (dk_at dksX3_tell_3 19 rfl rfl)
theorem dX3_tell_90 : decode cX3_tell 90 = .ok (.aload_n 0, 1) := dk_42 (dk_at dksX3_tell_3 20 rfl rfl)
theorem dX3_tell_91 : decode cX3_tell 91 = .ok (.iconst 1, 1) := dk_4 (dk_at dksX3_tell_3 21 rfl rfl)
theorem dX3_tell_92 : decode cX3_tell 92 = .ok (.invokevirtual 225, 3) := dk_182 0 225 (dk_at dksX3_tell_4 0 rfl rfl)
theorem dX3_tell_95 : decode cX3_tell 95 = .ok (.iload_n 2, 1) := dk_28 (dk_at dksX3_tell_4 3 rfl rfl)
theorem dX3_tell_96 : decode cX3_tell 96 = .ok (.ireturn, 1) := dk_172 (dk_at dksX3_tell_4 4 rfl rfl)
abbrev cX3_begins : ByteArray := prog_25_method_59_code
def yX3_begins : MethodName := ⟨RX3, "begins", "(I)V"⟩
def dkwX3_begins_0 : List UInt8 := [42, 16, 31, 42, 180, 0, 222, 104, 27, 96, 181, 0, 222, 177]
abbrev dktX3_begins_0 : List UInt8 := dkwX3_begins_0 ++ []
theorem dksX3_begins_0 : cX3_begins.data.toList.drop 0 = dktX3_begins_0 := by decide +kernel
theorem dX3_begins_0 : decode cX3_begins 0 = .ok (.aload_n 0, 1) := dk_42 (dk_at dksX3_begins_0 0 rfl rfl)
theorem dX3_begins_1 : decode cX3_begins 1 = .ok (.bipush 31, 2) := dk_16 31 (dk_at dksX3_begins_0 1 rfl rfl)
theorem dX3_begins_3 : decode cX3_begins 3 = .ok (.aload_n 0, 1) := dk_42 (dk_at dksX3_begins_0 3 rfl rfl)
theorem dX3_begins_4 : decode cX3_begins 4 = .ok (.getfield 222, 3) := dk_180 0 222 (dk_at dksX3_begins_0 4 rfl rfl)
theorem dX3_begins_7 : decode cX3_begins 7 = .ok (.imul, 1) := dk_104 (dk_at dksX3_begins_0 7 rfl rfl)
theorem dX3_begins_8 : decode cX3_begins 8 = .ok (.iload_n 1, 1) := dk_27 (dk_at dksX3_begins_0 8 rfl rfl)
theorem dX3_begins_9 : decode cX3_begins 9 = .ok (.iadd, 1) := dk_96 (dk_at dksX3_begins_0 9 rfl rfl)
theorem dX3_begins_10 : decode cX3_begins 10 = .ok (.putfield 222, 3) := dk_181 0 222 (dk_at dksX3_begins_0 10 rfl rfl)
theorem dX3_begins_13 : decode cX3_begins 13 = .ok (.return_, 1) := dk_177 (dk_at dksX3_begins_0 13 rfl rfl)
abbrev cX3_read : ByteArray := prog_25_method_61_code
def yX3_read : MethodName := ⟨RX3, "read", "(I)I"⟩
def dkwX3_read_2 : List UInt8 := [16, 80, 96, 167, 0, 9, 42, 180, 0, 25, 27, 46, 172]
abbrev dktX3_read_2 : List UInt8 := dkwX3_read_2 ++ []
def dkwX3_read_1 : List UInt8 := [182, 0, 225, 42, 7, 182, 0, 225, 42, 180, 0, 19, 27, 46, 5, 160, 0, 15, 42, 180, 0, 25, 27, 46]
abbrev dktX3_read_1 : List UInt8 := dkwX3_read_1 ++ dktX3_read_2
def dkwX3_read_0 : List UInt8 := [42, 27, 182, 0, 171, 154, 0, 5, 2, 172, 42, 180, 0, 19, 27, 46, 5, 160, 0, 8, 42, 8]
abbrev dktX3_read_0 : List UInt8 := dkwX3_read_0 ++ dktX3_read_1
theorem dksX3_read_0 : cX3_read.data.toList.drop 0 = dktX3_read_0 := by decide +kernel
theorem dksX3_read_1 : cX3_read.data.toList.drop 22 = dktX3_read_1 := dk_seg dksX3_read_0 22 rfl rfl
theorem dksX3_read_2 : cX3_read.data.toList.drop 46 = dktX3_read_2 := dk_seg dksX3_read_1 24 rfl rfl
theorem dX3_read_0 : decode cX3_read 0 = .ok (.aload_n 0, 1) := dk_42 (dk_at dksX3_read_0 0 rfl rfl)
theorem dX3_read_1 : decode cX3_read 1 = .ok (.iload_n 1, 1) := dk_27 (dk_at dksX3_read_0 1 rfl rfl)
theorem dX3_read_2 : decode cX3_read 2 = .ok (.invokevirtual 171, 3) := dk_182 0 171 (dk_at dksX3_read_0 2 rfl rfl)
theorem dX3_read_5 : decode cX3_read 5 = .ok (.ifCond .ne 5, 3) := dk_154 0 5 (dk_at dksX3_read_0 5 rfl rfl)
theorem dX3_read_8 : decode cX3_read 8 = .ok (.iconst (-1), 1) := dk_2 (dk_at dksX3_read_0 8 rfl rfl)
theorem dX3_read_9 : decode cX3_read 9 = .ok (.ireturn, 1) := dk_172 (dk_at dksX3_read_0 9 rfl rfl)
theorem dX3_read_10 : decode cX3_read 10 = .ok (.aload_n 0, 1) := dk_42 (dk_at dksX3_read_0 10 rfl rfl)
theorem dX3_read_11 : decode cX3_read 11 = .ok (.getfield 19, 3) := dk_180 0 19 (dk_at dksX3_read_0 11 rfl rfl)
theorem dX3_read_14 : decode cX3_read 14 = .ok (.iload_n 1, 1) := dk_27 (dk_at dksX3_read_0 14 rfl rfl)
theorem dX3_read_15 : decode cX3_read 15 = .ok (.iaload, 1) := dk_46 (dk_at dksX3_read_0 15 rfl rfl)
theorem dX3_read_16 : decode cX3_read 16 = .ok (.iconst 2, 1) := dk_5 (dk_at dksX3_read_0 16 rfl rfl)
theorem dX3_read_17 : decode cX3_read 17 = .ok (.if_icmp .ne 8, 3) := dk_160 0 8 (dk_at dksX3_read_0 17 rfl rfl)
theorem dX3_read_20 : decode cX3_read 20 = .ok (.aload_n 0, 1) := dk_42 (dk_at dksX3_read_0 20 rfl rfl)
theorem dX3_read_21 : decode cX3_read 21 = .ok (.iconst 5, 1) := dk_8 (dk_at dksX3_read_0 21 rfl rfl)
theorem dX3_read_22 : decode cX3_read 22 = .ok (.invokevirtual 225, 3) := dk_182 0 225 (dk_at dksX3_read_1 0 rfl rfl)
theorem dX3_read_25 : decode cX3_read 25 = .ok (.aload_n 0, 1) := dk_42 (dk_at dksX3_read_1 3 rfl rfl)
theorem dX3_read_26 : decode cX3_read 26 = .ok (.iconst 4, 1) := dk_7 (dk_at dksX3_read_1 4 rfl rfl)
theorem dX3_read_27 : decode cX3_read 27 = .ok (.invokevirtual 225, 3) := dk_182 0 225 (dk_at dksX3_read_1 5 rfl rfl)
theorem dX3_read_30 : decode cX3_read 30 = .ok (.aload_n 0, 1) := dk_42 (dk_at dksX3_read_1 8 rfl rfl)
theorem dX3_read_31 : decode cX3_read 31 = .ok (.getfield 19, 3) := dk_180 0 19 (dk_at dksX3_read_1 9 rfl rfl)
theorem dX3_read_34 : decode cX3_read 34 = .ok (.iload_n 1, 1) := dk_27 (dk_at dksX3_read_1 12 rfl rfl)
theorem dX3_read_35 : decode cX3_read 35 = .ok (.iaload, 1) := dk_46 (dk_at dksX3_read_1 13 rfl rfl)
theorem dX3_read_36 : decode cX3_read 36 = .ok (.iconst 2, 1) := dk_5 (dk_at dksX3_read_1 14 rfl rfl)
theorem dX3_read_37 : decode cX3_read 37 = .ok (.if_icmp .ne 15, 3) := dk_160 0 15 (dk_at dksX3_read_1 15 rfl rfl)
theorem dX3_read_40 : decode cX3_read 40 = .ok (.aload_n 0, 1) := dk_42 (dk_at dksX3_read_1 18 rfl rfl)
theorem dX3_read_41 : decode cX3_read 41 = .ok (.getfield 25, 3) := dk_180 0 25 (dk_at dksX3_read_1 19 rfl rfl)
theorem dX3_read_44 : decode cX3_read 44 = .ok (.iload_n 1, 1) := dk_27 (dk_at dksX3_read_1 22 rfl rfl)
theorem dX3_read_45 : decode cX3_read 45 = .ok (.iaload, 1) := dk_46 (dk_at dksX3_read_1 23 rfl rfl)
theorem dX3_read_46 : decode cX3_read 46 = .ok (.bipush 80, 2) := dk_16 80 (dk_at dksX3_read_2 0 rfl rfl)
theorem dX3_read_48 : decode cX3_read 48 = .ok (.iadd, 1) := dk_96 (dk_at dksX3_read_2 2 rfl rfl)
theorem dX3_read_49 : decode cX3_read 49 = .ok (.goto 9, 3) := dk_167 0 9 (dk_at dksX3_read_2 3 rfl rfl)
theorem dX3_read_52 : decode cX3_read 52 = .ok (.aload_n 0, 1) := dk_42 (dk_at dksX3_read_2 6 rfl rfl)
theorem dX3_read_53 : decode cX3_read 53 = .ok (.getfield 25, 3) := dk_180 0 25 (dk_at dksX3_read_2 7 rfl rfl)
theorem dX3_read_56 : decode cX3_read 56 = .ok (.iload_n 1, 1) := dk_27 (dk_at dksX3_read_2 10 rfl rfl)
theorem dX3_read_57 : decode cX3_read 57 = .ok (.iaload, 1) := dk_46 (dk_at dksX3_read_2 11 rfl rfl)
theorem dX3_read_58 : decode cX3_read 58 = .ok (.ireturn, 1) := dk_172 (dk_at dksX3_read_2 12 rfl rfl)
abbrev cX3_as : ByteArray := prog_25_method_62_code
def yX3_as : MethodName := ⟨RX3, "as", "(II)I"⟩
def dkwX3_as_1 : List UInt8 := [16, 254, 172, 42, 180, 0, 19, 27, 46, 28, 161, 0, 7, 4, 167, 0, 8, 42, 5, 182, 0, 100, 172]
abbrev dktX3_as_1 : List UInt8 := dkwX3_as_1 ++ []
def dkwX3_as_0 : List UInt8 := [42, 3, 181, 0, 70, 42, 27, 182, 0, 171, 154, 0, 5, 2, 172, 28, 3, 5, 184, 0, 76, 154, 0, 6]
abbrev dktX3_as_0 : List UInt8 := dkwX3_as_0 ++ dktX3_as_1
theorem dksX3_as_0 : cX3_as.data.toList.drop 0 = dktX3_as_0 := by decide +kernel
theorem dksX3_as_1 : cX3_as.data.toList.drop 24 = dktX3_as_1 := dk_seg dksX3_as_0 24 rfl rfl
theorem dX3_as_0 : decode cX3_as 0 = .ok (.aload_n 0, 1) := dk_42 (dk_at dksX3_as_0 0 rfl rfl)
theorem dX3_as_1 : decode cX3_as 1 = .ok (.iconst 0, 1) := dk_3 (dk_at dksX3_as_0 1 rfl rfl)
theorem dX3_as_2 : decode cX3_as 2 = .ok (.putfield 70, 3) := dk_181 0 70 (dk_at dksX3_as_0 2 rfl rfl)
theorem dX3_as_5 : decode cX3_as 5 = .ok (.aload_n 0, 1) := dk_42 (dk_at dksX3_as_0 5 rfl rfl)
theorem dX3_as_6 : decode cX3_as 6 = .ok (.iload_n 1, 1) := dk_27 (dk_at dksX3_as_0 6 rfl rfl)
theorem dX3_as_7 : decode cX3_as 7 = .ok (.invokevirtual 171, 3) := dk_182 0 171 (dk_at dksX3_as_0 7 rfl rfl)
theorem dX3_as_10 : decode cX3_as 10 = .ok (.ifCond .ne 5, 3) := dk_154 0 5 (dk_at dksX3_as_0 10 rfl rfl)
theorem dX3_as_13 : decode cX3_as 13 = .ok (.iconst (-1), 1) := dk_2 (dk_at dksX3_as_0 13 rfl rfl)
theorem dX3_as_14 : decode cX3_as 14 = .ok (.ireturn, 1) := dk_172 (dk_at dksX3_as_0 14 rfl rfl)
theorem dX3_as_15 : decode cX3_as 15 = .ok (.iload_n 2, 1) := dk_28 (dk_at dksX3_as_0 15 rfl rfl)
theorem dX3_as_16 : decode cX3_as 16 = .ok (.iconst 0, 1) := dk_3 (dk_at dksX3_as_0 16 rfl rfl)
theorem dX3_as_17 : decode cX3_as 17 = .ok (.iconst 2, 1) := dk_5 (dk_at dksX3_as_0 17 rfl rfl)
theorem dX3_as_18 : decode cX3_as 18 = .ok (.invokestatic 76, 3) := dk_184 0 76 (dk_at dksX3_as_0 18 rfl rfl)
theorem dX3_as_21 : decode cX3_as 21 = .ok (.ifCond .ne 6, 3) := dk_154 0 6 (dk_at dksX3_as_0 21 rfl rfl)
theorem dX3_as_24 : decode cX3_as 24 = .ok (.bipush (-2), 2) := dk_16 254 (dk_at dksX3_as_1 0 rfl rfl)
theorem dX3_as_26 : decode cX3_as 26 = .ok (.ireturn, 1) := dk_172 (dk_at dksX3_as_1 2 rfl rfl)
theorem dX3_as_27 : decode cX3_as 27 = .ok (.aload_n 0, 1) := dk_42 (dk_at dksX3_as_1 3 rfl rfl)
theorem dX3_as_28 : decode cX3_as 28 = .ok (.getfield 19, 3) := dk_180 0 19 (dk_at dksX3_as_1 4 rfl rfl)
theorem dX3_as_31 : decode cX3_as 31 = .ok (.iload_n 1, 1) := dk_27 (dk_at dksX3_as_1 7 rfl rfl)
theorem dX3_as_32 : decode cX3_as 32 = .ok (.iaload, 1) := dk_46 (dk_at dksX3_as_1 8 rfl rfl)
theorem dX3_as_33 : decode cX3_as 33 = .ok (.iload_n 2, 1) := dk_28 (dk_at dksX3_as_1 9 rfl rfl)
theorem dX3_as_34 : decode cX3_as 34 = .ok (.if_icmp .lt 7, 3) := dk_161 0 7 (dk_at dksX3_as_1 10 rfl rfl)
theorem dX3_as_37 : decode cX3_as 37 = .ok (.iconst 1, 1) := dk_4 (dk_at dksX3_as_1 13 rfl rfl)
theorem dX3_as_38 : decode cX3_as 38 = .ok (.goto 8, 3) := dk_167 0 8 (dk_at dksX3_as_1 14 rfl rfl)
theorem dX3_as_41 : decode cX3_as 41 = .ok (.aload_n 0, 1) := dk_42 (dk_at dksX3_as_1 17 rfl rfl)
theorem dX3_as_42 : decode cX3_as 42 = .ok (.iconst 2, 1) := dk_5 (dk_at dksX3_as_1 18 rfl rfl)
theorem dX3_as_43 : decode cX3_as 43 = .ok (.invokevirtual 100, 3) := dk_182 0 100 (dk_at dksX3_as_1 19 rfl rfl)
theorem dX3_as_46 : decode cX3_as 46 = .ok (.ireturn, 1) := dk_172 (dk_at dksX3_as_1 22 rfl rfl)
abbrev cX3_trace : ByteArray := prog_25_method_63_code
def yX3_trace : MethodName := ⟨RX3, "trace", "()I"⟩
theorem dX3_trace_0 : decode cX3_trace 0 = .ok (.aload_n 0, 1) := by decide +kernel
theorem dX3_trace_1 : decode cX3_trace 1 = .ok (.getfield 222, 3) := by decide +kernel
theorem dX3_trace_4 : decode cX3_trace 4 = .ok (.ireturn, 1) := by decide +kernel
abbrev cX3_fault : ByteArray := prog_25_method_64_code
def yX3_fault : MethodName := ⟨RX3, "fault", "()I"⟩
theorem dX3_fault_0 : decode cX3_fault 0 = .ok (.aload_n 0, 1) := by decide +kernel
theorem dX3_fault_1 : decode cX3_fault 1 = .ok (.getfield 70, 3) := by decide +kernel
theorem dX3_fault_4 : decode cX3_fault 4 = .ok (.ireturn, 1) := by decide +kernel
abbrev cX3_many : ByteArray := prog_25_method_65_code
def yX3_many : MethodName := ⟨RX3, "many", "(I)I"⟩
def dkwX3_many_3 : List UInt8 := [172, 42, 180, 0, 122, 172, 16, 254, 172]
abbrev dktX3_many_3 : List UInt8 := dkwX3_many_3 ++ []
def dkwX3_many_2 : List UInt8 := [42, 180, 0, 80, 172, 42, 180, 0, 83, 172, 42, 180, 0, 113, 172, 42, 180, 0, 116, 172, 42, 180, 0, 119]
abbrev dktX3_many_2 : List UInt8 := dkwX3_many_2 ++ dktX3_many_3
def dkwX3_many_1 : List UInt8 := [170, 0, 0, 0, 0, 0, 69, 0, 0, 0, 0, 0, 0, 0, 5, 0, 0, 0, 39, 0, 0, 0, 44, 0, 0, 0, 49, 0, 0, 0, 54, 0, 0, 0, 59, 0, 0, 0, 64]
abbrev dktX3_many_1 : List UInt8 := dkwX3_many_1 ++ dktX3_many_2
def dkwX3_many_0 : List UInt8 := [27]
abbrev dktX3_many_0 : List UInt8 := dkwX3_many_0 ++ dktX3_many_1
theorem dksX3_many_0 : cX3_many.data.toList.drop 0 = dktX3_many_0 := by decide +kernel
theorem dksX3_many_1 : cX3_many.data.toList.drop 1 = dktX3_many_1 := dk_seg dksX3_many_0 1 rfl rfl
theorem dksX3_many_2 : cX3_many.data.toList.drop 40 = dktX3_many_2 := dk_seg dksX3_many_1 39 rfl rfl
theorem dksX3_many_3 : cX3_many.data.toList.drop 64 = dktX3_many_3 := dk_seg dksX3_many_2 24 rfl rfl
theorem dX3_many_0 : decode cX3_many 0 = .ok (.iload_n 1, 1) := dk_27 (dk_at dksX3_many_0 0 rfl rfl)
theorem dX3_many_1 : decode cX3_many 1 = .ok (.tableswitch 69 0 5 #[39, 44, 49, 54, 59, 64], 39) := by decide +kernel
theorem dX3_many_40 : decode cX3_many 40 = .ok (.aload_n 0, 1) := dk_42 (dk_at dksX3_many_2 0 rfl rfl)
theorem dX3_many_41 : decode cX3_many 41 = .ok (.getfield 80, 3) := dk_180 0 80 (dk_at dksX3_many_2 1 rfl rfl)
theorem dX3_many_44 : decode cX3_many 44 = .ok (.ireturn, 1) := dk_172 (dk_at dksX3_many_2 4 rfl rfl)
theorem dX3_many_45 : decode cX3_many 45 = .ok (.aload_n 0, 1) := dk_42 (dk_at dksX3_many_2 5 rfl rfl)
theorem dX3_many_46 : decode cX3_many 46 = .ok (.getfield 83, 3) := dk_180 0 83 (dk_at dksX3_many_2 6 rfl rfl)
theorem dX3_many_49 : decode cX3_many 49 = .ok (.ireturn, 1) := dk_172 (dk_at dksX3_many_2 9 rfl rfl)
theorem dX3_many_50 : decode cX3_many 50 = .ok (.aload_n 0, 1) := dk_42 (dk_at dksX3_many_2 10 rfl rfl)
theorem dX3_many_51 : decode cX3_many 51 = .ok (.getfield 113, 3) := dk_180 0 113 (dk_at dksX3_many_2 11 rfl rfl)
theorem dX3_many_54 : decode cX3_many 54 = .ok (.ireturn, 1) := dk_172 (dk_at dksX3_many_2 14 rfl rfl)
theorem dX3_many_55 : decode cX3_many 55 = .ok (.aload_n 0, 1) := dk_42 (dk_at dksX3_many_2 15 rfl rfl)
theorem dX3_many_56 : decode cX3_many 56 = .ok (.getfield 116, 3) := dk_180 0 116 (dk_at dksX3_many_2 16 rfl rfl)
theorem dX3_many_59 : decode cX3_many 59 = .ok (.ireturn, 1) := dk_172 (dk_at dksX3_many_2 19 rfl rfl)
theorem dX3_many_60 : decode cX3_many 60 = .ok (.aload_n 0, 1) := dk_42 (dk_at dksX3_many_2 20 rfl rfl)
theorem dX3_many_61 : decode cX3_many 61 = .ok (.getfield 119, 3) := dk_180 0 119 (dk_at dksX3_many_2 21 rfl rfl)
theorem dX3_many_64 : decode cX3_many 64 = .ok (.ireturn, 1) := dk_172 (dk_at dksX3_many_3 0 rfl rfl)
theorem dX3_many_65 : decode cX3_many 65 = .ok (.aload_n 0, 1) := dk_42 (dk_at dksX3_many_3 1 rfl rfl)
theorem dX3_many_66 : decode cX3_many 66 = .ok (.getfield 122, 3) := dk_180 0 122 (dk_at dksX3_many_3 2 rfl rfl)
theorem dX3_many_69 : decode cX3_many 69 = .ok (.ireturn, 1) := dk_172 (dk_at dksX3_many_3 5 rfl rfl)
theorem dX3_many_70 : decode cX3_many 70 = .ok (.bipush (-2), 2) := dk_16 254 (dk_at dksX3_many_3 6 rfl rfl)
theorem dX3_many_72 : decode cX3_many 72 = .ok (.ireturn, 1) := dk_172 (dk_at dksX3_many_3 8 rfl rfl)
theorem q77 : (Jvm.Cond.initialized "BookPairsModel") ∈ lw_all := lw_g (lw_at lw_m1 10 rfl) rfl
theorem q726 : (Jvm.Cond.selects "BookPairsModel" ({ cls := "java/lang/Object", name := "getClass", desc := "()Ljava/lang/Class;" } : Jvm.MethodName) ({ cls := "java/lang/Object", name := "getClass", desc := "()Ljava/lang/Class;" } : Jvm.MethodName)) ∈ lw_all := lw_g (lw_at lw_m3 179 rfl) rfl
theorem q1389 : (Jvm.Cond.instantiable "BookPairsModel" (32 : Nat)) ∈ lw_all := lw_g (lw_at lw_m6 122 rfl) rfl
theorem q1391 : (Jvm.Cond.instanceMethod ({ cls := "BookPairsModel", name := "<init>", desc := "()V" } : Jvm.MethodName)) ∈ lw_all := lw_g (lw_at lw_m6 124 rfl) rfl
theorem q1392 : (Jvm.Cond.code ({ cls := "BookPairsModel", name := "<init>", desc := "()V" } : Jvm.MethodName) prog_25_method_1_code (1 : Nat) (Option.none : Option Jvm.ClassFile.FieldType)) ∈ lw_all := lw_g (lw_at lw_m6 125 rfl) rfl
theorem q1393 : (Jvm.Cond.methodLink "BookPairsModel" (1 : Nat) ({ cls := "java/lang/Object", name := "<init>", desc := "()V" } : Jvm.MethodName)) ∈ lw_all := lw_g (lw_at lw_m6 126 rfl) rfl
theorem q1394 : (Jvm.Cond.fieldLink "BookPairsModel" (70 : Nat) "BookPairsModel" "fault" "I") ∈ lw_all := lw_g (lw_at lw_m6 127 rfl) rfl
theorem q1395 : (Jvm.Cond.fieldLink "BookPairsModel" (222 : Nat) "BookPairsModel" "trace" "I") ∈ lw_all := lw_g (lw_at lw_m6 128 rfl) rfl
theorem q1396 : (Jvm.Cond.fieldLink "BookPairsModel" (9 : Nat) "BookPairsModel" "sorts" "[I") ∈ lw_all := lw_g (lw_at lw_m6 129 rfl) rfl
theorem q1397 : (Jvm.Cond.fieldLink "BookPairsModel" (13 : Nat) "BookPairsModel" "sheetLong" "[I") ∈ lw_all := lw_g (lw_at lw_m6 130 rfl) rfl
theorem q1398 : (Jvm.Cond.fieldLink "BookPairsModel" (16 : Nat) "BookPairsModel" "cells" "[I") ∈ lw_all := lw_g (lw_at lw_m6 131 rfl) rfl
theorem q1399 : (Jvm.Cond.fieldLink "BookPairsModel" (80 : Nat) "BookPairsModel" "lefts" "I") ∈ lw_all := lw_g (lw_at lw_m6 132 rfl) rfl
theorem q1400 : (Jvm.Cond.fieldLink "BookPairsModel" (83 : Nat) "BookPairsModel" "rights" "I") ∈ lw_all := lw_g (lw_at lw_m6 133 rfl) rfl
theorem q1401 : (Jvm.Cond.fieldLink "BookPairsModel" (113 : Nat) "BookPairsModel" "skip" "I") ∈ lw_all := lw_g (lw_at lw_m6 134 rfl) rfl
theorem q1402 : (Jvm.Cond.fieldLink "BookPairsModel" (116 : Nat) "BookPairsModel" "join" "I") ∈ lw_all := lw_g (lw_at lw_m6 135 rfl) rfl
theorem q1403 : (Jvm.Cond.fieldLink "BookPairsModel" (119 : Nat) "BookPairsModel" "band" "I") ∈ lw_all := lw_g (lw_at lw_m6 136 rfl) rfl
theorem q1404 : (Jvm.Cond.fieldLink "BookPairsModel" (19 : Nat) "BookPairsModel" "kind" "[I") ∈ lw_all := lw_g (lw_at lw_m6 137 rfl) rfl
theorem q1405 : (Jvm.Cond.fieldLink "BookPairsModel" (22 : Nat) "BookPairsModel" "leftLetters" "[I") ∈ lw_all := lw_g (lw_at lw_m6 138 rfl) rfl
theorem q1406 : (Jvm.Cond.fieldLink "BookPairsModel" (25 : Nat) "BookPairsModel" "leftAnchor" "[I") ∈ lw_all := lw_g (lw_at lw_m6 139 rfl) rfl
theorem q1407 : (Jvm.Cond.fieldLink "BookPairsModel" (28 : Nat) "BookPairsModel" "rightLetters" "[I") ∈ lw_all := lw_g (lw_at lw_m6 140 rfl) rfl
theorem q1408 : (Jvm.Cond.fieldLink "BookPairsModel" (31 : Nat) "BookPairsModel" "rightAnchor" "[I") ∈ lw_all := lw_g (lw_at lw_m6 141 rfl) rfl
theorem q1409 : (Jvm.Cond.fieldLink "BookPairsModel" (86 : Nat) "BookPairsModel" "at" "I") ∈ lw_all := lw_g (lw_at lw_m6 142 rfl) rfl
theorem q1410 : (Jvm.Cond.fieldLink "BookPairsModel" (107 : Nat) "BookPairsModel" "readLefts" "I") ∈ lw_all := lw_g (lw_at lw_m6 143 rfl) rfl
theorem q1411 : (Jvm.Cond.fieldLink "BookPairsModel" (110 : Nat) "BookPairsModel" "readRights" "I") ∈ lw_all := lw_g (lw_at lw_m6 144 rfl) rfl
theorem q1412 : (Jvm.Cond.fieldLink "BookPairsModel" (34 : Nat) "BookPairsModel" "readKind" "[I") ∈ lw_all := lw_g (lw_at lw_m6 145 rfl) rfl
theorem q1413 : (Jvm.Cond.fieldLink "BookPairsModel" (37 : Nat) "BookPairsModel" "readLetters" "[I") ∈ lw_all := lw_g (lw_at lw_m6 146 rfl) rfl
theorem q1414 : (Jvm.Cond.fieldLink "BookPairsModel" (40 : Nat) "BookPairsModel" "readAnchor" "[I") ∈ lw_all := lw_g (lw_at lw_m6 147 rfl) rfl
theorem q1415 : (Jvm.Cond.fieldLink "BookPairsModel" (43 : Nat) "BookPairsModel" "least" "[I") ∈ lw_all := lw_g (lw_at lw_m6 148 rfl) rfl
theorem q1416 : (Jvm.Cond.fieldLink "BookPairsModel" (46 : Nat) "BookPairsModel" "next" "[I") ∈ lw_all := lw_g (lw_at lw_m6 149 rfl) rfl
theorem q1417 : (Jvm.Cond.fieldLink "BookPairsModel" (49 : Nat) "BookPairsModel" "alike" "[I") ∈ lw_all := lw_g (lw_at lw_m6 150 rfl) rfl
theorem q1418 : (Jvm.Cond.fieldLink "BookPairsModel" (165 : Nat) "BookPairsModel" "pairs" "I") ∈ lw_all := lw_g (lw_at lw_m6 151 rfl) rfl
theorem q1419 : (Jvm.Cond.fieldLink "BookPairsModel" (52 : Nat) "BookPairsModel" "pairSort" "[I") ∈ lw_all := lw_g (lw_at lw_m6 152 rfl) rfl
theorem q1420 : (Jvm.Cond.fieldLink "BookPairsModel" (55 : Nat) "BookPairsModel" "pairLeft" "[I") ∈ lw_all := lw_g (lw_at lw_m6 153 rfl) rfl
theorem q1421 : (Jvm.Cond.fieldLink "BookPairsModel" (58 : Nat) "BookPairsModel" "pairRight" "[I") ∈ lw_all := lw_g (lw_at lw_m6 154 rfl) rfl
theorem q1422 : (Jvm.Cond.fieldLink "BookPairsModel" (61 : Nat) "BookPairsModel" "kept" "[I") ∈ lw_all := lw_g (lw_at lw_m6 155 rfl) rfl
theorem q1423 : (Jvm.Cond.fieldLink "BookPairsModel" (122 : Nat) "BookPairsModel" "readings" "I") ∈ lw_all := lw_g (lw_at lw_m6 156 rfl) rfl
theorem q1424 : (Jvm.Cond.fieldLink "BookPairsModel" (64 : Nat) "BookPairsModel" "readBand" "[I") ∈ lw_all := lw_g (lw_at lw_m6 157 rfl) rfl
theorem q1425 : (Jvm.Cond.fieldLink "BookPairsModel" (67 : Nat) "BookPairsModel" "readCost" "[I") ∈ lw_all := lw_g (lw_at lw_m6 158 rfl) rfl
theorem q1426 : (Jvm.Cond.lays "BookPairsModel" "BookPairsModel" "fault" "I") ∈ lw_all := lw_g (lw_at lw_m6 159 rfl) rfl
theorem q1427 : (Jvm.Cond.soleField "BookPairsModel" "fault") ∈ lw_all := lw_g (lw_at lw_m6 160 rfl) rfl
theorem q1428 : (Jvm.Cond.lays "BookPairsModel" "BookPairsModel" "trace" "I") ∈ lw_all := lw_g (lw_at lw_m6 161 rfl) rfl
theorem q1429 : (Jvm.Cond.soleField "BookPairsModel" "trace") ∈ lw_all := lw_g (lw_at lw_m6 162 rfl) rfl
theorem q1430 : (Jvm.Cond.laysFinal "BookPairsModel" "BookPairsModel" "sorts" "[I") ∈ lw_all := lw_g (lw_at lw_m6 163 rfl) rfl
theorem q1431 : (Jvm.Cond.soleField "BookPairsModel" "sorts") ∈ lw_all := lw_g (lw_at lw_m6 164 rfl) rfl
theorem q1432 : (Jvm.Cond.laysFinal "BookPairsModel" "BookPairsModel" "sheetLong" "[I") ∈ lw_all := lw_g (lw_at lw_m6 165 rfl) rfl
theorem q1433 : (Jvm.Cond.soleField "BookPairsModel" "sheetLong") ∈ lw_all := lw_g (lw_at lw_m6 166 rfl) rfl
theorem q1434 : (Jvm.Cond.laysFinal "BookPairsModel" "BookPairsModel" "cells" "[I") ∈ lw_all := lw_g (lw_at lw_m6 167 rfl) rfl
theorem q1435 : (Jvm.Cond.soleField "BookPairsModel" "cells") ∈ lw_all := lw_g (lw_at lw_m6 168 rfl) rfl
theorem q1436 : (Jvm.Cond.lays "BookPairsModel" "BookPairsModel" "lefts" "I") ∈ lw_all := lw_g (lw_at lw_m6 169 rfl) rfl
theorem q1437 : (Jvm.Cond.soleField "BookPairsModel" "lefts") ∈ lw_all := lw_g (lw_at lw_m6 170 rfl) rfl
theorem q1438 : (Jvm.Cond.lays "BookPairsModel" "BookPairsModel" "rights" "I") ∈ lw_all := lw_g (lw_at lw_m6 171 rfl) rfl
theorem q1439 : (Jvm.Cond.soleField "BookPairsModel" "rights") ∈ lw_all := lw_g (lw_at lw_m6 172 rfl) rfl
theorem q1440 : (Jvm.Cond.lays "BookPairsModel" "BookPairsModel" "skip" "I") ∈ lw_all := lw_g (lw_at lw_m6 173 rfl) rfl
theorem q1441 : (Jvm.Cond.soleField "BookPairsModel" "skip") ∈ lw_all := lw_g (lw_at lw_m6 174 rfl) rfl
theorem q1442 : (Jvm.Cond.lays "BookPairsModel" "BookPairsModel" "join" "I") ∈ lw_all := lw_g (lw_at lw_m6 175 rfl) rfl
theorem q1443 : (Jvm.Cond.soleField "BookPairsModel" "join") ∈ lw_all := lw_g (lw_at lw_m6 176 rfl) rfl
theorem q1444 : (Jvm.Cond.lays "BookPairsModel" "BookPairsModel" "band" "I") ∈ lw_all := lw_g (lw_at lw_m6 177 rfl) rfl
theorem q1445 : (Jvm.Cond.soleField "BookPairsModel" "band") ∈ lw_all := lw_g (lw_at lw_m6 178 rfl) rfl
theorem q1446 : (Jvm.Cond.laysFinal "BookPairsModel" "BookPairsModel" "kind" "[I") ∈ lw_all := lw_g (lw_at lw_m6 179 rfl) rfl
theorem q1447 : (Jvm.Cond.soleField "BookPairsModel" "kind") ∈ lw_all := lw_g (lw_at lw_m6 180 rfl) rfl
theorem q1448 : (Jvm.Cond.laysFinal "BookPairsModel" "BookPairsModel" "leftLetters" "[I") ∈ lw_all := lw_g (lw_at lw_m6 181 rfl) rfl
theorem q1449 : (Jvm.Cond.soleField "BookPairsModel" "leftLetters") ∈ lw_all := lw_g (lw_at lw_m6 182 rfl) rfl
theorem q1450 : (Jvm.Cond.laysFinal "BookPairsModel" "BookPairsModel" "leftAnchor" "[I") ∈ lw_all := lw_g (lw_at lw_m6 183 rfl) rfl
theorem q1451 : (Jvm.Cond.soleField "BookPairsModel" "leftAnchor") ∈ lw_all := lw_g (lw_at lw_m6 184 rfl) rfl
theorem q1452 : (Jvm.Cond.laysFinal "BookPairsModel" "BookPairsModel" "rightLetters" "[I") ∈ lw_all := lw_g (lw_at lw_m6 185 rfl) rfl
theorem q1453 : (Jvm.Cond.soleField "BookPairsModel" "rightLetters") ∈ lw_all := lw_g (lw_at lw_m6 186 rfl) rfl
theorem q1454 : (Jvm.Cond.laysFinal "BookPairsModel" "BookPairsModel" "rightAnchor" "[I") ∈ lw_all := lw_g (lw_at lw_m6 187 rfl) rfl
theorem q1455 : (Jvm.Cond.soleField "BookPairsModel" "rightAnchor") ∈ lw_all := lw_g (lw_at lw_m6 188 rfl) rfl
theorem q1456 : (Jvm.Cond.lays "BookPairsModel" "BookPairsModel" "at" "I") ∈ lw_all := lw_g (lw_at lw_m6 189 rfl) rfl
theorem q1457 : (Jvm.Cond.soleField "BookPairsModel" "at") ∈ lw_all := lw_g (lw_at lw_m6 190 rfl) rfl
theorem q1458 : (Jvm.Cond.lays "BookPairsModel" "BookPairsModel" "readLefts" "I") ∈ lw_all := lw_g (lw_at lw_m6 191 rfl) rfl
theorem q1459 : (Jvm.Cond.soleField "BookPairsModel" "readLefts") ∈ lw_all := lw_g (lw_at lw_m6 192 rfl) rfl
theorem q1460 : (Jvm.Cond.lays "BookPairsModel" "BookPairsModel" "readRights" "I") ∈ lw_all := lw_g (lw_at lw_m6 193 rfl) rfl
theorem q1461 : (Jvm.Cond.soleField "BookPairsModel" "readRights") ∈ lw_all := lw_g (lw_at lw_m6 194 rfl) rfl
theorem q1462 : (Jvm.Cond.laysFinal "BookPairsModel" "BookPairsModel" "readKind" "[I") ∈ lw_all := lw_g (lw_at lw_m6 195 rfl) rfl
theorem q1463 : (Jvm.Cond.soleField "BookPairsModel" "readKind") ∈ lw_all := lw_g (lw_at lw_m6 196 rfl) rfl
theorem q1464 : (Jvm.Cond.laysFinal "BookPairsModel" "BookPairsModel" "readLetters" "[I") ∈ lw_all := lw_g (lw_at lw_m6 197 rfl) rfl
theorem q1465 : (Jvm.Cond.soleField "BookPairsModel" "readLetters") ∈ lw_all := lw_g (lw_at lw_m6 198 rfl) rfl
theorem q1466 : (Jvm.Cond.laysFinal "BookPairsModel" "BookPairsModel" "readAnchor" "[I") ∈ lw_all := lw_g (lw_at lw_m6 199 rfl) rfl
theorem q1467 : (Jvm.Cond.soleField "BookPairsModel" "readAnchor") ∈ lw_all := lw_g (lw_at lw_m6 200 rfl) rfl
theorem q1468 : (Jvm.Cond.laysFinal "BookPairsModel" "BookPairsModel" "least" "[I") ∈ lw_all := lw_g (lw_at lw_m6 201 rfl) rfl
theorem q1469 : (Jvm.Cond.soleField "BookPairsModel" "least") ∈ lw_all := lw_g (lw_at lw_m6 202 rfl) rfl
theorem q1470 : (Jvm.Cond.laysFinal "BookPairsModel" "BookPairsModel" "next" "[I") ∈ lw_all := lw_g (lw_at lw_m6 203 rfl) rfl
theorem q1471 : (Jvm.Cond.soleField "BookPairsModel" "next") ∈ lw_all := lw_g (lw_at lw_m6 204 rfl) rfl
theorem q1472 : (Jvm.Cond.laysFinal "BookPairsModel" "BookPairsModel" "alike" "[I") ∈ lw_all := lw_g (lw_at lw_m6 205 rfl) rfl
theorem q1473 : (Jvm.Cond.soleField "BookPairsModel" "alike") ∈ lw_all := lw_g (lw_at lw_m6 206 rfl) rfl
theorem q1474 : (Jvm.Cond.lays "BookPairsModel" "BookPairsModel" "pairs" "I") ∈ lw_all := lw_g (lw_at lw_m6 207 rfl) rfl
theorem q1475 : (Jvm.Cond.soleField "BookPairsModel" "pairs") ∈ lw_all := lw_g (lw_at lw_m6 208 rfl) rfl
theorem q1476 : (Jvm.Cond.laysFinal "BookPairsModel" "BookPairsModel" "pairSort" "[I") ∈ lw_all := lw_g (lw_at lw_m6 209 rfl) rfl
theorem q1477 : (Jvm.Cond.soleField "BookPairsModel" "pairSort") ∈ lw_all := lw_g (lw_at lw_m6 210 rfl) rfl
theorem q1478 : (Jvm.Cond.laysFinal "BookPairsModel" "BookPairsModel" "pairLeft" "[I") ∈ lw_all := lw_g (lw_at lw_m6 211 rfl) rfl
theorem q1479 : (Jvm.Cond.soleField "BookPairsModel" "pairLeft") ∈ lw_all := lw_g (lw_at lw_m6 212 rfl) rfl
theorem q1480 : (Jvm.Cond.laysFinal "BookPairsModel" "BookPairsModel" "pairRight" "[I") ∈ lw_all := lw_g (lw_at lw_m6 213 rfl) rfl
theorem q1481 : (Jvm.Cond.soleField "BookPairsModel" "pairRight") ∈ lw_all := lw_g (lw_at lw_m6 214 rfl) rfl
theorem q1482 : (Jvm.Cond.laysFinal "BookPairsModel" "BookPairsModel" "kept" "[I") ∈ lw_all := lw_g (lw_at lw_m6 215 rfl) rfl
theorem q1483 : (Jvm.Cond.soleField "BookPairsModel" "kept") ∈ lw_all := lw_g (lw_at lw_m6 216 rfl) rfl
theorem q1484 : (Jvm.Cond.lays "BookPairsModel" "BookPairsModel" "readings" "I") ∈ lw_all := lw_g (lw_at lw_m6 217 rfl) rfl
theorem q1485 : (Jvm.Cond.soleField "BookPairsModel" "readings") ∈ lw_all := lw_g (lw_at lw_m6 218 rfl) rfl
theorem q1486 : (Jvm.Cond.laysFinal "BookPairsModel" "BookPairsModel" "readBand" "[I") ∈ lw_all := lw_g (lw_at lw_m6 219 rfl) rfl
theorem q1487 : (Jvm.Cond.soleField "BookPairsModel" "readBand") ∈ lw_all := lw_g (lw_at lw_m6 220 rfl) rfl
theorem q1488 : (Jvm.Cond.laysFinal "BookPairsModel" "BookPairsModel" "readCost" "[I") ∈ lw_all := lw_g (lw_at lw_m6 221 rfl) rfl
theorem q1489 : (Jvm.Cond.soleField "BookPairsModel" "readCost") ∈ lw_all := lw_g (lw_at lw_m6 222 rfl) rfl
theorem q1490 : (Jvm.Cond.superclass "BookPairsModel" "java/lang/Object") ∈ lw_all := lw_g (lw_at lw_m6 223 rfl) rfl
theorem q1492 : (Jvm.Cond.instanceMethod ({ cls := "BookPairsModel", name := "books", desc := "(IIII)I" } : Jvm.MethodName)) ∈ lw_all := lw_g (lw_at lw_m6 225 rfl) rfl
theorem q1493 : (Jvm.Cond.selects "BookPairsModel" ({ cls := "BookPairsModel", name := "books", desc := "(IIII)I" } : Jvm.MethodName) ({ cls := "BookPairsModel", name := "books", desc := "(IIII)I" } : Jvm.MethodName)) ∈ lw_all := lw_g (lw_at lw_m6 226 rfl) rfl
theorem q1494 : (Jvm.Cond.code ({ cls := "BookPairsModel", name := "books", desc := "(IIII)I" } : Jvm.MethodName) prog_25_method_12_code (8 : Nat) (Option.some Jvm.ClassFile.FieldType.int)) ∈ lw_all := lw_g (lw_at lw_m6 227 rfl) rfl
theorem q1495 : (Jvm.Cond.methodLink "BookPairsModel" (89 : Nat) ({ cls := "BookPairsModel", name := "isSheet", desc := "(I)Z" } : Jvm.MethodName)) ∈ lw_all := lw_g (lw_at lw_m6 228 rfl) rfl
theorem q1496 : (Jvm.Cond.static ({ cls := "BookPairsModel", name := "isSheet", desc := "(I)Z" } : Jvm.MethodName)) ∈ lw_all := lw_g (lw_at lw_m6 229 rfl) rfl
theorem q1497 : (Jvm.Cond.code ({ cls := "BookPairsModel", name := "isSheet", desc := "(I)Z" } : Jvm.MethodName) prog_25_method_6_code (1 : Nat) (Option.some Jvm.ClassFile.FieldType.boolean)) ∈ lw_all := lw_g (lw_at lw_m6 230 rfl) rfl
theorem q1498 : (Jvm.Cond.methodLink "BookPairsModel" (76 : Nat) ({ cls := "BookPairsModel", name := "within", desc := "(III)Z" } : Jvm.MethodName)) ∈ lw_all := lw_g (lw_at lw_m6 231 rfl) rfl
theorem q1499 : (Jvm.Cond.static ({ cls := "BookPairsModel", name := "within", desc := "(III)Z" } : Jvm.MethodName)) ∈ lw_all := lw_g (lw_at lw_m6 232 rfl) rfl
theorem q1500 : (Jvm.Cond.code ({ cls := "BookPairsModel", name := "within", desc := "(III)Z" } : Jvm.MethodName) prog_25_method_5_code (3 : Nat) (Option.some Jvm.ClassFile.FieldType.boolean)) ∈ lw_all := lw_g (lw_at lw_m6 233 rfl) rfl
theorem q1501 : (Jvm.Cond.methodLink "BookPairsModel" (93 : Nat) ({ cls := "BookPairsModel", name := "isSort", desc := "(I)Z" } : Jvm.MethodName)) ∈ lw_all := lw_g (lw_at lw_m6 234 rfl) rfl
theorem q1502 : (Jvm.Cond.static ({ cls := "BookPairsModel", name := "isSort", desc := "(I)Z" } : Jvm.MethodName)) ∈ lw_all := lw_g (lw_at lw_m6 235 rfl) rfl
theorem q1503 : (Jvm.Cond.code ({ cls := "BookPairsModel", name := "isSort", desc := "(I)Z" } : Jvm.MethodName) prog_25_method_7_code (1 : Nat) (Option.some Jvm.ClassFile.FieldType.boolean)) ∈ lw_all := lw_g (lw_at lw_m6 236 rfl) rfl
theorem q1504 : (Jvm.Cond.methodLink "BookPairsModel" (96 : Nat) ({ cls := "BookPairsModel", name := "against", desc := "(IIII)I" } : Jvm.MethodName)) ∈ lw_all := lw_g (lw_at lw_m6 237 rfl) rfl
theorem q1505 : (Jvm.Cond.privateMethod ({ cls := "BookPairsModel", name := "against", desc := "(IIII)I" } : Jvm.MethodName)) ∈ lw_tbl := lw_at lw_m6 238 rfl
theorem q1506 : (Jvm.Cond.instanceMethod ({ cls := "BookPairsModel", name := "against", desc := "(IIII)I" } : Jvm.MethodName)) ∈ lw_all := lw_g (lw_at lw_m6 239 rfl) rfl
theorem q1507 : (Jvm.Cond.code ({ cls := "BookPairsModel", name := "against", desc := "(IIII)I" } : Jvm.MethodName) prog_25_method_8_code (5 : Nat) (Option.some Jvm.ClassFile.FieldType.int)) ∈ lw_all := lw_g (lw_at lw_m7 0 rfl) rfl
theorem q1508 : (Jvm.Cond.methodLink "BookPairsModel" (100 : Nat) ({ cls := "BookPairsModel", name := "fails", desc := "(I)I" } : Jvm.MethodName)) ∈ lw_all := lw_g (lw_at lw_m7 1 rfl) rfl
theorem q1509 : (Jvm.Cond.privateMethod ({ cls := "BookPairsModel", name := "fails", desc := "(I)I" } : Jvm.MethodName)) ∈ lw_tbl := lw_at lw_m7 2 rfl
theorem q1510 : (Jvm.Cond.instanceMethod ({ cls := "BookPairsModel", name := "fails", desc := "(I)I" } : Jvm.MethodName)) ∈ lw_all := lw_g (lw_at lw_m7 3 rfl) rfl
theorem q1511 : (Jvm.Cond.code ({ cls := "BookPairsModel", name := "fails", desc := "(I)I" } : Jvm.MethodName) prog_25_method_3_code (2 : Nat) (Option.some Jvm.ClassFile.FieldType.int)) ∈ lw_all := lw_g (lw_at lw_m7 4 rfl) rfl
theorem q1512 : (Jvm.Cond.methodLink "BookPairsModel" (104 : Nat) ({ cls := "BookPairsModel", name := "readAll", desc := "(I)Z" } : Jvm.MethodName)) ∈ lw_all := lw_g (lw_at lw_m7 5 rfl) rfl
theorem q1513 : (Jvm.Cond.privateMethod ({ cls := "BookPairsModel", name := "readAll", desc := "(I)Z" } : Jvm.MethodName)) ∈ lw_tbl := lw_at lw_m7 6 rfl
theorem q1514 : (Jvm.Cond.instanceMethod ({ cls := "BookPairsModel", name := "readAll", desc := "(I)Z" } : Jvm.MethodName)) ∈ lw_all := lw_g (lw_at lw_m7 7 rfl) rfl
theorem q1515 : (Jvm.Cond.code ({ cls := "BookPairsModel", name := "readAll", desc := "(I)Z" } : Jvm.MethodName) prog_25_method_13_code (2 : Nat) (Option.some Jvm.ClassFile.FieldType.boolean)) ∈ lw_all := lw_g (lw_at lw_m7 8 rfl) rfl
theorem q1516 : (Jvm.Cond.methodLink "BookPairsModel" (125 : Nat) ({ cls := "BookPairsModel", name := "isSign", desc := "(II)Z" } : Jvm.MethodName)) ∈ lw_all := lw_g (lw_at lw_m7 9 rfl) rfl
theorem q1517 : (Jvm.Cond.privateMethod ({ cls := "BookPairsModel", name := "isSign", desc := "(II)Z" } : Jvm.MethodName)) ∈ lw_tbl := lw_at lw_m7 10 rfl
theorem q1518 : (Jvm.Cond.instanceMethod ({ cls := "BookPairsModel", name := "isSign", desc := "(II)Z" } : Jvm.MethodName)) ∈ lw_all := lw_g (lw_at lw_m7 11 rfl) rfl
theorem q1519 : (Jvm.Cond.code ({ cls := "BookPairsModel", name := "isSign", desc := "(II)Z" } : Jvm.MethodName) prog_25_method_11_code (3 : Nat) (Option.some Jvm.ClassFile.FieldType.boolean)) ∈ lw_all := lw_g (lw_at lw_m7 12 rfl) rfl
theorem q1520 : (Jvm.Cond.methodLink "BookPairsModel" (129 : Nat) ({ cls := "BookPairsModel", name := "readKindNext", desc := "(I)Z" } : Jvm.MethodName)) ∈ lw_all := lw_g (lw_at lw_m7 13 rfl) rfl
theorem q1521 : (Jvm.Cond.privateMethod ({ cls := "BookPairsModel", name := "readKindNext", desc := "(I)Z" } : Jvm.MethodName)) ∈ lw_tbl := lw_at lw_m7 14 rfl
theorem q1522 : (Jvm.Cond.instanceMethod ({ cls := "BookPairsModel", name := "readKindNext", desc := "(I)Z" } : Jvm.MethodName)) ∈ lw_all := lw_g (lw_at lw_m7 15 rfl) rfl
theorem q1523 : (Jvm.Cond.code ({ cls := "BookPairsModel", name := "readKindNext", desc := "(I)Z" } : Jvm.MethodName) prog_25_method_14_code (3 : Nat) (Option.some Jvm.ClassFile.FieldType.boolean)) ∈ lw_all := lw_g (lw_at lw_m7 16 rfl) rfl
theorem q1524 : (Jvm.Cond.methodLink "BookPairsModel" (132 : Nat) ({ cls := "BookPairsModel", name := "readSentence", desc := "(II)Z" } : Jvm.MethodName)) ∈ lw_all := lw_g (lw_at lw_m7 17 rfl) rfl
theorem q1525 : (Jvm.Cond.privateMethod ({ cls := "BookPairsModel", name := "readSentence", desc := "(II)Z" } : Jvm.MethodName)) ∈ lw_tbl := lw_at lw_m7 18 rfl
theorem q1526 : (Jvm.Cond.instanceMethod ({ cls := "BookPairsModel", name := "readSentence", desc := "(II)Z" } : Jvm.MethodName)) ∈ lw_all := lw_g (lw_at lw_m7 19 rfl) rfl
theorem q1527 : (Jvm.Cond.code ({ cls := "BookPairsModel", name := "readSentence", desc := "(II)Z" } : Jvm.MethodName) prog_25_method_15_code (3 : Nat) (Option.some Jvm.ClassFile.FieldType.boolean)) ∈ lw_all := lw_g (lw_at lw_m7 20 rfl) rfl
theorem q1529 : (Jvm.Cond.instanceMethod ({ cls := "BookPairsModel", name := "ofLeft", desc := "(II)I" } : Jvm.MethodName)) ∈ lw_all := lw_g (lw_at lw_m7 22 rfl) rfl
theorem q1530 : (Jvm.Cond.selects "BookPairsModel" ({ cls := "BookPairsModel", name := "ofLeft", desc := "(II)I" } : Jvm.MethodName) ({ cls := "BookPairsModel", name := "ofLeft", desc := "(II)I" } : Jvm.MethodName)) ∈ lw_all := lw_g (lw_at lw_m7 23 rfl) rfl
theorem q1531 : (Jvm.Cond.code ({ cls := "BookPairsModel", name := "ofLeft", desc := "(II)I" } : Jvm.MethodName) prog_25_method_28_code (3 : Nat) (Option.some Jvm.ClassFile.FieldType.int)) ∈ lw_all := lw_g (lw_at lw_m7 24 rfl) rfl
theorem q1532 : (Jvm.Cond.methodLink "BookPairsModel" (171 : Nat) ({ cls := "BookPairsModel", name := "isLeft", desc := "(I)Z" } : Jvm.MethodName)) ∈ lw_all := lw_g (lw_at lw_m7 25 rfl) rfl
theorem q1533 : (Jvm.Cond.privateMethod ({ cls := "BookPairsModel", name := "isLeft", desc := "(I)Z" } : Jvm.MethodName)) ∈ lw_tbl := lw_at lw_m7 26 rfl
theorem q1534 : (Jvm.Cond.instanceMethod ({ cls := "BookPairsModel", name := "isLeft", desc := "(I)Z" } : Jvm.MethodName)) ∈ lw_all := lw_g (lw_at lw_m7 27 rfl) rfl
theorem q1535 : (Jvm.Cond.code ({ cls := "BookPairsModel", name := "isLeft", desc := "(I)Z" } : Jvm.MethodName) prog_25_method_9_code (2 : Nat) (Option.some Jvm.ClassFile.FieldType.boolean)) ∈ lw_all := lw_g (lw_at lw_m7 28 rfl) rfl
theorem q1536 : (Jvm.Cond.methodLink "BookPairsModel" (135 : Nat) ({ cls := "BookPairsModel", name := "lengthOf", desc := "(I)I" } : Jvm.MethodName)) ∈ lw_all := lw_g (lw_at lw_m7 29 rfl) rfl
theorem q1537 : (Jvm.Cond.privateMethod ({ cls := "BookPairsModel", name := "lengthOf", desc := "(I)I" } : Jvm.MethodName)) ∈ lw_tbl := lw_at lw_m7 30 rfl
theorem q1538 : (Jvm.Cond.instanceMethod ({ cls := "BookPairsModel", name := "lengthOf", desc := "(I)I" } : Jvm.MethodName)) ∈ lw_all := lw_g (lw_at lw_m7 31 rfl) rfl
theorem q1539 : (Jvm.Cond.code ({ cls := "BookPairsModel", name := "lengthOf", desc := "(I)I" } : Jvm.MethodName) prog_25_method_16_code (2 : Nat) (Option.some Jvm.ClassFile.FieldType.int)) ∈ lw_all := lw_g (lw_at lw_m7 32 rfl) rfl
theorem q1540 : (Jvm.Cond.methodLink "BookPairsModel" (174 : Nat) ({ cls := "BookPairsModel", name := "findBest", desc := "()I" } : Jvm.MethodName)) ∈ lw_all := lw_g (lw_at lw_m7 33 rfl) rfl
theorem q1541 : (Jvm.Cond.privateMethod ({ cls := "BookPairsModel", name := "findBest", desc := "()I" } : Jvm.MethodName)) ∈ lw_tbl := lw_at lw_m7 34 rfl
theorem q1542 : (Jvm.Cond.instanceMethod ({ cls := "BookPairsModel", name := "findBest", desc := "()I" } : Jvm.MethodName)) ∈ lw_all := lw_g (lw_at lw_m7 35 rfl) rfl
theorem q1543 : (Jvm.Cond.code ({ cls := "BookPairsModel", name := "findBest", desc := "()I" } : Jvm.MethodName) prog_25_method_25_code (5 : Nat) (Option.some Jvm.ClassFile.FieldType.int)) ∈ lw_all := lw_g (lw_at lw_m7 36 rfl) rfl
theorem q1544 : (Jvm.Cond.methodLink "BookPairsModel" (162 : Nat) ({ cls := "BookPairsModel", name := "findAll", desc := "(I)I" } : Jvm.MethodName)) ∈ lw_all := lw_g (lw_at lw_m7 37 rfl) rfl
theorem q1545 : (Jvm.Cond.privateMethod ({ cls := "BookPairsModel", name := "findAll", desc := "(I)I" } : Jvm.MethodName)) ∈ lw_tbl := lw_at lw_m7 38 rfl
theorem q1546 : (Jvm.Cond.instanceMethod ({ cls := "BookPairsModel", name := "findAll", desc := "(I)I" } : Jvm.MethodName)) ∈ lw_all := lw_g (lw_at lw_m7 39 rfl) rfl
theorem q1547 : (Jvm.Cond.code ({ cls := "BookPairsModel", name := "findAll", desc := "(I)I" } : Jvm.MethodName) prog_25_method_24_code (4 : Nat) (Option.some Jvm.ClassFile.FieldType.int)) ∈ lw_all := lw_g (lw_at lw_m7 40 rfl) rfl
theorem q1548 : (Jvm.Cond.methodLink "BookPairsModel" (159 : Nat) ({ cls := "BookPairsModel", name := "findStand", desc := "(III)V" } : Jvm.MethodName)) ∈ lw_all := lw_g (lw_at lw_m7 41 rfl) rfl
theorem q1549 : (Jvm.Cond.privateMethod ({ cls := "BookPairsModel", name := "findStand", desc := "(III)V" } : Jvm.MethodName)) ∈ lw_tbl := lw_at lw_m7 42 rfl
theorem q1550 : (Jvm.Cond.instanceMethod ({ cls := "BookPairsModel", name := "findStand", desc := "(III)V" } : Jvm.MethodName)) ∈ lw_all := lw_g (lw_at lw_m7 43 rfl) rfl
theorem q1551 : (Jvm.Cond.code ({ cls := "BookPairsModel", name := "findStand", desc := "(III)V" } : Jvm.MethodName) prog_25_method_23_code (10 : Nat) (Option.none : Option Jvm.ClassFile.FieldType)) ∈ lw_all := lw_g (lw_at lw_m7 44 rfl) rfl
theorem q1552 : (Jvm.Cond.constant "BookPairsModel" (147 : Nat) (99999 : Int32)) ∈ lw_all := lw_g (lw_at lw_m7 45 rfl) rfl
theorem q1553 : (Jvm.Cond.methodLink "BookPairsModel" (148 : Nat) ({ cls := "BookPairsModel", name := "isStand", desc := "(III)Z" } : Jvm.MethodName)) ∈ lw_all := lw_g (lw_at lw_m7 46 rfl) rfl
theorem q1554 : (Jvm.Cond.privateMethod ({ cls := "BookPairsModel", name := "isStand", desc := "(III)Z" } : Jvm.MethodName)) ∈ lw_tbl := lw_at lw_m7 47 rfl
theorem q1555 : (Jvm.Cond.instanceMethod ({ cls := "BookPairsModel", name := "isStand", desc := "(III)Z" } : Jvm.MethodName)) ∈ lw_all := lw_g (lw_at lw_m7 48 rfl) rfl
theorem q1556 : (Jvm.Cond.code ({ cls := "BookPairsModel", name := "isStand", desc := "(III)Z" } : Jvm.MethodName) prog_25_method_21_code (4 : Nat) (Option.some Jvm.ClassFile.FieldType.boolean)) ∈ lw_all := lw_g (lw_at lw_m7 49 rfl) rfl
theorem q1557 : (Jvm.Cond.methodLink "BookPairsModel" (138 : Nat) ({ cls := "BookPairsModel", name := "leftsOf", desc := "(I)I" } : Jvm.MethodName)) ∈ lw_all := lw_g (lw_at lw_m7 50 rfl) rfl
theorem q1558 : (Jvm.Cond.static ({ cls := "BookPairsModel", name := "leftsOf", desc := "(I)I" } : Jvm.MethodName)) ∈ lw_all := lw_g (lw_at lw_m7 51 rfl) rfl
theorem q1559 : (Jvm.Cond.code ({ cls := "BookPairsModel", name := "leftsOf", desc := "(I)I" } : Jvm.MethodName) prog_25_method_17_code (1 : Nat) (Option.some Jvm.ClassFile.FieldType.int)) ∈ lw_all := lw_g (lw_at lw_m7 52 rfl) rfl
theorem q1560 : (Jvm.Cond.methodLink "BookPairsModel" (144 : Nat) ({ cls := "BookPairsModel", name := "rightsOf", desc := "(I)I" } : Jvm.MethodName)) ∈ lw_all := lw_g (lw_at lw_m7 53 rfl) rfl
theorem q1561 : (Jvm.Cond.static ({ cls := "BookPairsModel", name := "rightsOf", desc := "(I)I" } : Jvm.MethodName)) ∈ lw_all := lw_g (lw_at lw_m7 54 rfl) rfl
theorem q1562 : (Jvm.Cond.code ({ cls := "BookPairsModel", name := "rightsOf", desc := "(I)I" } : Jvm.MethodName) prog_25_method_18_code (1 : Nat) (Option.some Jvm.ClassFile.FieldType.int)) ∈ lw_all := lw_g (lw_at lw_m7 55 rfl) rfl
theorem q1563 : (Jvm.Cond.methodLink "BookPairsModel" (151 : Nat) ({ cls := "BookPairsModel", name := "costOf", desc := "(III)I" } : Jvm.MethodName)) ∈ lw_all := lw_g (lw_at lw_m7 56 rfl) rfl
theorem q1564 : (Jvm.Cond.privateMethod ({ cls := "BookPairsModel", name := "costOf", desc := "(III)I" } : Jvm.MethodName)) ∈ lw_tbl := lw_at lw_m7 57 rfl
theorem q1565 : (Jvm.Cond.instanceMethod ({ cls := "BookPairsModel", name := "costOf", desc := "(III)I" } : Jvm.MethodName)) ∈ lw_all := lw_g (lw_at lw_m7 58 rfl) rfl
theorem q1566 : (Jvm.Cond.code ({ cls := "BookPairsModel", name := "costOf", desc := "(III)I" } : Jvm.MethodName) prog_25_method_20_code (8 : Nat) (Option.some Jvm.ClassFile.FieldType.int)) ∈ lw_all := lw_g (lw_at lw_m7 59 rfl) rfl
theorem q1567 : (Jvm.Cond.methodLink "BookPairsModel" (141 : Nat) ({ cls := "BookPairsModel", name := "anchorSet", desc := "(I)I" } : Jvm.MethodName)) ∈ lw_all := lw_g (lw_at lw_m7 60 rfl) rfl
theorem q1568 : (Jvm.Cond.static ({ cls := "BookPairsModel", name := "anchorSet", desc := "(I)I" } : Jvm.MethodName)) ∈ lw_all := lw_g (lw_at lw_m7 61 rfl) rfl
theorem q1569 : (Jvm.Cond.code ({ cls := "BookPairsModel", name := "anchorSet", desc := "(I)I" } : Jvm.MethodName) prog_25_method_19_code (1 : Nat) (Option.some Jvm.ClassFile.FieldType.int)) ∈ lw_all := lw_g (lw_at lw_m7 62 rfl) rfl
theorem q1570 : (Jvm.Cond.methodLink "BookPairsModel" (155 : Nat) ({ cls := "BookPairsModel", name := "comes", desc := "(III)V" } : Jvm.MethodName)) ∈ lw_all := lw_g (lw_at lw_m7 63 rfl) rfl
theorem q1571 : (Jvm.Cond.privateMethod ({ cls := "BookPairsModel", name := "comes", desc := "(III)V" } : Jvm.MethodName)) ∈ lw_tbl := lw_at lw_m7 64 rfl
theorem q1572 : (Jvm.Cond.instanceMethod ({ cls := "BookPairsModel", name := "comes", desc := "(III)V" } : Jvm.MethodName)) ∈ lw_all := lw_g (lw_at lw_m7 65 rfl) rfl
theorem q1573 : (Jvm.Cond.code ({ cls := "BookPairsModel", name := "comes", desc := "(III)V" } : Jvm.MethodName) prog_25_method_22_code (4 : Nat) (Option.none : Option Jvm.ClassFile.FieldType)) ∈ lw_all := lw_g (lw_at lw_m7 66 rfl) rfl
theorem q1574 : (Jvm.Cond.methodLink "BookPairsModel" (168 : Nat) ({ cls := "BookPairsModel", name := "isOnBest", desc := "(III)Z" } : Jvm.MethodName)) ∈ lw_all := lw_g (lw_at lw_m7 67 rfl) rfl
theorem q1575 : (Jvm.Cond.privateMethod ({ cls := "BookPairsModel", name := "isOnBest", desc := "(III)Z" } : Jvm.MethodName)) ∈ lw_tbl := lw_at lw_m7 68 rfl
theorem q1576 : (Jvm.Cond.instanceMethod ({ cls := "BookPairsModel", name := "isOnBest", desc := "(III)Z" } : Jvm.MethodName)) ∈ lw_all := lw_g (lw_at lw_m7 69 rfl) rfl
theorem q1577 : (Jvm.Cond.code ({ cls := "BookPairsModel", name := "isOnBest", desc := "(III)Z" } : Jvm.MethodName) prog_25_method_26_code (6 : Nat) (Option.some Jvm.ClassFile.FieldType.boolean)) ∈ lw_all := lw_g (lw_at lw_m7 70 rfl) rfl
theorem q1578 : (Jvm.Cond.methodLink "BookPairsModel" (178 : Nat) ({ cls := "BookPairsModel", name := "pairedWith", desc := "(II)I" } : Jvm.MethodName)) ∈ lw_all := lw_g (lw_at lw_m7 71 rfl) rfl
theorem q1579 : (Jvm.Cond.privateMethod ({ cls := "BookPairsModel", name := "pairedWith", desc := "(II)I" } : Jvm.MethodName)) ∈ lw_tbl := lw_at lw_m7 72 rfl
theorem q1580 : (Jvm.Cond.instanceMethod ({ cls := "BookPairsModel", name := "pairedWith", desc := "(II)I" } : Jvm.MethodName)) ∈ lw_all := lw_g (lw_at lw_m7 73 rfl) rfl
theorem q1581 : (Jvm.Cond.code ({ cls := "BookPairsModel", name := "pairedWith", desc := "(II)I" } : Jvm.MethodName) prog_25_method_27_code (9 : Nat) (Option.some Jvm.ClassFile.FieldType.int)) ∈ lw_all := lw_g (lw_at lw_m7 74 rfl) rfl
theorem q1583 : (Jvm.Cond.instanceMethod ({ cls := "BookPairsModel", name := "ofRight", desc := "(II)I" } : Jvm.MethodName)) ∈ lw_all := lw_g (lw_at lw_m7 76 rfl) rfl
theorem q1584 : (Jvm.Cond.selects "BookPairsModel" ({ cls := "BookPairsModel", name := "ofRight", desc := "(II)I" } : Jvm.MethodName) ({ cls := "BookPairsModel", name := "ofRight", desc := "(II)I" } : Jvm.MethodName)) ∈ lw_all := lw_g (lw_at lw_m7 77 rfl) rfl
theorem q1585 : (Jvm.Cond.code ({ cls := "BookPairsModel", name := "ofRight", desc := "(II)I" } : Jvm.MethodName) prog_25_method_29_code (3 : Nat) (Option.some Jvm.ClassFile.FieldType.int)) ∈ lw_all := lw_g (lw_at lw_m7 78 rfl) rfl
theorem q1586 : (Jvm.Cond.methodLink "BookPairsModel" (182 : Nat) ({ cls := "BookPairsModel", name := "isRight", desc := "(I)Z" } : Jvm.MethodName)) ∈ lw_all := lw_g (lw_at lw_m7 79 rfl) rfl
theorem q1587 : (Jvm.Cond.privateMethod ({ cls := "BookPairsModel", name := "isRight", desc := "(I)Z" } : Jvm.MethodName)) ∈ lw_tbl := lw_at lw_m7 80 rfl
theorem q1588 : (Jvm.Cond.instanceMethod ({ cls := "BookPairsModel", name := "isRight", desc := "(I)Z" } : Jvm.MethodName)) ∈ lw_all := lw_g (lw_at lw_m7 81 rfl) rfl
theorem q1589 : (Jvm.Cond.code ({ cls := "BookPairsModel", name := "isRight", desc := "(I)Z" } : Jvm.MethodName) prog_25_method_10_code (2 : Nat) (Option.some Jvm.ClassFile.FieldType.boolean)) ∈ lw_all := lw_g (lw_at lw_m7 82 rfl) rfl
theorem q1591 : (Jvm.Cond.instanceMethod ({ cls := "BookPairsModel", name := "letters", desc := "(III)I" } : Jvm.MethodName)) ∈ lw_all := lw_g (lw_at lw_m7 84 rfl) rfl
theorem q1592 : (Jvm.Cond.selects "BookPairsModel" ({ cls := "BookPairsModel", name := "letters", desc := "(III)I" } : Jvm.MethodName) ({ cls := "BookPairsModel", name := "letters", desc := "(III)I" } : Jvm.MethodName)) ∈ lw_all := lw_g (lw_at lw_m7 85 rfl) rfl
theorem q1593 : (Jvm.Cond.code ({ cls := "BookPairsModel", name := "letters", desc := "(III)I" } : Jvm.MethodName) prog_25_method_30_code (5 : Nat) (Option.some Jvm.ClassFile.FieldType.int)) ∈ lw_all := lw_g (lw_at lw_m7 86 rfl) rfl
theorem q1595 : (Jvm.Cond.instanceMethod ({ cls := "BookPairsModel", name := "price", desc := "(II)I" } : Jvm.MethodName)) ∈ lw_all := lw_g (lw_at lw_m7 88 rfl) rfl
theorem q1596 : (Jvm.Cond.selects "BookPairsModel" ({ cls := "BookPairsModel", name := "price", desc := "(II)I" } : Jvm.MethodName) ({ cls := "BookPairsModel", name := "price", desc := "(II)I" } : Jvm.MethodName)) ∈ lw_all := lw_g (lw_at lw_m7 89 rfl) rfl
theorem q1597 : (Jvm.Cond.code ({ cls := "BookPairsModel", name := "price", desc := "(II)I" } : Jvm.MethodName) prog_25_method_31_code (4 : Nat) (Option.some Jvm.ClassFile.FieldType.int)) ∈ lw_all := lw_g (lw_at lw_m7 90 rfl) rfl
theorem q1599 : (Jvm.Cond.instanceMethod ({ cls := "BookPairsModel", name := "move", desc := "(III)I" } : Jvm.MethodName)) ∈ lw_all := lw_g (lw_at lw_m7 92 rfl) rfl
theorem q1600 : (Jvm.Cond.selects "BookPairsModel" ({ cls := "BookPairsModel", name := "move", desc := "(III)I" } : Jvm.MethodName) ({ cls := "BookPairsModel", name := "move", desc := "(III)I" } : Jvm.MethodName)) ∈ lw_all := lw_g (lw_at lw_m7 93 rfl) rfl
theorem q1601 : (Jvm.Cond.code ({ cls := "BookPairsModel", name := "move", desc := "(III)I" } : Jvm.MethodName) prog_25_method_33_code (6 : Nat) (Option.some Jvm.ClassFile.FieldType.int)) ∈ lw_all := lw_g (lw_at lw_m7 94 rfl) rfl
theorem q1602 : (Jvm.Cond.methodLink "BookPairsModel" (185 : Nat) ({ cls := "BookPairsModel", name := "goesUp", desc := "(I)V" } : Jvm.MethodName)) ∈ lw_all := lw_g (lw_at lw_m7 95 rfl) rfl
theorem q1603 : (Jvm.Cond.privateMethod ({ cls := "BookPairsModel", name := "goesUp", desc := "(I)V" } : Jvm.MethodName)) ∈ lw_tbl := lw_at lw_m7 96 rfl
theorem q1604 : (Jvm.Cond.instanceMethod ({ cls := "BookPairsModel", name := "goesUp", desc := "(I)V" } : Jvm.MethodName)) ∈ lw_all := lw_g (lw_at lw_m7 97 rfl) rfl
theorem q1605 : (Jvm.Cond.code ({ cls := "BookPairsModel", name := "goesUp", desc := "(I)V" } : Jvm.MethodName) prog_25_method_32_code (4 : Nat) (Option.none : Option Jvm.ClassFile.FieldType)) ∈ lw_all := lw_g (lw_at lw_m7 98 rfl) rfl
theorem q1607 : (Jvm.Cond.instanceMethod ({ cls := "BookPairsModel", name := "best", desc := "(I)I" } : Jvm.MethodName)) ∈ lw_all := lw_g (lw_at lw_m7 100 rfl) rfl
theorem q1608 : (Jvm.Cond.selects "BookPairsModel" ({ cls := "BookPairsModel", name := "best", desc := "(I)I" } : Jvm.MethodName) ({ cls := "BookPairsModel", name := "best", desc := "(I)I" } : Jvm.MethodName)) ∈ lw_all := lw_g (lw_at lw_m7 101 rfl) rfl
theorem q1609 : (Jvm.Cond.code ({ cls := "BookPairsModel", name := "best", desc := "(I)I" } : Jvm.MethodName) prog_25_method_34_code (2 : Nat) (Option.some Jvm.ClassFile.FieldType.int)) ∈ lw_all := lw_g (lw_at lw_m7 102 rfl) rfl
theorem q1610 : (Jvm.Cond.methodLink "BookPairsModel" (189 : Nat) ({ cls := "BookPairsModel", name := "tellBest", desc := "(I)I" } : Jvm.MethodName)) ∈ lw_all := lw_g (lw_at lw_m7 103 rfl) rfl
theorem q1611 : (Jvm.Cond.privateMethod ({ cls := "BookPairsModel", name := "tellBest", desc := "(I)I" } : Jvm.MethodName)) ∈ lw_tbl := lw_at lw_m7 104 rfl
theorem q1612 : (Jvm.Cond.instanceMethod ({ cls := "BookPairsModel", name := "tellBest", desc := "(I)I" } : Jvm.MethodName)) ∈ lw_all := lw_g (lw_at lw_m7 105 rfl) rfl
theorem q1613 : (Jvm.Cond.code ({ cls := "BookPairsModel", name := "tellBest", desc := "(I)I" } : Jvm.MethodName) prog_25_method_35_code (3 : Nat) (Option.some Jvm.ClassFile.FieldType.int)) ∈ lw_all := lw_g (lw_at lw_m7 106 rfl) rfl
theorem q1615 : (Jvm.Cond.instanceMethod ({ cls := "BookPairsModel", name := "ofPair", desc := "(II)I" } : Jvm.MethodName)) ∈ lw_all := lw_g (lw_at lw_m7 108 rfl) rfl
theorem q1616 : (Jvm.Cond.selects "BookPairsModel" ({ cls := "BookPairsModel", name := "ofPair", desc := "(II)I" } : Jvm.MethodName) ({ cls := "BookPairsModel", name := "ofPair", desc := "(II)I" } : Jvm.MethodName)) ∈ lw_all := lw_g (lw_at lw_m7 109 rfl) rfl
theorem q1617 : (Jvm.Cond.code ({ cls := "BookPairsModel", name := "ofPair", desc := "(II)I" } : Jvm.MethodName) prog_25_method_36_code (3 : Nat) (Option.some Jvm.ClassFile.FieldType.int)) ∈ lw_all := lw_g (lw_at lw_m7 110 rfl) rfl
theorem q1619 : (Jvm.Cond.instanceMethod ({ cls := "BookPairsModel", name := "cost", desc := "(III)I" } : Jvm.MethodName)) ∈ lw_all := lw_g (lw_at lw_m7 112 rfl) rfl
theorem q1620 : (Jvm.Cond.selects "BookPairsModel" ({ cls := "BookPairsModel", name := "cost", desc := "(III)I" } : Jvm.MethodName) ({ cls := "BookPairsModel", name := "cost", desc := "(III)I" } : Jvm.MethodName)) ∈ lw_all := lw_g (lw_at lw_m7 113 rfl) rfl
theorem q1621 : (Jvm.Cond.code ({ cls := "BookPairsModel", name := "cost", desc := "(III)I" } : Jvm.MethodName) prog_25_method_37_code (5 : Nat) (Option.some Jvm.ClassFile.FieldType.int)) ∈ lw_all := lw_g (lw_at lw_m7 114 rfl) rfl
theorem q1623 : (Jvm.Cond.instanceMethod ({ cls := "BookPairsModel", name := "day", desc := "(IIIII)I" } : Jvm.MethodName)) ∈ lw_all := lw_g (lw_at lw_m7 116 rfl) rfl
theorem q1624 : (Jvm.Cond.selects "BookPairsModel" ({ cls := "BookPairsModel", name := "day", desc := "(IIIII)I" } : Jvm.MethodName) ({ cls := "BookPairsModel", name := "day", desc := "(IIIII)I" } : Jvm.MethodName)) ∈ lw_all := lw_g (lw_at lw_m7 117 rfl) rfl
theorem q1625 : (Jvm.Cond.code ({ cls := "BookPairsModel", name := "day", desc := "(IIIII)I" } : Jvm.MethodName) prog_25_method_43_code (10 : Nat) (Option.some Jvm.ClassFile.FieldType.int)) ∈ lw_all := lw_g (lw_at lw_m7 118 rfl) rfl
theorem q1626 : (Jvm.Cond.methodLink "BookPairsModel" (195 : Nat) ({ cls := "BookPairsModel", name := "isPair", desc := "(II)Z" } : Jvm.MethodName)) ∈ lw_all := lw_g (lw_at lw_m7 119 rfl) rfl
theorem q1627 : (Jvm.Cond.static ({ cls := "BookPairsModel", name := "isPair", desc := "(II)Z" } : Jvm.MethodName)) ∈ lw_all := lw_g (lw_at lw_m7 120 rfl) rfl
theorem q1628 : (Jvm.Cond.code ({ cls := "BookPairsModel", name := "isPair", desc := "(II)Z" } : Jvm.MethodName) prog_25_method_41_code (2 : Nat) (Option.some Jvm.ClassFile.FieldType.boolean)) ∈ lw_all := lw_g (lw_at lw_m7 121 rfl) rfl
theorem q1629 : (Jvm.Cond.methodLink "BookPairsModel" (198 : Nat) ({ cls := "BookPairsModel", name := "keep", desc := "()V" } : Jvm.MethodName)) ∈ lw_all := lw_g (lw_at lw_m7 122 rfl) rfl
theorem q1630 : (Jvm.Cond.privateMethod ({ cls := "BookPairsModel", name := "keep", desc := "()V" } : Jvm.MethodName)) ∈ lw_tbl := lw_at lw_m7 123 rfl
theorem q1631 : (Jvm.Cond.instanceMethod ({ cls := "BookPairsModel", name := "keep", desc := "()V" } : Jvm.MethodName)) ∈ lw_all := lw_g (lw_at lw_m7 124 rfl) rfl
theorem q1632 : (Jvm.Cond.code ({ cls := "BookPairsModel", name := "keep", desc := "()V" } : Jvm.MethodName) prog_25_method_38_code (2 : Nat) (Option.none : Option Jvm.ClassFile.FieldType)) ∈ lw_all := lw_g (lw_at lw_m7 125 rfl) rfl
theorem q1633 : (Jvm.Cond.methodLink "BookPairsModel" (201 : Nat) ({ cls := "BookPairsModel", name := "goDay", desc := "(II)I" } : Jvm.MethodName)) ∈ lw_all := lw_g (lw_at lw_m7 126 rfl) rfl
theorem q1634 : (Jvm.Cond.privateMethod ({ cls := "BookPairsModel", name := "goDay", desc := "(II)I" } : Jvm.MethodName)) ∈ lw_tbl := lw_at lw_m7 127 rfl
theorem q1635 : (Jvm.Cond.instanceMethod ({ cls := "BookPairsModel", name := "goDay", desc := "(II)I" } : Jvm.MethodName)) ∈ lw_all := lw_g (lw_at lw_m7 128 rfl) rfl
theorem q1636 : (Jvm.Cond.code ({ cls := "BookPairsModel", name := "goDay", desc := "(II)I" } : Jvm.MethodName) prog_25_method_42_code (4 : Nat) (Option.some Jvm.ClassFile.FieldType.int)) ∈ lw_all := lw_g (lw_at lw_m7 129 rfl) rfl
theorem q1637 : (Jvm.Cond.methodLink "BookPairsModel" (192 : Nat) ({ cls := "BookPairsModel", name := "does", desc := "(II)Z" } : Jvm.MethodName)) ∈ lw_all := lw_g (lw_at lw_m7 130 rfl) rfl
theorem q1638 : (Jvm.Cond.privateMethod ({ cls := "BookPairsModel", name := "does", desc := "(II)Z" } : Jvm.MethodName)) ∈ lw_tbl := lw_at lw_m7 131 rfl
theorem q1639 : (Jvm.Cond.instanceMethod ({ cls := "BookPairsModel", name := "does", desc := "(II)Z" } : Jvm.MethodName)) ∈ lw_all := lw_g (lw_at lw_m7 132 rfl) rfl
theorem q1640 : (Jvm.Cond.code ({ cls := "BookPairsModel", name := "does", desc := "(II)Z" } : Jvm.MethodName) prog_25_method_40_code (3 : Nat) (Option.some Jvm.ClassFile.FieldType.boolean)) ∈ lw_all := lw_g (lw_at lw_m7 133 rfl) rfl
theorem q1641 : (Jvm.Cond.methodLink "BookPairsModel" (204 : Nat) ({ cls := "BookPairsModel", name := "tellDay", desc := "(I)I" } : Jvm.MethodName)) ∈ lw_all := lw_g (lw_at lw_m7 134 rfl) rfl
theorem q1642 : (Jvm.Cond.privateMethod ({ cls := "BookPairsModel", name := "tellDay", desc := "(I)I" } : Jvm.MethodName)) ∈ lw_tbl := lw_at lw_m7 135 rfl
theorem q1643 : (Jvm.Cond.instanceMethod ({ cls := "BookPairsModel", name := "tellDay", desc := "(I)I" } : Jvm.MethodName)) ∈ lw_all := lw_g (lw_at lw_m7 136 rfl) rfl
theorem q1644 : (Jvm.Cond.code ({ cls := "BookPairsModel", name := "tellDay", desc := "(I)I" } : Jvm.MethodName) prog_25_method_44_code (2 : Nat) (Option.some Jvm.ClassFile.FieldType.int)) ∈ lw_all := lw_g (lw_at lw_m7 137 rfl) rfl
theorem q1645 : (Jvm.Cond.methodLink "BookPairsModel" (207 : Nat) ({ cls := "BookPairsModel", name := "putBack", desc := "()V" } : Jvm.MethodName)) ∈ lw_all := lw_g (lw_at lw_m7 138 rfl) rfl
theorem q1646 : (Jvm.Cond.privateMethod ({ cls := "BookPairsModel", name := "putBack", desc := "()V" } : Jvm.MethodName)) ∈ lw_tbl := lw_at lw_m7 139 rfl
theorem q1647 : (Jvm.Cond.instanceMethod ({ cls := "BookPairsModel", name := "putBack", desc := "()V" } : Jvm.MethodName)) ∈ lw_all := lw_g (lw_at lw_m7 140 rfl) rfl
theorem q1648 : (Jvm.Cond.code ({ cls := "BookPairsModel", name := "putBack", desc := "()V" } : Jvm.MethodName) prog_25_method_39_code (2 : Nat) (Option.none : Option Jvm.ClassFile.FieldType)) ∈ lw_all := lw_g (lw_at lw_m7 141 rfl) rfl
theorem q1650 : (Jvm.Cond.instanceMethod ({ cls := "BookPairsModel", name := "by", desc := "(I)I" } : Jvm.MethodName)) ∈ lw_all := lw_g (lw_at lw_m7 143 rfl) rfl
theorem q1651 : (Jvm.Cond.selects "BookPairsModel" ({ cls := "BookPairsModel", name := "by", desc := "(I)I" } : Jvm.MethodName) ({ cls := "BookPairsModel", name := "by", desc := "(I)I" } : Jvm.MethodName)) ∈ lw_all := lw_g (lw_at lw_m7 144 rfl) rfl
theorem q1652 : (Jvm.Cond.code ({ cls := "BookPairsModel", name := "by", desc := "(I)I" } : Jvm.MethodName) prog_25_method_45_code (2 : Nat) (Option.some Jvm.ClassFile.FieldType.int)) ∈ lw_all := lw_g (lw_at lw_m7 145 rfl) rfl
theorem q1654 : (Jvm.Cond.instanceMethod ({ cls := "BookPairsModel", name := "enough", desc := "()I" } : Jvm.MethodName)) ∈ lw_all := lw_g (lw_at lw_m7 147 rfl) rfl
theorem q1655 : (Jvm.Cond.selects "BookPairsModel" ({ cls := "BookPairsModel", name := "enough", desc := "()I" } : Jvm.MethodName) ({ cls := "BookPairsModel", name := "enough", desc := "()I" } : Jvm.MethodName)) ∈ lw_all := lw_g (lw_at lw_m7 148 rfl) rfl
theorem q1656 : (Jvm.Cond.code ({ cls := "BookPairsModel", name := "enough", desc := "()I" } : Jvm.MethodName) prog_25_method_46_code (3 : Nat) (Option.some Jvm.ClassFile.FieldType.int)) ∈ lw_all := lw_g (lw_at lw_m7 149 rfl) rfl
theorem q1658 : (Jvm.Cond.instanceMethod ({ cls := "BookPairsModel", name := "reading", desc := "(II)I" } : Jvm.MethodName)) ∈ lw_all := lw_g (lw_at lw_m7 151 rfl) rfl
theorem q1659 : (Jvm.Cond.selects "BookPairsModel" ({ cls := "BookPairsModel", name := "reading", desc := "(II)I" } : Jvm.MethodName) ({ cls := "BookPairsModel", name := "reading", desc := "(II)I" } : Jvm.MethodName)) ∈ lw_all := lw_g (lw_at lw_m7 152 rfl) rfl
theorem q1660 : (Jvm.Cond.code ({ cls := "BookPairsModel", name := "reading", desc := "(II)I" } : Jvm.MethodName) prog_25_method_47_code (3 : Nat) (Option.some Jvm.ClassFile.FieldType.int)) ∈ lw_all := lw_g (lw_at lw_m7 153 rfl) rfl
theorem q1662 : (Jvm.Cond.instanceMethod ({ cls := "BookPairsModel", name := "back", desc := "(I)I" } : Jvm.MethodName)) ∈ lw_all := lw_g (lw_at lw_m7 155 rfl) rfl
theorem q1663 : (Jvm.Cond.selects "BookPairsModel" ({ cls := "BookPairsModel", name := "back", desc := "(I)I" } : Jvm.MethodName) ({ cls := "BookPairsModel", name := "back", desc := "(I)I" } : Jvm.MethodName)) ∈ lw_all := lw_g (lw_at lw_m7 156 rfl) rfl
theorem q1664 : (Jvm.Cond.code ({ cls := "BookPairsModel", name := "back", desc := "(I)I" } : Jvm.MethodName) prog_25_method_48_code (2 : Nat) (Option.some Jvm.ClassFile.FieldType.int)) ∈ lw_all := lw_g (lw_at lw_m7 157 rfl) rfl
theorem q1666 : (Jvm.Cond.instanceMethod ({ cls := "BookPairsModel", name := "kinds", desc := "(I)I" } : Jvm.MethodName)) ∈ lw_all := lw_g (lw_at lw_m7 159 rfl) rfl
theorem q1667 : (Jvm.Cond.selects "BookPairsModel" ({ cls := "BookPairsModel", name := "kinds", desc := "(I)I" } : Jvm.MethodName) ({ cls := "BookPairsModel", name := "kinds", desc := "(I)I" } : Jvm.MethodName)) ∈ lw_all := lw_g (lw_at lw_m7 160 rfl) rfl
theorem q1668 : (Jvm.Cond.code ({ cls := "BookPairsModel", name := "kinds", desc := "(I)I" } : Jvm.MethodName) prog_25_method_50_code (5 : Nat) (Option.some Jvm.ClassFile.FieldType.int)) ∈ lw_all := lw_g (lw_at lw_m7 161 rfl) rfl
theorem q1669 : (Jvm.Cond.methodLink "BookPairsModel" (210 : Nat) ({ cls := "BookPairsModel", name := "areSo", desc := "()Z" } : Jvm.MethodName)) ∈ lw_all := lw_g (lw_at lw_m7 162 rfl) rfl
theorem q1670 : (Jvm.Cond.privateMethod ({ cls := "BookPairsModel", name := "areSo", desc := "()Z" } : Jvm.MethodName)) ∈ lw_tbl := lw_at lw_m7 163 rfl
theorem q1671 : (Jvm.Cond.instanceMethod ({ cls := "BookPairsModel", name := "areSo", desc := "()Z" } : Jvm.MethodName)) ∈ lw_all := lw_g (lw_at lw_m7 164 rfl) rfl
theorem q1672 : (Jvm.Cond.code ({ cls := "BookPairsModel", name := "areSo", desc := "()Z" } : Jvm.MethodName) prog_25_method_49_code (2 : Nat) (Option.some Jvm.ClassFile.FieldType.boolean)) ∈ lw_all := lw_g (lw_at lw_m7 165 rfl) rfl
theorem q1674 : (Jvm.Cond.instanceMethod ({ cls := "BookPairsModel", name := "letterings", desc := "(I)I" } : Jvm.MethodName)) ∈ lw_all := lw_g (lw_at lw_m7 167 rfl) rfl
theorem q1675 : (Jvm.Cond.selects "BookPairsModel" ({ cls := "BookPairsModel", name := "letterings", desc := "(I)I" } : Jvm.MethodName) ({ cls := "BookPairsModel", name := "letterings", desc := "(I)I" } : Jvm.MethodName)) ∈ lw_all := lw_g (lw_at lw_m7 168 rfl) rfl
theorem q1676 : (Jvm.Cond.code ({ cls := "BookPairsModel", name := "letterings", desc := "(I)I" } : Jvm.MethodName) prog_25_method_51_code (5 : Nat) (Option.some Jvm.ClassFile.FieldType.int)) ∈ lw_all := lw_g (lw_at lw_m7 169 rfl) rfl
theorem q1678 : (Jvm.Cond.instanceMethod ({ cls := "BookPairsModel", name := "odds", desc := "(II)J" } : Jvm.MethodName)) ∈ lw_all := lw_g (lw_at lw_m7 171 rfl) rfl
theorem q1679 : (Jvm.Cond.selects "BookPairsModel" ({ cls := "BookPairsModel", name := "odds", desc := "(II)J" } : Jvm.MethodName) ({ cls := "BookPairsModel", name := "odds", desc := "(II)J" } : Jvm.MethodName)) ∈ lw_all := lw_g (lw_at lw_m7 172 rfl) rfl
theorem q1680 : (Jvm.Cond.code ({ cls := "BookPairsModel", name := "odds", desc := "(II)J" } : Jvm.MethodName) prog_25_method_53_code (5 : Nat) (Option.some Jvm.ClassFile.FieldType.long)) ∈ lw_all := lw_g (lw_at lw_m7 173 rfl) rfl
theorem q1681 : (Jvm.Cond.constantLong "BookPairsModel" (74 : Nat) (-9223372036854775808 : Int64)) ∈ lw_all := lw_g (lw_at lw_m7 174 rfl) rfl
theorem q1682 : (Jvm.Cond.methodLink "BookPairsModel" (214 : Nat) ({ cls := "BookPairsModel", name := "inLeastTerms", desc := "(JJI)J" } : Jvm.MethodName)) ∈ lw_all := lw_g (lw_at lw_m7 175 rfl) rfl
theorem q1683 : (Jvm.Cond.static ({ cls := "BookPairsModel", name := "inLeastTerms", desc := "(JJI)J" } : Jvm.MethodName)) ∈ lw_all := lw_g (lw_at lw_m7 176 rfl) rfl
theorem q1684 : (Jvm.Cond.code ({ cls := "BookPairsModel", name := "inLeastTerms", desc := "(JJI)J" } : Jvm.MethodName) prog_25_method_52_code (11 : Nat) (Option.some Jvm.ClassFile.FieldType.long)) ∈ lw_all := lw_g (lw_at lw_m7 177 rfl) rfl
theorem q1686 : (Jvm.Cond.instanceMethod ({ cls := "BookPairsModel", name := "sheet", desc := "(III)I" } : Jvm.MethodName)) ∈ lw_all := lw_g (lw_at lw_m7 179 rfl) rfl
theorem q1687 : (Jvm.Cond.selects "BookPairsModel" ({ cls := "BookPairsModel", name := "sheet", desc := "(III)I" } : Jvm.MethodName) ({ cls := "BookPairsModel", name := "sheet", desc := "(III)I" } : Jvm.MethodName)) ∈ lw_all := lw_g (lw_at lw_m7 180 rfl) rfl
theorem q1688 : (Jvm.Cond.code ({ cls := "BookPairsModel", name := "sheet", desc := "(III)I" } : Jvm.MethodName) prog_25_method_54_code (5 : Nat) (Option.some Jvm.ClassFile.FieldType.int)) ∈ lw_all := lw_g (lw_at lw_m7 181 rfl) rfl
theorem q1690 : (Jvm.Cond.instanceMethod ({ cls := "BookPairsModel", name := "lose", desc := "(I)I" } : Jvm.MethodName)) ∈ lw_all := lw_g (lw_at lw_m7 183 rfl) rfl
theorem q1691 : (Jvm.Cond.selects "BookPairsModel" ({ cls := "BookPairsModel", name := "lose", desc := "(I)I" } : Jvm.MethodName) ({ cls := "BookPairsModel", name := "lose", desc := "(I)I" } : Jvm.MethodName)) ∈ lw_all := lw_g (lw_at lw_m7 184 rfl) rfl
theorem q1692 : (Jvm.Cond.code ({ cls := "BookPairsModel", name := "lose", desc := "(I)I" } : Jvm.MethodName) prog_25_method_55_code (3 : Nat) (Option.some Jvm.ClassFile.FieldType.int)) ∈ lw_all := lw_g (lw_at lw_m7 185 rfl) rfl
theorem q1694 : (Jvm.Cond.instanceMethod ({ cls := "BookPairsModel", name := "put", desc := "(III)I" } : Jvm.MethodName)) ∈ lw_all := lw_g (lw_at lw_m7 187 rfl) rfl
theorem q1695 : (Jvm.Cond.selects "BookPairsModel" ({ cls := "BookPairsModel", name := "put", desc := "(III)I" } : Jvm.MethodName) ({ cls := "BookPairsModel", name := "put", desc := "(III)I" } : Jvm.MethodName)) ∈ lw_all := lw_g (lw_at lw_m7 188 rfl) rfl
theorem q1696 : (Jvm.Cond.code ({ cls := "BookPairsModel", name := "put", desc := "(III)I" } : Jvm.MethodName) prog_25_method_56_code (4 : Nat) (Option.some Jvm.ClassFile.FieldType.int)) ∈ lw_all := lw_g (lw_at lw_m7 189 rfl) rfl
theorem q1698 : (Jvm.Cond.instanceMethod ({ cls := "BookPairsModel", name := "cell", desc := "(III)J" } : Jvm.MethodName)) ∈ lw_all := lw_g (lw_at lw_m7 191 rfl) rfl
theorem q1699 : (Jvm.Cond.selects "BookPairsModel" ({ cls := "BookPairsModel", name := "cell", desc := "(III)J" } : Jvm.MethodName) ({ cls := "BookPairsModel", name := "cell", desc := "(III)J" } : Jvm.MethodName)) ∈ lw_all := lw_g (lw_at lw_m7 192 rfl) rfl
theorem q1700 : (Jvm.Cond.code ({ cls := "BookPairsModel", name := "cell", desc := "(III)J" } : Jvm.MethodName) prog_25_method_57_code (4 : Nat) (Option.some Jvm.ClassFile.FieldType.long)) ∈ lw_all := lw_g (lw_at lw_m7 193 rfl) rfl
theorem q1701 : (Jvm.Cond.methodLink "BookPairsModel" (218 : Nat) ({ cls := "BookPairsModel", name := "lost", desc := "(I)J" } : Jvm.MethodName)) ∈ lw_all := lw_g (lw_at lw_m7 194 rfl) rfl
theorem q1702 : (Jvm.Cond.privateMethod ({ cls := "BookPairsModel", name := "lost", desc := "(I)J" } : Jvm.MethodName)) ∈ lw_tbl := lw_at lw_m7 195 rfl
theorem q1703 : (Jvm.Cond.instanceMethod ({ cls := "BookPairsModel", name := "lost", desc := "(I)J" } : Jvm.MethodName)) ∈ lw_all := lw_g (lw_at lw_m7 196 rfl) rfl
theorem q1704 : (Jvm.Cond.code ({ cls := "BookPairsModel", name := "lost", desc := "(I)J" } : Jvm.MethodName) prog_25_method_4_code (2 : Nat) (Option.some Jvm.ClassFile.FieldType.long)) ∈ lw_all := lw_g (lw_at lw_m7 197 rfl) rfl
theorem q1706 : (Jvm.Cond.instanceMethod ({ cls := "BookPairsModel", name := "copy", desc := "(IIIII)I" } : Jvm.MethodName)) ∈ lw_all := lw_g (lw_at lw_m7 199 rfl) rfl
theorem q1707 : (Jvm.Cond.selects "BookPairsModel" ({ cls := "BookPairsModel", name := "copy", desc := "(IIIII)I" } : Jvm.MethodName) ({ cls := "BookPairsModel", name := "copy", desc := "(IIIII)I" } : Jvm.MethodName)) ∈ lw_all := lw_g (lw_at lw_m7 200 rfl) rfl
theorem q1708 : (Jvm.Cond.code ({ cls := "BookPairsModel", name := "copy", desc := "(IIIII)I" } : Jvm.MethodName) prog_25_method_58_code (10 : Nat) (Option.some Jvm.ClassFile.FieldType.int)) ∈ lw_all := lw_g (lw_at lw_m7 201 rfl) rfl
theorem q1710 : (Jvm.Cond.instanceMethod ({ cls := "BookPairsModel", name := "tell", desc := "(I)I" } : Jvm.MethodName)) ∈ lw_all := lw_g (lw_at lw_m7 203 rfl) rfl
theorem q1711 : (Jvm.Cond.selects "BookPairsModel" ({ cls := "BookPairsModel", name := "tell", desc := "(I)I" } : Jvm.MethodName) ({ cls := "BookPairsModel", name := "tell", desc := "(I)I" } : Jvm.MethodName)) ∈ lw_all := lw_g (lw_at lw_m7 204 rfl) rfl
theorem q1712 : (Jvm.Cond.code ({ cls := "BookPairsModel", name := "tell", desc := "(I)I" } : Jvm.MethodName) prog_25_method_60_code (3 : Nat) (Option.some Jvm.ClassFile.FieldType.int)) ∈ lw_all := lw_g (lw_at lw_m7 205 rfl) rfl
theorem q1713 : (Jvm.Cond.methodLink "BookPairsModel" (225 : Nat) ({ cls := "BookPairsModel", name := "begins", desc := "(I)V" } : Jvm.MethodName)) ∈ lw_all := lw_g (lw_at lw_m7 206 rfl) rfl
theorem q1714 : (Jvm.Cond.privateMethod ({ cls := "BookPairsModel", name := "begins", desc := "(I)V" } : Jvm.MethodName)) ∈ lw_tbl := lw_at lw_m7 207 rfl
theorem q1715 : (Jvm.Cond.instanceMethod ({ cls := "BookPairsModel", name := "begins", desc := "(I)V" } : Jvm.MethodName)) ∈ lw_all := lw_g (lw_at lw_m7 208 rfl) rfl
theorem q1716 : (Jvm.Cond.code ({ cls := "BookPairsModel", name := "begins", desc := "(I)V" } : Jvm.MethodName) prog_25_method_59_code (2 : Nat) (Option.none : Option Jvm.ClassFile.FieldType)) ∈ lw_all := lw_g (lw_at lw_m7 209 rfl) rfl
theorem q1718 : (Jvm.Cond.instanceMethod ({ cls := "BookPairsModel", name := "read", desc := "(I)I" } : Jvm.MethodName)) ∈ lw_all := lw_g (lw_at lw_m7 211 rfl) rfl
theorem q1719 : (Jvm.Cond.selects "BookPairsModel" ({ cls := "BookPairsModel", name := "read", desc := "(I)I" } : Jvm.MethodName) ({ cls := "BookPairsModel", name := "read", desc := "(I)I" } : Jvm.MethodName)) ∈ lw_all := lw_g (lw_at lw_m7 212 rfl) rfl
theorem q1720 : (Jvm.Cond.code ({ cls := "BookPairsModel", name := "read", desc := "(I)I" } : Jvm.MethodName) prog_25_method_61_code (2 : Nat) (Option.some Jvm.ClassFile.FieldType.int)) ∈ lw_all := lw_g (lw_at lw_m7 213 rfl) rfl
theorem q1722 : (Jvm.Cond.instanceMethod ({ cls := "BookPairsModel", name := "as", desc := "(II)I" } : Jvm.MethodName)) ∈ lw_all := lw_g (lw_at lw_m7 215 rfl) rfl
theorem q1723 : (Jvm.Cond.selects "BookPairsModel" ({ cls := "BookPairsModel", name := "as", desc := "(II)I" } : Jvm.MethodName) ({ cls := "BookPairsModel", name := "as", desc := "(II)I" } : Jvm.MethodName)) ∈ lw_all := lw_g (lw_at lw_m7 216 rfl) rfl
theorem q1724 : (Jvm.Cond.code ({ cls := "BookPairsModel", name := "as", desc := "(II)I" } : Jvm.MethodName) prog_25_method_62_code (3 : Nat) (Option.some Jvm.ClassFile.FieldType.int)) ∈ lw_all := lw_g (lw_at lw_m7 217 rfl) rfl
theorem q1726 : (Jvm.Cond.instanceMethod ({ cls := "BookPairsModel", name := "trace", desc := "()I" } : Jvm.MethodName)) ∈ lw_all := lw_g (lw_at lw_m7 219 rfl) rfl
theorem q1727 : (Jvm.Cond.selects "BookPairsModel" ({ cls := "BookPairsModel", name := "trace", desc := "()I" } : Jvm.MethodName) ({ cls := "BookPairsModel", name := "trace", desc := "()I" } : Jvm.MethodName)) ∈ lw_all := lw_g (lw_at lw_m7 220 rfl) rfl
theorem q1728 : (Jvm.Cond.code ({ cls := "BookPairsModel", name := "trace", desc := "()I" } : Jvm.MethodName) prog_25_method_63_code (1 : Nat) (Option.some Jvm.ClassFile.FieldType.int)) ∈ lw_all := lw_g (lw_at lw_m7 221 rfl) rfl
theorem q1730 : (Jvm.Cond.instanceMethod ({ cls := "BookPairsModel", name := "fault", desc := "()I" } : Jvm.MethodName)) ∈ lw_all := lw_g (lw_at lw_m7 223 rfl) rfl
theorem q1731 : (Jvm.Cond.selects "BookPairsModel" ({ cls := "BookPairsModel", name := "fault", desc := "()I" } : Jvm.MethodName) ({ cls := "BookPairsModel", name := "fault", desc := "()I" } : Jvm.MethodName)) ∈ lw_all := lw_g (lw_at lw_m7 224 rfl) rfl
theorem q1732 : (Jvm.Cond.code ({ cls := "BookPairsModel", name := "fault", desc := "()I" } : Jvm.MethodName) prog_25_method_64_code (1 : Nat) (Option.some Jvm.ClassFile.FieldType.int)) ∈ lw_all := lw_g (lw_at lw_m7 225 rfl) rfl
theorem q1734 : (Jvm.Cond.instanceMethod ({ cls := "BookPairsModel", name := "many", desc := "(I)I" } : Jvm.MethodName)) ∈ lw_all := lw_g (lw_at lw_m7 227 rfl) rfl
theorem q1735 : (Jvm.Cond.selects "BookPairsModel" ({ cls := "BookPairsModel", name := "many", desc := "(I)I" } : Jvm.MethodName) ({ cls := "BookPairsModel", name := "many", desc := "(I)I" } : Jvm.MethodName)) ∈ lw_all := lw_g (lw_at lw_m7 228 rfl) rfl
theorem q1736 : (Jvm.Cond.code ({ cls := "BookPairsModel", name := "many", desc := "(I)I" } : Jvm.MethodName) prog_25_method_65_code (2 : Nat) (Option.some Jvm.ClassFile.FieldType.int)) ∈ lw_all := lw_g (lw_at lw_m7 229 rfl) rfl
theorem q1757 : (Jvm.Cond.castable "BookPairsModel" "java/lang/Object") ∈ lw_tbl := lw_at lw_m8 10 rfl
theorem in_X3 : ∀ w ∈ wsX30, w ∈ lw_all := lw_in wsX30 [1426, 1428, 1430, 1432, 1434, 1436, 1438, 1440, 1442, 1444, 1446, 1448, 1450, 1452, 1454, 1456, 1458, 1460, 1462, 1464, 1466, 1468, 1470, 1472, 1474, 1476, 1478, 1480, 1482, 1484, 1486, 1488] (by decide +kernel) (by decide +kernel)
