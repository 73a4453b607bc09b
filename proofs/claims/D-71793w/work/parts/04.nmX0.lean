/-! BookPairs -/
set_option maxRecDepth 100000
def RX0 : String := "BookPairs"
def TX0 : u_T := fun k => match k with
  | 0 => ("BookPairs", "sorts", "[LBookPairs$Sort;", true)
  | 1 => ("BookPairs", "doings", "[LBookPairs$Doing;", true)
  | 2 => ("BookPairs", "trace", "I", false)
  | 3 => ("BookPairs", "left", "Ljava/util/List;", true)
  | 4 => ("BookPairs", "rights", "I", false)
  | 5 => ("BookPairs", "right", "[I", false)
  | 6 => ("BookPairs", "rightAnchors", "[I", false)
  | 7 => ("BookPairs", "skip", "I", false)
  | 8 => ("BookPairs", "join", "I", false)
  | 9 => ("BookPairs", "band", "I", false)
  | 10 => ("BookPairs", "rightThen", "[I", true)
  | 11 => ("BookPairs", "anchorsThen", "[I", true)
  | 12 => ("BookPairs", "leastFrom", "[I", true)
  | 13 => ("BookPairs", "nextFrom", "[I", true)
  | 14 => ("BookPairs", "alikeFrom", "[I", true)
  | 15 => ("BookPairs", "lettersKept", "[I", true)
  | 16 => ("BookPairs", "readings", "Ljava/util/List;", true)
  | 17 => ("BookPairs", "fault", "I", false)
  | _ => ("BookPairs", "sheets", "[LBookPairs$Sheet;", true)
def tyX0 : Nat → FieldType := fun k => match k with
  | 0 => .array (.object "BookPairs$Sort")
  | 1 => .array (.object "BookPairs$Doing")
  | 2 => .int
  | 3 => .object "java/util/List"
  | 4 => .int
  | 5 => .array .int
  | 6 => .array .int
  | 7 => .int
  | 8 => .int
  | 9 => .int
  | 10 => .array .int
  | 11 => .array .int
  | 12 => .array .int
  | 13 => .array .int
  | 14 => .array .int
  | 15 => .array .int
  | 16 => .object "java/util/List"
  | 17 => .int
  | _ => .array (.object "BookPairs$Sheet")
abbrev wsX00 : List Cond := u_ws RX0 TX0 19
set_option maxRecDepth 100000 in
theorem nmX0 : ∀ a, a < 19 → ∀ b, b < 19 → a ≠ b → (TX0 a).2.1 ≠ (TX0 b).2.1 := by decide +kernel
set_option maxRecDepth 100000 in
theorem tyX0_ok : ∀ k, k < 19 → parseFieldDescriptor (TX0 k).2.2.1 = some (tyX0 k) := by decide +kernel
abbrev cX0_init : ByteArray := prog_1_method_4_code
def yX0_init : MethodName := ⟨RX0, "<init>", "()V"⟩
def dkwX0_init_11 : List UInt8 := [183, 0, 79, 83, 177]
abbrev dktX0_init_11 : List UInt8 := dkwX0_init_11 ++ []
def dkwX0_init_10 : List UInt8 := [186, 0, 82, 0, 0, 183, 0, 79, 83, 42, 180, 0, 19, 5, 187, 0, 17, 89, 42, 186, 0, 83, 0, 0]
abbrev dktX0_init_10 : List UInt8 := dkwX0_init_10 ++ dktX0_init_11
def dkwX0_init_9 : List UInt8 := [187, 0, 17, 89, 42, 186, 0, 75, 0, 0, 183, 0, 79, 83, 42, 180, 0, 19, 4, 187, 0, 17, 89, 42]
abbrev dktX0_init_9 : List UInt8 := dkwX0_init_9 ++ dktX0_init_10
def dkwX0_init_8 : List UInt8 := [180, 0, 13, 7, 187, 0, 11, 89, 42, 186, 0, 74, 0, 0, 183, 0, 68, 83, 42, 180, 0, 19, 3]
abbrev dktX0_init_8 : List UInt8 := dkwX0_init_8 ++ dktX0_init_9
def dkwX0_init_7 : List UInt8 := [183, 0, 68, 83, 42, 180, 0, 13, 6, 187, 0, 11, 89, 42, 186, 0, 73, 0, 0, 183, 0, 68, 83, 42]
abbrev dktX0_init_7 : List UInt8 := dkwX0_init_7 ++ dktX0_init_8
def dkwX0_init_6 : List UInt8 := [186, 0, 71, 0, 0, 183, 0, 68, 83, 42, 180, 0, 13, 5, 187, 0, 11, 89, 42, 186, 0, 72, 0, 0]
abbrev dktX0_init_6 : List UInt8 := dkwX0_init_6 ++ dktX0_init_7
def dkwX0_init_5 : List UInt8 := [187, 0, 11, 89, 42, 186, 0, 64, 0, 0, 183, 0, 68, 83, 42, 180, 0, 13, 4, 187, 0, 11, 89, 42]
abbrev dktX0_init_5 : List UInt8 := dkwX0_init_5 ++ dktX0_init_6
def dkwX0_init_4 : List UInt8 := [187, 0, 23, 89, 183, 0, 25, 181, 0, 55, 42, 7, 189, 0, 58, 181, 0, 60, 42, 180, 0, 13, 3]
abbrev dktX0_init_4 : List UInt8 := dkwX0_init_4 ++ dktX0_init_5
def dkwX0_init_3 : List UInt8 := [16, 64, 188, 10, 181, 0, 46, 42, 16, 64, 188, 10, 181, 0, 49, 42, 16, 7, 188, 10, 181, 0, 52, 42]
abbrev dktX0_init_3 : List UInt8 := dkwX0_init_3 ++ dktX0_init_4
def dkwX0_init_2 : List UInt8 := [16, 7, 188, 10, 181, 0, 37, 42, 16, 7, 188, 10, 181, 0, 40, 42, 16, 64, 188, 10, 181, 0, 43, 42]
abbrev dktX0_init_2 : List UInt8 := dkwX0_init_2 ++ dktX0_init_3
def dkwX0_init_1 : List UInt8 := [89, 183, 0, 25, 181, 0, 26, 42, 16, 7, 188, 10, 181, 0, 30, 42, 16, 7, 188, 10, 181, 0, 34, 42]
abbrev dktX0_init_1 : List UInt8 := dkwX0_init_1 ++ dktX0_init_2
def dkwX0_init_0 : List UInt8 := [42, 183, 0, 3, 42, 8, 189, 0, 11, 181, 0, 13, 42, 6, 189, 0, 17, 181, 0, 19, 42, 187, 0, 23]
abbrev dktX0_init_0 : List UInt8 := dkwX0_init_0 ++ dktX0_init_1
theorem dksX0_init_0 : cX0_init.data.toList.drop 0 = dktX0_init_0 := by decide +kernel
theorem dksX0_init_1 : cX0_init.data.toList.drop 24 = dktX0_init_1 := dk_seg dksX0_init_0 24 rfl rfl
theorem dksX0_init_2 : cX0_init.data.toList.drop 48 = dktX0_init_2 := dk_seg dksX0_init_1 24 rfl rfl
theorem dksX0_init_3 : cX0_init.data.toList.drop 72 = dktX0_init_3 := dk_seg dksX0_init_2 24 rfl rfl
theorem dksX0_init_4 : cX0_init.data.toList.drop 96 = dktX0_init_4 := dk_seg dksX0_init_3 24 rfl rfl
theorem dksX0_init_5 : cX0_init.data.toList.drop 119 = dktX0_init_5 := dk_seg dksX0_init_4 23 rfl rfl
theorem dksX0_init_6 : cX0_init.data.toList.drop 143 = dktX0_init_6 := dk_seg dksX0_init_5 24 rfl rfl
theorem dksX0_init_7 : cX0_init.data.toList.drop 167 = dktX0_init_7 := dk_seg dksX0_init_6 24 rfl rfl
theorem dksX0_init_8 : cX0_init.data.toList.drop 191 = dktX0_init_8 := dk_seg dksX0_init_7 24 rfl rfl
theorem dksX0_init_9 : cX0_init.data.toList.drop 214 = dktX0_init_9 := dk_seg dksX0_init_8 23 rfl rfl
theorem dksX0_init_10 : cX0_init.data.toList.drop 238 = dktX0_init_10 := dk_seg dksX0_init_9 24 rfl rfl
theorem dksX0_init_11 : cX0_init.data.toList.drop 262 = dktX0_init_11 := dk_seg dksX0_init_10 24 rfl rfl
theorem dX0_init_0 : decode cX0_init 0 = .ok (.aload_n 0, 1) := dk_42 (dk_at dksX0_init_0 0 rfl rfl)
theorem dX0_init_1 : decode cX0_init 1 = .ok (.invokespecial 3, 3) := dk_183 0 3 (dk_at dksX0_init_0 1 rfl rfl)
theorem dX0_init_4 : decode cX0_init 4 = .ok (.aload_n 0, 1) := dk_42 (dk_at dksX0_init_0 4 rfl rfl)
theorem dX0_init_5 : decode cX0_init 5 = .ok (.iconst 5, 1) := dk_8 (dk_at dksX0_init_0 5 rfl rfl)
theorem dX0_init_6 : decode cX0_init 6 = .ok (.anewarray 11, 3) := dk_189 0 11 (dk_at dksX0_init_0 6 rfl rfl)
theorem dX0_init_9 : decode cX0_init 9 = .ok (.putfield 13, 3) := dk_181 0 13 (dk_at dksX0_init_0 9 rfl rfl)
theorem dX0_init_12 : decode cX0_init 12 = .ok (.aload_n 0, 1) := dk_42 (dk_at dksX0_init_0 12 rfl rfl)
theorem dX0_init_13 : decode cX0_init 13 = .ok (.iconst 3, 1) := dk_6 (dk_at dksX0_init_0 13 rfl rfl)
theorem dX0_init_14 : decode cX0_init 14 = .ok (.anewarray 17, 3) := dk_189 0 17 (dk_at dksX0_init_0 14 rfl rfl)
theorem dX0_init_17 : decode cX0_init 17 = .ok (.putfield 19, 3) := dk_181 0 19 (dk_at dksX0_init_0 17 rfl rfl)
theorem dX0_init_20 : decode cX0_init 20 = .ok (.aload_n 0, 1) := dk_42 (dk_at dksX0_init_0 20 rfl rfl)
theorem dX0_init_21 : decode cX0_init 21 = .ok (.new 23, 3) := dk_187 0 23 (dk_at dksX0_init_0 21 rfl rfl)
theorem dX0_init_24 : decode cX0_init 24 = .ok (.dup, 1) := dk_89 (dk_at dksX0_init_1 0 rfl rfl)
theorem dX0_init_25 : decode cX0_init 25 = .ok (.invokespecial 25, 3) := dk_183 0 25 (dk_at dksX0_init_1 1 rfl rfl)
theorem dX0_init_28 : decode cX0_init 28 = .ok (.putfield 26, 3) := dk_181 0 26 (dk_at dksX0_init_1 4 rfl rfl)
theorem dX0_init_31 : decode cX0_init 31 = .ok (.aload_n 0, 1) := dk_42 (dk_at dksX0_init_1 7 rfl rfl)
theorem dX0_init_32 : decode cX0_init 32 = .ok (.bipush 7, 2) := dk_16 7 (dk_at dksX0_init_1 8 rfl rfl)
theorem dX0_init_34 : decode cX0_init 34 = .ok (.newarray .int, 2) := dk_188_10 (dk_at dksX0_init_1 10 rfl rfl)
theorem dX0_init_36 : decode cX0_init 36 = .ok (.putfield 30, 3) := dk_181 0 30 (dk_at dksX0_init_1 12 rfl rfl)
theorem dX0_init_39 : decode cX0_init 39 = .ok (.aload_n 0, 1) := dk_42 (dk_at dksX0_init_1 15 rfl rfl)
theorem dX0_init_40 : decode cX0_init 40 = .ok (.bipush 7, 2) := dk_16 7 (dk_at dksX0_init_1 16 rfl rfl)
theorem dX0_init_42 : decode cX0_init 42 = .ok (.newarray .int, 2) := dk_188_10 (dk_at dksX0_init_1 18 rfl rfl)
theorem dX0_init_44 : decode cX0_init 44 = .ok (.putfield 34, 3) := dk_181 0 34 (dk_at dksX0_init_1 20 rfl rfl)
theorem dX0_init_47 : decode cX0_init 47 = .ok (.aload_n 0, 1) := dk_42 (dk_at dksX0_init_1 23 rfl rfl)
theorem dX0_init_48 : decode cX0_init 48 = .ok (.bipush 7, 2) := dk_16 7 (dk_at dksX0_init_2 0 rfl rfl)
theorem dX0_init_50 : decode cX0_init 50 = .ok (.newarray .int, 2) := dk_188_10 (dk_at dksX0_init_2 2 rfl rfl)
theorem dX0_init_52 : decode cX0_init 52 = .ok (.putfield 37, 3) := dk_181 0 37 (dk_at dksX0_init_2 4 rfl rfl)
theorem dX0_init_55 : decode cX0_init 55 = .ok (.aload_n 0, 1) := dk_42 (dk_at dksX0_init_2 7 rfl rfl)
theorem dX0_init_56 : decode cX0_init 56 = .ok (.bipush 7, 2) := dk_16 7 (dk_at dksX0_init_2 8 rfl rfl)
theorem dX0_init_58 : decode cX0_init 58 = .ok (.newarray .int, 2) := dk_188_10 (dk_at dksX0_init_2 10 rfl rfl)
theorem dX0_init_60 : decode cX0_init 60 = .ok (.putfield 40, 3) := dk_181 0 40 (dk_at dksX0_init_2 12 rfl rfl)
theorem dX0_init_63 : decode cX0_init 63 = .ok (.aload_n 0, 1) := dk_42 (dk_at dksX0_init_2 15 rfl rfl)
theorem dX0_init_64 : decode cX0_init 64 = .ok (.bipush 64, 2) := dk_16 64 (dk_at dksX0_init_2 16 rfl rfl)
theorem dX0_init_66 : decode cX0_init 66 = .ok (.newarray .int, 2) := dk_188_10 (dk_at dksX0_init_2 18 rfl rfl)
theorem dX0_init_68 : decode cX0_init 68 = .ok (.putfield 43, 3) := dk_181 0 43 (dk_at dksX0_init_2 20 rfl rfl)
theorem dX0_init_71 : decode cX0_init 71 = .ok (.aload_n 0, 1) := dk_42 (dk_at dksX0_init_2 23 rfl rfl)
theorem dX0_init_72 : decode cX0_init 72 = .ok (.bipush 64, 2) := dk_16 64 (dk_at dksX0_init_3 0 rfl rfl)
theorem dX0_init_74 : decode cX0_init 74 = .ok (.newarray .int, 2) := dk_188_10 (dk_at dksX0_init_3 2 rfl rfl)
theorem dX0_init_76 : decode cX0_init 76 = .ok (.putfield 46, 3) := dk_181 0 46 (dk_at dksX0_init_3 4 rfl rfl)
theorem dX0_init_79 : decode cX0_init 79 = .ok (.aload_n 0, 1) := dk_42 (dk_at dksX0_init_3 7 rfl rfl)
theorem dX0_init_80 : decode cX0_init 80 = .ok (.bipush 64, 2) := dk_16 64 (dk_at dksX0_init_3 8 rfl rfl)
theorem dX0_init_82 : decode cX0_init 82 = .ok (.newarray .int, 2) := dk_188_10 (dk_at dksX0_init_3 10 rfl rfl)
theorem dX0_init_84 : decode cX0_init 84 = .ok (.putfield 49, 3) := dk_181 0 49 (dk_at dksX0_init_3 12 rfl rfl)
theorem dX0_init_87 : decode cX0_init 87 = .ok (.aload_n 0, 1) := dk_42 (dk_at dksX0_init_3 15 rfl rfl)
theorem dX0_init_88 : decode cX0_init 88 = .ok (.bipush 7, 2) := dk_16 7 (dk_at dksX0_init_3 16 rfl rfl)
theorem dX0_init_90 : decode cX0_init 90 = .ok (.newarray .int, 2) := dk_188_10 (dk_at dksX0_init_3 18 rfl rfl)
theorem dX0_init_92 : decode cX0_init 92 = .ok (.putfield 52, 3) := dk_181 0 52 (dk_at dksX0_init_3 20 rfl rfl)
theorem dX0_init_95 : decode cX0_init 95 = .ok (.aload_n 0, 1) := dk_42 (dk_at dksX0_init_3 23 rfl rfl)
theorem dX0_init_96 : decode cX0_init 96 = .ok (.new 23, 3) := dk_187 0 23 (dk_at dksX0_init_4 0 rfl rfl)
theorem dX0_init_99 : decode cX0_init 99 = .ok (.dup, 1) := dk_89 (dk_at dksX0_init_4 3 rfl rfl)
theorem dX0_init_100 : decode cX0_init 100 = .ok (.invokespecial 25, 3) := dk_183 0 25 (dk_at dksX0_init_4 4 rfl rfl)
theorem dX0_init_103 : decode cX0_init 103 = .ok (.putfield 55, 3) := dk_181 0 55 (dk_at dksX0_init_4 7 rfl rfl)
theorem dX0_init_106 : decode cX0_init 106 = .ok (.aload_n 0, 1) := dk_42 (dk_at dksX0_init_4 10 rfl rfl)
theorem dX0_init_107 : decode cX0_init 107 = .ok (.iconst 4, 1) := dk_7 (dk_at dksX0_init_4 11 rfl rfl)
theorem dX0_init_108 : decode cX0_init 108 = .ok (.anewarray 58, 3) := dk_189 0 58 (dk_at dksX0_init_4 12 rfl rfl)
theorem dX0_init_111 : decode cX0_init 111 = .ok (.putfield 60, 3) := dk_181 0 60 (dk_at dksX0_init_4 15 rfl rfl)
theorem dX0_init_114 : decode cX0_init 114 = .ok (.aload_n 0, 1) := dk_42 (dk_at dksX0_init_4 18 rfl rfl)
theorem dX0_init_115 : decode cX0_init 115 = .ok (.getfield 13, 3) := dk_180 0 13 (dk_at dksX0_init_4 19 rfl rfl)
theorem dX0_init_118 : decode cX0_init 118 = .ok (.iconst 0, 1) := dk_3 (dk_at dksX0_init_4 22 rfl rfl)
theorem dX0_init_119 : decode cX0_init 119 = .ok (.new 11, 3) := dk_187 0 11 (dk_at dksX0_init_5 0 rfl rfl)
theorem dX0_init_122 : decode cX0_init 122 = .ok (.dup, 1) := dk_89 (dk_at dksX0_init_5 3 rfl rfl)
theorem dX0_init_123 : decode cX0_init 123 = .ok (.aload_n 0, 1) := dk_42 (dk_at dksX0_init_5 4 rfl rfl)
theorem dX0_init_124 : decode cX0_init 124 = .ok (.invokedynamic 64, 5) := by decide +kernel
theorem dX0_init_129 : decode cX0_init 129 = .ok (.invokespecial 68, 3) := dk_183 0 68 (dk_at dksX0_init_5 10 rfl rfl)
theorem dX0_init_132 : decode cX0_init 132 = .ok (.aastore, 1) := dk_83 (dk_at dksX0_init_5 13 rfl rfl)
theorem dX0_init_133 : decode cX0_init 133 = .ok (.aload_n 0, 1) := dk_42 (dk_at dksX0_init_5 14 rfl rfl)
theorem dX0_init_134 : decode cX0_init 134 = .ok (.getfield 13, 3) := dk_180 0 13 (dk_at dksX0_init_5 15 rfl rfl)
theorem dX0_init_137 : decode cX0_init 137 = .ok (.iconst 1, 1) := dk_4 (dk_at dksX0_init_5 18 rfl rfl)
theorem dX0_init_138 : decode cX0_init 138 = .ok (.new 11, 3) := dk_187 0 11 (dk_at dksX0_init_5 19 rfl rfl)
theorem dX0_init_141 : decode cX0_init 141 = .ok (.dup, 1) := dk_89 (dk_at dksX0_init_5 22 rfl rfl)
theorem dX0_init_142 : decode cX0_init 142 = .ok (.aload_n 0, 1) := dk_42 (dk_at dksX0_init_5 23 rfl rfl)
theorem dX0_init_143 : decode cX0_init 143 = .ok (.invokedynamic 71, 5) := by decide +kernel
theorem dX0_init_148 : decode cX0_init 148 = .ok (.invokespecial 68, 3) := dk_183 0 68 (dk_at dksX0_init_6 5 rfl rfl)
theorem dX0_init_151 : decode cX0_init 151 = .ok (.aastore, 1) := dk_83 (dk_at dksX0_init_6 8 rfl rfl)
theorem dX0_init_152 : decode cX0_init 152 = .ok (.aload_n 0, 1) := dk_42 (dk_at dksX0_init_6 9 rfl rfl)
theorem dX0_init_153 : decode cX0_init 153 = .ok (.getfield 13, 3) := dk_180 0 13 (dk_at dksX0_init_6 10 rfl rfl)
theorem dX0_init_156 : decode cX0_init 156 = .ok (.iconst 2, 1) := dk_5 (dk_at dksX0_init_6 13 rfl rfl)
theorem dX0_init_157 : decode cX0_init 157 = .ok (.new 11, 3) := dk_187 0 11 (dk_at dksX0_init_6 14 rfl rfl)
theorem dX0_init_160 : decode cX0_init 160 = .ok (.dup, 1) := dk_89 (dk_at dksX0_init_6 17 rfl rfl)
theorem dX0_init_161 : decode cX0_init 161 = .ok (.aload_n 0, 1) := dk_42 (dk_at dksX0_init_6 18 rfl rfl)
theorem dX0_init_162 : decode cX0_init 162 = .ok (.invokedynamic 72, 5) := by decide +kernel
theorem dX0_init_167 : decode cX0_init 167 = .ok (.invokespecial 68, 3) := dk_183 0 68 (dk_at dksX0_init_7 0 rfl rfl)
theorem dX0_init_170 : decode cX0_init 170 = .ok (.aastore, 1) := dk_83 (dk_at dksX0_init_7 3 rfl rfl)
theorem dX0_init_171 : decode cX0_init 171 = .ok (.aload_n 0, 1) := dk_42 (dk_at dksX0_init_7 4 rfl rfl)
theorem dX0_init_172 : decode cX0_init 172 = .ok (.getfield 13, 3) := dk_180 0 13 (dk_at dksX0_init_7 5 rfl rfl)
theorem dX0_init_175 : decode cX0_init 175 = .ok (.iconst 3, 1) := dk_6 (dk_at dksX0_init_7 8 rfl rfl)
theorem dX0_init_176 : decode cX0_init 176 = .ok (.new 11, 3) := dk_187 0 11 (dk_at dksX0_init_7 9 rfl rfl)
theorem dX0_init_179 : decode cX0_init 179 = .ok (.dup, 1) := dk_89 (dk_at dksX0_init_7 12 rfl rfl)
theorem dX0_init_180 : decode cX0_init 180 = .ok (.aload_n 0, 1) := dk_42 (dk_at dksX0_init_7 13 rfl rfl)
theorem dX0_init_181 : decode cX0_init 181 = .ok (.invokedynamic 73, 5) := by decide +kernel
theorem dX0_init_186 : decode cX0_init 186 = .ok (.invokespecial 68, 3) := dk_183 0 68 (dk_at dksX0_init_7 19 rfl rfl)
theorem dX0_init_189 : decode cX0_init 189 = .ok (.aastore, 1) := dk_83 (dk_at dksX0_init_7 22 rfl rfl)
theorem dX0_init_190 : decode cX0_init 190 = .ok (.aload_n 0, 1) := dk_42 (dk_at dksX0_init_7 23 rfl rfl)
theorem dX0_init_191 : decode cX0_init 191 = .ok (.getfield 13, 3) := dk_180 0 13 (dk_at dksX0_init_8 0 rfl rfl)
theorem dX0_init_194 : decode cX0_init 194 = .ok (.iconst 4, 1) := dk_7 (dk_at dksX0_init_8 3 rfl rfl)
theorem dX0_init_195 : decode cX0_init 195 = .ok (.new 11, 3) := dk_187 0 11 (dk_at dksX0_init_8 4 rfl rfl)
theorem dX0_init_198 : decode cX0_init 198 = .ok (.dup, 1) := dk_89 (dk_at dksX0_init_8 7 rfl rfl)
theorem dX0_init_199 : decode cX0_init 199 = .ok (.aload_n 0, 1) := dk_42 (dk_at dksX0_init_8 8 rfl rfl)
theorem dX0_init_200 : decode cX0_init 200 = .ok (.invokedynamic 74, 5) := by decide +kernel
theorem dX0_init_205 : decode cX0_init 205 = .ok (.invokespecial 68, 3) := dk_183 0 68 (dk_at dksX0_init_8 14 rfl rfl)
theorem dX0_init_208 : decode cX0_init 208 = .ok (.aastore, 1) := dk_83 (dk_at dksX0_init_8 17 rfl rfl)
theorem dX0_init_209 : decode cX0_init 209 = .ok (.aload_n 0, 1) := dk_42 (dk_at dksX0_init_8 18 rfl rfl)
theorem dX0_init_210 : decode cX0_init 210 = .ok (.getfield 19, 3) := dk_180 0 19 (dk_at dksX0_init_8 19 rfl rfl)
theorem dX0_init_213 : decode cX0_init 213 = .ok (.iconst 0, 1) := dk_3 (dk_at dksX0_init_8 22 rfl rfl)
theorem dX0_init_214 : decode cX0_init 214 = .ok (.new 17, 3) := dk_187 0 17 (dk_at dksX0_init_9 0 rfl rfl)
theorem dX0_init_217 : decode cX0_init 217 = .ok (.dup, 1) := dk_89 (dk_at dksX0_init_9 3 rfl rfl)
theorem dX0_init_218 : decode cX0_init 218 = .ok (.aload_n 0, 1) := dk_42 (dk_at dksX0_init_9 4 rfl rfl)
theorem dX0_init_219 : decode cX0_init 219 = .ok (.invokedynamic 75, 5) := by decide +kernel
theorem dX0_init_224 : decode cX0_init 224 = .ok (.invokespecial 79, 3) := dk_183 0 79 (dk_at dksX0_init_9 10 rfl rfl)
theorem dX0_init_227 : decode cX0_init 227 = .ok (.aastore, 1) := dk_83 (dk_at dksX0_init_9 13 rfl rfl)
theorem dX0_init_228 : decode cX0_init 228 = .ok (.aload_n 0, 1) := dk_42 (dk_at dksX0_init_9 14 rfl rfl)
theorem dX0_init_229 : decode cX0_init 229 = .ok (.getfield 19, 3) := dk_180 0 19 (dk_at dksX0_init_9 15 rfl rfl)
theorem dX0_init_232 : decode cX0_init 232 = .ok (.iconst 1, 1) := dk_4 (dk_at dksX0_init_9 18 rfl rfl)
theorem dX0_init_233 : decode cX0_init 233 = .ok (.new 17, 3) := dk_187 0 17 (dk_at dksX0_init_9 19 rfl rfl)
theorem dX0_init_236 : decode cX0_init 236 = .ok (.dup, 1) := dk_89 (dk_at dksX0_init_9 22 rfl rfl)
theorem dX0_init_237 : decode cX0_init 237 = .ok (.aload_n 0, 1) := dk_42 (dk_at dksX0_init_9 23 rfl rfl)
theorem dX0_init_238 : decode cX0_init 238 = .ok (.invokedynamic 82, 5) := by decide +kernel
theorem dX0_init_243 : decode cX0_init 243 = .ok (.invokespecial 79, 3) := dk_183 0 79 (dk_at dksX0_init_10 5 rfl rfl)
theorem dX0_init_246 : decode cX0_init 246 = .ok (.aastore, 1) := dk_83 (dk_at dksX0_init_10 8 rfl rfl)
theorem dX0_init_247 : decode cX0_init 247 = .ok (.aload_n 0, 1) := dk_42 (dk_at dksX0_init_10 9 rfl rfl)
theorem dX0_init_248 : decode cX0_init 248 = .ok (.getfield 19, 3) := dk_180 0 19 (dk_at dksX0_init_10 10 rfl rfl)
theorem dX0_init_251 : decode cX0_init 251 = .ok (.iconst 2, 1) := dk_5 (dk_at dksX0_init_10 13 rfl rfl)
theorem dX0_init_252 : decode cX0_init 252 = .ok (.new 17, 3) := dk_187 0 17 (dk_at dksX0_init_10 14 rfl rfl)
theorem dX0_init_255 : decode cX0_init 255 = .ok (.dup, 1) := dk_89 (dk_at dksX0_init_10 17 rfl rfl)
theorem dX0_init_256 : decode cX0_init 256 = .ok (.aload_n 0, 1) := dk_42 (dk_at dksX0_init_10 18 rfl rfl)
theorem dX0_init_257 : decode cX0_init 257 = .ok (.invokedynamic 83, 5) := by decide +kernel
theorem dX0_init_262 : decode cX0_init 262 = .ok (.invokespecial 79, 3) := dk_183 0 79 (dk_at dksX0_init_11 0 rfl rfl)
theorem dX0_init_265 : decode cX0_init 265 = .ok (.aastore, 1) := dk_83 (dk_at dksX0_init_11 3 rfl rfl)
theorem dX0_init_266 : decode cX0_init 266 = .ok (.return_, 1) := dk_177 (dk_at dksX0_init_11 4 rfl rfl)
abbrev cX0_lambda_new_0 : ByteArray := prog_1_method_79_code
def yX0_lambda_new_0 : MethodName := ⟨RX0, "lambda$new$0", "(II)I"⟩
def dkwX0_lambda_new_0_0 : List UInt8 := [42, 27, 4, 28, 4, 182, 1, 228, 172]
abbrev dktX0_lambda_new_0_0 : List UInt8 := dkwX0_lambda_new_0_0 ++ []
theorem dksX0_lambda_new_0_0 : cX0_lambda_new_0.data.toList.drop 0 = dktX0_lambda_new_0_0 := by decide +kernel
theorem dX0_lambda_new_0_0 : decode cX0_lambda_new_0 0 = .ok (.aload_n 0, 1) := dk_42 (dk_at dksX0_lambda_new_0_0 0 rfl rfl)
theorem dX0_lambda_new_0_1 : decode cX0_lambda_new_0 1 = .ok (.iload_n 1, 1) := dk_27 (dk_at dksX0_lambda_new_0_0 1 rfl rfl)
theorem dX0_lambda_new_0_2 : decode cX0_lambda_new_0 2 = .ok (.iconst 1, 1) := dk_4 (dk_at dksX0_lambda_new_0_0 2 rfl rfl)
theorem dX0_lambda_new_0_3 : decode cX0_lambda_new_0 3 = .ok (.iload_n 2, 1) := dk_28 (dk_at dksX0_lambda_new_0_0 3 rfl rfl)
theorem dX0_lambda_new_0_4 : decode cX0_lambda_new_0 4 = .ok (.iconst 1, 1) := dk_4 (dk_at dksX0_lambda_new_0_0 4 rfl rfl)
theorem dX0_lambda_new_0_5 : decode cX0_lambda_new_0 5 = .ok (.invokevirtual 484, 3) := dk_182 1 228 (dk_at dksX0_lambda_new_0_0 5 rfl rfl)
theorem dX0_lambda_new_0_8 : decode cX0_lambda_new_0 8 = .ok (.ireturn, 1) := dk_172 (dk_at dksX0_lambda_new_0_0 8 rfl rfl)
abbrev cX0_differs : ByteArray := prog_1_method_16_code
def yX0_differs : MethodName := ⟨RX0, "differs", "(IIII)I"⟩
def dkwX0_differs_5 : List UInt8 := [167, 255, 217, 21, 5, 184, 0, 181, 21, 6, 21, 7, 160, 0, 7, 3, 167, 0, 4, 6, 96, 172]
abbrev dktX0_differs_5 : List UInt8 := dkwX0_differs_5 ++ []
def dkwX0_differs_4 : List UInt8 := [21, 8, 46, 100, 54, 5, 21, 7, 42, 180, 0, 34, 21, 8, 46, 184, 0, 177, 128, 54, 7, 132, 8, 1]
abbrev dktX0_differs_4 : List UInt8 := dkwX0_differs_4 ++ dktX0_differs_5
def dkwX0_differs_3 : List UInt8 := [132, 8, 1, 167, 255, 198, 29, 54, 8, 21, 8, 29, 21, 4, 96, 162, 0, 36, 21, 5, 42, 180, 0, 30]
abbrev dktX0_differs_3 : List UInt8 := dkwX0_differs_3 ++ dktX0_differs_4
def dkwX0_differs_2 : List UInt8 := [180, 0, 26, 21, 8, 185, 0, 167, 2, 0, 192, 0, 84, 180, 0, 174, 184, 0, 177, 128, 54, 6]
abbrev dktX0_differs_2 : List UInt8 := dkwX0_differs_2 ++ dktX0_differs_3
def dkwX0_differs_1 : List UInt8 := [180, 0, 26, 21, 8, 185, 0, 167, 2, 0, 192, 0, 84, 182, 0, 171, 96, 54, 5, 21, 6, 42]
abbrev dktX0_differs_1 : List UInt8 := dkwX0_differs_1 ++ dktX0_differs_2
def dkwX0_differs_0 : List UInt8 := [3, 54, 5, 3, 54, 6, 3, 54, 7, 27, 54, 8, 21, 8, 27, 28, 96, 162, 0, 56, 21, 5, 42]
abbrev dktX0_differs_0 : List UInt8 := dkwX0_differs_0 ++ dktX0_differs_1
theorem dksX0_differs_0 : cX0_differs.data.toList.drop 0 = dktX0_differs_0 := by decide +kernel
theorem dksX0_differs_1 : cX0_differs.data.toList.drop 23 = dktX0_differs_1 := dk_seg dksX0_differs_0 23 rfl rfl
theorem dksX0_differs_2 : cX0_differs.data.toList.drop 45 = dktX0_differs_2 := dk_seg dksX0_differs_1 22 rfl rfl
theorem dksX0_differs_3 : cX0_differs.data.toList.drop 67 = dktX0_differs_3 := dk_seg dksX0_differs_2 22 rfl rfl
theorem dksX0_differs_4 : cX0_differs.data.toList.drop 91 = dktX0_differs_4 := dk_seg dksX0_differs_3 24 rfl rfl
theorem dksX0_differs_5 : cX0_differs.data.toList.drop 115 = dktX0_differs_5 := dk_seg dksX0_differs_4 24 rfl rfl
theorem dX0_differs_0 : decode cX0_differs 0 = .ok (.iconst 0, 1) := dk_3 (dk_at dksX0_differs_0 0 rfl rfl)
theorem dX0_differs_1 : decode cX0_differs 1 = .ok (.istore 5, 2) := dk_54 5 (dk_at dksX0_differs_0 1 rfl rfl)
theorem dX0_differs_3 : decode cX0_differs 3 = .ok (.iconst 0, 1) := dk_3 (dk_at dksX0_differs_0 3 rfl rfl)
theorem dX0_differs_4 : decode cX0_differs 4 = .ok (.istore 6, 2) := dk_54 6 (dk_at dksX0_differs_0 4 rfl rfl)
theorem dX0_differs_6 : decode cX0_differs 6 = .ok (.iconst 0, 1) := dk_3 (dk_at dksX0_differs_0 6 rfl rfl)
theorem dX0_differs_7 : decode cX0_differs 7 = .ok (.istore 7, 2) := dk_54 7 (dk_at dksX0_differs_0 7 rfl rfl)
theorem dX0_differs_9 : decode cX0_differs 9 = .ok (.iload_n 1, 1) := dk_27 (dk_at dksX0_differs_0 9 rfl rfl)
theorem dX0_differs_10 : decode cX0_differs 10 = .ok (.istore 8, 2) := dk_54 8 (dk_at dksX0_differs_0 10 rfl rfl)
theorem dX0_differs_12 : decode cX0_differs 12 = .ok (.iload 8, 2) := dk_21 8 (dk_at dksX0_differs_0 12 rfl rfl)
theorem dX0_differs_14 : decode cX0_differs 14 = .ok (.iload_n 1, 1) := dk_27 (dk_at dksX0_differs_0 14 rfl rfl)
theorem dX0_differs_15 : decode cX0_differs 15 = .ok (.iload_n 2, 1) := dk_28 (dk_at dksX0_differs_0 15 rfl rfl)
theorem dX0_differs_16 : decode cX0_differs 16 = .ok (.iadd, 1) := dk_96 (dk_at dksX0_differs_0 16 rfl rfl)
theorem dX0_differs_17 : decode cX0_differs 17 = .ok (.if_icmp .ge 56, 3) := dk_162 0 56 (dk_at dksX0_differs_0 17 rfl rfl)
theorem dX0_differs_20 : decode cX0_differs 20 = .ok (.iload 5, 2) := dk_21 5 (dk_at dksX0_differs_0 20 rfl rfl)
theorem dX0_differs_22 : decode cX0_differs 22 = .ok (.aload_n 0, 1) := dk_42 (dk_at dksX0_differs_0 22 rfl rfl)
theorem dX0_differs_23 : decode cX0_differs 23 = .ok (.getfield 26, 3) := dk_180 0 26 (dk_at dksX0_differs_1 0 rfl rfl)
theorem dX0_differs_26 : decode cX0_differs 26 = .ok (.iload 8, 2) := dk_21 8 (dk_at dksX0_differs_1 3 rfl rfl)
theorem dX0_differs_28 : decode cX0_differs 28 = .ok (.invokeinterface 167 2, 5) := by decide +kernel
theorem dX0_differs_33 : decode cX0_differs 33 = .ok (.checkcast 84, 3) := dk_192 0 84 (dk_at dksX0_differs_1 10 rfl rfl)
theorem dX0_differs_36 : decode cX0_differs 36 = .ok (.invokevirtual 171, 3) := dk_182 0 171 (dk_at dksX0_differs_1 13 rfl rfl)
theorem dX0_differs_39 : decode cX0_differs 39 = .ok (.iadd, 1) := dk_96 (dk_at dksX0_differs_1 16 rfl rfl)
theorem dX0_differs_40 : decode cX0_differs 40 = .ok (.istore 5, 2) := dk_54 5 (dk_at dksX0_differs_1 17 rfl rfl)
theorem dX0_differs_42 : decode cX0_differs 42 = .ok (.iload 6, 2) := dk_21 6 (dk_at dksX0_differs_1 19 rfl rfl)
theorem dX0_differs_44 : decode cX0_differs 44 = .ok (.aload_n 0, 1) := dk_42 (dk_at dksX0_differs_1 21 rfl rfl)
theorem dX0_differs_45 : decode cX0_differs 45 = .ok (.getfield 26, 3) := dk_180 0 26 (dk_at dksX0_differs_2 0 rfl rfl)
theorem dX0_differs_48 : decode cX0_differs 48 = .ok (.iload 8, 2) := dk_21 8 (dk_at dksX0_differs_2 3 rfl rfl)
theorem dX0_differs_50 : decode cX0_differs 50 = .ok (.invokeinterface 167 2, 5) := by decide +kernel
theorem dX0_differs_55 : decode cX0_differs 55 = .ok (.checkcast 84, 3) := dk_192 0 84 (dk_at dksX0_differs_2 10 rfl rfl)
theorem dX0_differs_58 : decode cX0_differs 58 = .ok (.getfield 174, 3) := dk_180 0 174 (dk_at dksX0_differs_2 13 rfl rfl)
theorem dX0_differs_61 : decode cX0_differs 61 = .ok (.invokestatic 177, 3) := dk_184 0 177 (dk_at dksX0_differs_2 16 rfl rfl)
theorem dX0_differs_64 : decode cX0_differs 64 = .ok (.ior, 1) := dk_128 (dk_at dksX0_differs_2 19 rfl rfl)
theorem dX0_differs_65 : decode cX0_differs 65 = .ok (.istore 6, 2) := dk_54 6 (dk_at dksX0_differs_2 20 rfl rfl)
theorem dX0_differs_67 : decode cX0_differs 67 = .ok (.iinc 8 1, 3) := dk_132 8 1 (dk_at dksX0_differs_3 0 rfl rfl)
theorem dX0_differs_70 : decode cX0_differs 70 = .ok (.goto (-58), 3) := dk_167 255 198 (dk_at dksX0_differs_3 3 rfl rfl)
theorem dX0_differs_73 : decode cX0_differs 73 = .ok (.iload_n 3, 1) := dk_29 (dk_at dksX0_differs_3 6 rfl rfl)
theorem dX0_differs_74 : decode cX0_differs 74 = .ok (.istore 8, 2) := dk_54 8 (dk_at dksX0_differs_3 7 rfl rfl)
theorem dX0_differs_76 : decode cX0_differs 76 = .ok (.iload 8, 2) := dk_21 8 (dk_at dksX0_differs_3 9 rfl rfl)
theorem dX0_differs_78 : decode cX0_differs 78 = .ok (.iload_n 3, 1) := dk_29 (dk_at dksX0_differs_3 11 rfl rfl)
theorem dX0_differs_79 : decode cX0_differs 79 = .ok (.iload 4, 2) := dk_21 4 (dk_at dksX0_differs_3 12 rfl rfl)
theorem dX0_differs_81 : decode cX0_differs 81 = .ok (.iadd, 1) := dk_96 (dk_at dksX0_differs_3 14 rfl rfl)
theorem dX0_differs_82 : decode cX0_differs 82 = .ok (.if_icmp .ge 36, 3) := dk_162 0 36 (dk_at dksX0_differs_3 15 rfl rfl)
theorem dX0_differs_85 : decode cX0_differs 85 = .ok (.iload 5, 2) := dk_21 5 (dk_at dksX0_differs_3 18 rfl rfl)
theorem dX0_differs_87 : decode cX0_differs 87 = .ok (.aload_n 0, 1) := dk_42 (dk_at dksX0_differs_3 20 rfl rfl)
theorem dX0_differs_88 : decode cX0_differs 88 = .ok (.getfield 30, 3) := dk_180 0 30 (dk_at dksX0_differs_3 21 rfl rfl)
theorem dX0_differs_91 : decode cX0_differs 91 = .ok (.iload 8, 2) := dk_21 8 (dk_at dksX0_differs_4 0 rfl rfl)
theorem dX0_differs_93 : decode cX0_differs 93 = .ok (.iaload, 1) := dk_46 (dk_at dksX0_differs_4 2 rfl rfl)
theorem dX0_differs_94 : decode cX0_differs 94 = .ok (.isub, 1) := dk_100 (dk_at dksX0_differs_4 3 rfl rfl)
theorem dX0_differs_95 : decode cX0_differs 95 = .ok (.istore 5, 2) := dk_54 5 (dk_at dksX0_differs_4 4 rfl rfl)
theorem dX0_differs_97 : decode cX0_differs 97 = .ok (.iload 7, 2) := dk_21 7 (dk_at dksX0_differs_4 6 rfl rfl)
theorem dX0_differs_99 : decode cX0_differs 99 = .ok (.aload_n 0, 1) := dk_42 (dk_at dksX0_differs_4 8 rfl rfl)
theorem dX0_differs_100 : decode cX0_differs 100 = .ok (.getfield 34, 3) := dk_180 0 34 (dk_at dksX0_differs_4 9 rfl rfl)
theorem dX0_differs_103 : decode cX0_differs 103 = .ok (.iload 8, 2) := dk_21 8 (dk_at dksX0_differs_4 12 rfl rfl)
theorem dX0_differs_105 : decode cX0_differs 105 = .ok (.iaload, 1) := dk_46 (dk_at dksX0_differs_4 14 rfl rfl)
theorem dX0_differs_106 : decode cX0_differs 106 = .ok (.invokestatic 177, 3) := dk_184 0 177 (dk_at dksX0_differs_4 15 rfl rfl)
theorem dX0_differs_109 : decode cX0_differs 109 = .ok (.ior, 1) := dk_128 (dk_at dksX0_differs_4 18 rfl rfl)
theorem dX0_differs_110 : decode cX0_differs 110 = .ok (.istore 7, 2) := dk_54 7 (dk_at dksX0_differs_4 19 rfl rfl)
theorem dX0_differs_112 : decode cX0_differs 112 = .ok (.iinc 8 1, 3) := dk_132 8 1 (dk_at dksX0_differs_4 21 rfl rfl)
theorem dX0_differs_115 : decode cX0_differs 115 = .ok (.goto (-39), 3) := dk_167 255 217 (dk_at dksX0_differs_5 0 rfl rfl)
theorem dX0_differs_118 : decode cX0_differs 118 = .ok (.iload 5, 2) := dk_21 5 (dk_at dksX0_differs_5 3 rfl rfl)
theorem dX0_differs_120 : decode cX0_differs 120 = .ok (.invokestatic 181, 3) := dk_184 0 181 (dk_at dksX0_differs_5 5 rfl rfl)
theorem dX0_differs_123 : decode cX0_differs 123 = .ok (.iload 6, 2) := dk_21 6 (dk_at dksX0_differs_5 8 rfl rfl)
theorem dX0_differs_125 : decode cX0_differs 125 = .ok (.iload 7, 2) := dk_21 7 (dk_at dksX0_differs_5 10 rfl rfl)
theorem dX0_differs_127 : decode cX0_differs 127 = .ok (.if_icmp .ne 7, 3) := dk_160 0 7 (dk_at dksX0_differs_5 12 rfl rfl)
theorem dX0_differs_130 : decode cX0_differs 130 = .ok (.iconst 0, 1) := dk_3 (dk_at dksX0_differs_5 15 rfl rfl)
theorem dX0_differs_131 : decode cX0_differs 131 = .ok (.goto 4, 3) := dk_167 0 4 (dk_at dksX0_differs_5 16 rfl rfl)
theorem dX0_differs_134 : decode cX0_differs 134 = .ok (.iconst 3, 1) := dk_6 (dk_at dksX0_differs_5 19 rfl rfl)
theorem dX0_differs_135 : decode cX0_differs 135 = .ok (.iadd, 1) := dk_96 (dk_at dksX0_differs_5 20 rfl rfl)
theorem dX0_differs_136 : decode cX0_differs 136 = .ok (.ireturn, 1) := dk_172 (dk_at dksX0_differs_5 21 rfl rfl)
abbrev cX0_anchorBit : ByteArray := prog_1_method_15_code
def yX0_anchorBit : MethodName := ⟨RX0, "anchorBit", "(I)I"⟩
def dkwX0_anchorBit_0 : List UInt8 := [26, 7, 160, 0, 7, 3, 167, 0, 6, 4, 26, 120, 172]
abbrev dktX0_anchorBit_0 : List UInt8 := dkwX0_anchorBit_0 ++ []
theorem dksX0_anchorBit_0 : cX0_anchorBit.data.toList.drop 0 = dktX0_anchorBit_0 := by decide +kernel
theorem dX0_anchorBit_0 : decode cX0_anchorBit 0 = .ok (.iload_n 0, 1) := dk_26 (dk_at dksX0_anchorBit_0 0 rfl rfl)
theorem dX0_anchorBit_1 : decode cX0_anchorBit 1 = .ok (.iconst 4, 1) := dk_7 (dk_at dksX0_anchorBit_0 1 rfl rfl)
theorem dX0_anchorBit_2 : decode cX0_anchorBit 2 = .ok (.if_icmp .ne 7, 3) := dk_160 0 7 (dk_at dksX0_anchorBit_0 2 rfl rfl)
theorem dX0_anchorBit_5 : decode cX0_anchorBit 5 = .ok (.iconst 0, 1) := dk_3 (dk_at dksX0_anchorBit_0 5 rfl rfl)
theorem dX0_anchorBit_6 : decode cX0_anchorBit 6 = .ok (.goto 6, 3) := dk_167 0 6 (dk_at dksX0_anchorBit_0 6 rfl rfl)
theorem dX0_anchorBit_9 : decode cX0_anchorBit 9 = .ok (.iconst 1, 1) := dk_4 (dk_at dksX0_anchorBit_0 9 rfl rfl)
theorem dX0_anchorBit_10 : decode cX0_anchorBit 10 = .ok (.iload_n 0, 1) := dk_26 (dk_at dksX0_anchorBit_0 10 rfl rfl)
theorem dX0_anchorBit_11 : decode cX0_anchorBit 11 = .ok (.ishl, 1) := dk_120 (dk_at dksX0_anchorBit_0 11 rfl rfl)
theorem dX0_anchorBit_12 : decode cX0_anchorBit 12 = .ok (.ireturn, 1) := dk_172 (dk_at dksX0_anchorBit_0 12 rfl rfl)
abbrev cX0_lambda_new_1 : ByteArray := prog_1_method_78_code
def yX0_lambda_new_1 : MethodName := ⟨RX0, "lambda$new$1", "(II)I"⟩
def dkwX0_lambda_new_1_0 : List UInt8 := [42, 180, 0, 158, 42, 180, 0, 26, 27, 185, 0, 167, 2, 0, 192, 0, 84, 182, 0, 171, 96, 172]
abbrev dktX0_lambda_new_1_0 : List UInt8 := dkwX0_lambda_new_1_0 ++ []
theorem dksX0_lambda_new_1_0 : cX0_lambda_new_1.data.toList.drop 0 = dktX0_lambda_new_1_0 := by decide +kernel
theorem dX0_lambda_new_1_0 : decode cX0_lambda_new_1 0 = .ok (.aload_n 0, 1) := dk_42 (dk_at dksX0_lambda_new_1_0 0 rfl rfl)
theorem dX0_lambda_new_1_1 : decode cX0_lambda_new_1 1 = .ok (.getfield 158, 3) := dk_180 0 158 (dk_at dksX0_lambda_new_1_0 1 rfl rfl)
theorem dX0_lambda_new_1_4 : decode cX0_lambda_new_1 4 = .ok (.aload_n 0, 1) := dk_42 (dk_at dksX0_lambda_new_1_0 4 rfl rfl)
theorem dX0_lambda_new_1_5 : decode cX0_lambda_new_1 5 = .ok (.getfield 26, 3) := dk_180 0 26 (dk_at dksX0_lambda_new_1_0 5 rfl rfl)
theorem dX0_lambda_new_1_8 : decode cX0_lambda_new_1 8 = .ok (.iload_n 1, 1) := dk_27 (dk_at dksX0_lambda_new_1_0 8 rfl rfl)
theorem dX0_lambda_new_1_9 : decode cX0_lambda_new_1 9 = .ok (.invokeinterface 167 2, 5) := by decide +kernel
theorem dX0_lambda_new_1_14 : decode cX0_lambda_new_1 14 = .ok (.checkcast 84, 3) := dk_192 0 84 (dk_at dksX0_lambda_new_1_0 14 rfl rfl)
theorem dX0_lambda_new_1_17 : decode cX0_lambda_new_1 17 = .ok (.invokevirtual 171, 3) := dk_182 0 171 (dk_at dksX0_lambda_new_1_0 17 rfl rfl)
theorem dX0_lambda_new_1_20 : decode cX0_lambda_new_1 20 = .ok (.iadd, 1) := dk_96 (dk_at dksX0_lambda_new_1_0 20 rfl rfl)
theorem dX0_lambda_new_1_21 : decode cX0_lambda_new_1 21 = .ok (.ireturn, 1) := dk_172 (dk_at dksX0_lambda_new_1_0 21 rfl rfl)
abbrev cX0_lambda_new_2 : ByteArray := prog_1_method_77_code
def yX0_lambda_new_2 : MethodName := ⟨RX0, "lambda$new$2", "(II)I"⟩
def dkwX0_lambda_new_2_0 : List UInt8 := [42, 180, 0, 158, 42, 180, 0, 30, 28, 46, 96, 172]
abbrev dktX0_lambda_new_2_0 : List UInt8 := dkwX0_lambda_new_2_0 ++ []
theorem dksX0_lambda_new_2_0 : cX0_lambda_new_2.data.toList.drop 0 = dktX0_lambda_new_2_0 := by decide +kernel
theorem dX0_lambda_new_2_0 : decode cX0_lambda_new_2 0 = .ok (.aload_n 0, 1) := dk_42 (dk_at dksX0_lambda_new_2_0 0 rfl rfl)
theorem dX0_lambda_new_2_1 : decode cX0_lambda_new_2 1 = .ok (.getfield 158, 3) := dk_180 0 158 (dk_at dksX0_lambda_new_2_0 1 rfl rfl)
theorem dX0_lambda_new_2_4 : decode cX0_lambda_new_2 4 = .ok (.aload_n 0, 1) := dk_42 (dk_at dksX0_lambda_new_2_0 4 rfl rfl)
theorem dX0_lambda_new_2_5 : decode cX0_lambda_new_2 5 = .ok (.getfield 30, 3) := dk_180 0 30 (dk_at dksX0_lambda_new_2_0 5 rfl rfl)
theorem dX0_lambda_new_2_8 : decode cX0_lambda_new_2 8 = .ok (.iload_n 2, 1) := dk_28 (dk_at dksX0_lambda_new_2_0 8 rfl rfl)
theorem dX0_lambda_new_2_9 : decode cX0_lambda_new_2 9 = .ok (.iaload, 1) := dk_46 (dk_at dksX0_lambda_new_2_0 9 rfl rfl)
theorem dX0_lambda_new_2_10 : decode cX0_lambda_new_2 10 = .ok (.iadd, 1) := dk_96 (dk_at dksX0_lambda_new_2_0 10 rfl rfl)
theorem dX0_lambda_new_2_11 : decode cX0_lambda_new_2 11 = .ok (.ireturn, 1) := dk_172 (dk_at dksX0_lambda_new_2_0 11 rfl rfl)
abbrev cX0_lambda_new_3 : ByteArray := prog_1_method_76_code
def yX0_lambda_new_3 : MethodName := ⟨RX0, "lambda$new$3", "(II)I"⟩
def dkwX0_lambda_new_3_0 : List UInt8 := [42, 27, 5, 28, 4, 182, 1, 228, 42, 180, 0, 161, 96, 172]
abbrev dktX0_lambda_new_3_0 : List UInt8 := dkwX0_lambda_new_3_0 ++ []
theorem dksX0_lambda_new_3_0 : cX0_lambda_new_3.data.toList.drop 0 = dktX0_lambda_new_3_0 := by decide +kernel
theorem dX0_lambda_new_3_0 : decode cX0_lambda_new_3 0 = .ok (.aload_n 0, 1) := dk_42 (dk_at dksX0_lambda_new_3_0 0 rfl rfl)
theorem dX0_lambda_new_3_1 : decode cX0_lambda_new_3 1 = .ok (.iload_n 1, 1) := dk_27 (dk_at dksX0_lambda_new_3_0 1 rfl rfl)
theorem dX0_lambda_new_3_2 : decode cX0_lambda_new_3 2 = .ok (.iconst 2, 1) := dk_5 (dk_at dksX0_lambda_new_3_0 2 rfl rfl)
theorem dX0_lambda_new_3_3 : decode cX0_lambda_new_3 3 = .ok (.iload_n 2, 1) := dk_28 (dk_at dksX0_lambda_new_3_0 3 rfl rfl)
theorem dX0_lambda_new_3_4 : decode cX0_lambda_new_3 4 = .ok (.iconst 1, 1) := dk_4 (dk_at dksX0_lambda_new_3_0 4 rfl rfl)
theorem dX0_lambda_new_3_5 : decode cX0_lambda_new_3 5 = .ok (.invokevirtual 484, 3) := dk_182 1 228 (dk_at dksX0_lambda_new_3_0 5 rfl rfl)
theorem dX0_lambda_new_3_8 : decode cX0_lambda_new_3 8 = .ok (.aload_n 0, 1) := dk_42 (dk_at dksX0_lambda_new_3_0 8 rfl rfl)
theorem dX0_lambda_new_3_9 : decode cX0_lambda_new_3 9 = .ok (.getfield 161, 3) := dk_180 0 161 (dk_at dksX0_lambda_new_3_0 9 rfl rfl)
theorem dX0_lambda_new_3_12 : decode cX0_lambda_new_3 12 = .ok (.iadd, 1) := dk_96 (dk_at dksX0_lambda_new_3_0 12 rfl rfl)
theorem dX0_lambda_new_3_13 : decode cX0_lambda_new_3 13 = .ok (.ireturn, 1) := dk_172 (dk_at dksX0_lambda_new_3_0 13 rfl rfl)
abbrev cX0_lambda_new_4 : ByteArray := prog_1_method_75_code
def yX0_lambda_new_4 : MethodName := ⟨RX0, "lambda$new$4", "(II)I"⟩
def dkwX0_lambda_new_4_0 : List UInt8 := [42, 27, 4, 28, 5, 182, 1, 228, 42, 180, 0, 161, 96, 172]
abbrev dktX0_lambda_new_4_0 : List UInt8 := dkwX0_lambda_new_4_0 ++ []
theorem dksX0_lambda_new_4_0 : cX0_lambda_new_4.data.toList.drop 0 = dktX0_lambda_new_4_0 := by decide +kernel
theorem dX0_lambda_new_4_0 : decode cX0_lambda_new_4 0 = .ok (.aload_n 0, 1) := dk_42 (dk_at dksX0_lambda_new_4_0 0 rfl rfl)
theorem dX0_lambda_new_4_1 : decode cX0_lambda_new_4 1 = .ok (.iload_n 1, 1) := dk_27 (dk_at dksX0_lambda_new_4_0 1 rfl rfl)
theorem dX0_lambda_new_4_2 : decode cX0_lambda_new_4 2 = .ok (.iconst 1, 1) := dk_4 (dk_at dksX0_lambda_new_4_0 2 rfl rfl)
theorem dX0_lambda_new_4_3 : decode cX0_lambda_new_4 3 = .ok (.iload_n 2, 1) := dk_28 (dk_at dksX0_lambda_new_4_0 3 rfl rfl)
theorem dX0_lambda_new_4_4 : decode cX0_lambda_new_4 4 = .ok (.iconst 2, 1) := dk_5 (dk_at dksX0_lambda_new_4_0 4 rfl rfl)
theorem dX0_lambda_new_4_5 : decode cX0_lambda_new_4 5 = .ok (.invokevirtual 484, 3) := dk_182 1 228 (dk_at dksX0_lambda_new_4_0 5 rfl rfl)
theorem dX0_lambda_new_4_8 : decode cX0_lambda_new_4 8 = .ok (.aload_n 0, 1) := dk_42 (dk_at dksX0_lambda_new_4_0 8 rfl rfl)
theorem dX0_lambda_new_4_9 : decode cX0_lambda_new_4 9 = .ok (.getfield 161, 3) := dk_180 0 161 (dk_at dksX0_lambda_new_4_0 9 rfl rfl)
theorem dX0_lambda_new_4_12 : decode cX0_lambda_new_4 12 = .ok (.iadd, 1) := dk_96 (dk_at dksX0_lambda_new_4_0 12 rfl rfl)
theorem dX0_lambda_new_4_13 : decode cX0_lambda_new_4 13 = .ok (.ireturn, 1) := dk_172 (dk_at dksX0_lambda_new_4_0 13 rfl rfl)
abbrev cX0_lambda_new_5 : ByteArray := prog_1_method_74_code
def yX0_lambda_new_5 : MethodName := ⟨RX0, "lambda$new$5", "(II)Z"⟩
def dkwX0_lambda_new_5_0 : List UInt8 := [42, 3, 28, 27, 182, 1, 225, 155, 0, 7, 4, 167, 0, 4, 3, 172]
abbrev dktX0_lambda_new_5_0 : List UInt8 := dkwX0_lambda_new_5_0 ++ []
theorem dksX0_lambda_new_5_0 : cX0_lambda_new_5.data.toList.drop 0 = dktX0_lambda_new_5_0 := by decide +kernel
theorem dX0_lambda_new_5_0 : decode cX0_lambda_new_5 0 = .ok (.aload_n 0, 1) := dk_42 (dk_at dksX0_lambda_new_5_0 0 rfl rfl)
theorem dX0_lambda_new_5_1 : decode cX0_lambda_new_5 1 = .ok (.iconst 0, 1) := dk_3 (dk_at dksX0_lambda_new_5_0 1 rfl rfl)
theorem dX0_lambda_new_5_2 : decode cX0_lambda_new_5 2 = .ok (.iload_n 2, 1) := dk_28 (dk_at dksX0_lambda_new_5_0 2 rfl rfl)
theorem dX0_lambda_new_5_3 : decode cX0_lambda_new_5 3 = .ok (.iload_n 1, 1) := dk_27 (dk_at dksX0_lambda_new_5_0 3 rfl rfl)
theorem dX0_lambda_new_5_4 : decode cX0_lambda_new_5 4 = .ok (.invokevirtual 481, 3) := dk_182 1 225 (dk_at dksX0_lambda_new_5_0 4 rfl rfl)
theorem dX0_lambda_new_5_7 : decode cX0_lambda_new_5 7 = .ok (.ifCond .lt 7, 3) := dk_155 0 7 (dk_at dksX0_lambda_new_5_0 7 rfl rfl)
theorem dX0_lambda_new_5_10 : decode cX0_lambda_new_5 10 = .ok (.iconst 1, 1) := dk_4 (dk_at dksX0_lambda_new_5_0 10 rfl rfl)
theorem dX0_lambda_new_5_11 : decode cX0_lambda_new_5 11 = .ok (.goto 4, 3) := dk_167 0 4 (dk_at dksX0_lambda_new_5_0 11 rfl rfl)
theorem dX0_lambda_new_5_14 : decode cX0_lambda_new_5 14 = .ok (.iconst 0, 1) := dk_3 (dk_at dksX0_lambda_new_5_0 14 rfl rfl)
theorem dX0_lambda_new_5_15 : decode cX0_lambda_new_5 15 = .ok (.ireturn, 1) := dk_172 (dk_at dksX0_lambda_new_5_0 15 rfl rfl)
abbrev cX0_letters : ByteArray := prog_1_method_28_code
def yX0_letters : MethodName := ⟨RX0, "letters", "(III)I"⟩
def dkwX0_letters_5 : List UInt8 := [29, 79, 21, 4, 172]
abbrev dktX0_letters_5 : List UInt8 := dkwX0_letters_5 ++ []
def dkwX0_letters_4 : List UInt8 := [180, 0, 26, 28, 185, 0, 167, 2, 0, 192, 0, 84, 29, 181, 0, 245, 167, 0, 10, 42, 180, 0, 30, 28]
abbrev dktX0_letters_4 : List UInt8 := dkwX0_letters_4 ++ dktX0_letters_5
def dkwX0_letters_3 : List UInt8 := [192, 0, 84, 180, 0, 245, 167, 0, 9, 42, 180, 0, 30, 28, 46, 54, 4, 27, 154, 0, 23, 42]
abbrev dktX0_letters_3 : List UInt8 := dkwX0_letters_3 ++ dktX0_letters_4
def dkwX0_letters_2 : List UInt8 := [184, 0, 105, 154, 0, 6, 16, 254, 172, 27, 154, 0, 22, 42, 180, 0, 26, 28, 185, 0, 167, 2, 0]
abbrev dktX0_letters_2 : List UInt8 := dkwX0_letters_2 ++ dktX0_letters_3
def dkwX0_letters_1 : List UInt8 := [153, 0, 16, 167, 0, 11, 42, 28, 182, 0, 251, 153, 0, 5, 2, 172, 29, 133, 10, 20, 0, 117]
abbrev dktX0_letters_1 : List UInt8 := dkwX0_letters_1 ++ dktX0_letters_2
def dkwX0_letters_0 : List UInt8 := [27, 133, 9, 10, 184, 0, 105, 154, 0, 6, 16, 254, 172, 27, 154, 0, 14, 42, 28, 182, 0, 238]
abbrev dktX0_letters_0 : List UInt8 := dkwX0_letters_0 ++ dktX0_letters_1
theorem dksX0_letters_0 : cX0_letters.data.toList.drop 0 = dktX0_letters_0 := by decide +kernel
theorem dksX0_letters_1 : cX0_letters.data.toList.drop 22 = dktX0_letters_1 := dk_seg dksX0_letters_0 22 rfl rfl
theorem dksX0_letters_2 : cX0_letters.data.toList.drop 44 = dktX0_letters_2 := dk_seg dksX0_letters_1 22 rfl rfl
theorem dksX0_letters_3 : cX0_letters.data.toList.drop 67 = dktX0_letters_3 := dk_seg dksX0_letters_2 23 rfl rfl
theorem dksX0_letters_4 : cX0_letters.data.toList.drop 89 = dktX0_letters_4 := dk_seg dksX0_letters_3 22 rfl rfl
theorem dksX0_letters_5 : cX0_letters.data.toList.drop 113 = dktX0_letters_5 := dk_seg dksX0_letters_4 24 rfl rfl
theorem dX0_letters_0 : decode cX0_letters 0 = .ok (.iload_n 1, 1) := dk_27 (dk_at dksX0_letters_0 0 rfl rfl)
theorem dX0_letters_1 : decode cX0_letters 1 = .ok (.i2l, 1) := dk_133 (dk_at dksX0_letters_0 1 rfl rfl)
theorem dX0_letters_2 : decode cX0_letters 2 = .ok (.lconst 0, 1) := dk_9 (dk_at dksX0_letters_0 2 rfl rfl)
theorem dX0_letters_3 : decode cX0_letters 3 = .ok (.lconst 1, 1) := dk_10 (dk_at dksX0_letters_0 3 rfl rfl)
theorem dX0_letters_4 : decode cX0_letters 4 = .ok (.invokestatic 105, 3) := dk_184 0 105 (dk_at dksX0_letters_0 4 rfl rfl)
theorem dX0_letters_7 : decode cX0_letters 7 = .ok (.ifCond .ne 6, 3) := dk_154 0 6 (dk_at dksX0_letters_0 7 rfl rfl)
theorem dX0_letters_10 : decode cX0_letters 10 = .ok (.bipush (-2), 2) := dk_16 254 (dk_at dksX0_letters_0 10 rfl rfl)
theorem dX0_letters_12 : decode cX0_letters 12 = .ok (.ireturn, 1) := dk_172 (dk_at dksX0_letters_0 12 rfl rfl)
theorem dX0_letters_13 : decode cX0_letters 13 = .ok (.iload_n 1, 1) := dk_27 (dk_at dksX0_letters_0 13 rfl rfl)
theorem dX0_letters_14 : decode cX0_letters 14 = .ok (.ifCond .ne 14, 3) := dk_154 0 14 (dk_at dksX0_letters_0 14 rfl rfl)
theorem dX0_letters_17 : decode cX0_letters 17 = .ok (.aload_n 0, 1) := dk_42 (dk_at dksX0_letters_0 17 rfl rfl)
theorem dX0_letters_18 : decode cX0_letters 18 = .ok (.iload_n 2, 1) := dk_28 (dk_at dksX0_letters_0 18 rfl rfl)
theorem dX0_letters_19 : decode cX0_letters 19 = .ok (.invokevirtual 238, 3) := dk_182 0 238 (dk_at dksX0_letters_0 19 rfl rfl)
theorem dX0_letters_22 : decode cX0_letters 22 = .ok (.ifCond .eq 16, 3) := dk_153 0 16 (dk_at dksX0_letters_1 0 rfl rfl)
theorem dX0_letters_25 : decode cX0_letters 25 = .ok (.goto 11, 3) := dk_167 0 11 (dk_at dksX0_letters_1 3 rfl rfl)
theorem dX0_letters_28 : decode cX0_letters 28 = .ok (.aload_n 0, 1) := dk_42 (dk_at dksX0_letters_1 6 rfl rfl)
theorem dX0_letters_29 : decode cX0_letters 29 = .ok (.iload_n 2, 1) := dk_28 (dk_at dksX0_letters_1 7 rfl rfl)
theorem dX0_letters_30 : decode cX0_letters 30 = .ok (.invokevirtual 251, 3) := dk_182 0 251 (dk_at dksX0_letters_1 8 rfl rfl)
theorem dX0_letters_33 : decode cX0_letters 33 = .ok (.ifCond .eq 5, 3) := dk_153 0 5 (dk_at dksX0_letters_1 11 rfl rfl)
theorem dX0_letters_36 : decode cX0_letters 36 = .ok (.iconst (-1), 1) := dk_2 (dk_at dksX0_letters_1 14 rfl rfl)
theorem dX0_letters_37 : decode cX0_letters 37 = .ok (.ireturn, 1) := dk_172 (dk_at dksX0_letters_1 15 rfl rfl)
theorem dX0_letters_38 : decode cX0_letters 38 = .ok (.iload_n 3, 1) := dk_29 (dk_at dksX0_letters_1 16 rfl rfl)
theorem dX0_letters_39 : decode cX0_letters 39 = .ok (.i2l, 1) := dk_133 (dk_at dksX0_letters_1 17 rfl rfl)
theorem dX0_letters_40 : decode cX0_letters 40 = .ok (.lconst 1, 1) := dk_10 (dk_at dksX0_letters_1 18 rfl rfl)
theorem dX0_letters_41 : decode cX0_letters 41 = .ok (.ldc2_w 117, 3) := dk_20 0 117 (dk_at dksX0_letters_1 19 rfl rfl)
theorem dX0_letters_44 : decode cX0_letters 44 = .ok (.invokestatic 105, 3) := dk_184 0 105 (dk_at dksX0_letters_2 0 rfl rfl)
theorem dX0_letters_47 : decode cX0_letters 47 = .ok (.ifCond .ne 6, 3) := dk_154 0 6 (dk_at dksX0_letters_2 3 rfl rfl)
theorem dX0_letters_50 : decode cX0_letters 50 = .ok (.bipush (-2), 2) := dk_16 254 (dk_at dksX0_letters_2 6 rfl rfl)
theorem dX0_letters_52 : decode cX0_letters 52 = .ok (.ireturn, 1) := dk_172 (dk_at dksX0_letters_2 8 rfl rfl)
theorem dX0_letters_53 : decode cX0_letters 53 = .ok (.iload_n 1, 1) := dk_27 (dk_at dksX0_letters_2 9 rfl rfl)
theorem dX0_letters_54 : decode cX0_letters 54 = .ok (.ifCond .ne 22, 3) := dk_154 0 22 (dk_at dksX0_letters_2 10 rfl rfl)
theorem dX0_letters_57 : decode cX0_letters 57 = .ok (.aload_n 0, 1) := dk_42 (dk_at dksX0_letters_2 13 rfl rfl)
theorem dX0_letters_58 : decode cX0_letters 58 = .ok (.getfield 26, 3) := dk_180 0 26 (dk_at dksX0_letters_2 14 rfl rfl)
theorem dX0_letters_61 : decode cX0_letters 61 = .ok (.iload_n 2, 1) := dk_28 (dk_at dksX0_letters_2 17 rfl rfl)
theorem dX0_letters_62 : decode cX0_letters 62 = .ok (.invokeinterface 167 2, 5) := by decide +kernel
theorem dX0_letters_67 : decode cX0_letters 67 = .ok (.checkcast 84, 3) := dk_192 0 84 (dk_at dksX0_letters_3 0 rfl rfl)
theorem dX0_letters_70 : decode cX0_letters 70 = .ok (.getfield 245, 3) := dk_180 0 245 (dk_at dksX0_letters_3 3 rfl rfl)
theorem dX0_letters_73 : decode cX0_letters 73 = .ok (.goto 9, 3) := dk_167 0 9 (dk_at dksX0_letters_3 6 rfl rfl)
theorem dX0_letters_76 : decode cX0_letters 76 = .ok (.aload_n 0, 1) := dk_42 (dk_at dksX0_letters_3 9 rfl rfl)
theorem dX0_letters_77 : decode cX0_letters 77 = .ok (.getfield 30, 3) := dk_180 0 30 (dk_at dksX0_letters_3 10 rfl rfl)
theorem dX0_letters_80 : decode cX0_letters 80 = .ok (.iload_n 2, 1) := dk_28 (dk_at dksX0_letters_3 13 rfl rfl)
theorem dX0_letters_81 : decode cX0_letters 81 = .ok (.iaload, 1) := dk_46 (dk_at dksX0_letters_3 14 rfl rfl)
theorem dX0_letters_82 : decode cX0_letters 82 = .ok (.istore 4, 2) := dk_54 4 (dk_at dksX0_letters_3 15 rfl rfl)
theorem dX0_letters_84 : decode cX0_letters 84 = .ok (.iload_n 1, 1) := dk_27 (dk_at dksX0_letters_3 17 rfl rfl)
theorem dX0_letters_85 : decode cX0_letters 85 = .ok (.ifCond .ne 23, 3) := dk_154 0 23 (dk_at dksX0_letters_3 18 rfl rfl)
theorem dX0_letters_88 : decode cX0_letters 88 = .ok (.aload_n 0, 1) := dk_42 (dk_at dksX0_letters_3 21 rfl rfl)
theorem dX0_letters_89 : decode cX0_letters 89 = .ok (.getfield 26, 3) := dk_180 0 26 (dk_at dksX0_letters_4 0 rfl rfl)
theorem dX0_letters_92 : decode cX0_letters 92 = .ok (.iload_n 2, 1) := dk_28 (dk_at dksX0_letters_4 3 rfl rfl)
theorem dX0_letters_93 : decode cX0_letters 93 = .ok (.invokeinterface 167 2, 5) := by decide +kernel
theorem dX0_letters_98 : decode cX0_letters 98 = .ok (.checkcast 84, 3) := dk_192 0 84 (dk_at dksX0_letters_4 9 rfl rfl)
theorem dX0_letters_101 : decode cX0_letters 101 = .ok (.iload_n 3, 1) := dk_29 (dk_at dksX0_letters_4 12 rfl rfl)
theorem dX0_letters_102 : decode cX0_letters 102 = .ok (.putfield 245, 3) := dk_181 0 245 (dk_at dksX0_letters_4 13 rfl rfl)
theorem dX0_letters_105 : decode cX0_letters 105 = .ok (.goto 10, 3) := dk_167 0 10 (dk_at dksX0_letters_4 16 rfl rfl)
theorem dX0_letters_108 : decode cX0_letters 108 = .ok (.aload_n 0, 1) := dk_42 (dk_at dksX0_letters_4 19 rfl rfl)
theorem dX0_letters_109 : decode cX0_letters 109 = .ok (.getfield 30, 3) := dk_180 0 30 (dk_at dksX0_letters_4 20 rfl rfl)
theorem dX0_letters_112 : decode cX0_letters 112 = .ok (.iload_n 2, 1) := dk_28 (dk_at dksX0_letters_4 23 rfl rfl)
theorem dX0_letters_113 : decode cX0_letters 113 = .ok (.iload_n 3, 1) := dk_29 (dk_at dksX0_letters_5 0 rfl rfl)
theorem dX0_letters_114 : decode cX0_letters 114 = .ok (.iastore, 1) := dk_79 (dk_at dksX0_letters_5 1 rfl rfl)
theorem dX0_letters_115 : decode cX0_letters 115 = .ok (.iload 4, 2) := dk_21 4 (dk_at dksX0_letters_5 2 rfl rfl)
theorem dX0_letters_117 : decode cX0_letters 117 = .ok (.ireturn, 1) := dk_172 (dk_at dksX0_letters_5 4 rfl rfl)
abbrev cX0_in : ByteArray := prog_1_method_3_code
def yX0_in : MethodName := ⟨RX0, "in", "(JJJ)Z"⟩
def dkwX0_in_0 : List UInt8 := [30, 32, 148, 155, 0, 14, 30, 22, 4, 148, 157, 0, 7, 4, 167, 0, 4, 3, 172]
abbrev dktX0_in_0 : List UInt8 := dkwX0_in_0 ++ []
theorem dksX0_in_0 : cX0_in.data.toList.drop 0 = dktX0_in_0 := by decide +kernel
theorem dX0_in_0 : decode cX0_in 0 = .ok (.lload_n 0, 1) := dk_30 (dk_at dksX0_in_0 0 rfl rfl)
theorem dX0_in_1 : decode cX0_in 1 = .ok (.lload_n 2, 1) := dk_32 (dk_at dksX0_in_0 1 rfl rfl)
theorem dX0_in_2 : decode cX0_in 2 = .ok (.lcmp, 1) := dk_148 (dk_at dksX0_in_0 2 rfl rfl)
theorem dX0_in_3 : decode cX0_in 3 = .ok (.ifCond .lt 14, 3) := dk_155 0 14 (dk_at dksX0_in_0 3 rfl rfl)
theorem dX0_in_6 : decode cX0_in 6 = .ok (.lload_n 0, 1) := dk_30 (dk_at dksX0_in_0 6 rfl rfl)
theorem dX0_in_7 : decode cX0_in 7 = .ok (.lload 4, 2) := dk_22 4 (dk_at dksX0_in_0 7 rfl rfl)
theorem dX0_in_9 : decode cX0_in 9 = .ok (.lcmp, 1) := dk_148 (dk_at dksX0_in_0 9 rfl rfl)
theorem dX0_in_10 : decode cX0_in 10 = .ok (.ifCond .gt 7, 3) := dk_157 0 7 (dk_at dksX0_in_0 10 rfl rfl)
theorem dX0_in_13 : decode cX0_in 13 = .ok (.iconst 1, 1) := dk_4 (dk_at dksX0_in_0 13 rfl rfl)
theorem dX0_in_14 : decode cX0_in 14 = .ok (.goto 4, 3) := dk_167 0 4 (dk_at dksX0_in_0 14 rfl rfl)
theorem dX0_in_17 : decode cX0_in 17 = .ok (.iconst 0, 1) := dk_3 (dk_at dksX0_in_0 17 rfl rfl)
theorem dX0_in_18 : decode cX0_in 18 = .ok (.ireturn, 1) := dk_172 (dk_at dksX0_in_0 18 rfl rfl)
abbrev cX0_noLeft : ByteArray := prog_1_method_7_code
def yX0_noLeft : MethodName := ⟨RX0, "noLeft", "(I)Z"⟩
def dkwX0_noLeft_1 : List UInt8 := [167, 0, 4, 3, 172]
abbrev dktX0_noLeft_1 : List UInt8 := dkwX0_noLeft_1 ++ []
def dkwX0_noLeft_0 : List UInt8 := [27, 133, 9, 42, 180, 0, 26, 185, 0, 101, 1, 0, 4, 100, 133, 184, 0, 105, 154, 0, 7, 4]
abbrev dktX0_noLeft_0 : List UInt8 := dkwX0_noLeft_0 ++ dktX0_noLeft_1
theorem dksX0_noLeft_0 : cX0_noLeft.data.toList.drop 0 = dktX0_noLeft_0 := by decide +kernel
theorem dksX0_noLeft_1 : cX0_noLeft.data.toList.drop 22 = dktX0_noLeft_1 := dk_seg dksX0_noLeft_0 22 rfl rfl
theorem dX0_noLeft_0 : decode cX0_noLeft 0 = .ok (.iload_n 1, 1) := dk_27 (dk_at dksX0_noLeft_0 0 rfl rfl)
theorem dX0_noLeft_1 : decode cX0_noLeft 1 = .ok (.i2l, 1) := dk_133 (dk_at dksX0_noLeft_0 1 rfl rfl)
theorem dX0_noLeft_2 : decode cX0_noLeft 2 = .ok (.lconst 0, 1) := dk_9 (dk_at dksX0_noLeft_0 2 rfl rfl)
theorem dX0_noLeft_3 : decode cX0_noLeft 3 = .ok (.aload_n 0, 1) := dk_42 (dk_at dksX0_noLeft_0 3 rfl rfl)
theorem dX0_noLeft_4 : decode cX0_noLeft 4 = .ok (.getfield 26, 3) := dk_180 0 26 (dk_at dksX0_noLeft_0 4 rfl rfl)
theorem dX0_noLeft_7 : decode cX0_noLeft 7 = .ok (.invokeinterface 101 1, 5) := by decide +kernel
theorem dX0_noLeft_12 : decode cX0_noLeft 12 = .ok (.iconst 1, 1) := dk_4 (dk_at dksX0_noLeft_0 12 rfl rfl)
theorem dX0_noLeft_13 : decode cX0_noLeft 13 = .ok (.isub, 1) := dk_100 (dk_at dksX0_noLeft_0 13 rfl rfl)
theorem dX0_noLeft_14 : decode cX0_noLeft 14 = .ok (.i2l, 1) := dk_133 (dk_at dksX0_noLeft_0 14 rfl rfl)
theorem dX0_noLeft_15 : decode cX0_noLeft 15 = .ok (.invokestatic 105, 3) := dk_184 0 105 (dk_at dksX0_noLeft_0 15 rfl rfl)
theorem dX0_noLeft_18 : decode cX0_noLeft 18 = .ok (.ifCond .ne 7, 3) := dk_154 0 7 (dk_at dksX0_noLeft_0 18 rfl rfl)
theorem dX0_noLeft_21 : decode cX0_noLeft 21 = .ok (.iconst 1, 1) := dk_4 (dk_at dksX0_noLeft_0 21 rfl rfl)
theorem dX0_noLeft_22 : decode cX0_noLeft 22 = .ok (.goto 4, 3) := dk_167 0 4 (dk_at dksX0_noLeft_1 0 rfl rfl)
theorem dX0_noLeft_25 : decode cX0_noLeft 25 = .ok (.iconst 0, 1) := dk_3 (dk_at dksX0_noLeft_1 3 rfl rfl)
theorem dX0_noLeft_26 : decode cX0_noLeft 26 = .ok (.ireturn, 1) := dk_172 (dk_at dksX0_noLeft_1 4 rfl rfl)
abbrev cX0_noRight : ByteArray := prog_1_method_8_code
def yX0_noRight : MethodName := ⟨RX0, "noRight", "(I)Z"⟩
def dkwX0_noRight_0 : List UInt8 := [27, 133, 9, 42, 180, 0, 109, 4, 100, 133, 184, 0, 105, 154, 0, 7, 4, 167, 0, 4, 3, 172]
abbrev dktX0_noRight_0 : List UInt8 := dkwX0_noRight_0 ++ []
theorem dksX0_noRight_0 : cX0_noRight.data.toList.drop 0 = dktX0_noRight_0 := by decide +kernel
theorem dX0_noRight_0 : decode cX0_noRight 0 = .ok (.iload_n 1, 1) := dk_27 (dk_at dksX0_noRight_0 0 rfl rfl)
theorem dX0_noRight_1 : decode cX0_noRight 1 = .ok (.i2l, 1) := dk_133 (dk_at dksX0_noRight_0 1 rfl rfl)
theorem dX0_noRight_2 : decode cX0_noRight 2 = .ok (.lconst 0, 1) := dk_9 (dk_at dksX0_noRight_0 2 rfl rfl)
theorem dX0_noRight_3 : decode cX0_noRight 3 = .ok (.aload_n 0, 1) := dk_42 (dk_at dksX0_noRight_0 3 rfl rfl)
theorem dX0_noRight_4 : decode cX0_noRight 4 = .ok (.getfield 109, 3) := dk_180 0 109 (dk_at dksX0_noRight_0 4 rfl rfl)
theorem dX0_noRight_7 : decode cX0_noRight 7 = .ok (.iconst 1, 1) := dk_4 (dk_at dksX0_noRight_0 7 rfl rfl)
theorem dX0_noRight_8 : decode cX0_noRight 8 = .ok (.isub, 1) := dk_100 (dk_at dksX0_noRight_0 8 rfl rfl)
theorem dX0_noRight_9 : decode cX0_noRight 9 = .ok (.i2l, 1) := dk_133 (dk_at dksX0_noRight_0 9 rfl rfl)
theorem dX0_noRight_10 : decode cX0_noRight 10 = .ok (.invokestatic 105, 3) := dk_184 0 105 (dk_at dksX0_noRight_0 10 rfl rfl)
theorem dX0_noRight_13 : decode cX0_noRight 13 = .ok (.ifCond .ne 7, 3) := dk_154 0 7 (dk_at dksX0_noRight_0 13 rfl rfl)
theorem dX0_noRight_16 : decode cX0_noRight 16 = .ok (.iconst 1, 1) := dk_4 (dk_at dksX0_noRight_0 16 rfl rfl)
theorem dX0_noRight_17 : decode cX0_noRight 17 = .ok (.goto 4, 3) := dk_167 0 4 (dk_at dksX0_noRight_0 17 rfl rfl)
theorem dX0_noRight_20 : decode cX0_noRight 20 = .ok (.iconst 0, 1) := dk_3 (dk_at dksX0_noRight_0 20 rfl rfl)
theorem dX0_noRight_21 : decode cX0_noRight 21 = .ok (.ireturn, 1) := dk_172 (dk_at dksX0_noRight_0 21 rfl rfl)
abbrev cX0_lambda_new_6 : ByteArray := prog_1_method_73_code
def yX0_lambda_new_6 : MethodName := ⟨RX0, "lambda$new$6", "(II)Z"⟩
def dkwX0_lambda_new_6_0 : List UInt8 := [42, 4, 28, 27, 182, 1, 225, 155, 0, 7, 4, 167, 0, 4, 3, 172]
abbrev dktX0_lambda_new_6_0 : List UInt8 := dkwX0_lambda_new_6_0 ++ []
theorem dksX0_lambda_new_6_0 : cX0_lambda_new_6.data.toList.drop 0 = dktX0_lambda_new_6_0 := by decide +kernel
theorem dX0_lambda_new_6_0 : decode cX0_lambda_new_6 0 = .ok (.aload_n 0, 1) := dk_42 (dk_at dksX0_lambda_new_6_0 0 rfl rfl)
theorem dX0_lambda_new_6_1 : decode cX0_lambda_new_6 1 = .ok (.iconst 1, 1) := dk_4 (dk_at dksX0_lambda_new_6_0 1 rfl rfl)
theorem dX0_lambda_new_6_2 : decode cX0_lambda_new_6 2 = .ok (.iload_n 2, 1) := dk_28 (dk_at dksX0_lambda_new_6_0 2 rfl rfl)
theorem dX0_lambda_new_6_3 : decode cX0_lambda_new_6 3 = .ok (.iload_n 1, 1) := dk_27 (dk_at dksX0_lambda_new_6_0 3 rfl rfl)
theorem dX0_lambda_new_6_4 : decode cX0_lambda_new_6 4 = .ok (.invokevirtual 481, 3) := dk_182 1 225 (dk_at dksX0_lambda_new_6_0 4 rfl rfl)
theorem dX0_lambda_new_6_7 : decode cX0_lambda_new_6 7 = .ok (.ifCond .lt 7, 3) := dk_155 0 7 (dk_at dksX0_lambda_new_6_0 7 rfl rfl)
theorem dX0_lambda_new_6_10 : decode cX0_lambda_new_6 10 = .ok (.iconst 1, 1) := dk_4 (dk_at dksX0_lambda_new_6_0 10 rfl rfl)
theorem dX0_lambda_new_6_11 : decode cX0_lambda_new_6 11 = .ok (.goto 4, 3) := dk_167 0 4 (dk_at dksX0_lambda_new_6_0 11 rfl rfl)
theorem dX0_lambda_new_6_14 : decode cX0_lambda_new_6 14 = .ok (.iconst 0, 1) := dk_3 (dk_at dksX0_lambda_new_6_0 14 rfl rfl)
theorem dX0_lambda_new_6_15 : decode cX0_lambda_new_6 15 = .ok (.ireturn, 1) := dk_172 (dk_at dksX0_lambda_new_6_0 15 rfl rfl)
abbrev cX0_lambda_new_7 : ByteArray := prog_1_method_72_code
def yX0_lambda_new_7 : MethodName := ⟨RX0, "lambda$new$7", "(II)Z"⟩
def dkwX0_lambda_new_7_0 : List UInt8 := [42, 28, 27, 182, 1, 222, 155, 0, 7, 4, 167, 0, 4, 3, 172]
abbrev dktX0_lambda_new_7_0 : List UInt8 := dkwX0_lambda_new_7_0 ++ []
theorem dksX0_lambda_new_7_0 : cX0_lambda_new_7.data.toList.drop 0 = dktX0_lambda_new_7_0 := by decide +kernel
theorem dX0_lambda_new_7_0 : decode cX0_lambda_new_7 0 = .ok (.aload_n 0, 1) := dk_42 (dk_at dksX0_lambda_new_7_0 0 rfl rfl)
theorem dX0_lambda_new_7_1 : decode cX0_lambda_new_7 1 = .ok (.iload_n 2, 1) := dk_28 (dk_at dksX0_lambda_new_7_0 1 rfl rfl)
theorem dX0_lambda_new_7_2 : decode cX0_lambda_new_7 2 = .ok (.iload_n 1, 1) := dk_27 (dk_at dksX0_lambda_new_7_0 2 rfl rfl)
theorem dX0_lambda_new_7_3 : decode cX0_lambda_new_7 3 = .ok (.invokevirtual 478, 3) := dk_182 1 222 (dk_at dksX0_lambda_new_7_0 3 rfl rfl)
theorem dX0_lambda_new_7_6 : decode cX0_lambda_new_7 6 = .ok (.ifCond .lt 7, 3) := dk_155 0 7 (dk_at dksX0_lambda_new_7_0 6 rfl rfl)
theorem dX0_lambda_new_7_9 : decode cX0_lambda_new_7 9 = .ok (.iconst 1, 1) := dk_4 (dk_at dksX0_lambda_new_7_0 9 rfl rfl)
theorem dX0_lambda_new_7_10 : decode cX0_lambda_new_7 10 = .ok (.goto 4, 3) := dk_167 0 4 (dk_at dksX0_lambda_new_7_0 10 rfl rfl)
theorem dX0_lambda_new_7_13 : decode cX0_lambda_new_7 13 = .ok (.iconst 0, 1) := dk_3 (dk_at dksX0_lambda_new_7_0 13 rfl rfl)
theorem dX0_lambda_new_7_14 : decode cX0_lambda_new_7 14 = .ok (.ireturn, 1) := dk_172 (dk_at dksX0_lambda_new_7_0 14 rfl rfl)
abbrev cX0_price : ByteArray := prog_1_method_29_code
def yX0_price : MethodName := ⟨RX0, "price", "(II)I"⟩
def dkwX0_price_5 : List UInt8 := [167, 0, 7, 42, 180, 0, 164, 181, 0, 164, 29, 172]
abbrev dktX0_price_5 : List UInt8 := dkwX0_price_5 ++ []
def dkwX0_price_4 : List UInt8 := [42, 27, 4, 160, 0, 7, 28, 167, 0, 7, 42, 180, 0, 161, 181, 0, 161, 42, 27, 5, 160, 0, 7, 28]
abbrev dktX0_price_4 : List UInt8 := dkwX0_price_4 ++ dktX0_price_5
def dkwX0_price_3 : List UInt8 := [167, 0, 7, 42, 180, 0, 164, 62, 42, 27, 154, 0, 7, 28, 167, 0, 7, 42, 180, 0, 158, 181, 0, 158]
abbrev dktX0_price_3 : List UInt8 := dkwX0_price_3 ++ dktX0_price_4
def dkwX0_price_2 : List UInt8 := [16, 254, 172, 27, 154, 0, 10, 42, 180, 0, 158, 167, 0, 19, 27, 4, 160, 0, 10, 42, 180, 0, 161]
abbrev dktX0_price_2 : List UInt8 := dkwX0_price_2 ++ dktX0_price_3
def dkwX0_price_1 : List UInt8 := [172, 28, 133, 9, 27, 5, 160, 0, 9, 20, 1, 6, 167, 0, 6, 20, 0, 117, 184, 0, 105, 154, 0, 6]
abbrev dktX0_price_1 : List UInt8 := dkwX0_price_1 ++ dktX0_price_2
def dkwX0_price_0 : List UInt8 := [27, 133, 9, 20, 1, 1, 184, 0, 105, 154, 0, 6, 16, 254, 172, 42, 182, 1, 3, 153, 0, 6, 16, 253]
abbrev dktX0_price_0 : List UInt8 := dkwX0_price_0 ++ dktX0_price_1
theorem dksX0_price_0 : cX0_price.data.toList.drop 0 = dktX0_price_0 := by decide +kernel
theorem dksX0_price_1 : cX0_price.data.toList.drop 24 = dktX0_price_1 := dk_seg dksX0_price_0 24 rfl rfl
theorem dksX0_price_2 : cX0_price.data.toList.drop 48 = dktX0_price_2 := dk_seg dksX0_price_1 24 rfl rfl
theorem dksX0_price_3 : cX0_price.data.toList.drop 71 = dktX0_price_3 := dk_seg dksX0_price_2 23 rfl rfl
theorem dksX0_price_4 : cX0_price.data.toList.drop 95 = dktX0_price_4 := dk_seg dksX0_price_3 24 rfl rfl
theorem dksX0_price_5 : cX0_price.data.toList.drop 119 = dktX0_price_5 := dk_seg dksX0_price_4 24 rfl rfl
theorem dX0_price_0 : decode cX0_price 0 = .ok (.iload_n 1, 1) := dk_27 (dk_at dksX0_price_0 0 rfl rfl)
theorem dX0_price_1 : decode cX0_price 1 = .ok (.i2l, 1) := dk_133 (dk_at dksX0_price_0 1 rfl rfl)
theorem dX0_price_2 : decode cX0_price 2 = .ok (.lconst 0, 1) := dk_9 (dk_at dksX0_price_0 2 rfl rfl)
theorem dX0_price_3 : decode cX0_price 3 = .ok (.ldc2_w 257, 3) := dk_20 1 1 (dk_at dksX0_price_0 3 rfl rfl)
theorem dX0_price_6 : decode cX0_price 6 = .ok (.invokestatic 105, 3) := dk_184 0 105 (dk_at dksX0_price_0 6 rfl rfl)
theorem dX0_price_9 : decode cX0_price 9 = .ok (.ifCond .ne 6, 3) := dk_154 0 6 (dk_at dksX0_price_0 9 rfl rfl)
theorem dX0_price_12 : decode cX0_price 12 = .ok (.bipush (-2), 2) := dk_16 254 (dk_at dksX0_price_0 12 rfl rfl)
theorem dX0_price_14 : decode cX0_price 14 = .ok (.ireturn, 1) := dk_172 (dk_at dksX0_price_0 14 rfl rfl)
theorem dX0_price_15 : decode cX0_price 15 = .ok (.aload_n 0, 1) := dk_42 (dk_at dksX0_price_0 15 rfl rfl)
theorem dX0_price_16 : decode cX0_price 16 = .ok (.invokevirtual 259, 3) := dk_182 1 3 (dk_at dksX0_price_0 16 rfl rfl)
theorem dX0_price_19 : decode cX0_price 19 = .ok (.ifCond .eq 6, 3) := dk_153 0 6 (dk_at dksX0_price_0 19 rfl rfl)
theorem dX0_price_22 : decode cX0_price 22 = .ok (.bipush (-3), 2) := dk_16 253 (dk_at dksX0_price_0 22 rfl rfl)
theorem dX0_price_24 : decode cX0_price 24 = .ok (.ireturn, 1) := dk_172 (dk_at dksX0_price_1 0 rfl rfl)
theorem dX0_price_25 : decode cX0_price 25 = .ok (.iload_n 2, 1) := dk_28 (dk_at dksX0_price_1 1 rfl rfl)
theorem dX0_price_26 : decode cX0_price 26 = .ok (.i2l, 1) := dk_133 (dk_at dksX0_price_1 2 rfl rfl)
theorem dX0_price_27 : decode cX0_price 27 = .ok (.lconst 0, 1) := dk_9 (dk_at dksX0_price_1 3 rfl rfl)
theorem dX0_price_28 : decode cX0_price 28 = .ok (.iload_n 1, 1) := dk_27 (dk_at dksX0_price_1 4 rfl rfl)
theorem dX0_price_29 : decode cX0_price 29 = .ok (.iconst 2, 1) := dk_5 (dk_at dksX0_price_1 5 rfl rfl)
theorem dX0_price_30 : decode cX0_price 30 = .ok (.if_icmp .ne 9, 3) := dk_160 0 9 (dk_at dksX0_price_1 6 rfl rfl)
theorem dX0_price_33 : decode cX0_price 33 = .ok (.ldc2_w 262, 3) := dk_20 1 6 (dk_at dksX0_price_1 9 rfl rfl)
theorem dX0_price_36 : decode cX0_price 36 = .ok (.goto 6, 3) := dk_167 0 6 (dk_at dksX0_price_1 12 rfl rfl)
theorem dX0_price_39 : decode cX0_price 39 = .ok (.ldc2_w 117, 3) := dk_20 0 117 (dk_at dksX0_price_1 15 rfl rfl)
theorem dX0_price_42 : decode cX0_price 42 = .ok (.invokestatic 105, 3) := dk_184 0 105 (dk_at dksX0_price_1 18 rfl rfl)
theorem dX0_price_45 : decode cX0_price 45 = .ok (.ifCond .ne 6, 3) := dk_154 0 6 (dk_at dksX0_price_1 21 rfl rfl)
theorem dX0_price_48 : decode cX0_price 48 = .ok (.bipush (-2), 2) := dk_16 254 (dk_at dksX0_price_2 0 rfl rfl)
theorem dX0_price_50 : decode cX0_price 50 = .ok (.ireturn, 1) := dk_172 (dk_at dksX0_price_2 2 rfl rfl)
theorem dX0_price_51 : decode cX0_price 51 = .ok (.iload_n 1, 1) := dk_27 (dk_at dksX0_price_2 3 rfl rfl)
theorem dX0_price_52 : decode cX0_price 52 = .ok (.ifCond .ne 10, 3) := dk_154 0 10 (dk_at dksX0_price_2 4 rfl rfl)
theorem dX0_price_55 : decode cX0_price 55 = .ok (.aload_n 0, 1) := dk_42 (dk_at dksX0_price_2 7 rfl rfl)
theorem dX0_price_56 : decode cX0_price 56 = .ok (.getfield 158, 3) := dk_180 0 158 (dk_at dksX0_price_2 8 rfl rfl)
theorem dX0_price_59 : decode cX0_price 59 = .ok (.goto 19, 3) := dk_167 0 19 (dk_at dksX0_price_2 11 rfl rfl)
theorem dX0_price_62 : decode cX0_price 62 = .ok (.iload_n 1, 1) := dk_27 (dk_at dksX0_price_2 14 rfl rfl)
theorem dX0_price_63 : decode cX0_price 63 = .ok (.iconst 1, 1) := dk_4 (dk_at dksX0_price_2 15 rfl rfl)
theorem dX0_price_64 : decode cX0_price 64 = .ok (.if_icmp .ne 10, 3) := dk_160 0 10 (dk_at dksX0_price_2 16 rfl rfl)
theorem dX0_price_67 : decode cX0_price 67 = .ok (.aload_n 0, 1) := dk_42 (dk_at dksX0_price_2 19 rfl rfl)
theorem dX0_price_68 : decode cX0_price 68 = .ok (.getfield 161, 3) := dk_180 0 161 (dk_at dksX0_price_2 20 rfl rfl)
theorem dX0_price_71 : decode cX0_price 71 = .ok (.goto 7, 3) := dk_167 0 7 (dk_at dksX0_price_3 0 rfl rfl)
theorem dX0_price_74 : decode cX0_price 74 = .ok (.aload_n 0, 1) := dk_42 (dk_at dksX0_price_3 3 rfl rfl)
theorem dX0_price_75 : decode cX0_price 75 = .ok (.getfield 164, 3) := dk_180 0 164 (dk_at dksX0_price_3 4 rfl rfl)
theorem dX0_price_78 : decode cX0_price 78 = .ok (.istore_n 3, 1) := dk_62 (dk_at dksX0_price_3 7 rfl rfl)
theorem dX0_price_79 : decode cX0_price 79 = .ok (.aload_n 0, 1) := dk_42 (dk_at dksX0_price_3 8 rfl rfl)
theorem dX0_price_80 : decode cX0_price 80 = .ok (.iload_n 1, 1) := dk_27 (dk_at dksX0_price_3 9 rfl rfl)
theorem dX0_price_81 : decode cX0_price 81 = .ok (.ifCond .ne 7, 3) := dk_154 0 7 (dk_at dksX0_price_3 10 rfl rfl)
theorem dX0_price_84 : decode cX0_price 84 = .ok (.iload_n 2, 1) := dk_28 (dk_at dksX0_price_3 13 rfl rfl)
theorem dX0_price_85 : decode cX0_price 85 = .ok (.goto 7, 3) := dk_167 0 7 (dk_at dksX0_price_3 14 rfl rfl)
theorem dX0_price_88 : decode cX0_price 88 = .ok (.aload_n 0, 1) := dk_42 (dk_at dksX0_price_3 17 rfl rfl)
theorem dX0_price_89 : decode cX0_price 89 = .ok (.getfield 158, 3) := dk_180 0 158 (dk_at dksX0_price_3 18 rfl rfl)
theorem dX0_price_92 : decode cX0_price 92 = .ok (.putfield 158, 3) := dk_181 0 158 (dk_at dksX0_price_3 21 rfl rfl)
theorem dX0_price_95 : decode cX0_price 95 = .ok (.aload_n 0, 1) := dk_42 (dk_at dksX0_price_4 0 rfl rfl)
theorem dX0_price_96 : decode cX0_price 96 = .ok (.iload_n 1, 1) := dk_27 (dk_at dksX0_price_4 1 rfl rfl)
theorem dX0_price_97 : decode cX0_price 97 = .ok (.iconst 1, 1) := dk_4 (dk_at dksX0_price_4 2 rfl rfl)
theorem dX0_price_98 : decode cX0_price 98 = .ok (.if_icmp .ne 7, 3) := dk_160 0 7 (dk_at dksX0_price_4 3 rfl rfl)
theorem dX0_price_101 : decode cX0_price 101 = .ok (.iload_n 2, 1) := dk_28 (dk_at dksX0_price_4 6 rfl rfl)
theorem dX0_price_102 : decode cX0_price 102 = .ok (.goto 7, 3) := dk_167 0 7 (dk_at dksX0_price_4 7 rfl rfl)
theorem dX0_price_105 : decode cX0_price 105 = .ok (.aload_n 0, 1) := dk_42 (dk_at dksX0_price_4 10 rfl rfl)
theorem dX0_price_106 : decode cX0_price 106 = .ok (.getfield 161, 3) := dk_180 0 161 (dk_at dksX0_price_4 11 rfl rfl)
theorem dX0_price_109 : decode cX0_price 109 = .ok (.putfield 161, 3) := dk_181 0 161 (dk_at dksX0_price_4 14 rfl rfl)
theorem dX0_price_112 : decode cX0_price 112 = .ok (.aload_n 0, 1) := dk_42 (dk_at dksX0_price_4 17 rfl rfl)
theorem dX0_price_113 : decode cX0_price 113 = .ok (.iload_n 1, 1) := dk_27 (dk_at dksX0_price_4 18 rfl rfl)
theorem dX0_price_114 : decode cX0_price 114 = .ok (.iconst 2, 1) := dk_5 (dk_at dksX0_price_4 19 rfl rfl)
theorem dX0_price_115 : decode cX0_price 115 = .ok (.if_icmp .ne 7, 3) := dk_160 0 7 (dk_at dksX0_price_4 20 rfl rfl)
theorem dX0_price_118 : decode cX0_price 118 = .ok (.iload_n 2, 1) := dk_28 (dk_at dksX0_price_4 23 rfl rfl)
theorem dX0_price_119 : decode cX0_price 119 = .ok (.goto 7, 3) := dk_167 0 7 (dk_at dksX0_price_5 0 rfl rfl)
theorem dX0_price_122 : decode cX0_price 122 = .ok (.aload_n 0, 1) := dk_42 (dk_at dksX0_price_5 3 rfl rfl)
theorem dX0_price_123 : decode cX0_price 123 = .ok (.getfield 164, 3) := dk_180 0 164 (dk_at dksX0_price_5 4 rfl rfl)
theorem dX0_price_126 : decode cX0_price 126 = .ok (.putfield 164, 3) := dk_181 0 164 (dk_at dksX0_price_5 7 rfl rfl)
theorem dX0_price_129 : decode cX0_price 129 = .ok (.iload_n 3, 1) := dk_29 (dk_at dksX0_price_5 10 rfl rfl)
theorem dX0_price_130 : decode cX0_price 130 = .ok (.ireturn, 1) := dk_172 (dk_at dksX0_price_5 11 rfl rfl)
abbrev cX0_noBooks : ByteArray := prog_1_method_6_code
def yX0_noBooks : MethodName := ⟨RX0, "noBooks", "()Z"⟩
def dkwX0_noBooks_0 : List UInt8 := [42, 180, 0, 26, 185, 0, 95, 1, 0, 172]
abbrev dktX0_noBooks_0 : List UInt8 := dkwX0_noBooks_0 ++ []
theorem dksX0_noBooks_0 : cX0_noBooks.data.toList.drop 0 = dktX0_noBooks_0 := by decide +kernel
theorem dX0_noBooks_0 : decode cX0_noBooks 0 = .ok (.aload_n 0, 1) := dk_42 (dk_at dksX0_noBooks_0 0 rfl rfl)
theorem dX0_noBooks_1 : decode cX0_noBooks 1 = .ok (.getfield 26, 3) := dk_180 0 26 (dk_at dksX0_noBooks_0 1 rfl rfl)
theorem dX0_noBooks_4 : decode cX0_noBooks 4 = .ok (.invokeinterface 95 1, 5) := by decide +kernel
theorem dX0_noBooks_9 : decode cX0_noBooks 9 = .ok (.ireturn, 1) := dk_172 (dk_at dksX0_noBooks_0 9 rfl rfl)
abbrev cX0_cost : ByteArray := prog_1_method_18_code
def yX0_cost : MethodName := ⟨RX0, "cost", "(III)I"⟩
def dkwX0_cost_4 : List UInt8 := [153, 0, 7, 2, 167, 0, 19, 42, 180, 0, 13, 27, 50, 180, 0, 194, 28, 29, 185, 0, 198, 3, 0, 172]
abbrev dktX0_cost_4 : List UInt8 := dkwX0_cost_4 ++ []
def dkwX0_cost_3 : List UInt8 := [100, 133, 184, 0, 105, 154, 0, 7, 4, 167, 0, 4, 3, 54, 5, 21, 4, 154, 0, 8, 21, 5]
abbrev dktX0_cost_3 : List UInt8 := dkwX0_cost_3 ++ dktX0_cost_4
def dkwX0_cost_2 : List UInt8 := [167, 0, 4, 3, 54, 4, 27, 184, 0, 189, 158, 0, 26, 29, 133, 9, 42, 180, 0, 109, 27, 184, 0, 189]
abbrev dktX0_cost_2 : List UInt8 := dkwX0_cost_2 ++ dktX0_cost_3
def dkwX0_cost_1 : List UInt8 := [9, 42, 180, 0, 26, 185, 0, 101, 1, 0, 27, 184, 0, 186, 100, 133, 184, 0, 105, 154, 0, 7, 4]
abbrev dktX0_cost_1 : List UInt8 := dkwX0_cost_1 ++ dktX0_cost_2
def dkwX0_cost_0 : List UInt8 := [27, 133, 9, 20, 0, 192, 184, 0, 105, 154, 0, 6, 16, 254, 172, 27, 184, 0, 186, 158, 0, 31, 28, 133]
abbrev dktX0_cost_0 : List UInt8 := dkwX0_cost_0 ++ dktX0_cost_1
theorem dksX0_cost_0 : cX0_cost.data.toList.drop 0 = dktX0_cost_0 := by decide +kernel
theorem dksX0_cost_1 : cX0_cost.data.toList.drop 24 = dktX0_cost_1 := dk_seg dksX0_cost_0 24 rfl rfl
theorem dksX0_cost_2 : cX0_cost.data.toList.drop 47 = dktX0_cost_2 := dk_seg dksX0_cost_1 23 rfl rfl
theorem dksX0_cost_3 : cX0_cost.data.toList.drop 71 = dktX0_cost_3 := dk_seg dksX0_cost_2 24 rfl rfl
theorem dksX0_cost_4 : cX0_cost.data.toList.drop 93 = dktX0_cost_4 := dk_seg dksX0_cost_3 22 rfl rfl
theorem dX0_cost_0 : decode cX0_cost 0 = .ok (.iload_n 1, 1) := dk_27 (dk_at dksX0_cost_0 0 rfl rfl)
theorem dX0_cost_1 : decode cX0_cost 1 = .ok (.i2l, 1) := dk_133 (dk_at dksX0_cost_0 1 rfl rfl)
theorem dX0_cost_2 : decode cX0_cost 2 = .ok (.lconst 0, 1) := dk_9 (dk_at dksX0_cost_0 2 rfl rfl)
theorem dX0_cost_3 : decode cX0_cost 3 = .ok (.ldc2_w 192, 3) := dk_20 0 192 (dk_at dksX0_cost_0 3 rfl rfl)
theorem dX0_cost_6 : decode cX0_cost 6 = .ok (.invokestatic 105, 3) := dk_184 0 105 (dk_at dksX0_cost_0 6 rfl rfl)
theorem dX0_cost_9 : decode cX0_cost 9 = .ok (.ifCond .ne 6, 3) := dk_154 0 6 (dk_at dksX0_cost_0 9 rfl rfl)
theorem dX0_cost_12 : decode cX0_cost 12 = .ok (.bipush (-2), 2) := dk_16 254 (dk_at dksX0_cost_0 12 rfl rfl)
theorem dX0_cost_14 : decode cX0_cost 14 = .ok (.ireturn, 1) := dk_172 (dk_at dksX0_cost_0 14 rfl rfl)
theorem dX0_cost_15 : decode cX0_cost 15 = .ok (.iload_n 1, 1) := dk_27 (dk_at dksX0_cost_0 15 rfl rfl)
theorem dX0_cost_16 : decode cX0_cost 16 = .ok (.invokestatic 186, 3) := dk_184 0 186 (dk_at dksX0_cost_0 16 rfl rfl)
theorem dX0_cost_19 : decode cX0_cost 19 = .ok (.ifCond .le 31, 3) := dk_158 0 31 (dk_at dksX0_cost_0 19 rfl rfl)
theorem dX0_cost_22 : decode cX0_cost 22 = .ok (.iload_n 2, 1) := dk_28 (dk_at dksX0_cost_0 22 rfl rfl)
theorem dX0_cost_23 : decode cX0_cost 23 = .ok (.i2l, 1) := dk_133 (dk_at dksX0_cost_0 23 rfl rfl)
theorem dX0_cost_24 : decode cX0_cost 24 = .ok (.lconst 0, 1) := dk_9 (dk_at dksX0_cost_1 0 rfl rfl)
theorem dX0_cost_25 : decode cX0_cost 25 = .ok (.aload_n 0, 1) := dk_42 (dk_at dksX0_cost_1 1 rfl rfl)
theorem dX0_cost_26 : decode cX0_cost 26 = .ok (.getfield 26, 3) := dk_180 0 26 (dk_at dksX0_cost_1 2 rfl rfl)
theorem dX0_cost_29 : decode cX0_cost 29 = .ok (.invokeinterface 101 1, 5) := by decide +kernel
theorem dX0_cost_34 : decode cX0_cost 34 = .ok (.iload_n 1, 1) := dk_27 (dk_at dksX0_cost_1 10 rfl rfl)
theorem dX0_cost_35 : decode cX0_cost 35 = .ok (.invokestatic 186, 3) := dk_184 0 186 (dk_at dksX0_cost_1 11 rfl rfl)
theorem dX0_cost_38 : decode cX0_cost 38 = .ok (.isub, 1) := dk_100 (dk_at dksX0_cost_1 14 rfl rfl)
theorem dX0_cost_39 : decode cX0_cost 39 = .ok (.i2l, 1) := dk_133 (dk_at dksX0_cost_1 15 rfl rfl)
theorem dX0_cost_40 : decode cX0_cost 40 = .ok (.invokestatic 105, 3) := dk_184 0 105 (dk_at dksX0_cost_1 16 rfl rfl)
theorem dX0_cost_43 : decode cX0_cost 43 = .ok (.ifCond .ne 7, 3) := dk_154 0 7 (dk_at dksX0_cost_1 19 rfl rfl)
theorem dX0_cost_46 : decode cX0_cost 46 = .ok (.iconst 1, 1) := dk_4 (dk_at dksX0_cost_1 22 rfl rfl)
theorem dX0_cost_47 : decode cX0_cost 47 = .ok (.goto 4, 3) := dk_167 0 4 (dk_at dksX0_cost_2 0 rfl rfl)
theorem dX0_cost_50 : decode cX0_cost 50 = .ok (.iconst 0, 1) := dk_3 (dk_at dksX0_cost_2 3 rfl rfl)
theorem dX0_cost_51 : decode cX0_cost 51 = .ok (.istore 4, 2) := dk_54 4 (dk_at dksX0_cost_2 4 rfl rfl)
theorem dX0_cost_53 : decode cX0_cost 53 = .ok (.iload_n 1, 1) := dk_27 (dk_at dksX0_cost_2 6 rfl rfl)
theorem dX0_cost_54 : decode cX0_cost 54 = .ok (.invokestatic 189, 3) := dk_184 0 189 (dk_at dksX0_cost_2 7 rfl rfl)
theorem dX0_cost_57 : decode cX0_cost 57 = .ok (.ifCond .le 26, 3) := dk_158 0 26 (dk_at dksX0_cost_2 10 rfl rfl)
theorem dX0_cost_60 : decode cX0_cost 60 = .ok (.iload_n 3, 1) := dk_29 (dk_at dksX0_cost_2 13 rfl rfl)
theorem dX0_cost_61 : decode cX0_cost 61 = .ok (.i2l, 1) := dk_133 (dk_at dksX0_cost_2 14 rfl rfl)
theorem dX0_cost_62 : decode cX0_cost 62 = .ok (.lconst 0, 1) := dk_9 (dk_at dksX0_cost_2 15 rfl rfl)
theorem dX0_cost_63 : decode cX0_cost 63 = .ok (.aload_n 0, 1) := dk_42 (dk_at dksX0_cost_2 16 rfl rfl)
theorem dX0_cost_64 : decode cX0_cost 64 = .ok (.getfield 109, 3) := dk_180 0 109 (dk_at dksX0_cost_2 17 rfl rfl)
theorem dX0_cost_67 : decode cX0_cost 67 = .ok (.iload_n 1, 1) := dk_27 (dk_at dksX0_cost_2 20 rfl rfl)
theorem dX0_cost_68 : decode cX0_cost 68 = .ok (.invokestatic 189, 3) := dk_184 0 189 (dk_at dksX0_cost_2 21 rfl rfl)
theorem dX0_cost_71 : decode cX0_cost 71 = .ok (.isub, 1) := dk_100 (dk_at dksX0_cost_3 0 rfl rfl)
theorem dX0_cost_72 : decode cX0_cost 72 = .ok (.i2l, 1) := dk_133 (dk_at dksX0_cost_3 1 rfl rfl)
theorem dX0_cost_73 : decode cX0_cost 73 = .ok (.invokestatic 105, 3) := dk_184 0 105 (dk_at dksX0_cost_3 2 rfl rfl)
theorem dX0_cost_76 : decode cX0_cost 76 = .ok (.ifCond .ne 7, 3) := dk_154 0 7 (dk_at dksX0_cost_3 5 rfl rfl)
theorem dX0_cost_79 : decode cX0_cost 79 = .ok (.iconst 1, 1) := dk_4 (dk_at dksX0_cost_3 8 rfl rfl)
theorem dX0_cost_80 : decode cX0_cost 80 = .ok (.goto 4, 3) := dk_167 0 4 (dk_at dksX0_cost_3 9 rfl rfl)
theorem dX0_cost_83 : decode cX0_cost 83 = .ok (.iconst 0, 1) := dk_3 (dk_at dksX0_cost_3 12 rfl rfl)
theorem dX0_cost_84 : decode cX0_cost 84 = .ok (.istore 5, 2) := dk_54 5 (dk_at dksX0_cost_3 13 rfl rfl)
theorem dX0_cost_86 : decode cX0_cost 86 = .ok (.iload 4, 2) := dk_21 4 (dk_at dksX0_cost_3 15 rfl rfl)
theorem dX0_cost_88 : decode cX0_cost 88 = .ok (.ifCond .ne 8, 3) := dk_154 0 8 (dk_at dksX0_cost_3 17 rfl rfl)
theorem dX0_cost_91 : decode cX0_cost 91 = .ok (.iload 5, 2) := dk_21 5 (dk_at dksX0_cost_3 20 rfl rfl)
theorem dX0_cost_93 : decode cX0_cost 93 = .ok (.ifCond .eq 7, 3) := dk_153 0 7 (dk_at dksX0_cost_4 0 rfl rfl)
theorem dX0_cost_96 : decode cX0_cost 96 = .ok (.iconst (-1), 1) := dk_2 (dk_at dksX0_cost_4 3 rfl rfl)
theorem dX0_cost_97 : decode cX0_cost 97 = .ok (.goto 19, 3) := dk_167 0 19 (dk_at dksX0_cost_4 4 rfl rfl)
theorem dX0_cost_100 : decode cX0_cost 100 = .ok (.aload_n 0, 1) := dk_42 (dk_at dksX0_cost_4 7 rfl rfl)
theorem dX0_cost_101 : decode cX0_cost 101 = .ok (.getfield 13, 3) := dk_180 0 13 (dk_at dksX0_cost_4 8 rfl rfl)
theorem dX0_cost_104 : decode cX0_cost 104 = .ok (.iload_n 1, 1) := dk_27 (dk_at dksX0_cost_4 11 rfl rfl)
theorem dX0_cost_105 : decode cX0_cost 105 = .ok (.aaload, 1) := dk_50 (dk_at dksX0_cost_4 12 rfl rfl)
theorem dX0_cost_106 : decode cX0_cost 106 = .ok (.getfield 194, 3) := dk_180 0 194 (dk_at dksX0_cost_4 13 rfl rfl)
theorem dX0_cost_109 : decode cX0_cost 109 = .ok (.iload_n 2, 1) := dk_28 (dk_at dksX0_cost_4 16 rfl rfl)
theorem dX0_cost_110 : decode cX0_cost 110 = .ok (.iload_n 3, 1) := dk_29 (dk_at dksX0_cost_4 17 rfl rfl)
theorem dX0_cost_111 : decode cX0_cost 111 = .ok (.invokeinterface 198 3, 5) := by decide +kernel
theorem dX0_cost_116 : decode cX0_cost 116 = .ok (.ireturn, 1) := dk_172 (dk_at dksX0_cost_4 23 rfl rfl)
abbrev cX0_leftOf : ByteArray := prog_1_method_1_code
def yX0_leftOf : MethodName := ⟨RX0, "leftOf", "(I)I"⟩
def dkwX0_leftOf_0 : List UInt8 := [26, 5, 160, 0, 7, 3, 167, 0, 13, 26, 6, 160, 0, 7, 5, 167, 0, 4, 4, 172]
abbrev dktX0_leftOf_0 : List UInt8 := dkwX0_leftOf_0 ++ []
theorem dksX0_leftOf_0 : cX0_leftOf.data.toList.drop 0 = dktX0_leftOf_0 := by decide +kernel
theorem dX0_leftOf_0 : decode cX0_leftOf 0 = .ok (.iload_n 0, 1) := dk_26 (dk_at dksX0_leftOf_0 0 rfl rfl)
theorem dX0_leftOf_1 : decode cX0_leftOf 1 = .ok (.iconst 2, 1) := dk_5 (dk_at dksX0_leftOf_0 1 rfl rfl)
theorem dX0_leftOf_2 : decode cX0_leftOf 2 = .ok (.if_icmp .ne 7, 3) := dk_160 0 7 (dk_at dksX0_leftOf_0 2 rfl rfl)
theorem dX0_leftOf_5 : decode cX0_leftOf 5 = .ok (.iconst 0, 1) := dk_3 (dk_at dksX0_leftOf_0 5 rfl rfl)
theorem dX0_leftOf_6 : decode cX0_leftOf 6 = .ok (.goto 13, 3) := dk_167 0 13 (dk_at dksX0_leftOf_0 6 rfl rfl)
theorem dX0_leftOf_9 : decode cX0_leftOf 9 = .ok (.iload_n 0, 1) := dk_26 (dk_at dksX0_leftOf_0 9 rfl rfl)
theorem dX0_leftOf_10 : decode cX0_leftOf 10 = .ok (.iconst 3, 1) := dk_6 (dk_at dksX0_leftOf_0 10 rfl rfl)
theorem dX0_leftOf_11 : decode cX0_leftOf 11 = .ok (.if_icmp .ne 7, 3) := dk_160 0 7 (dk_at dksX0_leftOf_0 11 rfl rfl)
theorem dX0_leftOf_14 : decode cX0_leftOf 14 = .ok (.iconst 2, 1) := dk_5 (dk_at dksX0_leftOf_0 14 rfl rfl)
theorem dX0_leftOf_15 : decode cX0_leftOf 15 = .ok (.goto 4, 3) := dk_167 0 4 (dk_at dksX0_leftOf_0 15 rfl rfl)
theorem dX0_leftOf_18 : decode cX0_leftOf 18 = .ok (.iconst 1, 1) := dk_4 (dk_at dksX0_leftOf_0 18 rfl rfl)
theorem dX0_leftOf_19 : decode cX0_leftOf 19 = .ok (.ireturn, 1) := dk_172 (dk_at dksX0_leftOf_0 19 rfl rfl)
abbrev cX0_rightOf : ByteArray := prog_1_method_2_code
def yX0_rightOf : MethodName := ⟨RX0, "rightOf", "(I)I"⟩
def dkwX0_rightOf_0 : List UInt8 := [26, 4, 160, 0, 7, 3, 167, 0, 13, 26, 7, 160, 0, 7, 5, 167, 0, 4, 4, 172]
abbrev dktX0_rightOf_0 : List UInt8 := dkwX0_rightOf_0 ++ []
theorem dksX0_rightOf_0 : cX0_rightOf.data.toList.drop 0 = dktX0_rightOf_0 := by decide +kernel
theorem dX0_rightOf_0 : decode cX0_rightOf 0 = .ok (.iload_n 0, 1) := dk_26 (dk_at dksX0_rightOf_0 0 rfl rfl)
theorem dX0_rightOf_1 : decode cX0_rightOf 1 = .ok (.iconst 1, 1) := dk_4 (dk_at dksX0_rightOf_0 1 rfl rfl)
theorem dX0_rightOf_2 : decode cX0_rightOf 2 = .ok (.if_icmp .ne 7, 3) := dk_160 0 7 (dk_at dksX0_rightOf_0 2 rfl rfl)
theorem dX0_rightOf_5 : decode cX0_rightOf 5 = .ok (.iconst 0, 1) := dk_3 (dk_at dksX0_rightOf_0 5 rfl rfl)
theorem dX0_rightOf_6 : decode cX0_rightOf 6 = .ok (.goto 13, 3) := dk_167 0 13 (dk_at dksX0_rightOf_0 6 rfl rfl)
theorem dX0_rightOf_9 : decode cX0_rightOf 9 = .ok (.iload_n 0, 1) := dk_26 (dk_at dksX0_rightOf_0 9 rfl rfl)
theorem dX0_rightOf_10 : decode cX0_rightOf 10 = .ok (.iconst 4, 1) := dk_7 (dk_at dksX0_rightOf_0 10 rfl rfl)
theorem dX0_rightOf_11 : decode cX0_rightOf 11 = .ok (.if_icmp .ne 7, 3) := dk_160 0 7 (dk_at dksX0_rightOf_0 11 rfl rfl)
theorem dX0_rightOf_14 : decode cX0_rightOf 14 = .ok (.iconst 2, 1) := dk_5 (dk_at dksX0_rightOf_0 14 rfl rfl)
theorem dX0_rightOf_15 : decode cX0_rightOf 15 = .ok (.goto 4, 3) := dk_167 0 4 (dk_at dksX0_rightOf_0 15 rfl rfl)
theorem dX0_rightOf_18 : decode cX0_rightOf 18 = .ok (.iconst 1, 1) := dk_4 (dk_at dksX0_rightOf_0 18 rfl rfl)
theorem dX0_rightOf_19 : decode cX0_rightOf 19 = .ok (.ireturn, 1) := dk_172 (dk_at dksX0_rightOf_0 19 rfl rfl)
abbrev cX0_ofLeft : ByteArray := prog_1_method_26_code
def yX0_ofLeft : MethodName := ⟨RX0, "ofLeft", "(II)I"⟩
def dkwX0_ofLeft_4 : List UInt8 := [182, 0, 248, 172, 16, 254, 172]
abbrev dktX0_ofLeft_4 : List UInt8 := dkwX0_ofLeft_4 ++ []
def dkwX0_ofLeft_3 : List UInt8 := [45, 182, 0, 242, 172, 45, 180, 0, 245, 172, 45, 182, 0, 171, 172, 45, 180, 0, 174, 172, 42, 27]
abbrev dktX0_ofLeft_3 : List UInt8 := dkwX0_ofLeft_3 ++ dktX0_ofLeft_4
def dkwX0_ofLeft_2 : List UInt8 := [170, 0, 0, 0, 0, 0, 61, 0, 0, 0, 0, 0, 0, 0, 4, 0, 0, 0, 35, 0, 0, 0, 40, 0, 0, 0, 45, 0, 0, 0, 50, 0, 0, 0, 55]
abbrev dktX0_ofLeft_2 : List UInt8 := dkwX0_ofLeft_2 ++ dktX0_ofLeft_3
def dkwX0_ofLeft_1 : List UInt8 := [28]
abbrev dktX0_ofLeft_1 : List UInt8 := dkwX0_ofLeft_1 ++ dktX0_ofLeft_2
def dkwX0_ofLeft_0 : List UInt8 := [42, 27, 182, 0, 238, 153, 0, 5, 2, 172, 42, 180, 0, 26, 27, 185, 0, 167, 2, 0, 192, 0, 84, 78]
abbrev dktX0_ofLeft_0 : List UInt8 := dkwX0_ofLeft_0 ++ dktX0_ofLeft_1
theorem dksX0_ofLeft_0 : cX0_ofLeft.data.toList.drop 0 = dktX0_ofLeft_0 := by decide +kernel
theorem dksX0_ofLeft_1 : cX0_ofLeft.data.toList.drop 24 = dktX0_ofLeft_1 := dk_seg dksX0_ofLeft_0 24 rfl rfl
theorem dksX0_ofLeft_2 : cX0_ofLeft.data.toList.drop 25 = dktX0_ofLeft_2 := dk_seg dksX0_ofLeft_1 1 rfl rfl
theorem dksX0_ofLeft_3 : cX0_ofLeft.data.toList.drop 60 = dktX0_ofLeft_3 := dk_seg dksX0_ofLeft_2 35 rfl rfl
theorem dksX0_ofLeft_4 : cX0_ofLeft.data.toList.drop 82 = dktX0_ofLeft_4 := dk_seg dksX0_ofLeft_3 22 rfl rfl
theorem dX0_ofLeft_0 : decode cX0_ofLeft 0 = .ok (.aload_n 0, 1) := dk_42 (dk_at dksX0_ofLeft_0 0 rfl rfl)
theorem dX0_ofLeft_1 : decode cX0_ofLeft 1 = .ok (.iload_n 1, 1) := dk_27 (dk_at dksX0_ofLeft_0 1 rfl rfl)
theorem dX0_ofLeft_2 : decode cX0_ofLeft 2 = .ok (.invokevirtual 238, 3) := dk_182 0 238 (dk_at dksX0_ofLeft_0 2 rfl rfl)
theorem dX0_ofLeft_5 : decode cX0_ofLeft 5 = .ok (.ifCond .eq 5, 3) := dk_153 0 5 (dk_at dksX0_ofLeft_0 5 rfl rfl)
theorem dX0_ofLeft_8 : decode cX0_ofLeft 8 = .ok (.iconst (-1), 1) := dk_2 (dk_at dksX0_ofLeft_0 8 rfl rfl)
theorem dX0_ofLeft_9 : decode cX0_ofLeft 9 = .ok (.ireturn, 1) := dk_172 (dk_at dksX0_ofLeft_0 9 rfl rfl)
theorem dX0_ofLeft_10 : decode cX0_ofLeft 10 = .ok (.aload_n 0, 1) := dk_42 (dk_at dksX0_ofLeft_0 10 rfl rfl)
theorem dX0_ofLeft_11 : decode cX0_ofLeft 11 = .ok (.getfield 26, 3) := dk_180 0 26 (dk_at dksX0_ofLeft_0 11 rfl rfl)
theorem dX0_ofLeft_14 : decode cX0_ofLeft 14 = .ok (.iload_n 1, 1) := dk_27 (dk_at dksX0_ofLeft_0 14 rfl rfl)
theorem dX0_ofLeft_15 : decode cX0_ofLeft 15 = .ok (.invokeinterface 167 2, 5) := by decide +kernel
theorem dX0_ofLeft_20 : decode cX0_ofLeft 20 = .ok (.checkcast 84, 3) := dk_192 0 84 (dk_at dksX0_ofLeft_0 20 rfl rfl)
theorem dX0_ofLeft_23 : decode cX0_ofLeft 23 = .ok (.astore_n 3, 1) := dk_78 (dk_at dksX0_ofLeft_0 23 rfl rfl)
theorem dX0_ofLeft_24 : decode cX0_ofLeft 24 = .ok (.iload_n 2, 1) := dk_28 (dk_at dksX0_ofLeft_1 0 rfl rfl)
theorem dX0_ofLeft_25 : decode cX0_ofLeft 25 = .ok (.tableswitch 61 0 4 #[35, 40, 45, 50, 55], 35) := by decide +kernel
theorem dX0_ofLeft_60 : decode cX0_ofLeft 60 = .ok (.aload_n 3, 1) := dk_45 (dk_at dksX0_ofLeft_3 0 rfl rfl)
theorem dX0_ofLeft_61 : decode cX0_ofLeft 61 = .ok (.invokevirtual 242, 3) := dk_182 0 242 (dk_at dksX0_ofLeft_3 1 rfl rfl)
theorem dX0_ofLeft_64 : decode cX0_ofLeft 64 = .ok (.ireturn, 1) := dk_172 (dk_at dksX0_ofLeft_3 4 rfl rfl)
theorem dX0_ofLeft_65 : decode cX0_ofLeft 65 = .ok (.aload_n 3, 1) := dk_45 (dk_at dksX0_ofLeft_3 5 rfl rfl)
theorem dX0_ofLeft_66 : decode cX0_ofLeft 66 = .ok (.getfield 245, 3) := dk_180 0 245 (dk_at dksX0_ofLeft_3 6 rfl rfl)
theorem dX0_ofLeft_69 : decode cX0_ofLeft 69 = .ok (.ireturn, 1) := dk_172 (dk_at dksX0_ofLeft_3 9 rfl rfl)
theorem dX0_ofLeft_70 : decode cX0_ofLeft 70 = .ok (.aload_n 3, 1) := dk_45 (dk_at dksX0_ofLeft_3 10 rfl rfl)
theorem dX0_ofLeft_71 : decode cX0_ofLeft 71 = .ok (.invokevirtual 171, 3) := dk_182 0 171 (dk_at dksX0_ofLeft_3 11 rfl rfl)
theorem dX0_ofLeft_74 : decode cX0_ofLeft 74 = .ok (.ireturn, 1) := dk_172 (dk_at dksX0_ofLeft_3 14 rfl rfl)
theorem dX0_ofLeft_75 : decode cX0_ofLeft 75 = .ok (.aload_n 3, 1) := dk_45 (dk_at dksX0_ofLeft_3 15 rfl rfl)
theorem dX0_ofLeft_76 : decode cX0_ofLeft 76 = .ok (.getfield 174, 3) := dk_180 0 174 (dk_at dksX0_ofLeft_3 16 rfl rfl)
theorem dX0_ofLeft_79 : decode cX0_ofLeft 79 = .ok (.ireturn, 1) := dk_172 (dk_at dksX0_ofLeft_3 19 rfl rfl)
theorem dX0_ofLeft_80 : decode cX0_ofLeft 80 = .ok (.aload_n 0, 1) := dk_42 (dk_at dksX0_ofLeft_3 20 rfl rfl)
theorem dX0_ofLeft_81 : decode cX0_ofLeft 81 = .ok (.iload_n 1, 1) := dk_27 (dk_at dksX0_ofLeft_3 21 rfl rfl)
theorem dX0_ofLeft_82 : decode cX0_ofLeft 82 = .ok (.invokevirtual 248, 3) := dk_182 0 248 (dk_at dksX0_ofLeft_4 0 rfl rfl)
theorem dX0_ofLeft_85 : decode cX0_ofLeft 85 = .ok (.ireturn, 1) := dk_172 (dk_at dksX0_ofLeft_4 3 rfl rfl)
theorem dX0_ofLeft_86 : decode cX0_ofLeft 86 = .ok (.bipush (-2), 2) := dk_16 254 (dk_at dksX0_ofLeft_4 4 rfl rfl)
theorem dX0_ofLeft_88 : decode cX0_ofLeft 88 = .ok (.ireturn, 1) := dk_172 (dk_at dksX0_ofLeft_4 6 rfl rfl)
abbrev cX0_partnersOfLeft : ByteArray := prog_1_method_24_code
def yX0_partnersOfLeft : MethodName := ⟨RX0, "partnersOfLeft", "(I)I"⟩
def dkwX0_partnersOfLeft_0 : List UInt8 := [187, 0, 226, 89, 42, 27, 183, 0, 228, 77, 44, 182, 0, 231, 172]
abbrev dktX0_partnersOfLeft_0 : List UInt8 := dkwX0_partnersOfLeft_0 ++ []
theorem dksX0_partnersOfLeft_0 : cX0_partnersOfLeft.data.toList.drop 0 = dktX0_partnersOfLeft_0 := by decide +kernel
theorem dX0_partnersOfLeft_0 : decode cX0_partnersOfLeft 0 = .ok (.new 226, 3) := dk_187 0 226 (dk_at dksX0_partnersOfLeft_0 0 rfl rfl)
theorem dX0_partnersOfLeft_3 : decode cX0_partnersOfLeft 3 = .ok (.dup, 1) := dk_89 (dk_at dksX0_partnersOfLeft_0 3 rfl rfl)
theorem dX0_partnersOfLeft_4 : decode cX0_partnersOfLeft 4 = .ok (.aload_n 0, 1) := dk_42 (dk_at dksX0_partnersOfLeft_0 4 rfl rfl)
theorem dX0_partnersOfLeft_5 : decode cX0_partnersOfLeft 5 = .ok (.iload_n 1, 1) := dk_27 (dk_at dksX0_partnersOfLeft_0 5 rfl rfl)
theorem dX0_partnersOfLeft_6 : decode cX0_partnersOfLeft 6 = .ok (.invokespecial 228, 3) := dk_183 0 228 (dk_at dksX0_partnersOfLeft_0 6 rfl rfl)
theorem dX0_partnersOfLeft_9 : decode cX0_partnersOfLeft 9 = .ok (.astore_n 2, 1) := dk_77 (dk_at dksX0_partnersOfLeft_0 9 rfl rfl)
theorem dX0_partnersOfLeft_10 : decode cX0_partnersOfLeft 10 = .ok (.aload_n 2, 1) := dk_44 (dk_at dksX0_partnersOfLeft_0 10 rfl rfl)
theorem dX0_partnersOfLeft_11 : decode cX0_partnersOfLeft 11 = .ok (.invokevirtual 231, 3) := dk_182 0 231 (dk_at dksX0_partnersOfLeft_0 11 rfl rfl)
theorem dX0_partnersOfLeft_14 : decode cX0_partnersOfLeft 14 = .ok (.ireturn, 1) := dk_172 (dk_at dksX0_partnersOfLeft_0 14 rfl rfl)
abbrev cX0_aligns : ByteArray := prog_1_method_21_code
def yX0_aligns : MethodName := ⟨RX0, "aligns", "(I)I"⟩
def dkwX0_aligns_2 : List UInt8 := [172]
abbrev dktX0_aligns_2 : List UInt8 := dkwX0_aligns_2 ++ []
def dkwX0_aligns_1 : List UInt8 := [28, 29, 27, 182, 0, 215, 132, 3, 255, 167, 255, 242, 132, 2, 255, 167, 255, 227, 42, 180, 0, 43, 3, 46]
abbrev dktX0_aligns_1 : List UInt8 := dkwX0_aligns_1 ++ dktX0_aligns_2
def dkwX0_aligns_0 : List UInt8 := [42, 180, 0, 26, 185, 0, 101, 1, 0, 61, 28, 155, 0, 31, 42, 180, 0, 109, 62, 29, 155, 0, 16, 42]
abbrev dktX0_aligns_0 : List UInt8 := dkwX0_aligns_0 ++ dktX0_aligns_1
theorem dksX0_aligns_0 : cX0_aligns.data.toList.drop 0 = dktX0_aligns_0 := by decide +kernel
theorem dksX0_aligns_1 : cX0_aligns.data.toList.drop 24 = dktX0_aligns_1 := dk_seg dksX0_aligns_0 24 rfl rfl
theorem dksX0_aligns_2 : cX0_aligns.data.toList.drop 48 = dktX0_aligns_2 := dk_seg dksX0_aligns_1 24 rfl rfl
theorem dX0_aligns_0 : decode cX0_aligns 0 = .ok (.aload_n 0, 1) := dk_42 (dk_at dksX0_aligns_0 0 rfl rfl)
theorem dX0_aligns_1 : decode cX0_aligns 1 = .ok (.getfield 26, 3) := dk_180 0 26 (dk_at dksX0_aligns_0 1 rfl rfl)
theorem dX0_aligns_4 : decode cX0_aligns 4 = .ok (.invokeinterface 101 1, 5) := by decide +kernel
theorem dX0_aligns_9 : decode cX0_aligns 9 = .ok (.istore_n 2, 1) := dk_61 (dk_at dksX0_aligns_0 9 rfl rfl)
theorem dX0_aligns_10 : decode cX0_aligns 10 = .ok (.iload_n 2, 1) := dk_28 (dk_at dksX0_aligns_0 10 rfl rfl)
theorem dX0_aligns_11 : decode cX0_aligns 11 = .ok (.ifCond .lt 31, 3) := dk_155 0 31 (dk_at dksX0_aligns_0 11 rfl rfl)
theorem dX0_aligns_14 : decode cX0_aligns 14 = .ok (.aload_n 0, 1) := dk_42 (dk_at dksX0_aligns_0 14 rfl rfl)
theorem dX0_aligns_15 : decode cX0_aligns 15 = .ok (.getfield 109, 3) := dk_180 0 109 (dk_at dksX0_aligns_0 15 rfl rfl)
theorem dX0_aligns_18 : decode cX0_aligns 18 = .ok (.istore_n 3, 1) := dk_62 (dk_at dksX0_aligns_0 18 rfl rfl)
theorem dX0_aligns_19 : decode cX0_aligns 19 = .ok (.iload_n 3, 1) := dk_29 (dk_at dksX0_aligns_0 19 rfl rfl)
theorem dX0_aligns_20 : decode cX0_aligns 20 = .ok (.ifCond .lt 16, 3) := dk_155 0 16 (dk_at dksX0_aligns_0 20 rfl rfl)
theorem dX0_aligns_23 : decode cX0_aligns 23 = .ok (.aload_n 0, 1) := dk_42 (dk_at dksX0_aligns_0 23 rfl rfl)
theorem dX0_aligns_24 : decode cX0_aligns 24 = .ok (.iload_n 2, 1) := dk_28 (dk_at dksX0_aligns_1 0 rfl rfl)
theorem dX0_aligns_25 : decode cX0_aligns 25 = .ok (.iload_n 3, 1) := dk_29 (dk_at dksX0_aligns_1 1 rfl rfl)
theorem dX0_aligns_26 : decode cX0_aligns 26 = .ok (.iload_n 1, 1) := dk_27 (dk_at dksX0_aligns_1 2 rfl rfl)
theorem dX0_aligns_27 : decode cX0_aligns 27 = .ok (.invokevirtual 215, 3) := dk_182 0 215 (dk_at dksX0_aligns_1 3 rfl rfl)
theorem dX0_aligns_30 : decode cX0_aligns 30 = .ok (.iinc 3 (-1), 3) := dk_132 3 255 (dk_at dksX0_aligns_1 6 rfl rfl)
theorem dX0_aligns_33 : decode cX0_aligns 33 = .ok (.goto (-14), 3) := dk_167 255 242 (dk_at dksX0_aligns_1 9 rfl rfl)
theorem dX0_aligns_36 : decode cX0_aligns 36 = .ok (.iinc 2 (-1), 3) := dk_132 2 255 (dk_at dksX0_aligns_1 12 rfl rfl)
theorem dX0_aligns_39 : decode cX0_aligns 39 = .ok (.goto (-29), 3) := dk_167 255 227 (dk_at dksX0_aligns_1 15 rfl rfl)
theorem dX0_aligns_42 : decode cX0_aligns 42 = .ok (.aload_n 0, 1) := dk_42 (dk_at dksX0_aligns_1 18 rfl rfl)
theorem dX0_aligns_43 : decode cX0_aligns 43 = .ok (.getfield 43, 3) := dk_180 0 43 (dk_at dksX0_aligns_1 19 rfl rfl)
theorem dX0_aligns_46 : decode cX0_aligns 46 = .ok (.iconst 0, 1) := dk_3 (dk_at dksX0_aligns_1 22 rfl rfl)
theorem dX0_aligns_47 : decode cX0_aligns 47 = .ok (.iaload, 1) := dk_46 (dk_at dksX0_aligns_1 23 rfl rfl)
theorem dX0_aligns_48 : decode cX0_aligns 48 = .ok (.ireturn, 1) := dk_172 (dk_at dksX0_aligns_2 0 rfl rfl)
abbrev cX0_looksFrom : ByteArray := prog_1_method_19_code
def yX0_looksFrom : MethodName := ⟨RX0, "looksFrom", "(III)V"⟩
def dkwX0_looksFrom_8 : List UInt8 := [167, 255, 157, 177]
abbrev dktX0_looksFrom_8 : List UInt8 := dkwX0_looksFrom_8 ++ []
def dkwX0_looksFrom_7 : List UInt8 := [182, 0, 208, 42, 21, 4, 21, 7, 42, 180, 0, 46, 21, 6, 46, 96, 3, 182, 0, 208, 132, 5, 1]
abbrev dktX0_looksFrom_7 : List UInt8 := dkwX0_looksFrom_7 ++ dktX0_looksFrom_8
def dkwX0_looksFrom_6 : List UInt8 := [54, 7, 42, 21, 4, 21, 7, 42, 180, 0, 43, 21, 6, 46, 96, 42, 180, 0, 49, 21, 6, 46]
abbrev dktX0_looksFrom_6 : List UInt8 := dkwX0_looksFrom_6 ++ dktX0_looksFrom_7
def dkwX0_looksFrom_5 : List UInt8 := [184, 0, 189, 96, 54, 6, 42, 180, 0, 13, 21, 5, 50, 180, 0, 194, 27, 28, 185, 0, 198, 3, 0]
abbrev dktX0_looksFrom_5 : List UInt8 := dkwX0_looksFrom_5 ++ dktX0_looksFrom_6
def dkwX0_looksFrom_4 : List UInt8 := [21, 5, 27, 28, 182, 0, 204, 153, 0, 82, 16, 8, 27, 21, 5, 184, 0, 186, 96, 104, 28, 96, 21, 5]
abbrev dktX0_looksFrom_4 : List UInt8 := dkwX0_looksFrom_4 ++ dktX0_looksFrom_5
def dkwX0_looksFrom_3 : List UInt8 := [21, 4, 3, 79, 42, 180, 0, 49, 21, 4, 4, 79, 177, 3, 54, 5, 21, 5, 8, 162, 0, 99, 42]
abbrev dktX0_looksFrom_3 : List UInt8 := dkwX0_looksFrom_3 ++ dktX0_looksFrom_4
def dkwX0_looksFrom_2 : List UInt8 := [180, 0, 26, 185, 0, 101, 1, 0, 160, 0, 28, 28, 42, 180, 0, 109, 160, 0, 20, 42, 180, 0, 43]
abbrev dktX0_looksFrom_2 : List UInt8 := dkwX0_looksFrom_2 ++ dktX0_looksFrom_3
def dkwX0_looksFrom_1 : List UInt8 := [18, 203, 79, 42, 180, 0, 49, 21, 4, 3, 79, 27, 28, 100, 184, 0, 181, 29, 164, 0, 4, 177, 27, 42]
abbrev dktX0_looksFrom_1 : List UInt8 := dkwX0_looksFrom_1 ++ dktX0_looksFrom_2
def dkwX0_looksFrom_0 : List UInt8 := [16, 8, 27, 104, 28, 96, 54, 4, 42, 180, 0, 43, 21, 4, 18, 203, 79, 42, 180, 0, 46, 21, 4]
abbrev dktX0_looksFrom_0 : List UInt8 := dkwX0_looksFrom_0 ++ dktX0_looksFrom_1
theorem dksX0_looksFrom_0 : cX0_looksFrom.data.toList.drop 0 = dktX0_looksFrom_0 := by decide +kernel
theorem dksX0_looksFrom_1 : cX0_looksFrom.data.toList.drop 23 = dktX0_looksFrom_1 := dk_seg dksX0_looksFrom_0 23 rfl rfl
theorem dksX0_looksFrom_2 : cX0_looksFrom.data.toList.drop 47 = dktX0_looksFrom_2 := dk_seg dksX0_looksFrom_1 24 rfl rfl
theorem dksX0_looksFrom_3 : cX0_looksFrom.data.toList.drop 70 = dktX0_looksFrom_3 := dk_seg dksX0_looksFrom_2 23 rfl rfl
theorem dksX0_looksFrom_4 : cX0_looksFrom.data.toList.drop 93 = dktX0_looksFrom_4 := dk_seg dksX0_looksFrom_3 23 rfl rfl
theorem dksX0_looksFrom_5 : cX0_looksFrom.data.toList.drop 117 = dktX0_looksFrom_5 := dk_seg dksX0_looksFrom_4 24 rfl rfl
theorem dksX0_looksFrom_6 : cX0_looksFrom.data.toList.drop 140 = dktX0_looksFrom_6 := dk_seg dksX0_looksFrom_5 23 rfl rfl
theorem dksX0_looksFrom_7 : cX0_looksFrom.data.toList.drop 162 = dktX0_looksFrom_7 := dk_seg dksX0_looksFrom_6 22 rfl rfl
theorem dksX0_looksFrom_8 : cX0_looksFrom.data.toList.drop 185 = dktX0_looksFrom_8 := dk_seg dksX0_looksFrom_7 23 rfl rfl
theorem dX0_looksFrom_0 : decode cX0_looksFrom 0 = .ok (.bipush 8, 2) := dk_16 8 (dk_at dksX0_looksFrom_0 0 rfl rfl)
theorem dX0_looksFrom_2 : decode cX0_looksFrom 2 = .ok (.iload_n 1, 1) := dk_27 (dk_at dksX0_looksFrom_0 2 rfl rfl)
theorem dX0_looksFrom_3 : decode cX0_looksFrom 3 = .ok (.imul, 1) := dk_104 (dk_at dksX0_looksFrom_0 3 rfl rfl)
theorem dX0_looksFrom_4 : decode cX0_looksFrom 4 = .ok (.iload_n 2, 1) := dk_28 (dk_at dksX0_looksFrom_0 4 rfl rfl)
theorem dX0_looksFrom_5 : decode cX0_looksFrom 5 = .ok (.iadd, 1) := dk_96 (dk_at dksX0_looksFrom_0 5 rfl rfl)
theorem dX0_looksFrom_6 : decode cX0_looksFrom 6 = .ok (.istore 4, 2) := dk_54 4 (dk_at dksX0_looksFrom_0 6 rfl rfl)
theorem dX0_looksFrom_8 : decode cX0_looksFrom 8 = .ok (.aload_n 0, 1) := dk_42 (dk_at dksX0_looksFrom_0 8 rfl rfl)
theorem dX0_looksFrom_9 : decode cX0_looksFrom 9 = .ok (.getfield 43, 3) := dk_180 0 43 (dk_at dksX0_looksFrom_0 9 rfl rfl)
theorem dX0_looksFrom_12 : decode cX0_looksFrom 12 = .ok (.iload 4, 2) := dk_21 4 (dk_at dksX0_looksFrom_0 12 rfl rfl)
theorem dX0_looksFrom_14 : decode cX0_looksFrom 14 = .ok (.ldc 203, 2) := dk_18 203 (dk_at dksX0_looksFrom_0 14 rfl rfl)
theorem dX0_looksFrom_16 : decode cX0_looksFrom 16 = .ok (.iastore, 1) := dk_79 (dk_at dksX0_looksFrom_0 16 rfl rfl)
theorem dX0_looksFrom_17 : decode cX0_looksFrom 17 = .ok (.aload_n 0, 1) := dk_42 (dk_at dksX0_looksFrom_0 17 rfl rfl)
theorem dX0_looksFrom_18 : decode cX0_looksFrom 18 = .ok (.getfield 46, 3) := dk_180 0 46 (dk_at dksX0_looksFrom_0 18 rfl rfl)
theorem dX0_looksFrom_21 : decode cX0_looksFrom 21 = .ok (.iload 4, 2) := dk_21 4 (dk_at dksX0_looksFrom_0 21 rfl rfl)
theorem dX0_looksFrom_23 : decode cX0_looksFrom 23 = .ok (.ldc 203, 2) := dk_18 203 (dk_at dksX0_looksFrom_1 0 rfl rfl)
theorem dX0_looksFrom_25 : decode cX0_looksFrom 25 = .ok (.iastore, 1) := dk_79 (dk_at dksX0_looksFrom_1 2 rfl rfl)
theorem dX0_looksFrom_26 : decode cX0_looksFrom 26 = .ok (.aload_n 0, 1) := dk_42 (dk_at dksX0_looksFrom_1 3 rfl rfl)
theorem dX0_looksFrom_27 : decode cX0_looksFrom 27 = .ok (.getfield 49, 3) := dk_180 0 49 (dk_at dksX0_looksFrom_1 4 rfl rfl)
theorem dX0_looksFrom_30 : decode cX0_looksFrom 30 = .ok (.iload 4, 2) := dk_21 4 (dk_at dksX0_looksFrom_1 7 rfl rfl)
theorem dX0_looksFrom_32 : decode cX0_looksFrom 32 = .ok (.iconst 0, 1) := dk_3 (dk_at dksX0_looksFrom_1 9 rfl rfl)
theorem dX0_looksFrom_33 : decode cX0_looksFrom 33 = .ok (.iastore, 1) := dk_79 (dk_at dksX0_looksFrom_1 10 rfl rfl)
theorem dX0_looksFrom_34 : decode cX0_looksFrom 34 = .ok (.iload_n 1, 1) := dk_27 (dk_at dksX0_looksFrom_1 11 rfl rfl)
theorem dX0_looksFrom_35 : decode cX0_looksFrom 35 = .ok (.iload_n 2, 1) := dk_28 (dk_at dksX0_looksFrom_1 12 rfl rfl)
theorem dX0_looksFrom_36 : decode cX0_looksFrom 36 = .ok (.isub, 1) := dk_100 (dk_at dksX0_looksFrom_1 13 rfl rfl)
theorem dX0_looksFrom_37 : decode cX0_looksFrom 37 = .ok (.invokestatic 181, 3) := dk_184 0 181 (dk_at dksX0_looksFrom_1 14 rfl rfl)
theorem dX0_looksFrom_40 : decode cX0_looksFrom 40 = .ok (.iload_n 3, 1) := dk_29 (dk_at dksX0_looksFrom_1 17 rfl rfl)
theorem dX0_looksFrom_41 : decode cX0_looksFrom 41 = .ok (.if_icmp .le 4, 3) := dk_164 0 4 (dk_at dksX0_looksFrom_1 18 rfl rfl)
theorem dX0_looksFrom_44 : decode cX0_looksFrom 44 = .ok (.return_, 1) := dk_177 (dk_at dksX0_looksFrom_1 21 rfl rfl)
theorem dX0_looksFrom_45 : decode cX0_looksFrom 45 = .ok (.iload_n 1, 1) := dk_27 (dk_at dksX0_looksFrom_1 22 rfl rfl)
theorem dX0_looksFrom_46 : decode cX0_looksFrom 46 = .ok (.aload_n 0, 1) := dk_42 (dk_at dksX0_looksFrom_1 23 rfl rfl)
theorem dX0_looksFrom_47 : decode cX0_looksFrom 47 = .ok (.getfield 26, 3) := dk_180 0 26 (dk_at dksX0_looksFrom_2 0 rfl rfl)
theorem dX0_looksFrom_50 : decode cX0_looksFrom 50 = .ok (.invokeinterface 101 1, 5) := by decide +kernel
theorem dX0_looksFrom_55 : decode cX0_looksFrom 55 = .ok (.if_icmp .ne 28, 3) := dk_160 0 28 (dk_at dksX0_looksFrom_2 8 rfl rfl)
theorem dX0_looksFrom_58 : decode cX0_looksFrom 58 = .ok (.iload_n 2, 1) := dk_28 (dk_at dksX0_looksFrom_2 11 rfl rfl)
theorem dX0_looksFrom_59 : decode cX0_looksFrom 59 = .ok (.aload_n 0, 1) := dk_42 (dk_at dksX0_looksFrom_2 12 rfl rfl)
theorem dX0_looksFrom_60 : decode cX0_looksFrom 60 = .ok (.getfield 109, 3) := dk_180 0 109 (dk_at dksX0_looksFrom_2 13 rfl rfl)
theorem dX0_looksFrom_63 : decode cX0_looksFrom 63 = .ok (.if_icmp .ne 20, 3) := dk_160 0 20 (dk_at dksX0_looksFrom_2 16 rfl rfl)
theorem dX0_looksFrom_66 : decode cX0_looksFrom 66 = .ok (.aload_n 0, 1) := dk_42 (dk_at dksX0_looksFrom_2 19 rfl rfl)
theorem dX0_looksFrom_67 : decode cX0_looksFrom 67 = .ok (.getfield 43, 3) := dk_180 0 43 (dk_at dksX0_looksFrom_2 20 rfl rfl)
theorem dX0_looksFrom_70 : decode cX0_looksFrom 70 = .ok (.iload 4, 2) := dk_21 4 (dk_at dksX0_looksFrom_3 0 rfl rfl)
theorem dX0_looksFrom_72 : decode cX0_looksFrom 72 = .ok (.iconst 0, 1) := dk_3 (dk_at dksX0_looksFrom_3 2 rfl rfl)
theorem dX0_looksFrom_73 : decode cX0_looksFrom 73 = .ok (.iastore, 1) := dk_79 (dk_at dksX0_looksFrom_3 3 rfl rfl)
theorem dX0_looksFrom_74 : decode cX0_looksFrom 74 = .ok (.aload_n 0, 1) := dk_42 (dk_at dksX0_looksFrom_3 4 rfl rfl)
theorem dX0_looksFrom_75 : decode cX0_looksFrom 75 = .ok (.getfield 49, 3) := dk_180 0 49 (dk_at dksX0_looksFrom_3 5 rfl rfl)
theorem dX0_looksFrom_78 : decode cX0_looksFrom 78 = .ok (.iload 4, 2) := dk_21 4 (dk_at dksX0_looksFrom_3 8 rfl rfl)
theorem dX0_looksFrom_80 : decode cX0_looksFrom 80 = .ok (.iconst 1, 1) := dk_4 (dk_at dksX0_looksFrom_3 10 rfl rfl)
theorem dX0_looksFrom_81 : decode cX0_looksFrom 81 = .ok (.iastore, 1) := dk_79 (dk_at dksX0_looksFrom_3 11 rfl rfl)
theorem dX0_looksFrom_82 : decode cX0_looksFrom 82 = .ok (.return_, 1) := dk_177 (dk_at dksX0_looksFrom_3 12 rfl rfl)
theorem dX0_looksFrom_83 : decode cX0_looksFrom 83 = .ok (.iconst 0, 1) := dk_3 (dk_at dksX0_looksFrom_3 13 rfl rfl)
theorem dX0_looksFrom_84 : decode cX0_looksFrom 84 = .ok (.istore 5, 2) := dk_54 5 (dk_at dksX0_looksFrom_3 14 rfl rfl)
theorem dX0_looksFrom_86 : decode cX0_looksFrom 86 = .ok (.iload 5, 2) := dk_21 5 (dk_at dksX0_looksFrom_3 16 rfl rfl)
theorem dX0_looksFrom_88 : decode cX0_looksFrom 88 = .ok (.iconst 5, 1) := dk_8 (dk_at dksX0_looksFrom_3 18 rfl rfl)
theorem dX0_looksFrom_89 : decode cX0_looksFrom 89 = .ok (.if_icmp .ge 99, 3) := dk_162 0 99 (dk_at dksX0_looksFrom_3 19 rfl rfl)
theorem dX0_looksFrom_92 : decode cX0_looksFrom 92 = .ok (.aload_n 0, 1) := dk_42 (dk_at dksX0_looksFrom_3 22 rfl rfl)
theorem dX0_looksFrom_93 : decode cX0_looksFrom 93 = .ok (.iload 5, 2) := dk_21 5 (dk_at dksX0_looksFrom_4 0 rfl rfl)
theorem dX0_looksFrom_95 : decode cX0_looksFrom 95 = .ok (.iload_n 1, 1) := dk_27 (dk_at dksX0_looksFrom_4 2 rfl rfl)
theorem dX0_looksFrom_96 : decode cX0_looksFrom 96 = .ok (.iload_n 2, 1) := dk_28 (dk_at dksX0_looksFrom_4 3 rfl rfl)
theorem dX0_looksFrom_97 : decode cX0_looksFrom 97 = .ok (.invokevirtual 204, 3) := dk_182 0 204 (dk_at dksX0_looksFrom_4 4 rfl rfl)
theorem dX0_looksFrom_100 : decode cX0_looksFrom 100 = .ok (.ifCond .eq 82, 3) := dk_153 0 82 (dk_at dksX0_looksFrom_4 7 rfl rfl)
theorem dX0_looksFrom_103 : decode cX0_looksFrom 103 = .ok (.bipush 8, 2) := dk_16 8 (dk_at dksX0_looksFrom_4 10 rfl rfl)
theorem dX0_looksFrom_105 : decode cX0_looksFrom 105 = .ok (.iload_n 1, 1) := dk_27 (dk_at dksX0_looksFrom_4 12 rfl rfl)
theorem dX0_looksFrom_106 : decode cX0_looksFrom 106 = .ok (.iload 5, 2) := dk_21 5 (dk_at dksX0_looksFrom_4 13 rfl rfl)
theorem dX0_looksFrom_108 : decode cX0_looksFrom 108 = .ok (.invokestatic 186, 3) := dk_184 0 186 (dk_at dksX0_looksFrom_4 15 rfl rfl)
theorem dX0_looksFrom_111 : decode cX0_looksFrom 111 = .ok (.iadd, 1) := dk_96 (dk_at dksX0_looksFrom_4 18 rfl rfl)
theorem dX0_looksFrom_112 : decode cX0_looksFrom 112 = .ok (.imul, 1) := dk_104 (dk_at dksX0_looksFrom_4 19 rfl rfl)
theorem dX0_looksFrom_113 : decode cX0_looksFrom 113 = .ok (.iload_n 2, 1) := dk_28 (dk_at dksX0_looksFrom_4 20 rfl rfl)
theorem dX0_looksFrom_114 : decode cX0_looksFrom 114 = .ok (.iadd, 1) := dk_96 (dk_at dksX0_looksFrom_4 21 rfl rfl)
theorem dX0_looksFrom_115 : decode cX0_looksFrom 115 = .ok (.iload 5, 2) := dk_21 5 (dk_at dksX0_looksFrom_4 22 rfl rfl)
theorem dX0_looksFrom_117 : decode cX0_looksFrom 117 = .ok (.invokestatic 189, 3) := dk_184 0 189 (dk_at dksX0_looksFrom_5 0 rfl rfl)
theorem dX0_looksFrom_120 : decode cX0_looksFrom 120 = .ok (.iadd, 1) := dk_96 (dk_at dksX0_looksFrom_5 3 rfl rfl)
theorem dX0_looksFrom_121 : decode cX0_looksFrom 121 = .ok (.istore 6, 2) := dk_54 6 (dk_at dksX0_looksFrom_5 4 rfl rfl)
theorem dX0_looksFrom_123 : decode cX0_looksFrom 123 = .ok (.aload_n 0, 1) := dk_42 (dk_at dksX0_looksFrom_5 6 rfl rfl)
theorem dX0_looksFrom_124 : decode cX0_looksFrom 124 = .ok (.getfield 13, 3) := dk_180 0 13 (dk_at dksX0_looksFrom_5 7 rfl rfl)
theorem dX0_looksFrom_127 : decode cX0_looksFrom 127 = .ok (.iload 5, 2) := dk_21 5 (dk_at dksX0_looksFrom_5 10 rfl rfl)
theorem dX0_looksFrom_129 : decode cX0_looksFrom 129 = .ok (.aaload, 1) := dk_50 (dk_at dksX0_looksFrom_5 12 rfl rfl)
theorem dX0_looksFrom_130 : decode cX0_looksFrom 130 = .ok (.getfield 194, 3) := dk_180 0 194 (dk_at dksX0_looksFrom_5 13 rfl rfl)
theorem dX0_looksFrom_133 : decode cX0_looksFrom 133 = .ok (.iload_n 1, 1) := dk_27 (dk_at dksX0_looksFrom_5 16 rfl rfl)
theorem dX0_looksFrom_134 : decode cX0_looksFrom 134 = .ok (.iload_n 2, 1) := dk_28 (dk_at dksX0_looksFrom_5 17 rfl rfl)
theorem dX0_looksFrom_135 : decode cX0_looksFrom 135 = .ok (.invokeinterface 198 3, 5) := by decide +kernel
theorem dX0_looksFrom_140 : decode cX0_looksFrom 140 = .ok (.istore 7, 2) := dk_54 7 (dk_at dksX0_looksFrom_6 0 rfl rfl)
theorem dX0_looksFrom_142 : decode cX0_looksFrom 142 = .ok (.aload_n 0, 1) := dk_42 (dk_at dksX0_looksFrom_6 2 rfl rfl)
theorem dX0_looksFrom_143 : decode cX0_looksFrom 143 = .ok (.iload 4, 2) := dk_21 4 (dk_at dksX0_looksFrom_6 3 rfl rfl)
theorem dX0_looksFrom_145 : decode cX0_looksFrom 145 = .ok (.iload 7, 2) := dk_21 7 (dk_at dksX0_looksFrom_6 5 rfl rfl)
theorem dX0_looksFrom_147 : decode cX0_looksFrom 147 = .ok (.aload_n 0, 1) := dk_42 (dk_at dksX0_looksFrom_6 7 rfl rfl)
theorem dX0_looksFrom_148 : decode cX0_looksFrom 148 = .ok (.getfield 43, 3) := dk_180 0 43 (dk_at dksX0_looksFrom_6 8 rfl rfl)
theorem dX0_looksFrom_151 : decode cX0_looksFrom 151 = .ok (.iload 6, 2) := dk_21 6 (dk_at dksX0_looksFrom_6 11 rfl rfl)
theorem dX0_looksFrom_153 : decode cX0_looksFrom 153 = .ok (.iaload, 1) := dk_46 (dk_at dksX0_looksFrom_6 13 rfl rfl)
theorem dX0_looksFrom_154 : decode cX0_looksFrom 154 = .ok (.iadd, 1) := dk_96 (dk_at dksX0_looksFrom_6 14 rfl rfl)
theorem dX0_looksFrom_155 : decode cX0_looksFrom 155 = .ok (.aload_n 0, 1) := dk_42 (dk_at dksX0_looksFrom_6 15 rfl rfl)
theorem dX0_looksFrom_156 : decode cX0_looksFrom 156 = .ok (.getfield 49, 3) := dk_180 0 49 (dk_at dksX0_looksFrom_6 16 rfl rfl)
theorem dX0_looksFrom_159 : decode cX0_looksFrom 159 = .ok (.iload 6, 2) := dk_21 6 (dk_at dksX0_looksFrom_6 19 rfl rfl)
theorem dX0_looksFrom_161 : decode cX0_looksFrom 161 = .ok (.iaload, 1) := dk_46 (dk_at dksX0_looksFrom_6 21 rfl rfl)
theorem dX0_looksFrom_162 : decode cX0_looksFrom 162 = .ok (.invokevirtual 208, 3) := dk_182 0 208 (dk_at dksX0_looksFrom_7 0 rfl rfl)
theorem dX0_looksFrom_165 : decode cX0_looksFrom 165 = .ok (.aload_n 0, 1) := dk_42 (dk_at dksX0_looksFrom_7 3 rfl rfl)
theorem dX0_looksFrom_166 : decode cX0_looksFrom 166 = .ok (.iload 4, 2) := dk_21 4 (dk_at dksX0_looksFrom_7 4 rfl rfl)
theorem dX0_looksFrom_168 : decode cX0_looksFrom 168 = .ok (.iload 7, 2) := dk_21 7 (dk_at dksX0_looksFrom_7 6 rfl rfl)
theorem dX0_looksFrom_170 : decode cX0_looksFrom 170 = .ok (.aload_n 0, 1) := dk_42 (dk_at dksX0_looksFrom_7 8 rfl rfl)
theorem dX0_looksFrom_171 : decode cX0_looksFrom 171 = .ok (.getfield 46, 3) := dk_180 0 46 (dk_at dksX0_looksFrom_7 9 rfl rfl)
theorem dX0_looksFrom_174 : decode cX0_looksFrom 174 = .ok (.iload 6, 2) := dk_21 6 (dk_at dksX0_looksFrom_7 12 rfl rfl)
theorem dX0_looksFrom_176 : decode cX0_looksFrom 176 = .ok (.iaload, 1) := dk_46 (dk_at dksX0_looksFrom_7 14 rfl rfl)
theorem dX0_looksFrom_177 : decode cX0_looksFrom 177 = .ok (.iadd, 1) := dk_96 (dk_at dksX0_looksFrom_7 15 rfl rfl)
theorem dX0_looksFrom_178 : decode cX0_looksFrom 178 = .ok (.iconst 0, 1) := dk_3 (dk_at dksX0_looksFrom_7 16 rfl rfl)
theorem dX0_looksFrom_179 : decode cX0_looksFrom 179 = .ok (.invokevirtual 208, 3) := dk_182 0 208 (dk_at dksX0_looksFrom_7 17 rfl rfl)
theorem dX0_looksFrom_182 : decode cX0_looksFrom 182 = .ok (.iinc 5 1, 3) := dk_132 5 1 (dk_at dksX0_looksFrom_7 20 rfl rfl)
theorem dX0_looksFrom_185 : decode cX0_looksFrom 185 = .ok (.goto (-99), 3) := dk_167 255 157 (dk_at dksX0_looksFrom_8 0 rfl rfl)
theorem dX0_looksFrom_188 : decode cX0_looksFrom 188 = .ok (.return_, 1) := dk_177 (dk_at dksX0_looksFrom_8 3 rfl rfl)
abbrev cX0_areThere : ByteArray := prog_1_method_17_code
def yX0_areThere : MethodName := ⟨RX0, "areThere", "(III)Z"⟩
def dkwX0_areThere_1 : List UInt8 := [42, 180, 0, 109, 163, 0, 7, 4, 167, 0, 4, 3, 172]
abbrev dktX0_areThere_1 : List UInt8 := dkwX0_areThere_1 ++ []
def dkwX0_areThere_0 : List UInt8 := [28, 27, 184, 0, 186, 96, 42, 180, 0, 26, 185, 0, 101, 1, 0, 163, 0, 20, 29, 27, 184, 0, 189, 96]
abbrev dktX0_areThere_0 : List UInt8 := dkwX0_areThere_0 ++ dktX0_areThere_1
theorem dksX0_areThere_0 : cX0_areThere.data.toList.drop 0 = dktX0_areThere_0 := by decide +kernel
theorem dksX0_areThere_1 : cX0_areThere.data.toList.drop 24 = dktX0_areThere_1 := dk_seg dksX0_areThere_0 24 rfl rfl
theorem dX0_areThere_0 : decode cX0_areThere 0 = .ok (.iload_n 2, 1) := dk_28 (dk_at dksX0_areThere_0 0 rfl rfl)
theorem dX0_areThere_1 : decode cX0_areThere 1 = .ok (.iload_n 1, 1) := dk_27 (dk_at dksX0_areThere_0 1 rfl rfl)
theorem dX0_areThere_2 : decode cX0_areThere 2 = .ok (.invokestatic 186, 3) := dk_184 0 186 (dk_at dksX0_areThere_0 2 rfl rfl)
theorem dX0_areThere_5 : decode cX0_areThere 5 = .ok (.iadd, 1) := dk_96 (dk_at dksX0_areThere_0 5 rfl rfl)
theorem dX0_areThere_6 : decode cX0_areThere 6 = .ok (.aload_n 0, 1) := dk_42 (dk_at dksX0_areThere_0 6 rfl rfl)
theorem dX0_areThere_7 : decode cX0_areThere 7 = .ok (.getfield 26, 3) := dk_180 0 26 (dk_at dksX0_areThere_0 7 rfl rfl)
theorem dX0_areThere_10 : decode cX0_areThere 10 = .ok (.invokeinterface 101 1, 5) := by decide +kernel
theorem dX0_areThere_15 : decode cX0_areThere 15 = .ok (.if_icmp .gt 20, 3) := dk_163 0 20 (dk_at dksX0_areThere_0 15 rfl rfl)
theorem dX0_areThere_18 : decode cX0_areThere 18 = .ok (.iload_n 3, 1) := dk_29 (dk_at dksX0_areThere_0 18 rfl rfl)
theorem dX0_areThere_19 : decode cX0_areThere 19 = .ok (.iload_n 1, 1) := dk_27 (dk_at dksX0_areThere_0 19 rfl rfl)
theorem dX0_areThere_20 : decode cX0_areThere 20 = .ok (.invokestatic 189, 3) := dk_184 0 189 (dk_at dksX0_areThere_0 20 rfl rfl)
theorem dX0_areThere_23 : decode cX0_areThere 23 = .ok (.iadd, 1) := dk_96 (dk_at dksX0_areThere_0 23 rfl rfl)
theorem dX0_areThere_24 : decode cX0_areThere 24 = .ok (.aload_n 0, 1) := dk_42 (dk_at dksX0_areThere_1 0 rfl rfl)
theorem dX0_areThere_25 : decode cX0_areThere 25 = .ok (.getfield 109, 3) := dk_180 0 109 (dk_at dksX0_areThere_1 1 rfl rfl)
theorem dX0_areThere_28 : decode cX0_areThere 28 = .ok (.if_icmp .gt 7, 3) := dk_163 0 7 (dk_at dksX0_areThere_1 4 rfl rfl)
theorem dX0_areThere_31 : decode cX0_areThere 31 = .ok (.iconst 1, 1) := dk_4 (dk_at dksX0_areThere_1 7 rfl rfl)
theorem dX0_areThere_32 : decode cX0_areThere 32 = .ok (.goto 4, 3) := dk_167 0 4 (dk_at dksX0_areThere_1 8 rfl rfl)
theorem dX0_areThere_35 : decode cX0_areThere 35 = .ok (.iconst 0, 1) := dk_3 (dk_at dksX0_areThere_1 11 rfl rfl)
theorem dX0_areThere_36 : decode cX0_areThere 36 = .ok (.ireturn, 1) := dk_172 (dk_at dksX0_areThere_1 12 rfl rfl)
abbrev cX0_weighs : ByteArray := prog_1_method_20_code
def yX0_weighs : MethodName := ⟨RX0, "weighs", "(III)V"⟩
def dkwX0_weighs_4 : List UInt8 := [167, 0, 4, 3, 96, 79, 177]
abbrev dktX0_weighs_4 : List UInt8 := dkwX0_weighs_4 ++ []
def dkwX0_weighs_3 : List UInt8 := [27, 92, 46, 21, 4, 42, 180, 0, 43, 27, 46, 160, 0, 14, 21, 4, 18, 203, 162, 0, 7, 29]
abbrev dktX0_weighs_3 : List UInt8 := dkwX0_weighs_3 ++ dktX0_weighs_4
def dkwX0_weighs_2 : List UInt8 := [167, 0, 52, 42, 180, 0, 46, 27, 42, 180, 0, 46, 27, 46, 21, 4, 184, 0, 212, 79, 42, 180, 0, 49]
abbrev dktX0_weighs_2 : List UInt8 := dkwX0_weighs_2 ++ dktX0_weighs_3
def dkwX0_weighs_1 : List UInt8 := [42, 180, 0, 43, 27, 46, 79, 42, 180, 0, 43, 27, 21, 4, 79, 42, 180, 0, 49, 27, 29, 79]
abbrev dktX0_weighs_1 : List UInt8 := dkwX0_weighs_1 ++ dktX0_weighs_2
def dkwX0_weighs_0 : List UInt8 := [28, 18, 203, 184, 0, 212, 54, 4, 21, 4, 42, 180, 0, 43, 27, 46, 162, 0, 33, 42, 180, 0, 46, 27]
abbrev dktX0_weighs_0 : List UInt8 := dkwX0_weighs_0 ++ dktX0_weighs_1
theorem dksX0_weighs_0 : cX0_weighs.data.toList.drop 0 = dktX0_weighs_0 := by decide +kernel
theorem dksX0_weighs_1 : cX0_weighs.data.toList.drop 24 = dktX0_weighs_1 := dk_seg dksX0_weighs_0 24 rfl rfl
theorem dksX0_weighs_2 : cX0_weighs.data.toList.drop 46 = dktX0_weighs_2 := dk_seg dksX0_weighs_1 22 rfl rfl
theorem dksX0_weighs_3 : cX0_weighs.data.toList.drop 70 = dktX0_weighs_3 := dk_seg dksX0_weighs_2 24 rfl rfl
theorem dksX0_weighs_4 : cX0_weighs.data.toList.drop 92 = dktX0_weighs_4 := dk_seg dksX0_weighs_3 22 rfl rfl
theorem dX0_weighs_0 : decode cX0_weighs 0 = .ok (.iload_n 2, 1) := dk_28 (dk_at dksX0_weighs_0 0 rfl rfl)
theorem dX0_weighs_1 : decode cX0_weighs 1 = .ok (.ldc 203, 2) := dk_18 203 (dk_at dksX0_weighs_0 1 rfl rfl)
theorem dX0_weighs_3 : decode cX0_weighs 3 = .ok (.invokestatic 212, 3) := dk_184 0 212 (dk_at dksX0_weighs_0 3 rfl rfl)
theorem dX0_weighs_6 : decode cX0_weighs 6 = .ok (.istore 4, 2) := dk_54 4 (dk_at dksX0_weighs_0 6 rfl rfl)
theorem dX0_weighs_8 : decode cX0_weighs 8 = .ok (.iload 4, 2) := dk_21 4 (dk_at dksX0_weighs_0 8 rfl rfl)
theorem dX0_weighs_10 : decode cX0_weighs 10 = .ok (.aload_n 0, 1) := dk_42 (dk_at dksX0_weighs_0 10 rfl rfl)
theorem dX0_weighs_11 : decode cX0_weighs 11 = .ok (.getfield 43, 3) := dk_180 0 43 (dk_at dksX0_weighs_0 11 rfl rfl)
theorem dX0_weighs_14 : decode cX0_weighs 14 = .ok (.iload_n 1, 1) := dk_27 (dk_at dksX0_weighs_0 14 rfl rfl)
theorem dX0_weighs_15 : decode cX0_weighs 15 = .ok (.iaload, 1) := dk_46 (dk_at dksX0_weighs_0 15 rfl rfl)
theorem dX0_weighs_16 : decode cX0_weighs 16 = .ok (.if_icmp .ge 33, 3) := dk_162 0 33 (dk_at dksX0_weighs_0 16 rfl rfl)
theorem dX0_weighs_19 : decode cX0_weighs 19 = .ok (.aload_n 0, 1) := dk_42 (dk_at dksX0_weighs_0 19 rfl rfl)
theorem dX0_weighs_20 : decode cX0_weighs 20 = .ok (.getfield 46, 3) := dk_180 0 46 (dk_at dksX0_weighs_0 20 rfl rfl)
theorem dX0_weighs_23 : decode cX0_weighs 23 = .ok (.iload_n 1, 1) := dk_27 (dk_at dksX0_weighs_0 23 rfl rfl)
theorem dX0_weighs_24 : decode cX0_weighs 24 = .ok (.aload_n 0, 1) := dk_42 (dk_at dksX0_weighs_1 0 rfl rfl)
theorem dX0_weighs_25 : decode cX0_weighs 25 = .ok (.getfield 43, 3) := dk_180 0 43 (dk_at dksX0_weighs_1 1 rfl rfl)
theorem dX0_weighs_28 : decode cX0_weighs 28 = .ok (.iload_n 1, 1) := dk_27 (dk_at dksX0_weighs_1 4 rfl rfl)
theorem dX0_weighs_29 : decode cX0_weighs 29 = .ok (.iaload, 1) := dk_46 (dk_at dksX0_weighs_1 5 rfl rfl)
theorem dX0_weighs_30 : decode cX0_weighs 30 = .ok (.iastore, 1) := dk_79 (dk_at dksX0_weighs_1 6 rfl rfl)
theorem dX0_weighs_31 : decode cX0_weighs 31 = .ok (.aload_n 0, 1) := dk_42 (dk_at dksX0_weighs_1 7 rfl rfl)
theorem dX0_weighs_32 : decode cX0_weighs 32 = .ok (.getfield 43, 3) := dk_180 0 43 (dk_at dksX0_weighs_1 8 rfl rfl)
theorem dX0_weighs_35 : decode cX0_weighs 35 = .ok (.iload_n 1, 1) := dk_27 (dk_at dksX0_weighs_1 11 rfl rfl)
theorem dX0_weighs_36 : decode cX0_weighs 36 = .ok (.iload 4, 2) := dk_21 4 (dk_at dksX0_weighs_1 12 rfl rfl)
theorem dX0_weighs_38 : decode cX0_weighs 38 = .ok (.iastore, 1) := dk_79 (dk_at dksX0_weighs_1 14 rfl rfl)
theorem dX0_weighs_39 : decode cX0_weighs 39 = .ok (.aload_n 0, 1) := dk_42 (dk_at dksX0_weighs_1 15 rfl rfl)
theorem dX0_weighs_40 : decode cX0_weighs 40 = .ok (.getfield 49, 3) := dk_180 0 49 (dk_at dksX0_weighs_1 16 rfl rfl)
theorem dX0_weighs_43 : decode cX0_weighs 43 = .ok (.iload_n 1, 1) := dk_27 (dk_at dksX0_weighs_1 19 rfl rfl)
theorem dX0_weighs_44 : decode cX0_weighs 44 = .ok (.iload_n 3, 1) := dk_29 (dk_at dksX0_weighs_1 20 rfl rfl)
theorem dX0_weighs_45 : decode cX0_weighs 45 = .ok (.iastore, 1) := dk_79 (dk_at dksX0_weighs_1 21 rfl rfl)
theorem dX0_weighs_46 : decode cX0_weighs 46 = .ok (.goto 52, 3) := dk_167 0 52 (dk_at dksX0_weighs_2 0 rfl rfl)
theorem dX0_weighs_49 : decode cX0_weighs 49 = .ok (.aload_n 0, 1) := dk_42 (dk_at dksX0_weighs_2 3 rfl rfl)
theorem dX0_weighs_50 : decode cX0_weighs 50 = .ok (.getfield 46, 3) := dk_180 0 46 (dk_at dksX0_weighs_2 4 rfl rfl)
theorem dX0_weighs_53 : decode cX0_weighs 53 = .ok (.iload_n 1, 1) := dk_27 (dk_at dksX0_weighs_2 7 rfl rfl)
theorem dX0_weighs_54 : decode cX0_weighs 54 = .ok (.aload_n 0, 1) := dk_42 (dk_at dksX0_weighs_2 8 rfl rfl)
theorem dX0_weighs_55 : decode cX0_weighs 55 = .ok (.getfield 46, 3) := dk_180 0 46 (dk_at dksX0_weighs_2 9 rfl rfl)
theorem dX0_weighs_58 : decode cX0_weighs 58 = .ok (.iload_n 1, 1) := dk_27 (dk_at dksX0_weighs_2 12 rfl rfl)
theorem dX0_weighs_59 : decode cX0_weighs 59 = .ok (.iaload, 1) := dk_46 (dk_at dksX0_weighs_2 13 rfl rfl)
theorem dX0_weighs_60 : decode cX0_weighs 60 = .ok (.iload 4, 2) := dk_21 4 (dk_at dksX0_weighs_2 14 rfl rfl)
theorem dX0_weighs_62 : decode cX0_weighs 62 = .ok (.invokestatic 212, 3) := dk_184 0 212 (dk_at dksX0_weighs_2 16 rfl rfl)
theorem dX0_weighs_65 : decode cX0_weighs 65 = .ok (.iastore, 1) := dk_79 (dk_at dksX0_weighs_2 19 rfl rfl)
theorem dX0_weighs_66 : decode cX0_weighs 66 = .ok (.aload_n 0, 1) := dk_42 (dk_at dksX0_weighs_2 20 rfl rfl)
theorem dX0_weighs_67 : decode cX0_weighs 67 = .ok (.getfield 49, 3) := dk_180 0 49 (dk_at dksX0_weighs_2 21 rfl rfl)
theorem dX0_weighs_70 : decode cX0_weighs 70 = .ok (.iload_n 1, 1) := dk_27 (dk_at dksX0_weighs_3 0 rfl rfl)
theorem dX0_weighs_71 : decode cX0_weighs 71 = .ok (.dup2, 1) := dk_92 (dk_at dksX0_weighs_3 1 rfl rfl)
theorem dX0_weighs_72 : decode cX0_weighs 72 = .ok (.iaload, 1) := dk_46 (dk_at dksX0_weighs_3 2 rfl rfl)
theorem dX0_weighs_73 : decode cX0_weighs 73 = .ok (.iload 4, 2) := dk_21 4 (dk_at dksX0_weighs_3 3 rfl rfl)
theorem dX0_weighs_75 : decode cX0_weighs 75 = .ok (.aload_n 0, 1) := dk_42 (dk_at dksX0_weighs_3 5 rfl rfl)
theorem dX0_weighs_76 : decode cX0_weighs 76 = .ok (.getfield 43, 3) := dk_180 0 43 (dk_at dksX0_weighs_3 6 rfl rfl)
theorem dX0_weighs_79 : decode cX0_weighs 79 = .ok (.iload_n 1, 1) := dk_27 (dk_at dksX0_weighs_3 9 rfl rfl)
theorem dX0_weighs_80 : decode cX0_weighs 80 = .ok (.iaload, 1) := dk_46 (dk_at dksX0_weighs_3 10 rfl rfl)
theorem dX0_weighs_81 : decode cX0_weighs 81 = .ok (.if_icmp .ne 14, 3) := dk_160 0 14 (dk_at dksX0_weighs_3 11 rfl rfl)
theorem dX0_weighs_84 : decode cX0_weighs 84 = .ok (.iload 4, 2) := dk_21 4 (dk_at dksX0_weighs_3 14 rfl rfl)
theorem dX0_weighs_86 : decode cX0_weighs 86 = .ok (.ldc 203, 2) := dk_18 203 (dk_at dksX0_weighs_3 16 rfl rfl)
theorem dX0_weighs_88 : decode cX0_weighs 88 = .ok (.if_icmp .ge 7, 3) := dk_162 0 7 (dk_at dksX0_weighs_3 18 rfl rfl)
theorem dX0_weighs_91 : decode cX0_weighs 91 = .ok (.iload_n 3, 1) := dk_29 (dk_at dksX0_weighs_3 21 rfl rfl)
theorem dX0_weighs_92 : decode cX0_weighs 92 = .ok (.goto 4, 3) := dk_167 0 4 (dk_at dksX0_weighs_4 0 rfl rfl)
theorem dX0_weighs_95 : decode cX0_weighs 95 = .ok (.iconst 0, 1) := dk_3 (dk_at dksX0_weighs_4 3 rfl rfl)
theorem dX0_weighs_96 : decode cX0_weighs 96 = .ok (.iadd, 1) := dk_96 (dk_at dksX0_weighs_4 4 rfl rfl)
theorem dX0_weighs_97 : decode cX0_weighs 97 = .ok (.iastore, 1) := dk_79 (dk_at dksX0_weighs_4 5 rfl rfl)
theorem dX0_weighs_98 : decode cX0_weighs 98 = .ok (.return_, 1) := dk_177 (dk_at dksX0_weighs_4 6 rfl rfl)
abbrev cX0_ofRight : ByteArray := prog_1_method_27_code
def yX0_ofRight : MethodName := ⟨RX0, "ofRight", "(II)I"⟩
def dkwX0_ofRight_2 : List UInt8 := [167, 0, 5, 16, 254, 172]
abbrev dktX0_ofRight_2 : List UInt8 := dkwX0_ofRight_2 ++ []
def dkwX0_ofRight_1 : List UInt8 := [4, 160, 0, 12, 42, 180, 0, 34, 27, 46, 167, 0, 18, 28, 5, 160, 0, 11, 42, 27, 182, 0, 254]
abbrev dktX0_ofRight_1 : List UInt8 := dkwX0_ofRight_1 ++ dktX0_ofRight_2
def dkwX0_ofRight_0 : List UInt8 := [42, 27, 182, 0, 251, 153, 0, 5, 2, 172, 28, 154, 0, 12, 42, 180, 0, 30, 27, 46, 167, 0, 32, 28]
abbrev dktX0_ofRight_0 : List UInt8 := dkwX0_ofRight_0 ++ dktX0_ofRight_1
theorem dksX0_ofRight_0 : cX0_ofRight.data.toList.drop 0 = dktX0_ofRight_0 := by decide +kernel
theorem dksX0_ofRight_1 : cX0_ofRight.data.toList.drop 24 = dktX0_ofRight_1 := dk_seg dksX0_ofRight_0 24 rfl rfl
theorem dksX0_ofRight_2 : cX0_ofRight.data.toList.drop 47 = dktX0_ofRight_2 := dk_seg dksX0_ofRight_1 23 rfl rfl
theorem dX0_ofRight_0 : decode cX0_ofRight 0 = .ok (.aload_n 0, 1) := dk_42 (dk_at dksX0_ofRight_0 0 rfl rfl)
theorem dX0_ofRight_1 : decode cX0_ofRight 1 = .ok (.iload_n 1, 1) := dk_27 (dk_at dksX0_ofRight_0 1 rfl rfl)
theorem dX0_ofRight_2 : decode cX0_ofRight 2 = .ok (.invokevirtual 251, 3) := dk_182 0 251 (dk_at dksX0_ofRight_0 2 rfl rfl)
theorem dX0_ofRight_5 : decode cX0_ofRight 5 = .ok (.ifCond .eq 5, 3) := dk_153 0 5 (dk_at dksX0_ofRight_0 5 rfl rfl)
theorem dX0_ofRight_8 : decode cX0_ofRight 8 = .ok (.iconst (-1), 1) := dk_2 (dk_at dksX0_ofRight_0 8 rfl rfl)
theorem dX0_ofRight_9 : decode cX0_ofRight 9 = .ok (.ireturn, 1) := dk_172 (dk_at dksX0_ofRight_0 9 rfl rfl)
theorem dX0_ofRight_10 : decode cX0_ofRight 10 = .ok (.iload_n 2, 1) := dk_28 (dk_at dksX0_ofRight_0 10 rfl rfl)
theorem dX0_ofRight_11 : decode cX0_ofRight 11 = .ok (.ifCond .ne 12, 3) := dk_154 0 12 (dk_at dksX0_ofRight_0 11 rfl rfl)
theorem dX0_ofRight_14 : decode cX0_ofRight 14 = .ok (.aload_n 0, 1) := dk_42 (dk_at dksX0_ofRight_0 14 rfl rfl)
theorem dX0_ofRight_15 : decode cX0_ofRight 15 = .ok (.getfield 30, 3) := dk_180 0 30 (dk_at dksX0_ofRight_0 15 rfl rfl)
theorem dX0_ofRight_18 : decode cX0_ofRight 18 = .ok (.iload_n 1, 1) := dk_27 (dk_at dksX0_ofRight_0 18 rfl rfl)
theorem dX0_ofRight_19 : decode cX0_ofRight 19 = .ok (.iaload, 1) := dk_46 (dk_at dksX0_ofRight_0 19 rfl rfl)
theorem dX0_ofRight_20 : decode cX0_ofRight 20 = .ok (.goto 32, 3) := dk_167 0 32 (dk_at dksX0_ofRight_0 20 rfl rfl)
theorem dX0_ofRight_23 : decode cX0_ofRight 23 = .ok (.iload_n 2, 1) := dk_28 (dk_at dksX0_ofRight_0 23 rfl rfl)
theorem dX0_ofRight_24 : decode cX0_ofRight 24 = .ok (.iconst 1, 1) := dk_4 (dk_at dksX0_ofRight_1 0 rfl rfl)
theorem dX0_ofRight_25 : decode cX0_ofRight 25 = .ok (.if_icmp .ne 12, 3) := dk_160 0 12 (dk_at dksX0_ofRight_1 1 rfl rfl)
theorem dX0_ofRight_28 : decode cX0_ofRight 28 = .ok (.aload_n 0, 1) := dk_42 (dk_at dksX0_ofRight_1 4 rfl rfl)
theorem dX0_ofRight_29 : decode cX0_ofRight 29 = .ok (.getfield 34, 3) := dk_180 0 34 (dk_at dksX0_ofRight_1 5 rfl rfl)
theorem dX0_ofRight_32 : decode cX0_ofRight 32 = .ok (.iload_n 1, 1) := dk_27 (dk_at dksX0_ofRight_1 8 rfl rfl)
theorem dX0_ofRight_33 : decode cX0_ofRight 33 = .ok (.iaload, 1) := dk_46 (dk_at dksX0_ofRight_1 9 rfl rfl)
theorem dX0_ofRight_34 : decode cX0_ofRight 34 = .ok (.goto 18, 3) := dk_167 0 18 (dk_at dksX0_ofRight_1 10 rfl rfl)
theorem dX0_ofRight_37 : decode cX0_ofRight 37 = .ok (.iload_n 2, 1) := dk_28 (dk_at dksX0_ofRight_1 13 rfl rfl)
theorem dX0_ofRight_38 : decode cX0_ofRight 38 = .ok (.iconst 2, 1) := dk_5 (dk_at dksX0_ofRight_1 14 rfl rfl)
theorem dX0_ofRight_39 : decode cX0_ofRight 39 = .ok (.if_icmp .ne 11, 3) := dk_160 0 11 (dk_at dksX0_ofRight_1 15 rfl rfl)
theorem dX0_ofRight_42 : decode cX0_ofRight 42 = .ok (.aload_n 0, 1) := dk_42 (dk_at dksX0_ofRight_1 18 rfl rfl)
theorem dX0_ofRight_43 : decode cX0_ofRight 43 = .ok (.iload_n 1, 1) := dk_27 (dk_at dksX0_ofRight_1 19 rfl rfl)
theorem dX0_ofRight_44 : decode cX0_ofRight 44 = .ok (.invokevirtual 254, 3) := dk_182 0 254 (dk_at dksX0_ofRight_1 20 rfl rfl)
theorem dX0_ofRight_47 : decode cX0_ofRight 47 = .ok (.goto 5, 3) := dk_167 0 5 (dk_at dksX0_ofRight_2 0 rfl rfl)
theorem dX0_ofRight_50 : decode cX0_ofRight 50 = .ok (.bipush (-2), 2) := dk_16 254 (dk_at dksX0_ofRight_2 3 rfl rfl)
theorem dX0_ofRight_52 : decode cX0_ofRight 52 = .ok (.ireturn, 1) := dk_172 (dk_at dksX0_ofRight_2 5 rfl rfl)
abbrev cX0_partnersOfRight : ByteArray := prog_1_method_25_code
def yX0_partnersOfRight : MethodName := ⟨RX0, "partnersOfRight", "(I)I"⟩
def dkwX0_partnersOfRight_0 : List UInt8 := [187, 0, 234, 89, 42, 27, 183, 0, 236, 182, 0, 237, 172]
abbrev dktX0_partnersOfRight_0 : List UInt8 := dkwX0_partnersOfRight_0 ++ []
theorem dksX0_partnersOfRight_0 : cX0_partnersOfRight.data.toList.drop 0 = dktX0_partnersOfRight_0 := by decide +kernel
theorem dX0_partnersOfRight_0 : decode cX0_partnersOfRight 0 = .ok (.new 234, 3) := dk_187 0 234 (dk_at dksX0_partnersOfRight_0 0 rfl rfl)
theorem dX0_partnersOfRight_3 : decode cX0_partnersOfRight 3 = .ok (.dup, 1) := dk_89 (dk_at dksX0_partnersOfRight_0 3 rfl rfl)
theorem dX0_partnersOfRight_4 : decode cX0_partnersOfRight 4 = .ok (.aload_n 0, 1) := dk_42 (dk_at dksX0_partnersOfRight_0 4 rfl rfl)
theorem dX0_partnersOfRight_5 : decode cX0_partnersOfRight 5 = .ok (.iload_n 1, 1) := dk_27 (dk_at dksX0_partnersOfRight_0 5 rfl rfl)
theorem dX0_partnersOfRight_6 : decode cX0_partnersOfRight 6 = .ok (.invokespecial 236, 3) := dk_183 0 236 (dk_at dksX0_partnersOfRight_0 6 rfl rfl)
theorem dX0_partnersOfRight_9 : decode cX0_partnersOfRight 9 = .ok (.invokevirtual 237, 3) := dk_182 0 237 (dk_at dksX0_partnersOfRight_0 9 rfl rfl)
theorem dX0_partnersOfRight_12 : decode cX0_partnersOfRight 12 = .ok (.ireturn, 1) := dk_172 (dk_at dksX0_partnersOfRight_0 12 rfl rfl)
abbrev cX0_move : ByteArray := prog_1_method_31_code
def yX0_move : MethodName := ⟨RX0, "move", "(III)I"⟩
def dkwX0_move_3 : List UInt8 := [182, 1, 8, 181, 0, 34, 28, 172]
abbrev dktX0_move_3 : List UInt8 := dkwX0_move_3 ++ []
def dkwX0_move_2 : List UInt8 := [42, 42, 42, 180, 0, 30, 27, 28, 29, 182, 1, 8, 181, 0, 30, 42, 42, 42, 180, 0, 34, 27, 28, 29]
abbrev dktX0_move_2 : List UInt8 := dkwX0_move_2 ++ dktX0_move_3
def dkwX0_move_1 : List UInt8 := [164, 0, 5, 2, 172, 29, 133, 9, 42, 180, 0, 109, 28, 100, 133, 184, 0, 105, 154, 0, 6, 16, 254, 172]
abbrev dktX0_move_1 : List UInt8 := dkwX0_move_1 ++ dktX0_move_2
def dkwX0_move_0 : List UInt8 := [28, 4, 162, 0, 6, 16, 254, 172, 42, 27, 182, 0, 251, 154, 0, 13, 28, 42, 180, 0, 109, 27, 100]
abbrev dktX0_move_0 : List UInt8 := dkwX0_move_0 ++ dktX0_move_1
theorem dksX0_move_0 : cX0_move.data.toList.drop 0 = dktX0_move_0 := by decide +kernel
theorem dksX0_move_1 : cX0_move.data.toList.drop 23 = dktX0_move_1 := dk_seg dksX0_move_0 23 rfl rfl
theorem dksX0_move_2 : cX0_move.data.toList.drop 47 = dktX0_move_2 := dk_seg dksX0_move_1 24 rfl rfl
theorem dksX0_move_3 : cX0_move.data.toList.drop 71 = dktX0_move_3 := dk_seg dksX0_move_2 24 rfl rfl
theorem dX0_move_0 : decode cX0_move 0 = .ok (.iload_n 2, 1) := dk_28 (dk_at dksX0_move_0 0 rfl rfl)
theorem dX0_move_1 : decode cX0_move 1 = .ok (.iconst 1, 1) := dk_4 (dk_at dksX0_move_0 1 rfl rfl)
theorem dX0_move_2 : decode cX0_move 2 = .ok (.if_icmp .ge 6, 3) := dk_162 0 6 (dk_at dksX0_move_0 2 rfl rfl)
theorem dX0_move_5 : decode cX0_move 5 = .ok (.bipush (-2), 2) := dk_16 254 (dk_at dksX0_move_0 5 rfl rfl)
theorem dX0_move_7 : decode cX0_move 7 = .ok (.ireturn, 1) := dk_172 (dk_at dksX0_move_0 7 rfl rfl)
theorem dX0_move_8 : decode cX0_move 8 = .ok (.aload_n 0, 1) := dk_42 (dk_at dksX0_move_0 8 rfl rfl)
theorem dX0_move_9 : decode cX0_move 9 = .ok (.iload_n 1, 1) := dk_27 (dk_at dksX0_move_0 9 rfl rfl)
theorem dX0_move_10 : decode cX0_move 10 = .ok (.invokevirtual 251, 3) := dk_182 0 251 (dk_at dksX0_move_0 10 rfl rfl)
theorem dX0_move_13 : decode cX0_move 13 = .ok (.ifCond .ne 13, 3) := dk_154 0 13 (dk_at dksX0_move_0 13 rfl rfl)
theorem dX0_move_16 : decode cX0_move 16 = .ok (.iload_n 2, 1) := dk_28 (dk_at dksX0_move_0 16 rfl rfl)
theorem dX0_move_17 : decode cX0_move 17 = .ok (.aload_n 0, 1) := dk_42 (dk_at dksX0_move_0 17 rfl rfl)
theorem dX0_move_18 : decode cX0_move 18 = .ok (.getfield 109, 3) := dk_180 0 109 (dk_at dksX0_move_0 18 rfl rfl)
theorem dX0_move_21 : decode cX0_move 21 = .ok (.iload_n 1, 1) := dk_27 (dk_at dksX0_move_0 21 rfl rfl)
theorem dX0_move_22 : decode cX0_move 22 = .ok (.isub, 1) := dk_100 (dk_at dksX0_move_0 22 rfl rfl)
theorem dX0_move_23 : decode cX0_move 23 = .ok (.if_icmp .le 5, 3) := dk_164 0 5 (dk_at dksX0_move_1 0 rfl rfl)
theorem dX0_move_26 : decode cX0_move 26 = .ok (.iconst (-1), 1) := dk_2 (dk_at dksX0_move_1 3 rfl rfl)
theorem dX0_move_27 : decode cX0_move 27 = .ok (.ireturn, 1) := dk_172 (dk_at dksX0_move_1 4 rfl rfl)
theorem dX0_move_28 : decode cX0_move 28 = .ok (.iload_n 3, 1) := dk_29 (dk_at dksX0_move_1 5 rfl rfl)
theorem dX0_move_29 : decode cX0_move 29 = .ok (.i2l, 1) := dk_133 (dk_at dksX0_move_1 6 rfl rfl)
theorem dX0_move_30 : decode cX0_move 30 = .ok (.lconst 0, 1) := dk_9 (dk_at dksX0_move_1 7 rfl rfl)
theorem dX0_move_31 : decode cX0_move 31 = .ok (.aload_n 0, 1) := dk_42 (dk_at dksX0_move_1 8 rfl rfl)
theorem dX0_move_32 : decode cX0_move 32 = .ok (.getfield 109, 3) := dk_180 0 109 (dk_at dksX0_move_1 9 rfl rfl)
theorem dX0_move_35 : decode cX0_move 35 = .ok (.iload_n 2, 1) := dk_28 (dk_at dksX0_move_1 12 rfl rfl)
theorem dX0_move_36 : decode cX0_move 36 = .ok (.isub, 1) := dk_100 (dk_at dksX0_move_1 13 rfl rfl)
theorem dX0_move_37 : decode cX0_move 37 = .ok (.i2l, 1) := dk_133 (dk_at dksX0_move_1 14 rfl rfl)
theorem dX0_move_38 : decode cX0_move 38 = .ok (.invokestatic 105, 3) := dk_184 0 105 (dk_at dksX0_move_1 15 rfl rfl)
theorem dX0_move_41 : decode cX0_move 41 = .ok (.ifCond .ne 6, 3) := dk_154 0 6 (dk_at dksX0_move_1 18 rfl rfl)
theorem dX0_move_44 : decode cX0_move 44 = .ok (.bipush (-2), 2) := dk_16 254 (dk_at dksX0_move_1 21 rfl rfl)
theorem dX0_move_46 : decode cX0_move 46 = .ok (.ireturn, 1) := dk_172 (dk_at dksX0_move_1 23 rfl rfl)
theorem dX0_move_47 : decode cX0_move 47 = .ok (.aload_n 0, 1) := dk_42 (dk_at dksX0_move_2 0 rfl rfl)
theorem dX0_move_48 : decode cX0_move 48 = .ok (.aload_n 0, 1) := dk_42 (dk_at dksX0_move_2 1 rfl rfl)
theorem dX0_move_49 : decode cX0_move 49 = .ok (.aload_n 0, 1) := dk_42 (dk_at dksX0_move_2 2 rfl rfl)
theorem dX0_move_50 : decode cX0_move 50 = .ok (.getfield 30, 3) := dk_180 0 30 (dk_at dksX0_move_2 3 rfl rfl)
theorem dX0_move_53 : decode cX0_move 53 = .ok (.iload_n 1, 1) := dk_27 (dk_at dksX0_move_2 6 rfl rfl)
theorem dX0_move_54 : decode cX0_move 54 = .ok (.iload_n 2, 1) := dk_28 (dk_at dksX0_move_2 7 rfl rfl)
theorem dX0_move_55 : decode cX0_move 55 = .ok (.iload_n 3, 1) := dk_29 (dk_at dksX0_move_2 8 rfl rfl)
theorem dX0_move_56 : decode cX0_move 56 = .ok (.invokevirtual 264, 3) := dk_182 1 8 (dk_at dksX0_move_2 9 rfl rfl)
theorem dX0_move_59 : decode cX0_move 59 = .ok (.putfield 30, 3) := dk_181 0 30 (dk_at dksX0_move_2 12 rfl rfl)
theorem dX0_move_62 : decode cX0_move 62 = .ok (.aload_n 0, 1) := dk_42 (dk_at dksX0_move_2 15 rfl rfl)
theorem dX0_move_63 : decode cX0_move 63 = .ok (.aload_n 0, 1) := dk_42 (dk_at dksX0_move_2 16 rfl rfl)
theorem dX0_move_64 : decode cX0_move 64 = .ok (.aload_n 0, 1) := dk_42 (dk_at dksX0_move_2 17 rfl rfl)
theorem dX0_move_65 : decode cX0_move 65 = .ok (.getfield 34, 3) := dk_180 0 34 (dk_at dksX0_move_2 18 rfl rfl)
theorem dX0_move_68 : decode cX0_move 68 = .ok (.iload_n 1, 1) := dk_27 (dk_at dksX0_move_2 21 rfl rfl)
theorem dX0_move_69 : decode cX0_move 69 = .ok (.iload_n 2, 1) := dk_28 (dk_at dksX0_move_2 22 rfl rfl)
theorem dX0_move_70 : decode cX0_move 70 = .ok (.iload_n 3, 1) := dk_29 (dk_at dksX0_move_2 23 rfl rfl)
theorem dX0_move_71 : decode cX0_move 71 = .ok (.invokevirtual 264, 3) := dk_182 1 8 (dk_at dksX0_move_3 0 rfl rfl)
theorem dX0_move_74 : decode cX0_move 74 = .ok (.putfield 34, 3) := dk_181 0 34 (dk_at dksX0_move_3 3 rfl rfl)
theorem dX0_move_77 : decode cX0_move 77 = .ok (.iload_n 2, 1) := dk_28 (dk_at dksX0_move_3 6 rfl rfl)
theorem dX0_move_78 : decode cX0_move 78 = .ok (.ireturn, 1) := dk_172 (dk_at dksX0_move_3 7 rfl rfl)
abbrev cX0_movedIn : ByteArray := prog_1_method_30_code
def yX0_movedIn : MethodName := ⟨RX0, "movedIn", "([IIII)[I"⟩
def dkwX0_movedIn_4 : List UInt8 := [4, 96, 54, 6, 132, 7, 1, 167, 255, 166, 25, 5, 176]
abbrev dktX0_movedIn_4 : List UInt8 := dkwX0_movedIn_4 ++ []
def dkwX0_movedIn_3 : List UInt8 := [29, 96, 54, 9, 25, 5, 21, 9, 43, 21, 7, 46, 79, 21, 6, 21, 8, 153, 0, 7, 3, 167, 0, 4]
abbrev dktX0_movedIn_3 : List UInt8 := dkwX0_movedIn_3 ++ dktX0_movedIn_4
def dkwX0_movedIn_2 : List UInt8 := [21, 4, 21, 7, 96, 28, 100, 167, 0, 19, 21, 6, 21, 4, 162, 0, 8, 21, 6, 167, 0, 7, 21, 6]
abbrev dktX0_movedIn_2 : List UInt8 := dkwX0_movedIn_2 ++ dktX0_movedIn_3
def dkwX0_movedIn_1 : List UInt8 := [161, 0, 15, 21, 7, 28, 29, 96, 162, 0, 7, 4, 167, 0, 4, 3, 54, 8, 21, 8, 153, 0, 13]
abbrev dktX0_movedIn_1 : List UInt8 := dkwX0_movedIn_1 ++ dktX0_movedIn_2
def dkwX0_movedIn_0 : List UInt8 := [16, 7, 188, 10, 58, 5, 3, 54, 6, 3, 54, 7, 21, 7, 42, 180, 0, 109, 162, 0, 87, 21, 7, 28]
abbrev dktX0_movedIn_0 : List UInt8 := dkwX0_movedIn_0 ++ dktX0_movedIn_1
theorem dksX0_movedIn_0 : cX0_movedIn.data.toList.drop 0 = dktX0_movedIn_0 := by decide +kernel
theorem dksX0_movedIn_1 : cX0_movedIn.data.toList.drop 24 = dktX0_movedIn_1 := dk_seg dksX0_movedIn_0 24 rfl rfl
theorem dksX0_movedIn_2 : cX0_movedIn.data.toList.drop 47 = dktX0_movedIn_2 := dk_seg dksX0_movedIn_1 23 rfl rfl
theorem dksX0_movedIn_3 : cX0_movedIn.data.toList.drop 71 = dktX0_movedIn_3 := dk_seg dksX0_movedIn_2 24 rfl rfl
theorem dksX0_movedIn_4 : cX0_movedIn.data.toList.drop 95 = dktX0_movedIn_4 := dk_seg dksX0_movedIn_3 24 rfl rfl
theorem dX0_movedIn_0 : decode cX0_movedIn 0 = .ok (.bipush 7, 2) := dk_16 7 (dk_at dksX0_movedIn_0 0 rfl rfl)
theorem dX0_movedIn_2 : decode cX0_movedIn 2 = .ok (.newarray .int, 2) := dk_188_10 (dk_at dksX0_movedIn_0 2 rfl rfl)
theorem dX0_movedIn_4 : decode cX0_movedIn 4 = .ok (.astore 5, 2) := dk_58 5 (dk_at dksX0_movedIn_0 4 rfl rfl)
theorem dX0_movedIn_6 : decode cX0_movedIn 6 = .ok (.iconst 0, 1) := dk_3 (dk_at dksX0_movedIn_0 6 rfl rfl)
theorem dX0_movedIn_7 : decode cX0_movedIn 7 = .ok (.istore 6, 2) := dk_54 6 (dk_at dksX0_movedIn_0 7 rfl rfl)
theorem dX0_movedIn_9 : decode cX0_movedIn 9 = .ok (.iconst 0, 1) := dk_3 (dk_at dksX0_movedIn_0 9 rfl rfl)
theorem dX0_movedIn_10 : decode cX0_movedIn 10 = .ok (.istore 7, 2) := dk_54 7 (dk_at dksX0_movedIn_0 10 rfl rfl)
theorem dX0_movedIn_12 : decode cX0_movedIn 12 = .ok (.iload 7, 2) := dk_21 7 (dk_at dksX0_movedIn_0 12 rfl rfl)
theorem dX0_movedIn_14 : decode cX0_movedIn 14 = .ok (.aload_n 0, 1) := dk_42 (dk_at dksX0_movedIn_0 14 rfl rfl)
theorem dX0_movedIn_15 : decode cX0_movedIn 15 = .ok (.getfield 109, 3) := dk_180 0 109 (dk_at dksX0_movedIn_0 15 rfl rfl)
theorem dX0_movedIn_18 : decode cX0_movedIn 18 = .ok (.if_icmp .ge 87, 3) := dk_162 0 87 (dk_at dksX0_movedIn_0 18 rfl rfl)
theorem dX0_movedIn_21 : decode cX0_movedIn 21 = .ok (.iload 7, 2) := dk_21 7 (dk_at dksX0_movedIn_0 21 rfl rfl)
theorem dX0_movedIn_23 : decode cX0_movedIn 23 = .ok (.iload_n 2, 1) := dk_28 (dk_at dksX0_movedIn_0 23 rfl rfl)
theorem dX0_movedIn_24 : decode cX0_movedIn 24 = .ok (.if_icmp .lt 15, 3) := dk_161 0 15 (dk_at dksX0_movedIn_1 0 rfl rfl)
theorem dX0_movedIn_27 : decode cX0_movedIn 27 = .ok (.iload 7, 2) := dk_21 7 (dk_at dksX0_movedIn_1 3 rfl rfl)
theorem dX0_movedIn_29 : decode cX0_movedIn 29 = .ok (.iload_n 2, 1) := dk_28 (dk_at dksX0_movedIn_1 5 rfl rfl)
theorem dX0_movedIn_30 : decode cX0_movedIn 30 = .ok (.iload_n 3, 1) := dk_29 (dk_at dksX0_movedIn_1 6 rfl rfl)
theorem dX0_movedIn_31 : decode cX0_movedIn 31 = .ok (.iadd, 1) := dk_96 (dk_at dksX0_movedIn_1 7 rfl rfl)
theorem dX0_movedIn_32 : decode cX0_movedIn 32 = .ok (.if_icmp .ge 7, 3) := dk_162 0 7 (dk_at dksX0_movedIn_1 8 rfl rfl)
theorem dX0_movedIn_35 : decode cX0_movedIn 35 = .ok (.iconst 1, 1) := dk_4 (dk_at dksX0_movedIn_1 11 rfl rfl)
theorem dX0_movedIn_36 : decode cX0_movedIn 36 = .ok (.goto 4, 3) := dk_167 0 4 (dk_at dksX0_movedIn_1 12 rfl rfl)
theorem dX0_movedIn_39 : decode cX0_movedIn 39 = .ok (.iconst 0, 1) := dk_3 (dk_at dksX0_movedIn_1 15 rfl rfl)
theorem dX0_movedIn_40 : decode cX0_movedIn 40 = .ok (.istore 8, 2) := dk_54 8 (dk_at dksX0_movedIn_1 16 rfl rfl)
theorem dX0_movedIn_42 : decode cX0_movedIn 42 = .ok (.iload 8, 2) := dk_21 8 (dk_at dksX0_movedIn_1 18 rfl rfl)
theorem dX0_movedIn_44 : decode cX0_movedIn 44 = .ok (.ifCond .eq 13, 3) := dk_153 0 13 (dk_at dksX0_movedIn_1 20 rfl rfl)
theorem dX0_movedIn_47 : decode cX0_movedIn 47 = .ok (.iload 4, 2) := dk_21 4 (dk_at dksX0_movedIn_2 0 rfl rfl)
theorem dX0_movedIn_49 : decode cX0_movedIn 49 = .ok (.iload 7, 2) := dk_21 7 (dk_at dksX0_movedIn_2 2 rfl rfl)
theorem dX0_movedIn_51 : decode cX0_movedIn 51 = .ok (.iadd, 1) := dk_96 (dk_at dksX0_movedIn_2 4 rfl rfl)
theorem dX0_movedIn_52 : decode cX0_movedIn 52 = .ok (.iload_n 2, 1) := dk_28 (dk_at dksX0_movedIn_2 5 rfl rfl)
theorem dX0_movedIn_53 : decode cX0_movedIn 53 = .ok (.isub, 1) := dk_100 (dk_at dksX0_movedIn_2 6 rfl rfl)
theorem dX0_movedIn_54 : decode cX0_movedIn 54 = .ok (.goto 19, 3) := dk_167 0 19 (dk_at dksX0_movedIn_2 7 rfl rfl)
theorem dX0_movedIn_57 : decode cX0_movedIn 57 = .ok (.iload 6, 2) := dk_21 6 (dk_at dksX0_movedIn_2 10 rfl rfl)
theorem dX0_movedIn_59 : decode cX0_movedIn 59 = .ok (.iload 4, 2) := dk_21 4 (dk_at dksX0_movedIn_2 12 rfl rfl)
theorem dX0_movedIn_61 : decode cX0_movedIn 61 = .ok (.if_icmp .ge 8, 3) := dk_162 0 8 (dk_at dksX0_movedIn_2 14 rfl rfl)
theorem dX0_movedIn_64 : decode cX0_movedIn 64 = .ok (.iload 6, 2) := dk_21 6 (dk_at dksX0_movedIn_2 17 rfl rfl)
theorem dX0_movedIn_66 : decode cX0_movedIn 66 = .ok (.goto 7, 3) := dk_167 0 7 (dk_at dksX0_movedIn_2 19 rfl rfl)
theorem dX0_movedIn_69 : decode cX0_movedIn 69 = .ok (.iload 6, 2) := dk_21 6 (dk_at dksX0_movedIn_2 22 rfl rfl)
theorem dX0_movedIn_71 : decode cX0_movedIn 71 = .ok (.iload_n 3, 1) := dk_29 (dk_at dksX0_movedIn_3 0 rfl rfl)
theorem dX0_movedIn_72 : decode cX0_movedIn 72 = .ok (.iadd, 1) := dk_96 (dk_at dksX0_movedIn_3 1 rfl rfl)
theorem dX0_movedIn_73 : decode cX0_movedIn 73 = .ok (.istore 9, 2) := dk_54 9 (dk_at dksX0_movedIn_3 2 rfl rfl)
theorem dX0_movedIn_75 : decode cX0_movedIn 75 = .ok (.aload 5, 2) := dk_25 5 (dk_at dksX0_movedIn_3 4 rfl rfl)
theorem dX0_movedIn_77 : decode cX0_movedIn 77 = .ok (.iload 9, 2) := dk_21 9 (dk_at dksX0_movedIn_3 6 rfl rfl)
theorem dX0_movedIn_79 : decode cX0_movedIn 79 = .ok (.aload_n 1, 1) := dk_43 (dk_at dksX0_movedIn_3 8 rfl rfl)
theorem dX0_movedIn_80 : decode cX0_movedIn 80 = .ok (.iload 7, 2) := dk_21 7 (dk_at dksX0_movedIn_3 9 rfl rfl)
theorem dX0_movedIn_82 : decode cX0_movedIn 82 = .ok (.iaload, 1) := dk_46 (dk_at dksX0_movedIn_3 11 rfl rfl)
theorem dX0_movedIn_83 : decode cX0_movedIn 83 = .ok (.iastore, 1) := dk_79 (dk_at dksX0_movedIn_3 12 rfl rfl)
theorem dX0_movedIn_84 : decode cX0_movedIn 84 = .ok (.iload 6, 2) := dk_21 6 (dk_at dksX0_movedIn_3 13 rfl rfl)
theorem dX0_movedIn_86 : decode cX0_movedIn 86 = .ok (.iload 8, 2) := dk_21 8 (dk_at dksX0_movedIn_3 15 rfl rfl)
theorem dX0_movedIn_88 : decode cX0_movedIn 88 = .ok (.ifCond .eq 7, 3) := dk_153 0 7 (dk_at dksX0_movedIn_3 17 rfl rfl)
theorem dX0_movedIn_91 : decode cX0_movedIn 91 = .ok (.iconst 0, 1) := dk_3 (dk_at dksX0_movedIn_3 20 rfl rfl)
theorem dX0_movedIn_92 : decode cX0_movedIn 92 = .ok (.goto 4, 3) := dk_167 0 4 (dk_at dksX0_movedIn_3 21 rfl rfl)
theorem dX0_movedIn_95 : decode cX0_movedIn 95 = .ok (.iconst 1, 1) := dk_4 (dk_at dksX0_movedIn_4 0 rfl rfl)
theorem dX0_movedIn_96 : decode cX0_movedIn 96 = .ok (.iadd, 1) := dk_96 (dk_at dksX0_movedIn_4 1 rfl rfl)
theorem dX0_movedIn_97 : decode cX0_movedIn 97 = .ok (.istore 6, 2) := dk_54 6 (dk_at dksX0_movedIn_4 2 rfl rfl)
theorem dX0_movedIn_99 : decode cX0_movedIn 99 = .ok (.iinc 7 1, 3) := dk_132 7 1 (dk_at dksX0_movedIn_4 4 rfl rfl)
theorem dX0_movedIn_102 : decode cX0_movedIn 102 = .ok (.goto (-90), 3) := dk_167 255 166 (dk_at dksX0_movedIn_4 7 rfl rfl)
theorem dX0_movedIn_105 : decode cX0_movedIn 105 = .ok (.aload 5, 2) := dk_25 5 (dk_at dksX0_movedIn_4 10 rfl rfl)
theorem dX0_movedIn_107 : decode cX0_movedIn 107 = .ok (.areturn, 1) := dk_176 (dk_at dksX0_movedIn_4 12 rfl rfl)
abbrev cX0_best : ByteArray := prog_1_method_32_code
def yX0_best : MethodName := ⟨RX0, "best", "(I)I"⟩
def dkwX0_best_4 : List UInt8 := [3, 46, 172]
abbrev dktX0_best_4 : List UInt8 := dkwX0_best_4 ++ []
def dkwX0_best_3 : List UInt8 := [167, 0, 26, 27, 5, 160, 0, 15, 42, 180, 0, 46, 3, 46, 184, 1, 18, 167, 0, 9, 42, 180, 0, 49]
abbrev dktX0_best_3 : List UInt8 := dkwX0_best_3 ++ dktX0_best_4
def dkwX0_best_2 : List UInt8 := [167, 0, 5, 16, 247, 172, 27, 154, 0, 7, 28, 167, 0, 38, 27, 4, 160, 0, 10, 42, 182, 1, 15]
abbrev dktX0_best_2 : List UInt8 := dkwX0_best_2 ++ dktX0_best_3
def dkwX0_best_1 : List UInt8 := [172, 42, 42, 180, 0, 164, 182, 1, 12, 61, 28, 18, 203, 161, 0, 15, 27, 6, 160, 0, 7, 3]
abbrev dktX0_best_1 : List UInt8 := dkwX0_best_1 ++ dktX0_best_2
def dkwX0_best_0 : List UInt8 := [27, 133, 9, 20, 0, 119, 184, 0, 105, 154, 0, 6, 16, 254, 172, 42, 182, 1, 3, 153, 0, 6, 16, 253]
abbrev dktX0_best_0 : List UInt8 := dkwX0_best_0 ++ dktX0_best_1
theorem dksX0_best_0 : cX0_best.data.toList.drop 0 = dktX0_best_0 := by decide +kernel
theorem dksX0_best_1 : cX0_best.data.toList.drop 24 = dktX0_best_1 := dk_seg dksX0_best_0 24 rfl rfl
theorem dksX0_best_2 : cX0_best.data.toList.drop 46 = dktX0_best_2 := dk_seg dksX0_best_1 22 rfl rfl
theorem dksX0_best_3 : cX0_best.data.toList.drop 69 = dktX0_best_3 := dk_seg dksX0_best_2 23 rfl rfl
theorem dksX0_best_4 : cX0_best.data.toList.drop 93 = dktX0_best_4 := dk_seg dksX0_best_3 24 rfl rfl
theorem dX0_best_0 : decode cX0_best 0 = .ok (.iload_n 1, 1) := dk_27 (dk_at dksX0_best_0 0 rfl rfl)
theorem dX0_best_1 : decode cX0_best 1 = .ok (.i2l, 1) := dk_133 (dk_at dksX0_best_0 1 rfl rfl)
theorem dX0_best_2 : decode cX0_best 2 = .ok (.lconst 0, 1) := dk_9 (dk_at dksX0_best_0 2 rfl rfl)
theorem dX0_best_3 : decode cX0_best 3 = .ok (.ldc2_w 119, 3) := dk_20 0 119 (dk_at dksX0_best_0 3 rfl rfl)
theorem dX0_best_6 : decode cX0_best 6 = .ok (.invokestatic 105, 3) := dk_184 0 105 (dk_at dksX0_best_0 6 rfl rfl)
theorem dX0_best_9 : decode cX0_best 9 = .ok (.ifCond .ne 6, 3) := dk_154 0 6 (dk_at dksX0_best_0 9 rfl rfl)
theorem dX0_best_12 : decode cX0_best 12 = .ok (.bipush (-2), 2) := dk_16 254 (dk_at dksX0_best_0 12 rfl rfl)
theorem dX0_best_14 : decode cX0_best 14 = .ok (.ireturn, 1) := dk_172 (dk_at dksX0_best_0 14 rfl rfl)
theorem dX0_best_15 : decode cX0_best 15 = .ok (.aload_n 0, 1) := dk_42 (dk_at dksX0_best_0 15 rfl rfl)
theorem dX0_best_16 : decode cX0_best 16 = .ok (.invokevirtual 259, 3) := dk_182 1 3 (dk_at dksX0_best_0 16 rfl rfl)
theorem dX0_best_19 : decode cX0_best 19 = .ok (.ifCond .eq 6, 3) := dk_153 0 6 (dk_at dksX0_best_0 19 rfl rfl)
theorem dX0_best_22 : decode cX0_best 22 = .ok (.bipush (-3), 2) := dk_16 253 (dk_at dksX0_best_0 22 rfl rfl)
theorem dX0_best_24 : decode cX0_best 24 = .ok (.ireturn, 1) := dk_172 (dk_at dksX0_best_1 0 rfl rfl)
theorem dX0_best_25 : decode cX0_best 25 = .ok (.aload_n 0, 1) := dk_42 (dk_at dksX0_best_1 1 rfl rfl)
theorem dX0_best_26 : decode cX0_best 26 = .ok (.aload_n 0, 1) := dk_42 (dk_at dksX0_best_1 2 rfl rfl)
theorem dX0_best_27 : decode cX0_best 27 = .ok (.getfield 164, 3) := dk_180 0 164 (dk_at dksX0_best_1 3 rfl rfl)
theorem dX0_best_30 : decode cX0_best 30 = .ok (.invokevirtual 268, 3) := dk_182 1 12 (dk_at dksX0_best_1 6 rfl rfl)
theorem dX0_best_33 : decode cX0_best 33 = .ok (.istore_n 2, 1) := dk_61 (dk_at dksX0_best_1 9 rfl rfl)
theorem dX0_best_34 : decode cX0_best 34 = .ok (.iload_n 2, 1) := dk_28 (dk_at dksX0_best_1 10 rfl rfl)
theorem dX0_best_35 : decode cX0_best 35 = .ok (.ldc 203, 2) := dk_18 203 (dk_at dksX0_best_1 11 rfl rfl)
theorem dX0_best_37 : decode cX0_best 37 = .ok (.if_icmp .lt 15, 3) := dk_161 0 15 (dk_at dksX0_best_1 13 rfl rfl)
theorem dX0_best_40 : decode cX0_best 40 = .ok (.iload_n 1, 1) := dk_27 (dk_at dksX0_best_1 16 rfl rfl)
theorem dX0_best_41 : decode cX0_best 41 = .ok (.iconst 3, 1) := dk_6 (dk_at dksX0_best_1 17 rfl rfl)
theorem dX0_best_42 : decode cX0_best 42 = .ok (.if_icmp .ne 7, 3) := dk_160 0 7 (dk_at dksX0_best_1 18 rfl rfl)
theorem dX0_best_45 : decode cX0_best 45 = .ok (.iconst 0, 1) := dk_3 (dk_at dksX0_best_1 21 rfl rfl)
theorem dX0_best_46 : decode cX0_best 46 = .ok (.goto 5, 3) := dk_167 0 5 (dk_at dksX0_best_2 0 rfl rfl)
theorem dX0_best_49 : decode cX0_best 49 = .ok (.bipush (-9), 2) := dk_16 247 (dk_at dksX0_best_2 3 rfl rfl)
theorem dX0_best_51 : decode cX0_best 51 = .ok (.ireturn, 1) := dk_172 (dk_at dksX0_best_2 5 rfl rfl)
theorem dX0_best_52 : decode cX0_best 52 = .ok (.iload_n 1, 1) := dk_27 (dk_at dksX0_best_2 6 rfl rfl)
theorem dX0_best_53 : decode cX0_best 53 = .ok (.ifCond .ne 7, 3) := dk_154 0 7 (dk_at dksX0_best_2 7 rfl rfl)
theorem dX0_best_56 : decode cX0_best 56 = .ok (.iload_n 2, 1) := dk_28 (dk_at dksX0_best_2 10 rfl rfl)
theorem dX0_best_57 : decode cX0_best 57 = .ok (.goto 38, 3) := dk_167 0 38 (dk_at dksX0_best_2 11 rfl rfl)
theorem dX0_best_60 : decode cX0_best 60 = .ok (.iload_n 1, 1) := dk_27 (dk_at dksX0_best_2 14 rfl rfl)
theorem dX0_best_61 : decode cX0_best 61 = .ok (.iconst 1, 1) := dk_4 (dk_at dksX0_best_2 15 rfl rfl)
theorem dX0_best_62 : decode cX0_best 62 = .ok (.if_icmp .ne 10, 3) := dk_160 0 10 (dk_at dksX0_best_2 16 rfl rfl)
theorem dX0_best_65 : decode cX0_best 65 = .ok (.aload_n 0, 1) := dk_42 (dk_at dksX0_best_2 19 rfl rfl)
theorem dX0_best_66 : decode cX0_best 66 = .ok (.invokevirtual 271, 3) := dk_182 1 15 (dk_at dksX0_best_2 20 rfl rfl)
theorem dX0_best_69 : decode cX0_best 69 = .ok (.goto 26, 3) := dk_167 0 26 (dk_at dksX0_best_3 0 rfl rfl)
theorem dX0_best_72 : decode cX0_best 72 = .ok (.iload_n 1, 1) := dk_27 (dk_at dksX0_best_3 3 rfl rfl)
theorem dX0_best_73 : decode cX0_best 73 = .ok (.iconst 2, 1) := dk_5 (dk_at dksX0_best_3 4 rfl rfl)
theorem dX0_best_74 : decode cX0_best 74 = .ok (.if_icmp .ne 15, 3) := dk_160 0 15 (dk_at dksX0_best_3 5 rfl rfl)
theorem dX0_best_77 : decode cX0_best 77 = .ok (.aload_n 0, 1) := dk_42 (dk_at dksX0_best_3 8 rfl rfl)
theorem dX0_best_78 : decode cX0_best 78 = .ok (.getfield 46, 3) := dk_180 0 46 (dk_at dksX0_best_3 9 rfl rfl)
theorem dX0_best_81 : decode cX0_best 81 = .ok (.iconst 0, 1) := dk_3 (dk_at dksX0_best_3 12 rfl rfl)
theorem dX0_best_82 : decode cX0_best 82 = .ok (.iaload, 1) := dk_46 (dk_at dksX0_best_3 13 rfl rfl)
theorem dX0_best_83 : decode cX0_best 83 = .ok (.invokestatic 274, 3) := dk_184 1 18 (dk_at dksX0_best_3 14 rfl rfl)
theorem dX0_best_86 : decode cX0_best 86 = .ok (.goto 9, 3) := dk_167 0 9 (dk_at dksX0_best_3 17 rfl rfl)
theorem dX0_best_89 : decode cX0_best 89 = .ok (.aload_n 0, 1) := dk_42 (dk_at dksX0_best_3 20 rfl rfl)
theorem dX0_best_90 : decode cX0_best 90 = .ok (.getfield 49, 3) := dk_180 0 49 (dk_at dksX0_best_3 21 rfl rfl)
theorem dX0_best_93 : decode cX0_best 93 = .ok (.iconst 0, 1) := dk_3 (dk_at dksX0_best_4 0 rfl rfl)
theorem dX0_best_94 : decode cX0_best 94 = .ok (.iaload, 1) := dk_46 (dk_at dksX0_best_4 1 rfl rfl)
theorem dX0_best_95 : decode cX0_best 95 = .ok (.ireturn, 1) := dk_172 (dk_at dksX0_best_4 2 rfl rfl)
abbrev cX0_pairs : ByteArray := prog_1_method_23_code
def yX0_pairs : MethodName := ⟨RX0, "pairs", "()I"⟩
def dkwX0_pairs_0 : List UInt8 := [187, 0, 218, 89, 42, 183, 0, 220, 182, 0, 223, 172]
abbrev dktX0_pairs_0 : List UInt8 := dkwX0_pairs_0 ++ []
theorem dksX0_pairs_0 : cX0_pairs.data.toList.drop 0 = dktX0_pairs_0 := by decide +kernel
theorem dX0_pairs_0 : decode cX0_pairs 0 = .ok (.new 218, 3) := dk_187 0 218 (dk_at dksX0_pairs_0 0 rfl rfl)
theorem dX0_pairs_3 : decode cX0_pairs 3 = .ok (.dup, 1) := dk_89 (dk_at dksX0_pairs_0 3 rfl rfl)
theorem dX0_pairs_4 : decode cX0_pairs 4 = .ok (.aload_n 0, 1) := dk_42 (dk_at dksX0_pairs_0 4 rfl rfl)
theorem dX0_pairs_5 : decode cX0_pairs 5 = .ok (.invokespecial 220, 3) := dk_183 0 220 (dk_at dksX0_pairs_0 5 rfl rfl)
theorem dX0_pairs_8 : decode cX0_pairs 8 = .ok (.invokevirtual 223, 3) := dk_182 0 223 (dk_at dksX0_pairs_0 8 rfl rfl)
theorem dX0_pairs_11 : decode cX0_pairs 11 = .ok (.ireturn, 1) := dk_172 (dk_at dksX0_pairs_0 11 rfl rfl)
abbrev cX0_orNone : ByteArray := prog_1_method_22_code
def yX0_orNone : MethodName := ⟨RX0, "orNone", "(I)I"⟩
def dkwX0_orNone_0 : List UInt8 := [26, 18, 203, 161, 0, 8, 16, 247, 167, 0, 4, 26, 172]
abbrev dktX0_orNone_0 : List UInt8 := dkwX0_orNone_0 ++ []
theorem dksX0_orNone_0 : cX0_orNone.data.toList.drop 0 = dktX0_orNone_0 := by decide +kernel
theorem dX0_orNone_0 : decode cX0_orNone 0 = .ok (.iload_n 0, 1) := dk_26 (dk_at dksX0_orNone_0 0 rfl rfl)
theorem dX0_orNone_1 : decode cX0_orNone 1 = .ok (.ldc 203, 2) := dk_18 203 (dk_at dksX0_orNone_0 1 rfl rfl)
theorem dX0_orNone_3 : decode cX0_orNone 3 = .ok (.if_icmp .lt 8, 3) := dk_161 0 8 (dk_at dksX0_orNone_0 3 rfl rfl)
theorem dX0_orNone_6 : decode cX0_orNone 6 = .ok (.bipush (-9), 2) := dk_16 247 (dk_at dksX0_orNone_0 6 rfl rfl)
theorem dX0_orNone_8 : decode cX0_orNone 8 = .ok (.goto 4, 3) := dk_167 0 4 (dk_at dksX0_orNone_0 8 rfl rfl)
theorem dX0_orNone_11 : decode cX0_orNone 11 = .ok (.iload_n 0, 1) := dk_26 (dk_at dksX0_orNone_0 11 rfl rfl)
theorem dX0_orNone_12 : decode cX0_orNone 12 = .ok (.ireturn, 1) := dk_172 (dk_at dksX0_orNone_0 12 rfl rfl)
abbrev cX0_ofPair : ByteArray := prog_1_method_33_code
def yX0_ofPair : MethodName := ⟨RX0, "ofPair", "(II)I"⟩
def dkwX0_ofPair_4 : List UInt8 := [28, 6, 160, 0, 11, 25, 5, 182, 1, 48, 167, 0, 5, 16, 254, 172, 132, 3, 1, 167, 255, 172, 2, 172]
abbrev dktX0_ofPair_4 : List UInt8 := dkwX0_ofPair_4 ++ []
def dkwX0_ofPair_3 : List UInt8 := [160, 0, 11, 25, 5, 180, 1, 42, 167, 0, 31, 28, 5, 160, 0, 11, 25, 5, 180, 1, 45, 167, 0, 18]
abbrev dktX0_ofPair_3 : List UInt8 := dkwX0_ofPair_3 ++ dktX0_ofPair_4
def dkwX0_ofPair_2 : List UInt8 := [192, 1, 37, 58, 5, 29, 27, 160, 0, 57, 28, 154, 0, 11, 25, 5, 180, 1, 39, 167, 0, 44, 28, 4]
abbrev dktX0_ofPair_2 : List UInt8 := dkwX0_ofPair_2 ++ dktX0_ofPair_3
def dkwX0_ofPair_1 : List UInt8 := [182, 1, 24, 58, 4, 25, 4, 185, 1, 28, 1, 0, 153, 0, 80, 25, 4, 185, 1, 33, 1, 0]
abbrev dktX0_ofPair_1 : List UInt8 := dkwX0_ofPair_1 ++ dktX0_ofPair_2
def dkwX0_ofPair_0 : List UInt8 := [27, 155, 0, 10, 42, 182, 1, 3, 153, 0, 5, 2, 172, 3, 62, 187, 1, 21, 89, 42, 183, 1, 23]
abbrev dktX0_ofPair_0 : List UInt8 := dkwX0_ofPair_0 ++ dktX0_ofPair_1
theorem dksX0_ofPair_0 : cX0_ofPair.data.toList.drop 0 = dktX0_ofPair_0 := by decide +kernel
theorem dksX0_ofPair_1 : cX0_ofPair.data.toList.drop 23 = dktX0_ofPair_1 := dk_seg dksX0_ofPair_0 23 rfl rfl
theorem dksX0_ofPair_2 : cX0_ofPair.data.toList.drop 45 = dktX0_ofPair_2 := dk_seg dksX0_ofPair_1 22 rfl rfl
theorem dksX0_ofPair_3 : cX0_ofPair.data.toList.drop 69 = dktX0_ofPair_3 := dk_seg dksX0_ofPair_2 24 rfl rfl
theorem dksX0_ofPair_4 : cX0_ofPair.data.toList.drop 93 = dktX0_ofPair_4 := dk_seg dksX0_ofPair_3 24 rfl rfl
theorem dX0_ofPair_0 : decode cX0_ofPair 0 = .ok (.iload_n 1, 1) := dk_27 (dk_at dksX0_ofPair_0 0 rfl rfl)
theorem dX0_ofPair_1 : decode cX0_ofPair 1 = .ok (.ifCond .lt 10, 3) := dk_155 0 10 (dk_at dksX0_ofPair_0 1 rfl rfl)
theorem dX0_ofPair_4 : decode cX0_ofPair 4 = .ok (.aload_n 0, 1) := dk_42 (dk_at dksX0_ofPair_0 4 rfl rfl)
theorem dX0_ofPair_5 : decode cX0_ofPair 5 = .ok (.invokevirtual 259, 3) := dk_182 1 3 (dk_at dksX0_ofPair_0 5 rfl rfl)
theorem dX0_ofPair_8 : decode cX0_ofPair 8 = .ok (.ifCond .eq 5, 3) := dk_153 0 5 (dk_at dksX0_ofPair_0 8 rfl rfl)
theorem dX0_ofPair_11 : decode cX0_ofPair 11 = .ok (.iconst (-1), 1) := dk_2 (dk_at dksX0_ofPair_0 11 rfl rfl)
theorem dX0_ofPair_12 : decode cX0_ofPair 12 = .ok (.ireturn, 1) := dk_172 (dk_at dksX0_ofPair_0 12 rfl rfl)
theorem dX0_ofPair_13 : decode cX0_ofPair 13 = .ok (.iconst 0, 1) := dk_3 (dk_at dksX0_ofPair_0 13 rfl rfl)
theorem dX0_ofPair_14 : decode cX0_ofPair 14 = .ok (.istore_n 3, 1) := dk_62 (dk_at dksX0_ofPair_0 14 rfl rfl)
theorem dX0_ofPair_15 : decode cX0_ofPair 15 = .ok (.new 277, 3) := dk_187 1 21 (dk_at dksX0_ofPair_0 15 rfl rfl)
theorem dX0_ofPair_18 : decode cX0_ofPair 18 = .ok (.dup, 1) := dk_89 (dk_at dksX0_ofPair_0 18 rfl rfl)
theorem dX0_ofPair_19 : decode cX0_ofPair 19 = .ok (.aload_n 0, 1) := dk_42 (dk_at dksX0_ofPair_0 19 rfl rfl)
theorem dX0_ofPair_20 : decode cX0_ofPair 20 = .ok (.invokespecial 279, 3) := dk_183 1 23 (dk_at dksX0_ofPair_0 20 rfl rfl)
theorem dX0_ofPair_23 : decode cX0_ofPair 23 = .ok (.invokevirtual 280, 3) := dk_182 1 24 (dk_at dksX0_ofPair_1 0 rfl rfl)
theorem dX0_ofPair_26 : decode cX0_ofPair 26 = .ok (.astore 4, 2) := dk_58 4 (dk_at dksX0_ofPair_1 3 rfl rfl)
theorem dX0_ofPair_28 : decode cX0_ofPair 28 = .ok (.aload 4, 2) := dk_25 4 (dk_at dksX0_ofPair_1 5 rfl rfl)
theorem dX0_ofPair_30 : decode cX0_ofPair 30 = .ok (.invokeinterface 284 1, 5) := by decide +kernel
theorem dX0_ofPair_35 : decode cX0_ofPair 35 = .ok (.ifCond .eq 80, 3) := dk_153 0 80 (dk_at dksX0_ofPair_1 12 rfl rfl)
theorem dX0_ofPair_38 : decode cX0_ofPair 38 = .ok (.aload 4, 2) := dk_25 4 (dk_at dksX0_ofPair_1 15 rfl rfl)
theorem dX0_ofPair_40 : decode cX0_ofPair 40 = .ok (.invokeinterface 289 1, 5) := by decide +kernel
theorem dX0_ofPair_45 : decode cX0_ofPair 45 = .ok (.checkcast 293, 3) := dk_192 1 37 (dk_at dksX0_ofPair_2 0 rfl rfl)
theorem dX0_ofPair_48 : decode cX0_ofPair 48 = .ok (.astore 5, 2) := dk_58 5 (dk_at dksX0_ofPair_2 3 rfl rfl)
theorem dX0_ofPair_50 : decode cX0_ofPair 50 = .ok (.iload_n 3, 1) := dk_29 (dk_at dksX0_ofPair_2 5 rfl rfl)
theorem dX0_ofPair_51 : decode cX0_ofPair 51 = .ok (.iload_n 1, 1) := dk_27 (dk_at dksX0_ofPair_2 6 rfl rfl)
theorem dX0_ofPair_52 : decode cX0_ofPair 52 = .ok (.if_icmp .ne 57, 3) := dk_160 0 57 (dk_at dksX0_ofPair_2 7 rfl rfl)
theorem dX0_ofPair_55 : decode cX0_ofPair 55 = .ok (.iload_n 2, 1) := dk_28 (dk_at dksX0_ofPair_2 10 rfl rfl)
theorem dX0_ofPair_56 : decode cX0_ofPair 56 = .ok (.ifCond .ne 11, 3) := dk_154 0 11 (dk_at dksX0_ofPair_2 11 rfl rfl)
theorem dX0_ofPair_59 : decode cX0_ofPair 59 = .ok (.aload 5, 2) := dk_25 5 (dk_at dksX0_ofPair_2 14 rfl rfl)
theorem dX0_ofPair_61 : decode cX0_ofPair 61 = .ok (.getfield 295, 3) := dk_180 1 39 (dk_at dksX0_ofPair_2 16 rfl rfl)
theorem dX0_ofPair_64 : decode cX0_ofPair 64 = .ok (.goto 44, 3) := dk_167 0 44 (dk_at dksX0_ofPair_2 19 rfl rfl)
theorem dX0_ofPair_67 : decode cX0_ofPair 67 = .ok (.iload_n 2, 1) := dk_28 (dk_at dksX0_ofPair_2 22 rfl rfl)
theorem dX0_ofPair_68 : decode cX0_ofPair 68 = .ok (.iconst 1, 1) := dk_4 (dk_at dksX0_ofPair_2 23 rfl rfl)
theorem dX0_ofPair_69 : decode cX0_ofPair 69 = .ok (.if_icmp .ne 11, 3) := dk_160 0 11 (dk_at dksX0_ofPair_3 0 rfl rfl)
theorem dX0_ofPair_72 : decode cX0_ofPair 72 = .ok (.aload 5, 2) := dk_25 5 (dk_at dksX0_ofPair_3 3 rfl rfl)
theorem dX0_ofPair_74 : decode cX0_ofPair 74 = .ok (.getfield 298, 3) := dk_180 1 42 (dk_at dksX0_ofPair_3 5 rfl rfl)
theorem dX0_ofPair_77 : decode cX0_ofPair 77 = .ok (.goto 31, 3) := dk_167 0 31 (dk_at dksX0_ofPair_3 8 rfl rfl)
theorem dX0_ofPair_80 : decode cX0_ofPair 80 = .ok (.iload_n 2, 1) := dk_28 (dk_at dksX0_ofPair_3 11 rfl rfl)
theorem dX0_ofPair_81 : decode cX0_ofPair 81 = .ok (.iconst 2, 1) := dk_5 (dk_at dksX0_ofPair_3 12 rfl rfl)
theorem dX0_ofPair_82 : decode cX0_ofPair 82 = .ok (.if_icmp .ne 11, 3) := dk_160 0 11 (dk_at dksX0_ofPair_3 13 rfl rfl)
theorem dX0_ofPair_85 : decode cX0_ofPair 85 = .ok (.aload 5, 2) := dk_25 5 (dk_at dksX0_ofPair_3 16 rfl rfl)
theorem dX0_ofPair_87 : decode cX0_ofPair 87 = .ok (.getfield 301, 3) := dk_180 1 45 (dk_at dksX0_ofPair_3 18 rfl rfl)
theorem dX0_ofPair_90 : decode cX0_ofPair 90 = .ok (.goto 18, 3) := dk_167 0 18 (dk_at dksX0_ofPair_3 21 rfl rfl)
theorem dX0_ofPair_93 : decode cX0_ofPair 93 = .ok (.iload_n 2, 1) := dk_28 (dk_at dksX0_ofPair_4 0 rfl rfl)
theorem dX0_ofPair_94 : decode cX0_ofPair 94 = .ok (.iconst 3, 1) := dk_6 (dk_at dksX0_ofPair_4 1 rfl rfl)
theorem dX0_ofPair_95 : decode cX0_ofPair 95 = .ok (.if_icmp .ne 11, 3) := dk_160 0 11 (dk_at dksX0_ofPair_4 2 rfl rfl)
theorem dX0_ofPair_98 : decode cX0_ofPair 98 = .ok (.aload 5, 2) := dk_25 5 (dk_at dksX0_ofPair_4 5 rfl rfl)
theorem dX0_ofPair_100 : decode cX0_ofPair 100 = .ok (.invokevirtual 304, 3) := dk_182 1 48 (dk_at dksX0_ofPair_4 7 rfl rfl)
theorem dX0_ofPair_103 : decode cX0_ofPair 103 = .ok (.goto 5, 3) := dk_167 0 5 (dk_at dksX0_ofPair_4 10 rfl rfl)
theorem dX0_ofPair_106 : decode cX0_ofPair 106 = .ok (.bipush (-2), 2) := dk_16 254 (dk_at dksX0_ofPair_4 13 rfl rfl)
theorem dX0_ofPair_108 : decode cX0_ofPair 108 = .ok (.ireturn, 1) := dk_172 (dk_at dksX0_ofPair_4 15 rfl rfl)
theorem dX0_ofPair_109 : decode cX0_ofPair 109 = .ok (.iinc 3 1, 3) := dk_132 3 1 (dk_at dksX0_ofPair_4 16 rfl rfl)
theorem dX0_ofPair_112 : decode cX0_ofPair 112 = .ok (.goto (-84), 3) := dk_167 255 172 (dk_at dksX0_ofPair_4 19 rfl rfl)
theorem dX0_ofPair_115 : decode cX0_ofPair 115 = .ok (.iconst (-1), 1) := dk_2 (dk_at dksX0_ofPair_4 22 rfl rfl)
theorem dX0_ofPair_116 : decode cX0_ofPair 116 = .ok (.ireturn, 1) := dk_172 (dk_at dksX0_ofPair_4 23 rfl rfl)
abbrev cX0_by : ByteArray := prog_1_method_37_code
def yX0_by : MethodName := ⟨RX0, "by", "(I)I"⟩
def dkwX0_by_1 : List UInt8 := [167, 0, 11, 42, 27, 182, 1, 12, 184, 1, 18, 172]
abbrev dktX0_by_1 : List UInt8 := dkwX0_by_1 ++ []
def dkwX0_by_0 : List UInt8 := [27, 133, 9, 20, 1, 6, 184, 0, 105, 154, 0, 6, 16, 254, 172, 42, 182, 1, 3, 153, 0, 8, 16, 253]
abbrev dktX0_by_0 : List UInt8 := dkwX0_by_0 ++ dktX0_by_1
theorem dksX0_by_0 : cX0_by.data.toList.drop 0 = dktX0_by_0 := by decide +kernel
theorem dksX0_by_1 : cX0_by.data.toList.drop 24 = dktX0_by_1 := dk_seg dksX0_by_0 24 rfl rfl
theorem dX0_by_0 : decode cX0_by 0 = .ok (.iload_n 1, 1) := dk_27 (dk_at dksX0_by_0 0 rfl rfl)
theorem dX0_by_1 : decode cX0_by 1 = .ok (.i2l, 1) := dk_133 (dk_at dksX0_by_0 1 rfl rfl)
theorem dX0_by_2 : decode cX0_by 2 = .ok (.lconst 0, 1) := dk_9 (dk_at dksX0_by_0 2 rfl rfl)
theorem dX0_by_3 : decode cX0_by 3 = .ok (.ldc2_w 262, 3) := dk_20 1 6 (dk_at dksX0_by_0 3 rfl rfl)
theorem dX0_by_6 : decode cX0_by 6 = .ok (.invokestatic 105, 3) := dk_184 0 105 (dk_at dksX0_by_0 6 rfl rfl)
theorem dX0_by_9 : decode cX0_by 9 = .ok (.ifCond .ne 6, 3) := dk_154 0 6 (dk_at dksX0_by_0 9 rfl rfl)
theorem dX0_by_12 : decode cX0_by 12 = .ok (.bipush (-2), 2) := dk_16 254 (dk_at dksX0_by_0 12 rfl rfl)
theorem dX0_by_14 : decode cX0_by 14 = .ok (.ireturn, 1) := dk_172 (dk_at dksX0_by_0 14 rfl rfl)
theorem dX0_by_15 : decode cX0_by 15 = .ok (.aload_n 0, 1) := dk_42 (dk_at dksX0_by_0 15 rfl rfl)
theorem dX0_by_16 : decode cX0_by 16 = .ok (.invokevirtual 259, 3) := dk_182 1 3 (dk_at dksX0_by_0 16 rfl rfl)
theorem dX0_by_19 : decode cX0_by 19 = .ok (.ifCond .eq 8, 3) := dk_153 0 8 (dk_at dksX0_by_0 19 rfl rfl)
theorem dX0_by_22 : decode cX0_by 22 = .ok (.bipush (-3), 2) := dk_16 253 (dk_at dksX0_by_0 22 rfl rfl)
theorem dX0_by_24 : decode cX0_by 24 = .ok (.goto 11, 3) := dk_167 0 11 (dk_at dksX0_by_1 0 rfl rfl)
theorem dX0_by_27 : decode cX0_by 27 = .ok (.aload_n 0, 1) := dk_42 (dk_at dksX0_by_1 3 rfl rfl)
theorem dX0_by_28 : decode cX0_by 28 = .ok (.iload_n 1, 1) := dk_27 (dk_at dksX0_by_1 4 rfl rfl)
theorem dX0_by_29 : decode cX0_by 29 = .ok (.invokevirtual 268, 3) := dk_182 1 12 (dk_at dksX0_by_1 5 rfl rfl)
theorem dX0_by_32 : decode cX0_by 32 = .ok (.invokestatic 274, 3) := dk_184 1 18 (dk_at dksX0_by_1 8 rfl rfl)
theorem dX0_by_35 : decode cX0_by 35 = .ok (.ireturn, 1) := dk_172 (dk_at dksX0_by_1 11 rfl rfl)
abbrev cX0_enough : ByteArray := prog_1_method_38_code
def yX0_enough : MethodName := ⟨RX0, "enough", "()I"⟩
def dkwX0_enough_1 : List UInt8 := [27, 164, 0, 9, 132, 2, 1, 167, 255, 244, 28, 172]
abbrev dktX0_enough_1 : List UInt8 := dkwX0_enough_1 ++ []
def dkwX0_enough_0 : List UInt8 := [42, 182, 1, 3, 153, 0, 6, 16, 253, 172, 42, 16, 7, 182, 1, 12, 60, 3, 61, 42, 28, 182, 1, 12]
abbrev dktX0_enough_0 : List UInt8 := dkwX0_enough_0 ++ dktX0_enough_1
theorem dksX0_enough_0 : cX0_enough.data.toList.drop 0 = dktX0_enough_0 := by decide +kernel
theorem dksX0_enough_1 : cX0_enough.data.toList.drop 24 = dktX0_enough_1 := dk_seg dksX0_enough_0 24 rfl rfl
theorem dX0_enough_0 : decode cX0_enough 0 = .ok (.aload_n 0, 1) := dk_42 (dk_at dksX0_enough_0 0 rfl rfl)
theorem dX0_enough_1 : decode cX0_enough 1 = .ok (.invokevirtual 259, 3) := dk_182 1 3 (dk_at dksX0_enough_0 1 rfl rfl)
theorem dX0_enough_4 : decode cX0_enough 4 = .ok (.ifCond .eq 6, 3) := dk_153 0 6 (dk_at dksX0_enough_0 4 rfl rfl)
theorem dX0_enough_7 : decode cX0_enough 7 = .ok (.bipush (-3), 2) := dk_16 253 (dk_at dksX0_enough_0 7 rfl rfl)
theorem dX0_enough_9 : decode cX0_enough 9 = .ok (.ireturn, 1) := dk_172 (dk_at dksX0_enough_0 9 rfl rfl)
theorem dX0_enough_10 : decode cX0_enough 10 = .ok (.aload_n 0, 1) := dk_42 (dk_at dksX0_enough_0 10 rfl rfl)
theorem dX0_enough_11 : decode cX0_enough 11 = .ok (.bipush 7, 2) := dk_16 7 (dk_at dksX0_enough_0 11 rfl rfl)
theorem dX0_enough_13 : decode cX0_enough 13 = .ok (.invokevirtual 268, 3) := dk_182 1 12 (dk_at dksX0_enough_0 13 rfl rfl)
theorem dX0_enough_16 : decode cX0_enough 16 = .ok (.istore_n 1, 1) := dk_60 (dk_at dksX0_enough_0 16 rfl rfl)
theorem dX0_enough_17 : decode cX0_enough 17 = .ok (.iconst 0, 1) := dk_3 (dk_at dksX0_enough_0 17 rfl rfl)
theorem dX0_enough_18 : decode cX0_enough 18 = .ok (.istore_n 2, 1) := dk_61 (dk_at dksX0_enough_0 18 rfl rfl)
theorem dX0_enough_19 : decode cX0_enough 19 = .ok (.aload_n 0, 1) := dk_42 (dk_at dksX0_enough_0 19 rfl rfl)
theorem dX0_enough_20 : decode cX0_enough 20 = .ok (.iload_n 2, 1) := dk_28 (dk_at dksX0_enough_0 20 rfl rfl)
theorem dX0_enough_21 : decode cX0_enough 21 = .ok (.invokevirtual 268, 3) := dk_182 1 12 (dk_at dksX0_enough_0 21 rfl rfl)
theorem dX0_enough_24 : decode cX0_enough 24 = .ok (.iload_n 1, 1) := dk_27 (dk_at dksX0_enough_1 0 rfl rfl)
theorem dX0_enough_25 : decode cX0_enough 25 = .ok (.if_icmp .le 9, 3) := dk_164 0 9 (dk_at dksX0_enough_1 1 rfl rfl)
theorem dX0_enough_28 : decode cX0_enough 28 = .ok (.iinc 2 1, 3) := dk_132 2 1 (dk_at dksX0_enough_1 4 rfl rfl)
theorem dX0_enough_31 : decode cX0_enough 31 = .ok (.goto (-12), 3) := dk_167 255 244 (dk_at dksX0_enough_1 7 rfl rfl)
theorem dX0_enough_34 : decode cX0_enough 34 = .ok (.iload_n 2, 1) := dk_28 (dk_at dksX0_enough_1 10 rfl rfl)
theorem dX0_enough_35 : decode cX0_enough 35 = .ok (.ireturn, 1) := dk_172 (dk_at dksX0_enough_1 11 rfl rfl)
abbrev cX0_reading : ByteArray := prog_1_method_39_code
def yX0_reading : MethodName := ⟨RX0, "reading", "(II)I"⟩
def dkwX0_reading_3 : List UInt8 := [183, 1, 82, 185, 0, 131, 2, 0, 87, 42, 180, 0, 55, 185, 0, 101, 1, 0, 4, 100, 172]
abbrev dktX0_reading_3 : List UInt8 := dkwX0_reading_3 ++ []
def dkwX0_reading_2 : List UInt8 := [185, 0, 101, 1, 0, 16, 8, 160, 0, 6, 16, 252, 172, 42, 180, 0, 55, 187, 1, 80, 89, 27, 28]
abbrev dktX0_reading_2 : List UInt8 := dkwX0_reading_2 ++ dktX0_reading_3
def dkwX0_reading_1 : List UInt8 := [9, 20, 1, 78, 184, 0, 105, 154, 0, 12, 28, 16, 247, 159, 0, 6, 16, 254, 172, 42, 180, 0, 55]
abbrev dktX0_reading_1 : List UInt8 := dkwX0_reading_1 ++ dktX0_reading_2
def dkwX0_reading_0 : List UInt8 := [42, 182, 1, 3, 153, 0, 6, 16, 253, 172, 27, 133, 9, 20, 1, 6, 184, 0, 105, 153, 0, 21, 28, 133]
abbrev dktX0_reading_0 : List UInt8 := dkwX0_reading_0 ++ dktX0_reading_1
theorem dksX0_reading_0 : cX0_reading.data.toList.drop 0 = dktX0_reading_0 := by decide +kernel
theorem dksX0_reading_1 : cX0_reading.data.toList.drop 24 = dktX0_reading_1 := dk_seg dksX0_reading_0 24 rfl rfl
theorem dksX0_reading_2 : cX0_reading.data.toList.drop 47 = dktX0_reading_2 := dk_seg dksX0_reading_1 23 rfl rfl
theorem dksX0_reading_3 : cX0_reading.data.toList.drop 70 = dktX0_reading_3 := dk_seg dksX0_reading_2 23 rfl rfl
theorem dX0_reading_0 : decode cX0_reading 0 = .ok (.aload_n 0, 1) := dk_42 (dk_at dksX0_reading_0 0 rfl rfl)
theorem dX0_reading_1 : decode cX0_reading 1 = .ok (.invokevirtual 259, 3) := dk_182 1 3 (dk_at dksX0_reading_0 1 rfl rfl)
theorem dX0_reading_4 : decode cX0_reading 4 = .ok (.ifCond .eq 6, 3) := dk_153 0 6 (dk_at dksX0_reading_0 4 rfl rfl)
theorem dX0_reading_7 : decode cX0_reading 7 = .ok (.bipush (-3), 2) := dk_16 253 (dk_at dksX0_reading_0 7 rfl rfl)
theorem dX0_reading_9 : decode cX0_reading 9 = .ok (.ireturn, 1) := dk_172 (dk_at dksX0_reading_0 9 rfl rfl)
theorem dX0_reading_10 : decode cX0_reading 10 = .ok (.iload_n 1, 1) := dk_27 (dk_at dksX0_reading_0 10 rfl rfl)
theorem dX0_reading_11 : decode cX0_reading 11 = .ok (.i2l, 1) := dk_133 (dk_at dksX0_reading_0 11 rfl rfl)
theorem dX0_reading_12 : decode cX0_reading 12 = .ok (.lconst 0, 1) := dk_9 (dk_at dksX0_reading_0 12 rfl rfl)
theorem dX0_reading_13 : decode cX0_reading 13 = .ok (.ldc2_w 262, 3) := dk_20 1 6 (dk_at dksX0_reading_0 13 rfl rfl)
theorem dX0_reading_16 : decode cX0_reading 16 = .ok (.invokestatic 105, 3) := dk_184 0 105 (dk_at dksX0_reading_0 16 rfl rfl)
theorem dX0_reading_19 : decode cX0_reading 19 = .ok (.ifCond .eq 21, 3) := dk_153 0 21 (dk_at dksX0_reading_0 19 rfl rfl)
theorem dX0_reading_22 : decode cX0_reading 22 = .ok (.iload_n 2, 1) := dk_28 (dk_at dksX0_reading_0 22 rfl rfl)
theorem dX0_reading_23 : decode cX0_reading 23 = .ok (.i2l, 1) := dk_133 (dk_at dksX0_reading_0 23 rfl rfl)
theorem dX0_reading_24 : decode cX0_reading 24 = .ok (.lconst 0, 1) := dk_9 (dk_at dksX0_reading_1 0 rfl rfl)
theorem dX0_reading_25 : decode cX0_reading 25 = .ok (.ldc2_w 334, 3) := dk_20 1 78 (dk_at dksX0_reading_1 1 rfl rfl)
theorem dX0_reading_28 : decode cX0_reading 28 = .ok (.invokestatic 105, 3) := dk_184 0 105 (dk_at dksX0_reading_1 4 rfl rfl)
theorem dX0_reading_31 : decode cX0_reading 31 = .ok (.ifCond .ne 12, 3) := dk_154 0 12 (dk_at dksX0_reading_1 7 rfl rfl)
theorem dX0_reading_34 : decode cX0_reading 34 = .ok (.iload_n 2, 1) := dk_28 (dk_at dksX0_reading_1 10 rfl rfl)
theorem dX0_reading_35 : decode cX0_reading 35 = .ok (.bipush (-9), 2) := dk_16 247 (dk_at dksX0_reading_1 11 rfl rfl)
theorem dX0_reading_37 : decode cX0_reading 37 = .ok (.if_icmp .eq 6, 3) := dk_159 0 6 (dk_at dksX0_reading_1 13 rfl rfl)
theorem dX0_reading_40 : decode cX0_reading 40 = .ok (.bipush (-2), 2) := dk_16 254 (dk_at dksX0_reading_1 16 rfl rfl)
theorem dX0_reading_42 : decode cX0_reading 42 = .ok (.ireturn, 1) := dk_172 (dk_at dksX0_reading_1 18 rfl rfl)
theorem dX0_reading_43 : decode cX0_reading 43 = .ok (.aload_n 0, 1) := dk_42 (dk_at dksX0_reading_1 19 rfl rfl)
theorem dX0_reading_44 : decode cX0_reading 44 = .ok (.getfield 55, 3) := dk_180 0 55 (dk_at dksX0_reading_1 20 rfl rfl)
theorem dX0_reading_47 : decode cX0_reading 47 = .ok (.invokeinterface 101 1, 5) := by decide +kernel
theorem dX0_reading_52 : decode cX0_reading 52 = .ok (.bipush 8, 2) := dk_16 8 (dk_at dksX0_reading_2 5 rfl rfl)
theorem dX0_reading_54 : decode cX0_reading 54 = .ok (.if_icmp .ne 6, 3) := dk_160 0 6 (dk_at dksX0_reading_2 7 rfl rfl)
theorem dX0_reading_57 : decode cX0_reading 57 = .ok (.bipush (-4), 2) := dk_16 252 (dk_at dksX0_reading_2 10 rfl rfl)
theorem dX0_reading_59 : decode cX0_reading 59 = .ok (.ireturn, 1) := dk_172 (dk_at dksX0_reading_2 12 rfl rfl)
theorem dX0_reading_60 : decode cX0_reading 60 = .ok (.aload_n 0, 1) := dk_42 (dk_at dksX0_reading_2 13 rfl rfl)
theorem dX0_reading_61 : decode cX0_reading 61 = .ok (.getfield 55, 3) := dk_180 0 55 (dk_at dksX0_reading_2 14 rfl rfl)
theorem dX0_reading_64 : decode cX0_reading 64 = .ok (.new 336, 3) := dk_187 1 80 (dk_at dksX0_reading_2 17 rfl rfl)
theorem dX0_reading_67 : decode cX0_reading 67 = .ok (.dup, 1) := dk_89 (dk_at dksX0_reading_2 20 rfl rfl)
theorem dX0_reading_68 : decode cX0_reading 68 = .ok (.iload_n 1, 1) := dk_27 (dk_at dksX0_reading_2 21 rfl rfl)
theorem dX0_reading_69 : decode cX0_reading 69 = .ok (.iload_n 2, 1) := dk_28 (dk_at dksX0_reading_2 22 rfl rfl)
theorem dX0_reading_70 : decode cX0_reading 70 = .ok (.invokespecial 338, 3) := dk_183 1 82 (dk_at dksX0_reading_3 0 rfl rfl)
theorem dX0_reading_73 : decode cX0_reading 73 = .ok (.invokeinterface 131 2, 5) := by decide +kernel
theorem dX0_reading_78 : decode cX0_reading 78 = .ok (.pop, 1) := dk_87 (dk_at dksX0_reading_3 8 rfl rfl)
theorem dX0_reading_79 : decode cX0_reading 79 = .ok (.aload_n 0, 1) := dk_42 (dk_at dksX0_reading_3 9 rfl rfl)
theorem dX0_reading_80 : decode cX0_reading 80 = .ok (.getfield 55, 3) := dk_180 0 55 (dk_at dksX0_reading_3 10 rfl rfl)
theorem dX0_reading_83 : decode cX0_reading 83 = .ok (.invokeinterface 101 1, 5) := by decide +kernel
theorem dX0_reading_88 : decode cX0_reading 88 = .ok (.iconst 1, 1) := dk_4 (dk_at dksX0_reading_3 18 rfl rfl)
theorem dX0_reading_89 : decode cX0_reading 89 = .ok (.isub, 1) := dk_100 (dk_at dksX0_reading_3 19 rfl rfl)
theorem dX0_reading_90 : decode cX0_reading 90 = .ok (.ireturn, 1) := dk_172 (dk_at dksX0_reading_3 20 rfl rfl)
abbrev cX0_back : ByteArray := prog_1_method_40_code
def yX0_back : MethodName := ⟨RX0, "back", "(I)I"⟩
def dkwX0_back_2 : List UInt8 := [185, 1, 85, 2, 0, 87, 132, 2, 1, 167, 255, 227, 42, 180, 0, 55, 185, 0, 101, 1, 0, 172]
abbrev dktX0_back_2 : List UInt8 := dkwX0_back_2 ++ []
def dkwX0_back_1 : List UInt8 := [28, 27, 162, 0, 30, 42, 180, 0, 55, 42, 180, 0, 55, 185, 0, 101, 1, 0, 4, 100]
abbrev dktX0_back_1 : List UInt8 := dkwX0_back_1 ++ dktX0_back_2
def dkwX0_back_0 : List UInt8 := [27, 133, 9, 42, 180, 0, 55, 185, 0, 101, 1, 0, 133, 184, 0, 105, 154, 0, 6, 16, 254, 172, 3, 61]
abbrev dktX0_back_0 : List UInt8 := dkwX0_back_0 ++ dktX0_back_1
theorem dksX0_back_0 : cX0_back.data.toList.drop 0 = dktX0_back_0 := by decide +kernel
theorem dksX0_back_1 : cX0_back.data.toList.drop 24 = dktX0_back_1 := dk_seg dksX0_back_0 24 rfl rfl
theorem dksX0_back_2 : cX0_back.data.toList.drop 44 = dktX0_back_2 := dk_seg dksX0_back_1 20 rfl rfl
theorem dX0_back_0 : decode cX0_back 0 = .ok (.iload_n 1, 1) := dk_27 (dk_at dksX0_back_0 0 rfl rfl)
theorem dX0_back_1 : decode cX0_back 1 = .ok (.i2l, 1) := dk_133 (dk_at dksX0_back_0 1 rfl rfl)
theorem dX0_back_2 : decode cX0_back 2 = .ok (.lconst 0, 1) := dk_9 (dk_at dksX0_back_0 2 rfl rfl)
theorem dX0_back_3 : decode cX0_back 3 = .ok (.aload_n 0, 1) := dk_42 (dk_at dksX0_back_0 3 rfl rfl)
theorem dX0_back_4 : decode cX0_back 4 = .ok (.getfield 55, 3) := dk_180 0 55 (dk_at dksX0_back_0 4 rfl rfl)
theorem dX0_back_7 : decode cX0_back 7 = .ok (.invokeinterface 101 1, 5) := by decide +kernel
theorem dX0_back_12 : decode cX0_back 12 = .ok (.i2l, 1) := dk_133 (dk_at dksX0_back_0 12 rfl rfl)
theorem dX0_back_13 : decode cX0_back 13 = .ok (.invokestatic 105, 3) := dk_184 0 105 (dk_at dksX0_back_0 13 rfl rfl)
theorem dX0_back_16 : decode cX0_back 16 = .ok (.ifCond .ne 6, 3) := dk_154 0 6 (dk_at dksX0_back_0 16 rfl rfl)
theorem dX0_back_19 : decode cX0_back 19 = .ok (.bipush (-2), 2) := dk_16 254 (dk_at dksX0_back_0 19 rfl rfl)
theorem dX0_back_21 : decode cX0_back 21 = .ok (.ireturn, 1) := dk_172 (dk_at dksX0_back_0 21 rfl rfl)
theorem dX0_back_22 : decode cX0_back 22 = .ok (.iconst 0, 1) := dk_3 (dk_at dksX0_back_0 22 rfl rfl)
theorem dX0_back_23 : decode cX0_back 23 = .ok (.istore_n 2, 1) := dk_61 (dk_at dksX0_back_0 23 rfl rfl)
theorem dX0_back_24 : decode cX0_back 24 = .ok (.iload_n 2, 1) := dk_28 (dk_at dksX0_back_1 0 rfl rfl)
theorem dX0_back_25 : decode cX0_back 25 = .ok (.iload_n 1, 1) := dk_27 (dk_at dksX0_back_1 1 rfl rfl)
theorem dX0_back_26 : decode cX0_back 26 = .ok (.if_icmp .ge 30, 3) := dk_162 0 30 (dk_at dksX0_back_1 2 rfl rfl)
theorem dX0_back_29 : decode cX0_back 29 = .ok (.aload_n 0, 1) := dk_42 (dk_at dksX0_back_1 5 rfl rfl)
theorem dX0_back_30 : decode cX0_back 30 = .ok (.getfield 55, 3) := dk_180 0 55 (dk_at dksX0_back_1 6 rfl rfl)
theorem dX0_back_33 : decode cX0_back 33 = .ok (.aload_n 0, 1) := dk_42 (dk_at dksX0_back_1 9 rfl rfl)
theorem dX0_back_34 : decode cX0_back 34 = .ok (.getfield 55, 3) := dk_180 0 55 (dk_at dksX0_back_1 10 rfl rfl)
theorem dX0_back_37 : decode cX0_back 37 = .ok (.invokeinterface 101 1, 5) := by decide +kernel
theorem dX0_back_42 : decode cX0_back 42 = .ok (.iconst 1, 1) := dk_4 (dk_at dksX0_back_1 18 rfl rfl)
theorem dX0_back_43 : decode cX0_back 43 = .ok (.isub, 1) := dk_100 (dk_at dksX0_back_1 19 rfl rfl)
theorem dX0_back_44 : decode cX0_back 44 = .ok (.invokeinterface 341 2, 5) := by decide +kernel
theorem dX0_back_49 : decode cX0_back 49 = .ok (.pop, 1) := dk_87 (dk_at dksX0_back_2 5 rfl rfl)
theorem dX0_back_50 : decode cX0_back 50 = .ok (.iinc 2 1, 3) := dk_132 2 1 (dk_at dksX0_back_2 6 rfl rfl)
theorem dX0_back_53 : decode cX0_back 53 = .ok (.goto (-29), 3) := dk_167 255 227 (dk_at dksX0_back_2 9 rfl rfl)
theorem dX0_back_56 : decode cX0_back 56 = .ok (.aload_n 0, 1) := dk_42 (dk_at dksX0_back_2 12 rfl rfl)
theorem dX0_back_57 : decode cX0_back 57 = .ok (.getfield 55, 3) := dk_180 0 55 (dk_at dksX0_back_2 13 rfl rfl)
theorem dX0_back_60 : decode cX0_back 60 = .ok (.invokeinterface 101 1, 5) := by decide +kernel
theorem dX0_back_65 : decode cX0_back 65 = .ok (.ireturn, 1) := dk_172 (dk_at dksX0_back_2 21 rfl rfl)
abbrev cX0_kinds : ByteArray := prog_1_method_42_code
def yX0_kinds : MethodName := ⟨RX0, "kinds", "(I)I"⟩
def dkwX0_kinds_4 : List UInt8 := [29, 172]
abbrev dktX0_kinds_4 : List UInt8 := dkwX0_kinds_4 ++ []
def dkwX0_kinds_3 : List UInt8 := [167, 0, 4, 3, 128, 62, 132, 4, 1, 167, 255, 204, 42, 180, 0, 26, 27, 44, 185, 1, 94, 3, 0, 87]
abbrev dktX0_kinds_3 : List UInt8 := dkwX0_kinds_3 ++ dktX0_kinds_4
def dkwX0_kinds_2 : List UInt8 := [180, 0, 174, 182, 0, 127, 185, 1, 94, 3, 0, 87, 29, 42, 182, 1, 98, 153, 0, 10, 4, 21, 4, 120]
abbrev dktX0_kinds_2 : List UInt8 := dkwX0_kinds_2 ++ dktX0_kinds_3
def dkwX0_kinds_1 : List UInt8 := [3, 62, 3, 54, 4, 21, 4, 6, 162, 0, 52, 42, 180, 0, 26, 27, 42, 21, 4, 44, 180, 0, 245, 44]
abbrev dktX0_kinds_1 : List UInt8 := dkwX0_kinds_1 ++ dktX0_kinds_2
def dkwX0_kinds_0 : List UInt8 := [42, 27, 182, 0, 238, 153, 0, 5, 2, 172, 42, 180, 0, 26, 27, 185, 0, 167, 2, 0, 192, 0, 84, 77]
abbrev dktX0_kinds_0 : List UInt8 := dkwX0_kinds_0 ++ dktX0_kinds_1
theorem dksX0_kinds_0 : cX0_kinds.data.toList.drop 0 = dktX0_kinds_0 := by decide +kernel
theorem dksX0_kinds_1 : cX0_kinds.data.toList.drop 24 = dktX0_kinds_1 := dk_seg dksX0_kinds_0 24 rfl rfl
theorem dksX0_kinds_2 : cX0_kinds.data.toList.drop 48 = dktX0_kinds_2 := dk_seg dksX0_kinds_1 24 rfl rfl
theorem dksX0_kinds_3 : cX0_kinds.data.toList.drop 72 = dktX0_kinds_3 := dk_seg dksX0_kinds_2 24 rfl rfl
theorem dksX0_kinds_4 : cX0_kinds.data.toList.drop 96 = dktX0_kinds_4 := dk_seg dksX0_kinds_3 24 rfl rfl
theorem dX0_kinds_0 : decode cX0_kinds 0 = .ok (.aload_n 0, 1) := dk_42 (dk_at dksX0_kinds_0 0 rfl rfl)
theorem dX0_kinds_1 : decode cX0_kinds 1 = .ok (.iload_n 1, 1) := dk_27 (dk_at dksX0_kinds_0 1 rfl rfl)
theorem dX0_kinds_2 : decode cX0_kinds 2 = .ok (.invokevirtual 238, 3) := dk_182 0 238 (dk_at dksX0_kinds_0 2 rfl rfl)
theorem dX0_kinds_5 : decode cX0_kinds 5 = .ok (.ifCond .eq 5, 3) := dk_153 0 5 (dk_at dksX0_kinds_0 5 rfl rfl)
theorem dX0_kinds_8 : decode cX0_kinds 8 = .ok (.iconst (-1), 1) := dk_2 (dk_at dksX0_kinds_0 8 rfl rfl)
theorem dX0_kinds_9 : decode cX0_kinds 9 = .ok (.ireturn, 1) := dk_172 (dk_at dksX0_kinds_0 9 rfl rfl)
theorem dX0_kinds_10 : decode cX0_kinds 10 = .ok (.aload_n 0, 1) := dk_42 (dk_at dksX0_kinds_0 10 rfl rfl)
theorem dX0_kinds_11 : decode cX0_kinds 11 = .ok (.getfield 26, 3) := dk_180 0 26 (dk_at dksX0_kinds_0 11 rfl rfl)
theorem dX0_kinds_14 : decode cX0_kinds 14 = .ok (.iload_n 1, 1) := dk_27 (dk_at dksX0_kinds_0 14 rfl rfl)
theorem dX0_kinds_15 : decode cX0_kinds 15 = .ok (.invokeinterface 167 2, 5) := by decide +kernel
theorem dX0_kinds_20 : decode cX0_kinds 20 = .ok (.checkcast 84, 3) := dk_192 0 84 (dk_at dksX0_kinds_0 20 rfl rfl)
theorem dX0_kinds_23 : decode cX0_kinds 23 = .ok (.astore_n 2, 1) := dk_77 (dk_at dksX0_kinds_0 23 rfl rfl)
theorem dX0_kinds_24 : decode cX0_kinds 24 = .ok (.iconst 0, 1) := dk_3 (dk_at dksX0_kinds_1 0 rfl rfl)
theorem dX0_kinds_25 : decode cX0_kinds 25 = .ok (.istore_n 3, 1) := dk_62 (dk_at dksX0_kinds_1 1 rfl rfl)
theorem dX0_kinds_26 : decode cX0_kinds 26 = .ok (.iconst 0, 1) := dk_3 (dk_at dksX0_kinds_1 2 rfl rfl)
theorem dX0_kinds_27 : decode cX0_kinds 27 = .ok (.istore 4, 2) := dk_54 4 (dk_at dksX0_kinds_1 3 rfl rfl)
theorem dX0_kinds_29 : decode cX0_kinds 29 = .ok (.iload 4, 2) := dk_21 4 (dk_at dksX0_kinds_1 5 rfl rfl)
theorem dX0_kinds_31 : decode cX0_kinds 31 = .ok (.iconst 3, 1) := dk_6 (dk_at dksX0_kinds_1 7 rfl rfl)
theorem dX0_kinds_32 : decode cX0_kinds 32 = .ok (.if_icmp .ge 52, 3) := dk_162 0 52 (dk_at dksX0_kinds_1 8 rfl rfl)
theorem dX0_kinds_35 : decode cX0_kinds 35 = .ok (.aload_n 0, 1) := dk_42 (dk_at dksX0_kinds_1 11 rfl rfl)
theorem dX0_kinds_36 : decode cX0_kinds 36 = .ok (.getfield 26, 3) := dk_180 0 26 (dk_at dksX0_kinds_1 12 rfl rfl)
theorem dX0_kinds_39 : decode cX0_kinds 39 = .ok (.iload_n 1, 1) := dk_27 (dk_at dksX0_kinds_1 15 rfl rfl)
theorem dX0_kinds_40 : decode cX0_kinds 40 = .ok (.aload_n 0, 1) := dk_42 (dk_at dksX0_kinds_1 16 rfl rfl)
theorem dX0_kinds_41 : decode cX0_kinds 41 = .ok (.iload 4, 2) := dk_21 4 (dk_at dksX0_kinds_1 17 rfl rfl)
theorem dX0_kinds_43 : decode cX0_kinds 43 = .ok (.aload_n 2, 1) := dk_44 (dk_at dksX0_kinds_1 19 rfl rfl)
theorem dX0_kinds_44 : decode cX0_kinds 44 = .ok (.getfield 245, 3) := dk_180 0 245 (dk_at dksX0_kinds_1 20 rfl rfl)
theorem dX0_kinds_47 : decode cX0_kinds 47 = .ok (.aload_n 2, 1) := dk_44 (dk_at dksX0_kinds_1 23 rfl rfl)
theorem dX0_kinds_48 : decode cX0_kinds 48 = .ok (.getfield 174, 3) := dk_180 0 174 (dk_at dksX0_kinds_2 0 rfl rfl)
theorem dX0_kinds_51 : decode cX0_kinds 51 = .ok (.invokevirtual 127, 3) := dk_182 0 127 (dk_at dksX0_kinds_2 3 rfl rfl)
theorem dX0_kinds_54 : decode cX0_kinds 54 = .ok (.invokeinterface 350 3, 5) := by decide +kernel
theorem dX0_kinds_59 : decode cX0_kinds 59 = .ok (.pop, 1) := dk_87 (dk_at dksX0_kinds_2 11 rfl rfl)
theorem dX0_kinds_60 : decode cX0_kinds 60 = .ok (.iload_n 3, 1) := dk_29 (dk_at dksX0_kinds_2 12 rfl rfl)
theorem dX0_kinds_61 : decode cX0_kinds 61 = .ok (.aload_n 0, 1) := dk_42 (dk_at dksX0_kinds_2 13 rfl rfl)
theorem dX0_kinds_62 : decode cX0_kinds 62 = .ok (.invokevirtual 354, 3) := dk_182 1 98 (dk_at dksX0_kinds_2 14 rfl rfl)
theorem dX0_kinds_65 : decode cX0_kinds 65 = .ok (.ifCond .eq 10, 3) := dk_153 0 10 (dk_at dksX0_kinds_2 17 rfl rfl)
theorem dX0_kinds_68 : decode cX0_kinds 68 = .ok (.iconst 1, 1) := dk_4 (dk_at dksX0_kinds_2 20 rfl rfl)
theorem dX0_kinds_69 : decode cX0_kinds 69 = .ok (.iload 4, 2) := dk_21 4 (dk_at dksX0_kinds_2 21 rfl rfl)
theorem dX0_kinds_71 : decode cX0_kinds 71 = .ok (.ishl, 1) := dk_120 (dk_at dksX0_kinds_2 23 rfl rfl)
theorem dX0_kinds_72 : decode cX0_kinds 72 = .ok (.goto 4, 3) := dk_167 0 4 (dk_at dksX0_kinds_3 0 rfl rfl)
theorem dX0_kinds_75 : decode cX0_kinds 75 = .ok (.iconst 0, 1) := dk_3 (dk_at dksX0_kinds_3 3 rfl rfl)
theorem dX0_kinds_76 : decode cX0_kinds 76 = .ok (.ior, 1) := dk_128 (dk_at dksX0_kinds_3 4 rfl rfl)
theorem dX0_kinds_77 : decode cX0_kinds 77 = .ok (.istore_n 3, 1) := dk_62 (dk_at dksX0_kinds_3 5 rfl rfl)
theorem dX0_kinds_78 : decode cX0_kinds 78 = .ok (.iinc 4 1, 3) := dk_132 4 1 (dk_at dksX0_kinds_3 6 rfl rfl)
theorem dX0_kinds_81 : decode cX0_kinds 81 = .ok (.goto (-52), 3) := dk_167 255 204 (dk_at dksX0_kinds_3 9 rfl rfl)
theorem dX0_kinds_84 : decode cX0_kinds 84 = .ok (.aload_n 0, 1) := dk_42 (dk_at dksX0_kinds_3 12 rfl rfl)
theorem dX0_kinds_85 : decode cX0_kinds 85 = .ok (.getfield 26, 3) := dk_180 0 26 (dk_at dksX0_kinds_3 13 rfl rfl)
theorem dX0_kinds_88 : decode cX0_kinds 88 = .ok (.iload_n 1, 1) := dk_27 (dk_at dksX0_kinds_3 16 rfl rfl)
theorem dX0_kinds_89 : decode cX0_kinds 89 = .ok (.aload_n 2, 1) := dk_44 (dk_at dksX0_kinds_3 17 rfl rfl)
theorem dX0_kinds_90 : decode cX0_kinds 90 = .ok (.invokeinterface 350 3, 5) := by decide +kernel
theorem dX0_kinds_95 : decode cX0_kinds 95 = .ok (.pop, 1) := dk_87 (dk_at dksX0_kinds_3 23 rfl rfl)
theorem dX0_kinds_96 : decode cX0_kinds 96 = .ok (.iload_n 3, 1) := dk_29 (dk_at dksX0_kinds_4 0 rfl rfl)
theorem dX0_kinds_97 : decode cX0_kinds 97 = .ok (.ireturn, 1) := dk_172 (dk_at dksX0_kinds_4 1 rfl rfl)
abbrev cX0_madeOf : ByteArray := prog_1_method_5_code
def yX0_madeOf : MethodName := ⟨RX0, "madeOf", "(III)LBookPairs$Plain;"⟩
def dkwX0_madeOf_1 : List UInt8 := [187, 0, 89, 89, 42, 28, 29, 183, 0, 91, 167, 0, 13, 187, 0, 92, 89, 42, 28, 29, 183, 0, 94, 176]
abbrev dktX0_madeOf_1 : List UInt8 := dkwX0_madeOf_1 ++ []
def dkwX0_madeOf_0 : List UInt8 := [27, 154, 0, 16, 187, 0, 84, 89, 42, 28, 29, 183, 0, 86, 167, 0, 31, 27, 4, 160, 0, 16]
abbrev dktX0_madeOf_0 : List UInt8 := dkwX0_madeOf_0 ++ dktX0_madeOf_1
theorem dksX0_madeOf_0 : cX0_madeOf.data.toList.drop 0 = dktX0_madeOf_0 := by decide +kernel
theorem dksX0_madeOf_1 : cX0_madeOf.data.toList.drop 22 = dktX0_madeOf_1 := dk_seg dksX0_madeOf_0 22 rfl rfl
theorem dX0_madeOf_0 : decode cX0_madeOf 0 = .ok (.iload_n 1, 1) := dk_27 (dk_at dksX0_madeOf_0 0 rfl rfl)
theorem dX0_madeOf_1 : decode cX0_madeOf 1 = .ok (.ifCond .ne 16, 3) := dk_154 0 16 (dk_at dksX0_madeOf_0 1 rfl rfl)
theorem dX0_madeOf_4 : decode cX0_madeOf 4 = .ok (.new 84, 3) := dk_187 0 84 (dk_at dksX0_madeOf_0 4 rfl rfl)
theorem dX0_madeOf_7 : decode cX0_madeOf 7 = .ok (.dup, 1) := dk_89 (dk_at dksX0_madeOf_0 7 rfl rfl)
theorem dX0_madeOf_8 : decode cX0_madeOf 8 = .ok (.aload_n 0, 1) := dk_42 (dk_at dksX0_madeOf_0 8 rfl rfl)
theorem dX0_madeOf_9 : decode cX0_madeOf 9 = .ok (.iload_n 2, 1) := dk_28 (dk_at dksX0_madeOf_0 9 rfl rfl)
theorem dX0_madeOf_10 : decode cX0_madeOf 10 = .ok (.iload_n 3, 1) := dk_29 (dk_at dksX0_madeOf_0 10 rfl rfl)
theorem dX0_madeOf_11 : decode cX0_madeOf 11 = .ok (.invokespecial 86, 3) := dk_183 0 86 (dk_at dksX0_madeOf_0 11 rfl rfl)
theorem dX0_madeOf_14 : decode cX0_madeOf 14 = .ok (.goto 31, 3) := dk_167 0 31 (dk_at dksX0_madeOf_0 14 rfl rfl)
theorem dX0_madeOf_17 : decode cX0_madeOf 17 = .ok (.iload_n 1, 1) := dk_27 (dk_at dksX0_madeOf_0 17 rfl rfl)
theorem dX0_madeOf_18 : decode cX0_madeOf 18 = .ok (.iconst 1, 1) := dk_4 (dk_at dksX0_madeOf_0 18 rfl rfl)
theorem dX0_madeOf_19 : decode cX0_madeOf 19 = .ok (.if_icmp .ne 16, 3) := dk_160 0 16 (dk_at dksX0_madeOf_0 19 rfl rfl)
theorem dX0_madeOf_22 : decode cX0_madeOf 22 = .ok (.new 89, 3) := dk_187 0 89 (dk_at dksX0_madeOf_1 0 rfl rfl)
theorem dX0_madeOf_25 : decode cX0_madeOf 25 = .ok (.dup, 1) := dk_89 (dk_at dksX0_madeOf_1 3 rfl rfl)
theorem dX0_madeOf_26 : decode cX0_madeOf 26 = .ok (.aload_n 0, 1) := dk_42 (dk_at dksX0_madeOf_1 4 rfl rfl)
theorem dX0_madeOf_27 : decode cX0_madeOf 27 = .ok (.iload_n 2, 1) := dk_28 (dk_at dksX0_madeOf_1 5 rfl rfl)
theorem dX0_madeOf_28 : decode cX0_madeOf 28 = .ok (.iload_n 3, 1) := dk_29 (dk_at dksX0_madeOf_1 6 rfl rfl)
theorem dX0_madeOf_29 : decode cX0_madeOf 29 = .ok (.invokespecial 91, 3) := dk_183 0 91 (dk_at dksX0_madeOf_1 7 rfl rfl)
theorem dX0_madeOf_32 : decode cX0_madeOf 32 = .ok (.goto 13, 3) := dk_167 0 13 (dk_at dksX0_madeOf_1 10 rfl rfl)
theorem dX0_madeOf_35 : decode cX0_madeOf 35 = .ok (.new 92, 3) := dk_187 0 92 (dk_at dksX0_madeOf_1 13 rfl rfl)
theorem dX0_madeOf_38 : decode cX0_madeOf 38 = .ok (.dup, 1) := dk_89 (dk_at dksX0_madeOf_1 16 rfl rfl)
theorem dX0_madeOf_39 : decode cX0_madeOf 39 = .ok (.aload_n 0, 1) := dk_42 (dk_at dksX0_madeOf_1 17 rfl rfl)
theorem dX0_madeOf_40 : decode cX0_madeOf 40 = .ok (.iload_n 2, 1) := dk_28 (dk_at dksX0_madeOf_1 18 rfl rfl)
theorem dX0_madeOf_41 : decode cX0_madeOf 41 = .ok (.iload_n 3, 1) := dk_29 (dk_at dksX0_madeOf_1 19 rfl rfl)
theorem dX0_madeOf_42 : decode cX0_madeOf 42 = .ok (.invokespecial 94, 3) := dk_183 0 94 (dk_at dksX0_madeOf_1 20 rfl rfl)
theorem dX0_madeOf_45 : decode cX0_madeOf 45 = .ok (.areturn, 1) := dk_176 (dk_at dksX0_madeOf_1 23 rfl rfl)
abbrev cX0_areSo : ByteArray := prog_1_method_41_code
def yX0_areSo : MethodName := ⟨RX0, "areSo", "()Z"⟩
def dkwX0_areSo_3 : List UInt8 := [132, 2, 1, 167, 255, 188, 27, 172]
abbrev dktX0_areSo_3 : List UInt8 := dkwX0_areSo_3 ++ []
def dkwX0_areSo_2 : List UInt8 := [180, 0, 55, 28, 185, 0, 167, 2, 0, 192, 1, 80, 180, 1, 91, 160, 0, 7, 4, 167, 0, 4, 3, 60]
abbrev dktX0_areSo_2 : List UInt8 := dkwX0_areSo_2 ++ dktX0_areSo_3
def dkwX0_areSo_1 : List UInt8 := [180, 0, 55, 28, 185, 0, 167, 2, 0, 192, 1, 80, 180, 1, 88, 182, 1, 12, 184, 1, 18, 42]
abbrev dktX0_areSo_1 : List UInt8 := dkwX0_areSo_1 ++ dktX0_areSo_2
def dkwX0_areSo_0 : List UInt8 := [4, 60, 3, 61, 28, 42, 180, 0, 55, 185, 0, 101, 1, 0, 162, 0, 61, 27, 153, 0, 57, 42, 42]
abbrev dktX0_areSo_0 : List UInt8 := dkwX0_areSo_0 ++ dktX0_areSo_1
theorem dksX0_areSo_0 : cX0_areSo.data.toList.drop 0 = dktX0_areSo_0 := by decide +kernel
theorem dksX0_areSo_1 : cX0_areSo.data.toList.drop 23 = dktX0_areSo_1 := dk_seg dksX0_areSo_0 23 rfl rfl
theorem dksX0_areSo_2 : cX0_areSo.data.toList.drop 45 = dktX0_areSo_2 := dk_seg dksX0_areSo_1 22 rfl rfl
theorem dksX0_areSo_3 : cX0_areSo.data.toList.drop 69 = dktX0_areSo_3 := dk_seg dksX0_areSo_2 24 rfl rfl
theorem dX0_areSo_0 : decode cX0_areSo 0 = .ok (.iconst 1, 1) := dk_4 (dk_at dksX0_areSo_0 0 rfl rfl)
theorem dX0_areSo_1 : decode cX0_areSo 1 = .ok (.istore_n 1, 1) := dk_60 (dk_at dksX0_areSo_0 1 rfl rfl)
theorem dX0_areSo_2 : decode cX0_areSo 2 = .ok (.iconst 0, 1) := dk_3 (dk_at dksX0_areSo_0 2 rfl rfl)
theorem dX0_areSo_3 : decode cX0_areSo 3 = .ok (.istore_n 2, 1) := dk_61 (dk_at dksX0_areSo_0 3 rfl rfl)
theorem dX0_areSo_4 : decode cX0_areSo 4 = .ok (.iload_n 2, 1) := dk_28 (dk_at dksX0_areSo_0 4 rfl rfl)
theorem dX0_areSo_5 : decode cX0_areSo 5 = .ok (.aload_n 0, 1) := dk_42 (dk_at dksX0_areSo_0 5 rfl rfl)
theorem dX0_areSo_6 : decode cX0_areSo 6 = .ok (.getfield 55, 3) := dk_180 0 55 (dk_at dksX0_areSo_0 6 rfl rfl)
theorem dX0_areSo_9 : decode cX0_areSo 9 = .ok (.invokeinterface 101 1, 5) := by decide +kernel
theorem dX0_areSo_14 : decode cX0_areSo 14 = .ok (.if_icmp .ge 61, 3) := dk_162 0 61 (dk_at dksX0_areSo_0 14 rfl rfl)
theorem dX0_areSo_17 : decode cX0_areSo 17 = .ok (.iload_n 1, 1) := dk_27 (dk_at dksX0_areSo_0 17 rfl rfl)
theorem dX0_areSo_18 : decode cX0_areSo 18 = .ok (.ifCond .eq 57, 3) := dk_153 0 57 (dk_at dksX0_areSo_0 18 rfl rfl)
theorem dX0_areSo_21 : decode cX0_areSo 21 = .ok (.aload_n 0, 1) := dk_42 (dk_at dksX0_areSo_0 21 rfl rfl)
theorem dX0_areSo_22 : decode cX0_areSo 22 = .ok (.aload_n 0, 1) := dk_42 (dk_at dksX0_areSo_0 22 rfl rfl)
theorem dX0_areSo_23 : decode cX0_areSo 23 = .ok (.getfield 55, 3) := dk_180 0 55 (dk_at dksX0_areSo_1 0 rfl rfl)
theorem dX0_areSo_26 : decode cX0_areSo 26 = .ok (.iload_n 2, 1) := dk_28 (dk_at dksX0_areSo_1 3 rfl rfl)
theorem dX0_areSo_27 : decode cX0_areSo 27 = .ok (.invokeinterface 167 2, 5) := by decide +kernel
theorem dX0_areSo_32 : decode cX0_areSo 32 = .ok (.checkcast 336, 3) := dk_192 1 80 (dk_at dksX0_areSo_1 9 rfl rfl)
theorem dX0_areSo_35 : decode cX0_areSo 35 = .ok (.getfield 344, 3) := dk_180 1 88 (dk_at dksX0_areSo_1 12 rfl rfl)
theorem dX0_areSo_38 : decode cX0_areSo 38 = .ok (.invokevirtual 268, 3) := dk_182 1 12 (dk_at dksX0_areSo_1 15 rfl rfl)
theorem dX0_areSo_41 : decode cX0_areSo 41 = .ok (.invokestatic 274, 3) := dk_184 1 18 (dk_at dksX0_areSo_1 18 rfl rfl)
theorem dX0_areSo_44 : decode cX0_areSo 44 = .ok (.aload_n 0, 1) := dk_42 (dk_at dksX0_areSo_1 21 rfl rfl)
theorem dX0_areSo_45 : decode cX0_areSo 45 = .ok (.getfield 55, 3) := dk_180 0 55 (dk_at dksX0_areSo_2 0 rfl rfl)
theorem dX0_areSo_48 : decode cX0_areSo 48 = .ok (.iload_n 2, 1) := dk_28 (dk_at dksX0_areSo_2 3 rfl rfl)
theorem dX0_areSo_49 : decode cX0_areSo 49 = .ok (.invokeinterface 167 2, 5) := by decide +kernel
theorem dX0_areSo_54 : decode cX0_areSo 54 = .ok (.checkcast 336, 3) := dk_192 1 80 (dk_at dksX0_areSo_2 9 rfl rfl)
theorem dX0_areSo_57 : decode cX0_areSo 57 = .ok (.getfield 347, 3) := dk_180 1 91 (dk_at dksX0_areSo_2 12 rfl rfl)
theorem dX0_areSo_60 : decode cX0_areSo 60 = .ok (.if_icmp .ne 7, 3) := dk_160 0 7 (dk_at dksX0_areSo_2 15 rfl rfl)
theorem dX0_areSo_63 : decode cX0_areSo 63 = .ok (.iconst 1, 1) := dk_4 (dk_at dksX0_areSo_2 18 rfl rfl)
theorem dX0_areSo_64 : decode cX0_areSo 64 = .ok (.goto 4, 3) := dk_167 0 4 (dk_at dksX0_areSo_2 19 rfl rfl)
theorem dX0_areSo_67 : decode cX0_areSo 67 = .ok (.iconst 0, 1) := dk_3 (dk_at dksX0_areSo_2 22 rfl rfl)
theorem dX0_areSo_68 : decode cX0_areSo 68 = .ok (.istore_n 1, 1) := dk_60 (dk_at dksX0_areSo_2 23 rfl rfl)
theorem dX0_areSo_69 : decode cX0_areSo 69 = .ok (.iinc 2 1, 3) := dk_132 2 1 (dk_at dksX0_areSo_3 0 rfl rfl)
theorem dX0_areSo_72 : decode cX0_areSo 72 = .ok (.goto (-68), 3) := dk_167 255 188 (dk_at dksX0_areSo_3 3 rfl rfl)
theorem dX0_areSo_75 : decode cX0_areSo 75 = .ok (.iload_n 1, 1) := dk_27 (dk_at dksX0_areSo_3 6 rfl rfl)
theorem dX0_areSo_76 : decode cX0_areSo 76 = .ok (.ireturn, 1) := dk_172 (dk_at dksX0_areSo_3 7 rfl rfl)
abbrev cX0_letterings : ByteArray := prog_1_method_43_code
def yX0_letterings : MethodName := ⟨RX0, "letterings", "(I)I"⟩
def dkwX0_letterings_3 : List UInt8 := [167, 255, 220, 44, 29, 181, 0, 245, 21, 4, 172]
abbrev dktX0_letterings_3 : List UInt8 := dkwX0_letterings_3 ++ []
def dkwX0_letterings_2 : List UInt8 := [21, 4, 42, 182, 1, 98, 153, 0, 10, 4, 21, 5, 120, 167, 0, 4, 3, 128, 54, 4, 132, 5, 1]
abbrev dktX0_letterings_2 : List UInt8 := dkwX0_letterings_2 ++ dktX0_letterings_3
def dkwX0_letterings_1 : List UInt8 := [44, 180, 0, 245, 62, 3, 54, 4, 4, 54, 5, 21, 5, 16, 9, 163, 0, 35, 44, 21, 5, 181, 0, 245]
abbrev dktX0_letterings_1 : List UInt8 := dkwX0_letterings_1 ++ dktX0_letterings_2
def dkwX0_letterings_0 : List UInt8 := [42, 27, 182, 0, 238, 153, 0, 5, 2, 172, 42, 180, 0, 26, 27, 185, 0, 167, 2, 0, 192, 0, 84, 77]
abbrev dktX0_letterings_0 : List UInt8 := dkwX0_letterings_0 ++ dktX0_letterings_1
theorem dksX0_letterings_0 : cX0_letterings.data.toList.drop 0 = dktX0_letterings_0 := by decide +kernel
theorem dksX0_letterings_1 : cX0_letterings.data.toList.drop 24 = dktX0_letterings_1 := dk_seg dksX0_letterings_0 24 rfl rfl
theorem dksX0_letterings_2 : cX0_letterings.data.toList.drop 48 = dktX0_letterings_2 := dk_seg dksX0_letterings_1 24 rfl rfl
theorem dksX0_letterings_3 : cX0_letterings.data.toList.drop 71 = dktX0_letterings_3 := dk_seg dksX0_letterings_2 23 rfl rfl
theorem dX0_letterings_0 : decode cX0_letterings 0 = .ok (.aload_n 0, 1) := dk_42 (dk_at dksX0_letterings_0 0 rfl rfl)
theorem dX0_letterings_1 : decode cX0_letterings 1 = .ok (.iload_n 1, 1) := dk_27 (dk_at dksX0_letterings_0 1 rfl rfl)
theorem dX0_letterings_2 : decode cX0_letterings 2 = .ok (.invokevirtual 238, 3) := dk_182 0 238 (dk_at dksX0_letterings_0 2 rfl rfl)
theorem dX0_letterings_5 : decode cX0_letterings 5 = .ok (.ifCond .eq 5, 3) := dk_153 0 5 (dk_at dksX0_letterings_0 5 rfl rfl)
theorem dX0_letterings_8 : decode cX0_letterings 8 = .ok (.iconst (-1), 1) := dk_2 (dk_at dksX0_letterings_0 8 rfl rfl)
theorem dX0_letterings_9 : decode cX0_letterings 9 = .ok (.ireturn, 1) := dk_172 (dk_at dksX0_letterings_0 9 rfl rfl)
theorem dX0_letterings_10 : decode cX0_letterings 10 = .ok (.aload_n 0, 1) := dk_42 (dk_at dksX0_letterings_0 10 rfl rfl)
theorem dX0_letterings_11 : decode cX0_letterings 11 = .ok (.getfield 26, 3) := dk_180 0 26 (dk_at dksX0_letterings_0 11 rfl rfl)
theorem dX0_letterings_14 : decode cX0_letterings 14 = .ok (.iload_n 1, 1) := dk_27 (dk_at dksX0_letterings_0 14 rfl rfl)
theorem dX0_letterings_15 : decode cX0_letterings 15 = .ok (.invokeinterface 167 2, 5) := by decide +kernel
theorem dX0_letterings_20 : decode cX0_letterings 20 = .ok (.checkcast 84, 3) := dk_192 0 84 (dk_at dksX0_letterings_0 20 rfl rfl)
theorem dX0_letterings_23 : decode cX0_letterings 23 = .ok (.astore_n 2, 1) := dk_77 (dk_at dksX0_letterings_0 23 rfl rfl)
theorem dX0_letterings_24 : decode cX0_letterings 24 = .ok (.aload_n 2, 1) := dk_44 (dk_at dksX0_letterings_1 0 rfl rfl)
theorem dX0_letterings_25 : decode cX0_letterings 25 = .ok (.getfield 245, 3) := dk_180 0 245 (dk_at dksX0_letterings_1 1 rfl rfl)
theorem dX0_letterings_28 : decode cX0_letterings 28 = .ok (.istore_n 3, 1) := dk_62 (dk_at dksX0_letterings_1 4 rfl rfl)
theorem dX0_letterings_29 : decode cX0_letterings 29 = .ok (.iconst 0, 1) := dk_3 (dk_at dksX0_letterings_1 5 rfl rfl)
theorem dX0_letterings_30 : decode cX0_letterings 30 = .ok (.istore 4, 2) := dk_54 4 (dk_at dksX0_letterings_1 6 rfl rfl)
theorem dX0_letterings_32 : decode cX0_letterings 32 = .ok (.iconst 1, 1) := dk_4 (dk_at dksX0_letterings_1 8 rfl rfl)
theorem dX0_letterings_33 : decode cX0_letterings 33 = .ok (.istore 5, 2) := dk_54 5 (dk_at dksX0_letterings_1 9 rfl rfl)
theorem dX0_letterings_35 : decode cX0_letterings 35 = .ok (.iload 5, 2) := dk_21 5 (dk_at dksX0_letterings_1 11 rfl rfl)
theorem dX0_letterings_37 : decode cX0_letterings 37 = .ok (.bipush 9, 2) := dk_16 9 (dk_at dksX0_letterings_1 13 rfl rfl)
theorem dX0_letterings_39 : decode cX0_letterings 39 = .ok (.if_icmp .gt 35, 3) := dk_163 0 35 (dk_at dksX0_letterings_1 15 rfl rfl)
theorem dX0_letterings_42 : decode cX0_letterings 42 = .ok (.aload_n 2, 1) := dk_44 (dk_at dksX0_letterings_1 18 rfl rfl)
theorem dX0_letterings_43 : decode cX0_letterings 43 = .ok (.iload 5, 2) := dk_21 5 (dk_at dksX0_letterings_1 19 rfl rfl)
theorem dX0_letterings_45 : decode cX0_letterings 45 = .ok (.putfield 245, 3) := dk_181 0 245 (dk_at dksX0_letterings_1 21 rfl rfl)
theorem dX0_letterings_48 : decode cX0_letterings 48 = .ok (.iload 4, 2) := dk_21 4 (dk_at dksX0_letterings_2 0 rfl rfl)
theorem dX0_letterings_50 : decode cX0_letterings 50 = .ok (.aload_n 0, 1) := dk_42 (dk_at dksX0_letterings_2 2 rfl rfl)
theorem dX0_letterings_51 : decode cX0_letterings 51 = .ok (.invokevirtual 354, 3) := dk_182 1 98 (dk_at dksX0_letterings_2 3 rfl rfl)
theorem dX0_letterings_54 : decode cX0_letterings 54 = .ok (.ifCond .eq 10, 3) := dk_153 0 10 (dk_at dksX0_letterings_2 6 rfl rfl)
theorem dX0_letterings_57 : decode cX0_letterings 57 = .ok (.iconst 1, 1) := dk_4 (dk_at dksX0_letterings_2 9 rfl rfl)
theorem dX0_letterings_58 : decode cX0_letterings 58 = .ok (.iload 5, 2) := dk_21 5 (dk_at dksX0_letterings_2 10 rfl rfl)
theorem dX0_letterings_60 : decode cX0_letterings 60 = .ok (.ishl, 1) := dk_120 (dk_at dksX0_letterings_2 12 rfl rfl)
theorem dX0_letterings_61 : decode cX0_letterings 61 = .ok (.goto 4, 3) := dk_167 0 4 (dk_at dksX0_letterings_2 13 rfl rfl)
theorem dX0_letterings_64 : decode cX0_letterings 64 = .ok (.iconst 0, 1) := dk_3 (dk_at dksX0_letterings_2 16 rfl rfl)
theorem dX0_letterings_65 : decode cX0_letterings 65 = .ok (.ior, 1) := dk_128 (dk_at dksX0_letterings_2 17 rfl rfl)
theorem dX0_letterings_66 : decode cX0_letterings 66 = .ok (.istore 4, 2) := dk_54 4 (dk_at dksX0_letterings_2 18 rfl rfl)
theorem dX0_letterings_68 : decode cX0_letterings 68 = .ok (.iinc 5 1, 3) := dk_132 5 1 (dk_at dksX0_letterings_2 20 rfl rfl)
theorem dX0_letterings_71 : decode cX0_letterings 71 = .ok (.goto (-36), 3) := dk_167 255 220 (dk_at dksX0_letterings_3 0 rfl rfl)
theorem dX0_letterings_74 : decode cX0_letterings 74 = .ok (.aload_n 2, 1) := dk_44 (dk_at dksX0_letterings_3 3 rfl rfl)
theorem dX0_letterings_75 : decode cX0_letterings 75 = .ok (.iload_n 3, 1) := dk_29 (dk_at dksX0_letterings_3 4 rfl rfl)
theorem dX0_letterings_76 : decode cX0_letterings 76 = .ok (.putfield 245, 3) := dk_181 0 245 (dk_at dksX0_letterings_3 5 rfl rfl)
theorem dX0_letterings_79 : decode cX0_letterings 79 = .ok (.iload 4, 2) := dk_21 4 (dk_at dksX0_letterings_3 8 rfl rfl)
theorem dX0_letterings_81 : decode cX0_letterings 81 = .ok (.ireturn, 1) := dk_172 (dk_at dksX0_letterings_3 10 rfl rfl)
abbrev cX0_odds : ByteArray := prog_1_method_45_code
def yX0_odds : MethodName := ⟨RX0, "odds", "(II)J"⟩
def dkwX0_odds_5 : List UInt8 := [167, 0, 4, 29, 133, 29, 133, 21, 4, 133, 184, 1, 103, 109, 173]
abbrev dktX0_odds_5 : List UInt8 := dkwX0_odds_5 ++ []
def dkwX0_odds_4 : List UInt8 := [180, 1, 39, 27, 160, 0, 7, 4, 167, 0, 4, 3, 96, 54, 4, 167, 255, 215, 28, 154, 0, 8, 21, 4]
abbrev dktX0_odds_4 : List UInt8 := dkwX0_odds_4 ++ dktX0_odds_5
def dkwX0_odds_3 : List UInt8 := [185, 1, 28, 1, 0, 153, 0, 37, 25, 5, 185, 1, 33, 1, 0, 192, 1, 37, 58, 6, 21, 4, 25, 6]
abbrev dktX0_odds_3 : List UInt8 := dkwX0_odds_3 ++ dktX0_odds_4
def dkwX0_odds_2 : List UInt8 := [182, 1, 15, 62, 3, 54, 4, 187, 1, 21, 89, 42, 183, 1, 23, 182, 1, 24, 58, 5, 25, 5]
abbrev dktX0_odds_2 : List UInt8 := dkwX0_odds_2 ++ dktX0_odds_3
def dkwX0_odds_1 : List UInt8 := [182, 1, 3, 154, 0, 16, 42, 42, 180, 0, 164, 182, 1, 12, 18, 203, 161, 0, 7, 20, 1, 101, 173, 42]
abbrev dktX0_odds_1 : List UInt8 := dkwX0_odds_1 ++ dktX0_odds_2
def dkwX0_odds_0 : List UInt8 := [27, 133, 9, 20, 0, 192, 184, 0, 105, 153, 0, 33, 28, 133, 9, 10, 184, 0, 105, 153, 0, 23, 42]
abbrev dktX0_odds_0 : List UInt8 := dkwX0_odds_0 ++ dktX0_odds_1
theorem dksX0_odds_0 : cX0_odds.data.toList.drop 0 = dktX0_odds_0 := by decide +kernel
theorem dksX0_odds_1 : cX0_odds.data.toList.drop 23 = dktX0_odds_1 := dk_seg dksX0_odds_0 23 rfl rfl
theorem dksX0_odds_2 : cX0_odds.data.toList.drop 47 = dktX0_odds_2 := dk_seg dksX0_odds_1 24 rfl rfl
theorem dksX0_odds_3 : cX0_odds.data.toList.drop 69 = dktX0_odds_3 := dk_seg dksX0_odds_2 22 rfl rfl
theorem dksX0_odds_4 : cX0_odds.data.toList.drop 93 = dktX0_odds_4 := dk_seg dksX0_odds_3 24 rfl rfl
theorem dksX0_odds_5 : cX0_odds.data.toList.drop 117 = dktX0_odds_5 := dk_seg dksX0_odds_4 24 rfl rfl
theorem dX0_odds_0 : decode cX0_odds 0 = .ok (.iload_n 1, 1) := dk_27 (dk_at dksX0_odds_0 0 rfl rfl)
theorem dX0_odds_1 : decode cX0_odds 1 = .ok (.i2l, 1) := dk_133 (dk_at dksX0_odds_0 1 rfl rfl)
theorem dX0_odds_2 : decode cX0_odds 2 = .ok (.lconst 0, 1) := dk_9 (dk_at dksX0_odds_0 2 rfl rfl)
theorem dX0_odds_3 : decode cX0_odds 3 = .ok (.ldc2_w 192, 3) := dk_20 0 192 (dk_at dksX0_odds_0 3 rfl rfl)
theorem dX0_odds_6 : decode cX0_odds 6 = .ok (.invokestatic 105, 3) := dk_184 0 105 (dk_at dksX0_odds_0 6 rfl rfl)
theorem dX0_odds_9 : decode cX0_odds 9 = .ok (.ifCond .eq 33, 3) := dk_153 0 33 (dk_at dksX0_odds_0 9 rfl rfl)
theorem dX0_odds_12 : decode cX0_odds 12 = .ok (.iload_n 2, 1) := dk_28 (dk_at dksX0_odds_0 12 rfl rfl)
theorem dX0_odds_13 : decode cX0_odds 13 = .ok (.i2l, 1) := dk_133 (dk_at dksX0_odds_0 13 rfl rfl)
theorem dX0_odds_14 : decode cX0_odds 14 = .ok (.lconst 0, 1) := dk_9 (dk_at dksX0_odds_0 14 rfl rfl)
theorem dX0_odds_15 : decode cX0_odds 15 = .ok (.lconst 1, 1) := dk_10 (dk_at dksX0_odds_0 15 rfl rfl)
theorem dX0_odds_16 : decode cX0_odds 16 = .ok (.invokestatic 105, 3) := dk_184 0 105 (dk_at dksX0_odds_0 16 rfl rfl)
theorem dX0_odds_19 : decode cX0_odds 19 = .ok (.ifCond .eq 23, 3) := dk_153 0 23 (dk_at dksX0_odds_0 19 rfl rfl)
theorem dX0_odds_22 : decode cX0_odds 22 = .ok (.aload_n 0, 1) := dk_42 (dk_at dksX0_odds_0 22 rfl rfl)
theorem dX0_odds_23 : decode cX0_odds 23 = .ok (.invokevirtual 259, 3) := dk_182 1 3 (dk_at dksX0_odds_1 0 rfl rfl)
theorem dX0_odds_26 : decode cX0_odds 26 = .ok (.ifCond .ne 16, 3) := dk_154 0 16 (dk_at dksX0_odds_1 3 rfl rfl)
theorem dX0_odds_29 : decode cX0_odds 29 = .ok (.aload_n 0, 1) := dk_42 (dk_at dksX0_odds_1 6 rfl rfl)
theorem dX0_odds_30 : decode cX0_odds 30 = .ok (.aload_n 0, 1) := dk_42 (dk_at dksX0_odds_1 7 rfl rfl)
theorem dX0_odds_31 : decode cX0_odds 31 = .ok (.getfield 164, 3) := dk_180 0 164 (dk_at dksX0_odds_1 8 rfl rfl)
theorem dX0_odds_34 : decode cX0_odds 34 = .ok (.invokevirtual 268, 3) := dk_182 1 12 (dk_at dksX0_odds_1 11 rfl rfl)
theorem dX0_odds_37 : decode cX0_odds 37 = .ok (.ldc 203, 2) := dk_18 203 (dk_at dksX0_odds_1 14 rfl rfl)
theorem dX0_odds_39 : decode cX0_odds 39 = .ok (.if_icmp .lt 7, 3) := dk_161 0 7 (dk_at dksX0_odds_1 16 rfl rfl)
theorem dX0_odds_42 : decode cX0_odds 42 = .ok (.ldc2_w 357, 3) := dk_20 1 101 (dk_at dksX0_odds_1 19 rfl rfl)
theorem dX0_odds_45 : decode cX0_odds 45 = .ok (.lreturn, 1) := dk_173 (dk_at dksX0_odds_1 22 rfl rfl)
theorem dX0_odds_46 : decode cX0_odds 46 = .ok (.aload_n 0, 1) := dk_42 (dk_at dksX0_odds_1 23 rfl rfl)
theorem dX0_odds_47 : decode cX0_odds 47 = .ok (.invokevirtual 271, 3) := dk_182 1 15 (dk_at dksX0_odds_2 0 rfl rfl)
theorem dX0_odds_50 : decode cX0_odds 50 = .ok (.istore_n 3, 1) := dk_62 (dk_at dksX0_odds_2 3 rfl rfl)
theorem dX0_odds_51 : decode cX0_odds 51 = .ok (.iconst 0, 1) := dk_3 (dk_at dksX0_odds_2 4 rfl rfl)
theorem dX0_odds_52 : decode cX0_odds 52 = .ok (.istore 4, 2) := dk_54 4 (dk_at dksX0_odds_2 5 rfl rfl)
theorem dX0_odds_54 : decode cX0_odds 54 = .ok (.new 277, 3) := dk_187 1 21 (dk_at dksX0_odds_2 7 rfl rfl)
theorem dX0_odds_57 : decode cX0_odds 57 = .ok (.dup, 1) := dk_89 (dk_at dksX0_odds_2 10 rfl rfl)
theorem dX0_odds_58 : decode cX0_odds 58 = .ok (.aload_n 0, 1) := dk_42 (dk_at dksX0_odds_2 11 rfl rfl)
theorem dX0_odds_59 : decode cX0_odds 59 = .ok (.invokespecial 279, 3) := dk_183 1 23 (dk_at dksX0_odds_2 12 rfl rfl)
theorem dX0_odds_62 : decode cX0_odds 62 = .ok (.invokevirtual 280, 3) := dk_182 1 24 (dk_at dksX0_odds_2 15 rfl rfl)
theorem dX0_odds_65 : decode cX0_odds 65 = .ok (.astore 5, 2) := dk_58 5 (dk_at dksX0_odds_2 18 rfl rfl)
theorem dX0_odds_67 : decode cX0_odds 67 = .ok (.aload 5, 2) := dk_25 5 (dk_at dksX0_odds_2 20 rfl rfl)
theorem dX0_odds_69 : decode cX0_odds 69 = .ok (.invokeinterface 284 1, 5) := by decide +kernel
theorem dX0_odds_74 : decode cX0_odds 74 = .ok (.ifCond .eq 37, 3) := dk_153 0 37 (dk_at dksX0_odds_3 5 rfl rfl)
theorem dX0_odds_77 : decode cX0_odds 77 = .ok (.aload 5, 2) := dk_25 5 (dk_at dksX0_odds_3 8 rfl rfl)
theorem dX0_odds_79 : decode cX0_odds 79 = .ok (.invokeinterface 289 1, 5) := by decide +kernel
theorem dX0_odds_84 : decode cX0_odds 84 = .ok (.checkcast 293, 3) := dk_192 1 37 (dk_at dksX0_odds_3 15 rfl rfl)
theorem dX0_odds_87 : decode cX0_odds 87 = .ok (.astore 6, 2) := dk_58 6 (dk_at dksX0_odds_3 18 rfl rfl)
theorem dX0_odds_89 : decode cX0_odds 89 = .ok (.iload 4, 2) := dk_21 4 (dk_at dksX0_odds_3 20 rfl rfl)
theorem dX0_odds_91 : decode cX0_odds 91 = .ok (.aload 6, 2) := dk_25 6 (dk_at dksX0_odds_3 22 rfl rfl)
theorem dX0_odds_93 : decode cX0_odds 93 = .ok (.getfield 295, 3) := dk_180 1 39 (dk_at dksX0_odds_4 0 rfl rfl)
theorem dX0_odds_96 : decode cX0_odds 96 = .ok (.iload_n 1, 1) := dk_27 (dk_at dksX0_odds_4 3 rfl rfl)
theorem dX0_odds_97 : decode cX0_odds 97 = .ok (.if_icmp .ne 7, 3) := dk_160 0 7 (dk_at dksX0_odds_4 4 rfl rfl)
theorem dX0_odds_100 : decode cX0_odds 100 = .ok (.iconst 1, 1) := dk_4 (dk_at dksX0_odds_4 7 rfl rfl)
theorem dX0_odds_101 : decode cX0_odds 101 = .ok (.goto 4, 3) := dk_167 0 4 (dk_at dksX0_odds_4 8 rfl rfl)
theorem dX0_odds_104 : decode cX0_odds 104 = .ok (.iconst 0, 1) := dk_3 (dk_at dksX0_odds_4 11 rfl rfl)
theorem dX0_odds_105 : decode cX0_odds 105 = .ok (.iadd, 1) := dk_96 (dk_at dksX0_odds_4 12 rfl rfl)
theorem dX0_odds_106 : decode cX0_odds 106 = .ok (.istore 4, 2) := dk_54 4 (dk_at dksX0_odds_4 13 rfl rfl)
theorem dX0_odds_108 : decode cX0_odds 108 = .ok (.goto (-41), 3) := dk_167 255 215 (dk_at dksX0_odds_4 15 rfl rfl)
theorem dX0_odds_111 : decode cX0_odds 111 = .ok (.iload_n 2, 1) := dk_28 (dk_at dksX0_odds_4 18 rfl rfl)
theorem dX0_odds_112 : decode cX0_odds 112 = .ok (.ifCond .ne 8, 3) := dk_154 0 8 (dk_at dksX0_odds_4 19 rfl rfl)
theorem dX0_odds_115 : decode cX0_odds 115 = .ok (.iload 4, 2) := dk_21 4 (dk_at dksX0_odds_4 22 rfl rfl)
theorem dX0_odds_117 : decode cX0_odds 117 = .ok (.goto 4, 3) := dk_167 0 4 (dk_at dksX0_odds_5 0 rfl rfl)
theorem dX0_odds_120 : decode cX0_odds 120 = .ok (.iload_n 3, 1) := dk_29 (dk_at dksX0_odds_5 3 rfl rfl)
theorem dX0_odds_121 : decode cX0_odds 121 = .ok (.i2l, 1) := dk_133 (dk_at dksX0_odds_5 4 rfl rfl)
theorem dX0_odds_122 : decode cX0_odds 122 = .ok (.iload_n 3, 1) := dk_29 (dk_at dksX0_odds_5 5 rfl rfl)
theorem dX0_odds_123 : decode cX0_odds 123 = .ok (.i2l, 1) := dk_133 (dk_at dksX0_odds_5 6 rfl rfl)
theorem dX0_odds_124 : decode cX0_odds 124 = .ok (.iload 4, 2) := dk_21 4 (dk_at dksX0_odds_5 7 rfl rfl)
theorem dX0_odds_126 : decode cX0_odds 126 = .ok (.i2l, 1) := dk_133 (dk_at dksX0_odds_5 9 rfl rfl)
theorem dX0_odds_127 : decode cX0_odds 127 = .ok (.invokestatic 359, 3) := dk_184 1 103 (dk_at dksX0_odds_5 10 rfl rfl)
theorem dX0_odds_130 : decode cX0_odds 130 = .ok (.ldiv, 1) := dk_109 (dk_at dksX0_odds_5 13 rfl rfl)
theorem dX0_odds_131 : decode cX0_odds 131 = .ok (.lreturn, 1) := dk_173 (dk_at dksX0_odds_5 14 rfl rfl)
abbrev cX0_greatestOf : ByteArray := prog_1_method_44_code
def yX0_greatestOf : MethodName := ⟨RX0, "greatestOf", "(JJ)J"⟩
def dkwX0_greatestOf_1 : List UInt8 := [22, 8, 55, 6, 167, 255, 234, 22, 4, 173]
abbrev dktX0_greatestOf_1 : List UInt8 := dkwX0_greatestOf_1 ++ []
def dkwX0_greatestOf_0 : List UInt8 := [30, 55, 4, 32, 55, 6, 22, 6, 9, 148, 153, 0, 21, 22, 4, 22, 6, 113, 55, 8, 22, 6, 55, 4]
abbrev dktX0_greatestOf_0 : List UInt8 := dkwX0_greatestOf_0 ++ dktX0_greatestOf_1
theorem dksX0_greatestOf_0 : cX0_greatestOf.data.toList.drop 0 = dktX0_greatestOf_0 := by decide +kernel
theorem dksX0_greatestOf_1 : cX0_greatestOf.data.toList.drop 24 = dktX0_greatestOf_1 := dk_seg dksX0_greatestOf_0 24 rfl rfl
theorem dX0_greatestOf_0 : decode cX0_greatestOf 0 = .ok (.lload_n 0, 1) := dk_30 (dk_at dksX0_greatestOf_0 0 rfl rfl)
theorem dX0_greatestOf_1 : decode cX0_greatestOf 1 = .ok (.lstore 4, 2) := dk_55 4 (dk_at dksX0_greatestOf_0 1 rfl rfl)
theorem dX0_greatestOf_3 : decode cX0_greatestOf 3 = .ok (.lload_n 2, 1) := dk_32 (dk_at dksX0_greatestOf_0 3 rfl rfl)
theorem dX0_greatestOf_4 : decode cX0_greatestOf 4 = .ok (.lstore 6, 2) := dk_55 6 (dk_at dksX0_greatestOf_0 4 rfl rfl)
theorem dX0_greatestOf_6 : decode cX0_greatestOf 6 = .ok (.lload 6, 2) := dk_22 6 (dk_at dksX0_greatestOf_0 6 rfl rfl)
theorem dX0_greatestOf_8 : decode cX0_greatestOf 8 = .ok (.lconst 0, 1) := dk_9 (dk_at dksX0_greatestOf_0 8 rfl rfl)
theorem dX0_greatestOf_9 : decode cX0_greatestOf 9 = .ok (.lcmp, 1) := dk_148 (dk_at dksX0_greatestOf_0 9 rfl rfl)
theorem dX0_greatestOf_10 : decode cX0_greatestOf 10 = .ok (.ifCond .eq 21, 3) := dk_153 0 21 (dk_at dksX0_greatestOf_0 10 rfl rfl)
theorem dX0_greatestOf_13 : decode cX0_greatestOf 13 = .ok (.lload 4, 2) := dk_22 4 (dk_at dksX0_greatestOf_0 13 rfl rfl)
theorem dX0_greatestOf_15 : decode cX0_greatestOf 15 = .ok (.lload 6, 2) := dk_22 6 (dk_at dksX0_greatestOf_0 15 rfl rfl)
theorem dX0_greatestOf_17 : decode cX0_greatestOf 17 = .ok (.lrem, 1) := dk_113 (dk_at dksX0_greatestOf_0 17 rfl rfl)
theorem dX0_greatestOf_18 : decode cX0_greatestOf 18 = .ok (.lstore 8, 2) := dk_55 8 (dk_at dksX0_greatestOf_0 18 rfl rfl)
theorem dX0_greatestOf_20 : decode cX0_greatestOf 20 = .ok (.lload 6, 2) := dk_22 6 (dk_at dksX0_greatestOf_0 20 rfl rfl)
theorem dX0_greatestOf_22 : decode cX0_greatestOf 22 = .ok (.lstore 4, 2) := dk_55 4 (dk_at dksX0_greatestOf_0 22 rfl rfl)
theorem dX0_greatestOf_24 : decode cX0_greatestOf 24 = .ok (.lload 8, 2) := dk_22 8 (dk_at dksX0_greatestOf_1 0 rfl rfl)
theorem dX0_greatestOf_26 : decode cX0_greatestOf 26 = .ok (.lstore 6, 2) := dk_55 6 (dk_at dksX0_greatestOf_1 2 rfl rfl)
theorem dX0_greatestOf_28 : decode cX0_greatestOf 28 = .ok (.goto (-22), 3) := dk_167 255 234 (dk_at dksX0_greatestOf_1 4 rfl rfl)
theorem dX0_greatestOf_31 : decode cX0_greatestOf 31 = .ok (.lload 4, 2) := dk_22 4 (dk_at dksX0_greatestOf_1 7 rfl rfl)
theorem dX0_greatestOf_33 : decode cX0_greatestOf 33 = .ok (.lreturn, 1) := dk_173 (dk_at dksX0_greatestOf_1 9 rfl rfl)
abbrev cX0_sheet : ByteArray := prog_1_method_55_code
def yX0_sheet : MethodName := ⟨RX0, "sheet", "(III)I"⟩
def dkwX0_sheet_3 : List UInt8 := [182, 1, 134, 172]
abbrev dktX0_sheet_3 : List UInt8 := dkwX0_sheet_3 ++ []
def dkwX0_sheet_2 : List UInt8 := [180, 0, 60, 27, 187, 0, 58, 89, 28, 29, 184, 1, 125, 183, 1, 129, 83, 4, 172, 58, 4, 42, 7]
abbrev dktX0_sheet_2 : List UInt8 := dkwX0_sheet_2 ++ dktX0_sheet_3
def dkwX0_sheet_1 : List UInt8 := [153, 0, 9, 29, 16, 60, 164, 0, 10, 42, 16, 254, 182, 1, 122, 172, 42, 3, 181, 1, 107, 42]
abbrev dktX0_sheet_1 : List UInt8 := dkwX0_sheet_1 ++ dktX0_sheet_2
def dkwX0_sheet_0 : List UInt8 := [27, 184, 1, 119, 153, 0, 9, 42, 2, 182, 1, 122, 172, 28, 133, 9, 20, 1, 1, 184, 0, 105]
abbrev dktX0_sheet_0 : List UInt8 := dkwX0_sheet_0 ++ dktX0_sheet_1
theorem dksX0_sheet_0 : cX0_sheet.data.toList.drop 0 = dktX0_sheet_0 := by decide +kernel
theorem dksX0_sheet_1 : cX0_sheet.data.toList.drop 22 = dktX0_sheet_1 := dk_seg dksX0_sheet_0 22 rfl rfl
theorem dksX0_sheet_2 : cX0_sheet.data.toList.drop 44 = dktX0_sheet_2 := dk_seg dksX0_sheet_1 22 rfl rfl
theorem dksX0_sheet_3 : cX0_sheet.data.toList.drop 67 = dktX0_sheet_3 := dk_seg dksX0_sheet_2 23 rfl rfl
theorem dX0_sheet_0 : decode cX0_sheet 0 = .ok (.iload_n 1, 1) := dk_27 (dk_at dksX0_sheet_0 0 rfl rfl)
theorem dX0_sheet_1 : decode cX0_sheet 1 = .ok (.invokestatic 375, 3) := dk_184 1 119 (dk_at dksX0_sheet_0 1 rfl rfl)
theorem dX0_sheet_4 : decode cX0_sheet 4 = .ok (.ifCond .eq 9, 3) := dk_153 0 9 (dk_at dksX0_sheet_0 4 rfl rfl)
theorem dX0_sheet_7 : decode cX0_sheet 7 = .ok (.aload_n 0, 1) := dk_42 (dk_at dksX0_sheet_0 7 rfl rfl)
theorem dX0_sheet_8 : decode cX0_sheet 8 = .ok (.iconst (-1), 1) := dk_2 (dk_at dksX0_sheet_0 8 rfl rfl)
theorem dX0_sheet_9 : decode cX0_sheet 9 = .ok (.invokevirtual 378, 3) := dk_182 1 122 (dk_at dksX0_sheet_0 9 rfl rfl)
theorem dX0_sheet_12 : decode cX0_sheet 12 = .ok (.ireturn, 1) := dk_172 (dk_at dksX0_sheet_0 12 rfl rfl)
theorem dX0_sheet_13 : decode cX0_sheet 13 = .ok (.iload_n 2, 1) := dk_28 (dk_at dksX0_sheet_0 13 rfl rfl)
theorem dX0_sheet_14 : decode cX0_sheet 14 = .ok (.i2l, 1) := dk_133 (dk_at dksX0_sheet_0 14 rfl rfl)
theorem dX0_sheet_15 : decode cX0_sheet 15 = .ok (.lconst 0, 1) := dk_9 (dk_at dksX0_sheet_0 15 rfl rfl)
theorem dX0_sheet_16 : decode cX0_sheet 16 = .ok (.ldc2_w 257, 3) := dk_20 1 1 (dk_at dksX0_sheet_0 16 rfl rfl)
theorem dX0_sheet_19 : decode cX0_sheet 19 = .ok (.invokestatic 105, 3) := dk_184 0 105 (dk_at dksX0_sheet_0 19 rfl rfl)
theorem dX0_sheet_22 : decode cX0_sheet 22 = .ok (.ifCond .eq 9, 3) := dk_153 0 9 (dk_at dksX0_sheet_1 0 rfl rfl)
theorem dX0_sheet_25 : decode cX0_sheet 25 = .ok (.iload_n 3, 1) := dk_29 (dk_at dksX0_sheet_1 3 rfl rfl)
theorem dX0_sheet_26 : decode cX0_sheet 26 = .ok (.bipush 60, 2) := dk_16 60 (dk_at dksX0_sheet_1 4 rfl rfl)
theorem dX0_sheet_28 : decode cX0_sheet 28 = .ok (.if_icmp .le 10, 3) := dk_164 0 10 (dk_at dksX0_sheet_1 6 rfl rfl)
theorem dX0_sheet_31 : decode cX0_sheet 31 = .ok (.aload_n 0, 1) := dk_42 (dk_at dksX0_sheet_1 9 rfl rfl)
theorem dX0_sheet_32 : decode cX0_sheet 32 = .ok (.bipush (-2), 2) := dk_16 254 (dk_at dksX0_sheet_1 10 rfl rfl)
theorem dX0_sheet_34 : decode cX0_sheet 34 = .ok (.invokevirtual 378, 3) := dk_182 1 122 (dk_at dksX0_sheet_1 12 rfl rfl)
theorem dX0_sheet_37 : decode cX0_sheet 37 = .ok (.ireturn, 1) := dk_172 (dk_at dksX0_sheet_1 15 rfl rfl)
theorem dX0_sheet_38 : decode cX0_sheet 38 = .ok (.aload_n 0, 1) := dk_42 (dk_at dksX0_sheet_1 16 rfl rfl)
theorem dX0_sheet_39 : decode cX0_sheet 39 = .ok (.iconst 0, 1) := dk_3 (dk_at dksX0_sheet_1 17 rfl rfl)
theorem dX0_sheet_40 : decode cX0_sheet 40 = .ok (.putfield 363, 3) := dk_181 1 107 (dk_at dksX0_sheet_1 18 rfl rfl)
theorem dX0_sheet_43 : decode cX0_sheet 43 = .ok (.aload_n 0, 1) := dk_42 (dk_at dksX0_sheet_1 21 rfl rfl)
theorem dX0_sheet_44 : decode cX0_sheet 44 = .ok (.getfield 60, 3) := dk_180 0 60 (dk_at dksX0_sheet_2 0 rfl rfl)
theorem dX0_sheet_47 : decode cX0_sheet 47 = .ok (.iload_n 1, 1) := dk_27 (dk_at dksX0_sheet_2 3 rfl rfl)
theorem dX0_sheet_48 : decode cX0_sheet 48 = .ok (.new 58, 3) := dk_187 0 58 (dk_at dksX0_sheet_2 4 rfl rfl)
theorem dX0_sheet_51 : decode cX0_sheet 51 = .ok (.dup, 1) := dk_89 (dk_at dksX0_sheet_2 7 rfl rfl)
theorem dX0_sheet_52 : decode cX0_sheet 52 = .ok (.iload_n 2, 1) := dk_28 (dk_at dksX0_sheet_2 8 rfl rfl)
theorem dX0_sheet_53 : decode cX0_sheet 53 = .ok (.iload_n 3, 1) := dk_29 (dk_at dksX0_sheet_2 9 rfl rfl)
theorem dX0_sheet_54 : decode cX0_sheet 54 = .ok (.invokestatic 381, 3) := dk_184 1 125 (dk_at dksX0_sheet_2 10 rfl rfl)
theorem dX0_sheet_57 : decode cX0_sheet 57 = .ok (.invokespecial 385, 3) := dk_183 1 129 (dk_at dksX0_sheet_2 13 rfl rfl)
theorem dX0_sheet_60 : decode cX0_sheet 60 = .ok (.aastore, 1) := dk_83 (dk_at dksX0_sheet_2 16 rfl rfl)
theorem dX0_sheet_61 : decode cX0_sheet 61 = .ok (.iconst 1, 1) := dk_4 (dk_at dksX0_sheet_2 17 rfl rfl)
theorem dX0_sheet_62 : decode cX0_sheet 62 = .ok (.ireturn, 1) := dk_172 (dk_at dksX0_sheet_2 18 rfl rfl)
theorem dX0_sheet_63 : decode cX0_sheet 63 = .ok (.astore 4, 2) := dk_58 4 (dk_at dksX0_sheet_2 19 rfl rfl)
theorem dX0_sheet_65 : decode cX0_sheet 65 = .ok (.aload_n 0, 1) := dk_42 (dk_at dksX0_sheet_2 21 rfl rfl)
theorem dX0_sheet_66 : decode cX0_sheet 66 = .ok (.iconst 4, 1) := dk_7 (dk_at dksX0_sheet_2 22 rfl rfl)
theorem dX0_sheet_67 : decode cX0_sheet 67 = .ok (.invokevirtual 390, 3) := dk_182 1 134 (dk_at dksX0_sheet_3 0 rfl rfl)
theorem dX0_sheet_70 : decode cX0_sheet 70 = .ok (.ireturn, 1) := dk_172 (dk_at dksX0_sheet_3 3 rfl rfl)
abbrev cX0_noSheet : ByteArray := prog_1_method_53_code
def yX0_noSheet : MethodName := ⟨RX0, "noSheet", "(I)Z"⟩
def dkwX0_noSheet_0 : List UInt8 := [26, 133, 9, 20, 0, 119, 184, 0, 105, 154, 0, 7, 4, 167, 0, 4, 3, 172]
abbrev dktX0_noSheet_0 : List UInt8 := dkwX0_noSheet_0 ++ []
theorem dksX0_noSheet_0 : cX0_noSheet.data.toList.drop 0 = dktX0_noSheet_0 := by decide +kernel
theorem dX0_noSheet_0 : decode cX0_noSheet 0 = .ok (.iload_n 0, 1) := dk_26 (dk_at dksX0_noSheet_0 0 rfl rfl)
theorem dX0_noSheet_1 : decode cX0_noSheet 1 = .ok (.i2l, 1) := dk_133 (dk_at dksX0_noSheet_0 1 rfl rfl)
theorem dX0_noSheet_2 : decode cX0_noSheet 2 = .ok (.lconst 0, 1) := dk_9 (dk_at dksX0_noSheet_0 2 rfl rfl)
theorem dX0_noSheet_3 : decode cX0_noSheet 3 = .ok (.ldc2_w 119, 3) := dk_20 0 119 (dk_at dksX0_noSheet_0 3 rfl rfl)
theorem dX0_noSheet_6 : decode cX0_noSheet 6 = .ok (.invokestatic 105, 3) := dk_184 0 105 (dk_at dksX0_noSheet_0 6 rfl rfl)
theorem dX0_noSheet_9 : decode cX0_noSheet 9 = .ok (.ifCond .ne 7, 3) := dk_154 0 7 (dk_at dksX0_noSheet_0 9 rfl rfl)
theorem dX0_noSheet_12 : decode cX0_noSheet 12 = .ok (.iconst 1, 1) := dk_4 (dk_at dksX0_noSheet_0 12 rfl rfl)
theorem dX0_noSheet_13 : decode cX0_noSheet 13 = .ok (.goto 4, 3) := dk_167 0 4 (dk_at dksX0_noSheet_0 13 rfl rfl)
theorem dX0_noSheet_16 : decode cX0_noSheet 16 = .ok (.iconst 0, 1) := dk_3 (dk_at dksX0_noSheet_0 16 rfl rfl)
theorem dX0_noSheet_17 : decode cX0_noSheet 17 = .ok (.ireturn, 1) := dk_172 (dk_at dksX0_noSheet_0 17 rfl rfl)
abbrev cX0_refused : ByteArray := prog_1_method_46_code
def yX0_refused : MethodName := ⟨RX0, "refused", "(I)I"⟩
def dkwX0_refused_0 : List UInt8 := [42, 3, 181, 1, 107, 27, 172]
abbrev dktX0_refused_0 : List UInt8 := dkwX0_refused_0 ++ []
theorem dksX0_refused_0 : cX0_refused.data.toList.drop 0 = dktX0_refused_0 := by decide +kernel
theorem dX0_refused_0 : decode cX0_refused 0 = .ok (.aload_n 0, 1) := dk_42 (dk_at dksX0_refused_0 0 rfl rfl)
theorem dX0_refused_1 : decode cX0_refused 1 = .ok (.iconst 0, 1) := dk_3 (dk_at dksX0_refused_0 1 rfl rfl)
theorem dX0_refused_2 : decode cX0_refused 2 = .ok (.putfield 363, 3) := dk_181 1 107 (dk_at dksX0_refused_0 2 rfl rfl)
theorem dX0_refused_5 : decode cX0_refused 5 = .ok (.iload_n 1, 1) := dk_27 (dk_at dksX0_refused_0 5 rfl rfl)
theorem dX0_refused_6 : decode cX0_refused 6 = .ok (.ireturn, 1) := dk_172 (dk_at dksX0_refused_0 6 rfl rfl)
abbrev cX0_rowOf : ByteArray := prog_1_method_49_code
def yX0_rowOf : MethodName := ⟨RX0, "rowOf", "(II)Ljava/lang/Object;"⟩
def dkwX0_rowOf_1 : List UInt8 := [176]
abbrev dktX0_rowOf_1 : List UInt8 := dkwX0_rowOf_1 ++ []
def dkwX0_rowOf_0 : List UInt8 := [26, 154, 0, 9, 27, 188, 8, 167, 0, 17, 26, 4, 160, 0, 9, 27, 188, 9, 167, 0, 6, 27, 188, 10]
abbrev dktX0_rowOf_0 : List UInt8 := dkwX0_rowOf_0 ++ dktX0_rowOf_1
theorem dksX0_rowOf_0 : cX0_rowOf.data.toList.drop 0 = dktX0_rowOf_0 := by decide +kernel
theorem dksX0_rowOf_1 : cX0_rowOf.data.toList.drop 24 = dktX0_rowOf_1 := dk_seg dksX0_rowOf_0 24 rfl rfl
theorem dX0_rowOf_0 : decode cX0_rowOf 0 = .ok (.iload_n 0, 1) := dk_26 (dk_at dksX0_rowOf_0 0 rfl rfl)
theorem dX0_rowOf_1 : decode cX0_rowOf 1 = .ok (.ifCond .ne 9, 3) := dk_154 0 9 (dk_at dksX0_rowOf_0 1 rfl rfl)
theorem dX0_rowOf_4 : decode cX0_rowOf 4 = .ok (.iload_n 1, 1) := dk_27 (dk_at dksX0_rowOf_0 4 rfl rfl)
theorem dX0_rowOf_5 : decode cX0_rowOf 5 = .ok (.newarray .byte, 2) := dk_188_8 (dk_at dksX0_rowOf_0 5 rfl rfl)
theorem dX0_rowOf_7 : decode cX0_rowOf 7 = .ok (.goto 17, 3) := dk_167 0 17 (dk_at dksX0_rowOf_0 7 rfl rfl)
theorem dX0_rowOf_10 : decode cX0_rowOf 10 = .ok (.iload_n 0, 1) := dk_26 (dk_at dksX0_rowOf_0 10 rfl rfl)
theorem dX0_rowOf_11 : decode cX0_rowOf 11 = .ok (.iconst 1, 1) := dk_4 (dk_at dksX0_rowOf_0 11 rfl rfl)
theorem dX0_rowOf_12 : decode cX0_rowOf 12 = .ok (.if_icmp .ne 9, 3) := dk_160 0 9 (dk_at dksX0_rowOf_0 12 rfl rfl)
theorem dX0_rowOf_15 : decode cX0_rowOf 15 = .ok (.iload_n 1, 1) := dk_27 (dk_at dksX0_rowOf_0 15 rfl rfl)
theorem dX0_rowOf_16 : decode cX0_rowOf 16 = .ok (.newarray .short, 2) := dk_188_9 (dk_at dksX0_rowOf_0 16 rfl rfl)
theorem dX0_rowOf_18 : decode cX0_rowOf 18 = .ok (.goto 6, 3) := dk_167 0 6 (dk_at dksX0_rowOf_0 18 rfl rfl)
theorem dX0_rowOf_21 : decode cX0_rowOf 21 = .ok (.iload_n 1, 1) := dk_27 (dk_at dksX0_rowOf_0 21 rfl rfl)
theorem dX0_rowOf_22 : decode cX0_rowOf 22 = .ok (.newarray .int, 2) := dk_188_10 (dk_at dksX0_rowOf_0 22 rfl rfl)
theorem dX0_rowOf_24 : decode cX0_rowOf 24 = .ok (.areturn, 1) := dk_176 (dk_at dksX0_rowOf_1 0 rfl rfl)
abbrev cX0_fails : ByteArray := prog_1_method_47_code
def yX0_fails : MethodName := ⟨RX0, "fails", "(I)I"⟩
def dkwX0_fails_0 : List UInt8 := [42, 27, 181, 1, 107, 16, 246, 27, 100, 172]
abbrev dktX0_fails_0 : List UInt8 := dkwX0_fails_0 ++ []
theorem dksX0_fails_0 : cX0_fails.data.toList.drop 0 = dktX0_fails_0 := by decide +kernel
theorem dX0_fails_0 : decode cX0_fails 0 = .ok (.aload_n 0, 1) := dk_42 (dk_at dksX0_fails_0 0 rfl rfl)
theorem dX0_fails_1 : decode cX0_fails 1 = .ok (.iload_n 1, 1) := dk_27 (dk_at dksX0_fails_0 1 rfl rfl)
theorem dX0_fails_2 : decode cX0_fails 2 = .ok (.putfield 363, 3) := dk_181 1 107 (dk_at dksX0_fails_0 2 rfl rfl)
theorem dX0_fails_5 : decode cX0_fails 5 = .ok (.bipush (-10), 2) := dk_16 246 (dk_at dksX0_fails_0 5 rfl rfl)
theorem dX0_fails_7 : decode cX0_fails 7 = .ok (.iload_n 1, 1) := dk_27 (dk_at dksX0_fails_0 7 rfl rfl)
theorem dX0_fails_8 : decode cX0_fails 8 = .ok (.isub, 1) := dk_100 (dk_at dksX0_fails_0 8 rfl rfl)
theorem dX0_fails_9 : decode cX0_fails 9 = .ok (.ireturn, 1) := dk_172 (dk_at dksX0_fails_0 9 rfl rfl)
abbrev cX0_lose : ByteArray := prog_1_method_56_code
def yX0_lose : MethodName := ⟨RX0, "lose", "(I)I"⟩
def dkwX0_lose_1 : List UInt8 := [42, 180, 0, 60, 27, 1, 83, 28, 172]
abbrev dktX0_lose_1 : List UInt8 := dkwX0_lose_1 ++ []
def dkwX0_lose_0 : List UInt8 := [27, 184, 1, 119, 153, 0, 5, 2, 172, 42, 180, 0, 60, 27, 50, 199, 0, 7, 3, 167, 0, 4, 4, 61]
abbrev dktX0_lose_0 : List UInt8 := dkwX0_lose_0 ++ dktX0_lose_1
theorem dksX0_lose_0 : cX0_lose.data.toList.drop 0 = dktX0_lose_0 := by decide +kernel
theorem dksX0_lose_1 : cX0_lose.data.toList.drop 24 = dktX0_lose_1 := dk_seg dksX0_lose_0 24 rfl rfl
theorem dX0_lose_0 : decode cX0_lose 0 = .ok (.iload_n 1, 1) := dk_27 (dk_at dksX0_lose_0 0 rfl rfl)
theorem dX0_lose_1 : decode cX0_lose 1 = .ok (.invokestatic 375, 3) := dk_184 1 119 (dk_at dksX0_lose_0 1 rfl rfl)
theorem dX0_lose_4 : decode cX0_lose 4 = .ok (.ifCond .eq 5, 3) := dk_153 0 5 (dk_at dksX0_lose_0 4 rfl rfl)
theorem dX0_lose_7 : decode cX0_lose 7 = .ok (.iconst (-1), 1) := dk_2 (dk_at dksX0_lose_0 7 rfl rfl)
theorem dX0_lose_8 : decode cX0_lose 8 = .ok (.ireturn, 1) := dk_172 (dk_at dksX0_lose_0 8 rfl rfl)
theorem dX0_lose_9 : decode cX0_lose 9 = .ok (.aload_n 0, 1) := dk_42 (dk_at dksX0_lose_0 9 rfl rfl)
theorem dX0_lose_10 : decode cX0_lose 10 = .ok (.getfield 60, 3) := dk_180 0 60 (dk_at dksX0_lose_0 10 rfl rfl)
theorem dX0_lose_13 : decode cX0_lose 13 = .ok (.iload_n 1, 1) := dk_27 (dk_at dksX0_lose_0 13 rfl rfl)
theorem dX0_lose_14 : decode cX0_lose 14 = .ok (.aaload, 1) := dk_50 (dk_at dksX0_lose_0 14 rfl rfl)
theorem dX0_lose_15 : decode cX0_lose 15 = .ok (.ifnonnull 7, 3) := dk_199 0 7 (dk_at dksX0_lose_0 15 rfl rfl)
theorem dX0_lose_18 : decode cX0_lose 18 = .ok (.iconst 0, 1) := dk_3 (dk_at dksX0_lose_0 18 rfl rfl)
theorem dX0_lose_19 : decode cX0_lose 19 = .ok (.goto 4, 3) := dk_167 0 4 (dk_at dksX0_lose_0 19 rfl rfl)
theorem dX0_lose_22 : decode cX0_lose 22 = .ok (.iconst 1, 1) := dk_4 (dk_at dksX0_lose_0 22 rfl rfl)
theorem dX0_lose_23 : decode cX0_lose 23 = .ok (.istore_n 2, 1) := dk_61 (dk_at dksX0_lose_0 23 rfl rfl)
theorem dX0_lose_24 : decode cX0_lose 24 = .ok (.aload_n 0, 1) := dk_42 (dk_at dksX0_lose_1 0 rfl rfl)
theorem dX0_lose_25 : decode cX0_lose 25 = .ok (.getfield 60, 3) := dk_180 0 60 (dk_at dksX0_lose_1 1 rfl rfl)
theorem dX0_lose_28 : decode cX0_lose 28 = .ok (.iload_n 1, 1) := dk_27 (dk_at dksX0_lose_1 4 rfl rfl)
theorem dX0_lose_29 : decode cX0_lose 29 = .ok (.aconst_null, 1) := dk_1 (dk_at dksX0_lose_1 5 rfl rfl)
theorem dX0_lose_30 : decode cX0_lose 30 = .ok (.aastore, 1) := dk_83 (dk_at dksX0_lose_1 6 rfl rfl)
theorem dX0_lose_31 : decode cX0_lose 31 = .ok (.iload_n 2, 1) := dk_28 (dk_at dksX0_lose_1 7 rfl rfl)
theorem dX0_lose_32 : decode cX0_lose 32 = .ok (.ireturn, 1) := dk_172 (dk_at dksX0_lose_1 8 rfl rfl)
abbrev cX0_put : ByteArray := prog_1_method_57_code
def yX0_put : MethodName := ⟨RX0, "put", "(III)I"⟩
def dkwX0_put_2 : List UInt8 := [182, 1, 134, 172]
abbrev dktX0_put_2 : List UInt8 := dkwX0_put_2 ++ []
def dkwX0_put_1 : List UInt8 := [180, 1, 115, 28, 29, 184, 1, 137, 4, 172, 58, 4, 42, 4, 182, 1, 134, 172, 58, 4, 42, 6]
abbrev dktX0_put_1 : List UInt8 := dkwX0_put_1 ++ dktX0_put_2
def dkwX0_put_0 : List UInt8 := [27, 184, 1, 119, 153, 0, 9, 42, 2, 182, 1, 122, 172, 42, 3, 181, 1, 107, 42, 180, 0, 60, 27, 50]
abbrev dktX0_put_0 : List UInt8 := dkwX0_put_0 ++ dktX0_put_1
theorem dksX0_put_0 : cX0_put.data.toList.drop 0 = dktX0_put_0 := by decide +kernel
theorem dksX0_put_1 : cX0_put.data.toList.drop 24 = dktX0_put_1 := dk_seg dksX0_put_0 24 rfl rfl
theorem dksX0_put_2 : cX0_put.data.toList.drop 46 = dktX0_put_2 := dk_seg dksX0_put_1 22 rfl rfl
theorem dX0_put_0 : decode cX0_put 0 = .ok (.iload_n 1, 1) := dk_27 (dk_at dksX0_put_0 0 rfl rfl)
theorem dX0_put_1 : decode cX0_put 1 = .ok (.invokestatic 375, 3) := dk_184 1 119 (dk_at dksX0_put_0 1 rfl rfl)
theorem dX0_put_4 : decode cX0_put 4 = .ok (.ifCond .eq 9, 3) := dk_153 0 9 (dk_at dksX0_put_0 4 rfl rfl)
theorem dX0_put_7 : decode cX0_put 7 = .ok (.aload_n 0, 1) := dk_42 (dk_at dksX0_put_0 7 rfl rfl)
theorem dX0_put_8 : decode cX0_put 8 = .ok (.iconst (-1), 1) := dk_2 (dk_at dksX0_put_0 8 rfl rfl)
theorem dX0_put_9 : decode cX0_put 9 = .ok (.invokevirtual 378, 3) := dk_182 1 122 (dk_at dksX0_put_0 9 rfl rfl)
theorem dX0_put_12 : decode cX0_put 12 = .ok (.ireturn, 1) := dk_172 (dk_at dksX0_put_0 12 rfl rfl)
theorem dX0_put_13 : decode cX0_put 13 = .ok (.aload_n 0, 1) := dk_42 (dk_at dksX0_put_0 13 rfl rfl)
theorem dX0_put_14 : decode cX0_put 14 = .ok (.iconst 0, 1) := dk_3 (dk_at dksX0_put_0 14 rfl rfl)
theorem dX0_put_15 : decode cX0_put 15 = .ok (.putfield 363, 3) := dk_181 1 107 (dk_at dksX0_put_0 15 rfl rfl)
theorem dX0_put_18 : decode cX0_put 18 = .ok (.aload_n 0, 1) := dk_42 (dk_at dksX0_put_0 18 rfl rfl)
theorem dX0_put_19 : decode cX0_put 19 = .ok (.getfield 60, 3) := dk_180 0 60 (dk_at dksX0_put_0 19 rfl rfl)
theorem dX0_put_22 : decode cX0_put 22 = .ok (.iload_n 1, 1) := dk_27 (dk_at dksX0_put_0 22 rfl rfl)
theorem dX0_put_23 : decode cX0_put 23 = .ok (.aaload, 1) := dk_50 (dk_at dksX0_put_0 23 rfl rfl)
theorem dX0_put_24 : decode cX0_put 24 = .ok (.getfield 371, 3) := dk_180 1 115 (dk_at dksX0_put_1 0 rfl rfl)
theorem dX0_put_27 : decode cX0_put 27 = .ok (.iload_n 2, 1) := dk_28 (dk_at dksX0_put_1 3 rfl rfl)
theorem dX0_put_28 : decode cX0_put 28 = .ok (.iload_n 3, 1) := dk_29 (dk_at dksX0_put_1 4 rfl rfl)
theorem dX0_put_29 : decode cX0_put 29 = .ok (.invokestatic 393, 3) := dk_184 1 137 (dk_at dksX0_put_1 5 rfl rfl)
theorem dX0_put_32 : decode cX0_put 32 = .ok (.iconst 1, 1) := dk_4 (dk_at dksX0_put_1 8 rfl rfl)
theorem dX0_put_33 : decode cX0_put 33 = .ok (.ireturn, 1) := dk_172 (dk_at dksX0_put_1 9 rfl rfl)
theorem dX0_put_34 : decode cX0_put 34 = .ok (.astore 4, 2) := dk_58 4 (dk_at dksX0_put_1 10 rfl rfl)
theorem dX0_put_36 : decode cX0_put 36 = .ok (.aload_n 0, 1) := dk_42 (dk_at dksX0_put_1 12 rfl rfl)
theorem dX0_put_37 : decode cX0_put 37 = .ok (.iconst 1, 1) := dk_4 (dk_at dksX0_put_1 13 rfl rfl)
theorem dX0_put_38 : decode cX0_put 38 = .ok (.invokevirtual 390, 3) := dk_182 1 134 (dk_at dksX0_put_1 14 rfl rfl)
theorem dX0_put_41 : decode cX0_put 41 = .ok (.ireturn, 1) := dk_172 (dk_at dksX0_put_1 17 rfl rfl)
theorem dX0_put_42 : decode cX0_put 42 = .ok (.astore 4, 2) := dk_58 4 (dk_at dksX0_put_1 18 rfl rfl)
theorem dX0_put_44 : decode cX0_put 44 = .ok (.aload_n 0, 1) := dk_42 (dk_at dksX0_put_1 20 rfl rfl)
theorem dX0_put_45 : decode cX0_put 45 = .ok (.iconst 3, 1) := dk_6 (dk_at dksX0_put_1 21 rfl rfl)
theorem dX0_put_46 : decode cX0_put 46 = .ok (.invokevirtual 390, 3) := dk_182 1 134 (dk_at dksX0_put_2 0 rfl rfl)
theorem dX0_put_49 : decode cX0_put 49 = .ok (.ireturn, 1) := dk_172 (dk_at dksX0_put_2 3 rfl rfl)
abbrev cX0_setIn : ByteArray := prog_1_method_52_code
def yX0_setIn : MethodName := ⟨RX0, "setIn", "(Ljava/lang/Object;II)V"⟩
def dkwX0_setIn_1 : List UInt8 := [153, 0, 14, 42, 192, 1, 112, 27, 28, 147, 86, 167, 0, 10, 42, 192, 1, 114, 27, 28, 79, 177]
abbrev dktX0_setIn_1 : List UInt8 := dkwX0_setIn_1 ++ []
def dkwX0_setIn_0 : List UInt8 := [42, 193, 1, 110, 153, 0, 14, 42, 192, 1, 110, 27, 28, 145, 84, 167, 0, 28, 42, 193, 1, 112]
abbrev dktX0_setIn_0 : List UInt8 := dkwX0_setIn_0 ++ dktX0_setIn_1
theorem dksX0_setIn_0 : cX0_setIn.data.toList.drop 0 = dktX0_setIn_0 := by decide +kernel
theorem dksX0_setIn_1 : cX0_setIn.data.toList.drop 22 = dktX0_setIn_1 := dk_seg dksX0_setIn_0 22 rfl rfl
theorem dX0_setIn_0 : decode cX0_setIn 0 = .ok (.aload_n 0, 1) := dk_42 (dk_at dksX0_setIn_0 0 rfl rfl)
theorem dX0_setIn_1 : decode cX0_setIn 1 = .ok (.instanceof 366, 3) := dk_193 1 110 (dk_at dksX0_setIn_0 1 rfl rfl)
theorem dX0_setIn_4 : decode cX0_setIn 4 = .ok (.ifCond .eq 14, 3) := dk_153 0 14 (dk_at dksX0_setIn_0 4 rfl rfl)
theorem dX0_setIn_7 : decode cX0_setIn 7 = .ok (.aload_n 0, 1) := dk_42 (dk_at dksX0_setIn_0 7 rfl rfl)
theorem dX0_setIn_8 : decode cX0_setIn 8 = .ok (.checkcast 366, 3) := dk_192 1 110 (dk_at dksX0_setIn_0 8 rfl rfl)
theorem dX0_setIn_11 : decode cX0_setIn 11 = .ok (.iload_n 1, 1) := dk_27 (dk_at dksX0_setIn_0 11 rfl rfl)
theorem dX0_setIn_12 : decode cX0_setIn 12 = .ok (.iload_n 2, 1) := dk_28 (dk_at dksX0_setIn_0 12 rfl rfl)
theorem dX0_setIn_13 : decode cX0_setIn 13 = .ok (.i2b, 1) := dk_145 (dk_at dksX0_setIn_0 13 rfl rfl)
theorem dX0_setIn_14 : decode cX0_setIn 14 = .ok (.bastore, 1) := dk_84 (dk_at dksX0_setIn_0 14 rfl rfl)
theorem dX0_setIn_15 : decode cX0_setIn 15 = .ok (.goto 28, 3) := dk_167 0 28 (dk_at dksX0_setIn_0 15 rfl rfl)
theorem dX0_setIn_18 : decode cX0_setIn 18 = .ok (.aload_n 0, 1) := dk_42 (dk_at dksX0_setIn_0 18 rfl rfl)
theorem dX0_setIn_19 : decode cX0_setIn 19 = .ok (.instanceof 368, 3) := dk_193 1 112 (dk_at dksX0_setIn_0 19 rfl rfl)
theorem dX0_setIn_22 : decode cX0_setIn 22 = .ok (.ifCond .eq 14, 3) := dk_153 0 14 (dk_at dksX0_setIn_1 0 rfl rfl)
theorem dX0_setIn_25 : decode cX0_setIn 25 = .ok (.aload_n 0, 1) := dk_42 (dk_at dksX0_setIn_1 3 rfl rfl)
theorem dX0_setIn_26 : decode cX0_setIn 26 = .ok (.checkcast 368, 3) := dk_192 1 112 (dk_at dksX0_setIn_1 4 rfl rfl)
theorem dX0_setIn_29 : decode cX0_setIn 29 = .ok (.iload_n 1, 1) := dk_27 (dk_at dksX0_setIn_1 7 rfl rfl)
theorem dX0_setIn_30 : decode cX0_setIn 30 = .ok (.iload_n 2, 1) := dk_28 (dk_at dksX0_setIn_1 8 rfl rfl)
theorem dX0_setIn_31 : decode cX0_setIn 31 = .ok (.i2s, 1) := dk_147 (dk_at dksX0_setIn_1 9 rfl rfl)
theorem dX0_setIn_32 : decode cX0_setIn 32 = .ok (.sastore, 1) := dk_86 (dk_at dksX0_setIn_1 10 rfl rfl)
theorem dX0_setIn_33 : decode cX0_setIn 33 = .ok (.goto 10, 3) := dk_167 0 10 (dk_at dksX0_setIn_1 11 rfl rfl)
theorem dX0_setIn_36 : decode cX0_setIn 36 = .ok (.aload_n 0, 1) := dk_42 (dk_at dksX0_setIn_1 14 rfl rfl)
theorem dX0_setIn_37 : decode cX0_setIn 37 = .ok (.checkcast 370, 3) := dk_192 1 114 (dk_at dksX0_setIn_1 15 rfl rfl)
theorem dX0_setIn_40 : decode cX0_setIn 40 = .ok (.iload_n 1, 1) := dk_27 (dk_at dksX0_setIn_1 18 rfl rfl)
theorem dX0_setIn_41 : decode cX0_setIn 41 = .ok (.iload_n 2, 1) := dk_28 (dk_at dksX0_setIn_1 19 rfl rfl)
theorem dX0_setIn_42 : decode cX0_setIn 42 = .ok (.iastore, 1) := dk_79 (dk_at dksX0_setIn_1 20 rfl rfl)
theorem dX0_setIn_43 : decode cX0_setIn 43 = .ok (.return_, 1) := dk_177 (dk_at dksX0_setIn_1 21 rfl rfl)
abbrev cX0_cell : ByteArray := prog_1_method_58_code
def yX0_cell : MethodName := ⟨RX0, "cell", "(III)J"⟩
def dkwX0_cell_2 : List UInt8 := [58, 4, 42, 5, 182, 1, 152, 173, 58, 4, 42, 6, 182, 1, 152, 173]
abbrev dktX0_cell_2 : List UInt8 := dkwX0_cell_2 ++ []
def dkwX0_cell_1 : List UInt8 := [20, 1, 101, 173, 42, 27, 182, 1, 145, 29, 28, 184, 1, 148, 133, 173, 58, 4, 42, 4, 182, 1, 152, 173]
abbrev dktX0_cell_1 : List UInt8 := dkwX0_cell_1 ++ dktX0_cell_2
def dkwX0_cell_0 : List UInt8 := [42, 3, 181, 1, 107, 27, 184, 1, 119, 154, 0, 15, 29, 133, 9, 20, 1, 1, 184, 0, 105, 154, 0, 7]
abbrev dktX0_cell_0 : List UInt8 := dkwX0_cell_0 ++ dktX0_cell_1
theorem dksX0_cell_0 : cX0_cell.data.toList.drop 0 = dktX0_cell_0 := by decide +kernel
theorem dksX0_cell_1 : cX0_cell.data.toList.drop 24 = dktX0_cell_1 := dk_seg dksX0_cell_0 24 rfl rfl
theorem dksX0_cell_2 : cX0_cell.data.toList.drop 48 = dktX0_cell_2 := dk_seg dksX0_cell_1 24 rfl rfl
theorem dX0_cell_0 : decode cX0_cell 0 = .ok (.aload_n 0, 1) := dk_42 (dk_at dksX0_cell_0 0 rfl rfl)
theorem dX0_cell_1 : decode cX0_cell 1 = .ok (.iconst 0, 1) := dk_3 (dk_at dksX0_cell_0 1 rfl rfl)
theorem dX0_cell_2 : decode cX0_cell 2 = .ok (.putfield 363, 3) := dk_181 1 107 (dk_at dksX0_cell_0 2 rfl rfl)
theorem dX0_cell_5 : decode cX0_cell 5 = .ok (.iload_n 1, 1) := dk_27 (dk_at dksX0_cell_0 5 rfl rfl)
theorem dX0_cell_6 : decode cX0_cell 6 = .ok (.invokestatic 375, 3) := dk_184 1 119 (dk_at dksX0_cell_0 6 rfl rfl)
theorem dX0_cell_9 : decode cX0_cell 9 = .ok (.ifCond .ne 15, 3) := dk_154 0 15 (dk_at dksX0_cell_0 9 rfl rfl)
theorem dX0_cell_12 : decode cX0_cell 12 = .ok (.iload_n 3, 1) := dk_29 (dk_at dksX0_cell_0 12 rfl rfl)
theorem dX0_cell_13 : decode cX0_cell 13 = .ok (.i2l, 1) := dk_133 (dk_at dksX0_cell_0 13 rfl rfl)
theorem dX0_cell_14 : decode cX0_cell 14 = .ok (.lconst 0, 1) := dk_9 (dk_at dksX0_cell_0 14 rfl rfl)
theorem dX0_cell_15 : decode cX0_cell 15 = .ok (.ldc2_w 257, 3) := dk_20 1 1 (dk_at dksX0_cell_0 15 rfl rfl)
theorem dX0_cell_18 : decode cX0_cell 18 = .ok (.invokestatic 105, 3) := dk_184 0 105 (dk_at dksX0_cell_0 18 rfl rfl)
theorem dX0_cell_21 : decode cX0_cell 21 = .ok (.ifCond .ne 7, 3) := dk_154 0 7 (dk_at dksX0_cell_0 21 rfl rfl)
theorem dX0_cell_24 : decode cX0_cell 24 = .ok (.ldc2_w 357, 3) := dk_20 1 101 (dk_at dksX0_cell_1 0 rfl rfl)
theorem dX0_cell_27 : decode cX0_cell 27 = .ok (.lreturn, 1) := dk_173 (dk_at dksX0_cell_1 3 rfl rfl)
theorem dX0_cell_28 : decode cX0_cell 28 = .ok (.aload_n 0, 1) := dk_42 (dk_at dksX0_cell_1 4 rfl rfl)
theorem dX0_cell_29 : decode cX0_cell 29 = .ok (.iload_n 1, 1) := dk_27 (dk_at dksX0_cell_1 5 rfl rfl)
theorem dX0_cell_30 : decode cX0_cell 30 = .ok (.invokevirtual 401, 3) := dk_182 1 145 (dk_at dksX0_cell_1 6 rfl rfl)
theorem dX0_cell_33 : decode cX0_cell 33 = .ok (.iload_n 3, 1) := dk_29 (dk_at dksX0_cell_1 9 rfl rfl)
theorem dX0_cell_34 : decode cX0_cell 34 = .ok (.iload_n 2, 1) := dk_28 (dk_at dksX0_cell_1 10 rfl rfl)
theorem dX0_cell_35 : decode cX0_cell 35 = .ok (.invokestatic 404, 3) := dk_184 1 148 (dk_at dksX0_cell_1 11 rfl rfl)
theorem dX0_cell_38 : decode cX0_cell 38 = .ok (.i2l, 1) := dk_133 (dk_at dksX0_cell_1 14 rfl rfl)
theorem dX0_cell_39 : decode cX0_cell 39 = .ok (.lreturn, 1) := dk_173 (dk_at dksX0_cell_1 15 rfl rfl)
theorem dX0_cell_40 : decode cX0_cell 40 = .ok (.astore 4, 2) := dk_58 4 (dk_at dksX0_cell_1 16 rfl rfl)
theorem dX0_cell_42 : decode cX0_cell 42 = .ok (.aload_n 0, 1) := dk_42 (dk_at dksX0_cell_1 18 rfl rfl)
theorem dX0_cell_43 : decode cX0_cell 43 = .ok (.iconst 1, 1) := dk_4 (dk_at dksX0_cell_1 19 rfl rfl)
theorem dX0_cell_44 : decode cX0_cell 44 = .ok (.invokevirtual 408, 3) := dk_182 1 152 (dk_at dksX0_cell_1 20 rfl rfl)
theorem dX0_cell_47 : decode cX0_cell 47 = .ok (.lreturn, 1) := dk_173 (dk_at dksX0_cell_1 23 rfl rfl)
theorem dX0_cell_48 : decode cX0_cell 48 = .ok (.astore 4, 2) := dk_58 4 (dk_at dksX0_cell_2 0 rfl rfl)
theorem dX0_cell_50 : decode cX0_cell 50 = .ok (.aload_n 0, 1) := dk_42 (dk_at dksX0_cell_2 2 rfl rfl)
theorem dX0_cell_51 : decode cX0_cell 51 = .ok (.iconst 2, 1) := dk_5 (dk_at dksX0_cell_2 3 rfl rfl)
theorem dX0_cell_52 : decode cX0_cell 52 = .ok (.invokevirtual 408, 3) := dk_182 1 152 (dk_at dksX0_cell_2 4 rfl rfl)
theorem dX0_cell_55 : decode cX0_cell 55 = .ok (.lreturn, 1) := dk_173 (dk_at dksX0_cell_2 7 rfl rfl)
theorem dX0_cell_56 : decode cX0_cell 56 = .ok (.astore 4, 2) := dk_58 4 (dk_at dksX0_cell_2 8 rfl rfl)
theorem dX0_cell_58 : decode cX0_cell 58 = .ok (.aload_n 0, 1) := dk_42 (dk_at dksX0_cell_2 10 rfl rfl)
theorem dX0_cell_59 : decode cX0_cell 59 = .ok (.iconst 3, 1) := dk_6 (dk_at dksX0_cell_2 11 rfl rfl)
theorem dX0_cell_60 : decode cX0_cell 60 = .ok (.invokevirtual 408, 3) := dk_182 1 152 (dk_at dksX0_cell_2 12 rfl rfl)
theorem dX0_cell_63 : decode cX0_cell 63 = .ok (.lreturn, 1) := dk_173 (dk_at dksX0_cell_2 15 rfl rfl)
abbrev cX0_rowIn : ByteArray := prog_1_method_54_code
def yX0_rowIn : MethodName := ⟨RX0, "rowIn", "(I)Ljava/lang/Object;"⟩
def dkwX0_rowIn_0 : List UInt8 := [42, 180, 0, 60, 27, 50, 199, 0, 7, 1, 167, 0, 12, 42, 180, 0, 60, 27, 50, 180, 1, 115, 176]
abbrev dktX0_rowIn_0 : List UInt8 := dkwX0_rowIn_0 ++ []
theorem dksX0_rowIn_0 : cX0_rowIn.data.toList.drop 0 = dktX0_rowIn_0 := by decide +kernel
theorem dX0_rowIn_0 : decode cX0_rowIn 0 = .ok (.aload_n 0, 1) := dk_42 (dk_at dksX0_rowIn_0 0 rfl rfl)
theorem dX0_rowIn_1 : decode cX0_rowIn 1 = .ok (.getfield 60, 3) := dk_180 0 60 (dk_at dksX0_rowIn_0 1 rfl rfl)
theorem dX0_rowIn_4 : decode cX0_rowIn 4 = .ok (.iload_n 1, 1) := dk_27 (dk_at dksX0_rowIn_0 4 rfl rfl)
theorem dX0_rowIn_5 : decode cX0_rowIn 5 = .ok (.aaload, 1) := dk_50 (dk_at dksX0_rowIn_0 5 rfl rfl)
theorem dX0_rowIn_6 : decode cX0_rowIn 6 = .ok (.ifnonnull 7, 3) := dk_199 0 7 (dk_at dksX0_rowIn_0 6 rfl rfl)
theorem dX0_rowIn_9 : decode cX0_rowIn 9 = .ok (.aconst_null, 1) := dk_1 (dk_at dksX0_rowIn_0 9 rfl rfl)
theorem dX0_rowIn_10 : decode cX0_rowIn 10 = .ok (.goto 12, 3) := dk_167 0 12 (dk_at dksX0_rowIn_0 10 rfl rfl)
theorem dX0_rowIn_13 : decode cX0_rowIn 13 = .ok (.aload_n 0, 1) := dk_42 (dk_at dksX0_rowIn_0 13 rfl rfl)
theorem dX0_rowIn_14 : decode cX0_rowIn 14 = .ok (.getfield 60, 3) := dk_180 0 60 (dk_at dksX0_rowIn_0 14 rfl rfl)
theorem dX0_rowIn_17 : decode cX0_rowIn 17 = .ok (.iload_n 1, 1) := dk_27 (dk_at dksX0_rowIn_0 17 rfl rfl)
theorem dX0_rowIn_18 : decode cX0_rowIn 18 = .ok (.aaload, 1) := dk_50 (dk_at dksX0_rowIn_0 18 rfl rfl)
theorem dX0_rowIn_19 : decode cX0_rowIn 19 = .ok (.getfield 371, 3) := dk_180 1 115 (dk_at dksX0_rowIn_0 19 rfl rfl)
theorem dX0_rowIn_22 : decode cX0_rowIn 22 = .ok (.areturn, 1) := dk_176 (dk_at dksX0_rowIn_0 22 rfl rfl)
abbrev cX0_cellOf : ByteArray := prog_1_method_50_code
def yX0_cellOf : MethodName := ⟨RX0, "cellOf", "(Ljava/lang/Object;II)I"⟩
def dkwX0_cellOf_1 : List UInt8 := [167, 0, 9, 42, 192, 1, 114, 28, 46, 172]
abbrev dktX0_cellOf_1 : List UInt8 := dkwX0_cellOf_1 ++ []
def dkwX0_cellOf_0 : List UInt8 := [27, 154, 0, 12, 42, 192, 1, 110, 28, 51, 167, 0, 23, 27, 4, 160, 0, 12, 42, 192, 1, 112, 28, 53]
abbrev dktX0_cellOf_0 : List UInt8 := dkwX0_cellOf_0 ++ dktX0_cellOf_1
theorem dksX0_cellOf_0 : cX0_cellOf.data.toList.drop 0 = dktX0_cellOf_0 := by decide +kernel
theorem dksX0_cellOf_1 : cX0_cellOf.data.toList.drop 24 = dktX0_cellOf_1 := dk_seg dksX0_cellOf_0 24 rfl rfl
theorem dX0_cellOf_0 : decode cX0_cellOf 0 = .ok (.iload_n 1, 1) := dk_27 (dk_at dksX0_cellOf_0 0 rfl rfl)
theorem dX0_cellOf_1 : decode cX0_cellOf 1 = .ok (.ifCond .ne 12, 3) := dk_154 0 12 (dk_at dksX0_cellOf_0 1 rfl rfl)
theorem dX0_cellOf_4 : decode cX0_cellOf 4 = .ok (.aload_n 0, 1) := dk_42 (dk_at dksX0_cellOf_0 4 rfl rfl)
theorem dX0_cellOf_5 : decode cX0_cellOf 5 = .ok (.checkcast 366, 3) := dk_192 1 110 (dk_at dksX0_cellOf_0 5 rfl rfl)
theorem dX0_cellOf_8 : decode cX0_cellOf 8 = .ok (.iload_n 2, 1) := dk_28 (dk_at dksX0_cellOf_0 8 rfl rfl)
theorem dX0_cellOf_9 : decode cX0_cellOf 9 = .ok (.baload, 1) := dk_51 (dk_at dksX0_cellOf_0 9 rfl rfl)
theorem dX0_cellOf_10 : decode cX0_cellOf 10 = .ok (.goto 23, 3) := dk_167 0 23 (dk_at dksX0_cellOf_0 10 rfl rfl)
theorem dX0_cellOf_13 : decode cX0_cellOf 13 = .ok (.iload_n 1, 1) := dk_27 (dk_at dksX0_cellOf_0 13 rfl rfl)
theorem dX0_cellOf_14 : decode cX0_cellOf 14 = .ok (.iconst 1, 1) := dk_4 (dk_at dksX0_cellOf_0 14 rfl rfl)
theorem dX0_cellOf_15 : decode cX0_cellOf 15 = .ok (.if_icmp .ne 12, 3) := dk_160 0 12 (dk_at dksX0_cellOf_0 15 rfl rfl)
theorem dX0_cellOf_18 : decode cX0_cellOf 18 = .ok (.aload_n 0, 1) := dk_42 (dk_at dksX0_cellOf_0 18 rfl rfl)
theorem dX0_cellOf_19 : decode cX0_cellOf 19 = .ok (.checkcast 368, 3) := dk_192 1 112 (dk_at dksX0_cellOf_0 19 rfl rfl)
theorem dX0_cellOf_22 : decode cX0_cellOf 22 = .ok (.iload_n 2, 1) := dk_28 (dk_at dksX0_cellOf_0 22 rfl rfl)
theorem dX0_cellOf_23 : decode cX0_cellOf 23 = .ok (.saload, 1) := dk_53 (dk_at dksX0_cellOf_0 23 rfl rfl)
theorem dX0_cellOf_24 : decode cX0_cellOf 24 = .ok (.goto 9, 3) := dk_167 0 9 (dk_at dksX0_cellOf_1 0 rfl rfl)
theorem dX0_cellOf_27 : decode cX0_cellOf 27 = .ok (.aload_n 0, 1) := dk_42 (dk_at dksX0_cellOf_1 3 rfl rfl)
theorem dX0_cellOf_28 : decode cX0_cellOf 28 = .ok (.checkcast 370, 3) := dk_192 1 114 (dk_at dksX0_cellOf_1 4 rfl rfl)
theorem dX0_cellOf_31 : decode cX0_cellOf 31 = .ok (.iload_n 2, 1) := dk_28 (dk_at dksX0_cellOf_1 7 rfl rfl)
theorem dX0_cellOf_32 : decode cX0_cellOf 32 = .ok (.iaload, 1) := dk_46 (dk_at dksX0_cellOf_1 8 rfl rfl)
theorem dX0_cellOf_33 : decode cX0_cellOf 33 = .ok (.ireturn, 1) := dk_172 (dk_at dksX0_cellOf_1 9 rfl rfl)
abbrev cX0_failsLong : ByteArray := prog_1_method_48_code
def yX0_failsLong : MethodName := ⟨RX0, "failsLong", "(I)J"⟩
def dkwX0_failsLong_0 : List UInt8 := [42, 27, 181, 1, 107, 20, 1, 101, 173]
abbrev dktX0_failsLong_0 : List UInt8 := dkwX0_failsLong_0 ++ []
theorem dksX0_failsLong_0 : cX0_failsLong.data.toList.drop 0 = dktX0_failsLong_0 := by decide +kernel
theorem dX0_failsLong_0 : decode cX0_failsLong 0 = .ok (.aload_n 0, 1) := dk_42 (dk_at dksX0_failsLong_0 0 rfl rfl)
theorem dX0_failsLong_1 : decode cX0_failsLong 1 = .ok (.iload_n 1, 1) := dk_27 (dk_at dksX0_failsLong_0 1 rfl rfl)
theorem dX0_failsLong_2 : decode cX0_failsLong 2 = .ok (.putfield 363, 3) := dk_181 1 107 (dk_at dksX0_failsLong_0 2 rfl rfl)
theorem dX0_failsLong_5 : decode cX0_failsLong 5 = .ok (.ldc2_w 357, 3) := dk_20 1 101 (dk_at dksX0_failsLong_0 5 rfl rfl)
theorem dX0_failsLong_8 : decode cX0_failsLong 8 = .ok (.lreturn, 1) := dk_173 (dk_at dksX0_failsLong_0 8 rfl rfl)
abbrev cX0_books : ByteArray := prog_1_method_62_code
def yX0_books : MethodName := ⟨RX0, "books", "(IIII)I"⟩
def dkwX0_books_1 : List UInt8 := [172]
abbrev dktX0_books_1 : List UInt8 := dkwX0_books_1 ++ []
def dkwX0_books_0 : List UInt8 := [42, 187, 1, 172, 89, 42, 27, 28, 29, 21, 4, 42, 186, 1, 182, 0, 0, 183, 1, 186, 4, 182, 1, 189]
abbrev dktX0_books_0 : List UInt8 := dkwX0_books_0 ++ dktX0_books_1
theorem dksX0_books_0 : cX0_books.data.toList.drop 0 = dktX0_books_0 := by decide +kernel
theorem dksX0_books_1 : cX0_books.data.toList.drop 24 = dktX0_books_1 := dk_seg dksX0_books_0 24 rfl rfl
theorem dX0_books_0 : decode cX0_books 0 = .ok (.aload_n 0, 1) := dk_42 (dk_at dksX0_books_0 0 rfl rfl)
theorem dX0_books_1 : decode cX0_books 1 = .ok (.new 428, 3) := dk_187 1 172 (dk_at dksX0_books_0 1 rfl rfl)
theorem dX0_books_4 : decode cX0_books 4 = .ok (.dup, 1) := dk_89 (dk_at dksX0_books_0 4 rfl rfl)
theorem dX0_books_5 : decode cX0_books 5 = .ok (.aload_n 0, 1) := dk_42 (dk_at dksX0_books_0 5 rfl rfl)
theorem dX0_books_6 : decode cX0_books 6 = .ok (.iload_n 1, 1) := dk_27 (dk_at dksX0_books_0 6 rfl rfl)
theorem dX0_books_7 : decode cX0_books 7 = .ok (.iload_n 2, 1) := dk_28 (dk_at dksX0_books_0 7 rfl rfl)
theorem dX0_books_8 : decode cX0_books 8 = .ok (.iload_n 3, 1) := dk_29 (dk_at dksX0_books_0 8 rfl rfl)
theorem dX0_books_9 : decode cX0_books 9 = .ok (.iload 4, 2) := dk_21 4 (dk_at dksX0_books_0 9 rfl rfl)
theorem dX0_books_11 : decode cX0_books 11 = .ok (.aload_n 0, 1) := dk_42 (dk_at dksX0_books_0 11 rfl rfl)
theorem dX0_books_12 : decode cX0_books 12 = .ok (.invokedynamic 438, 5) := by decide +kernel
theorem dX0_books_17 : decode cX0_books 17 = .ok (.invokespecial 442, 3) := dk_183 1 186 (dk_at dksX0_books_0 17 rfl rfl)
theorem dX0_books_20 : decode cX0_books 20 = .ok (.iconst 1, 1) := dk_4 (dk_at dksX0_books_0 20 rfl rfl)
theorem dX0_books_21 : decode cX0_books 21 = .ok (.invokevirtual 445, 3) := dk_182 1 189 (dk_at dksX0_books_0 21 rfl rfl)
theorem dX0_books_24 : decode cX0_books 24 = .ok (.ireturn, 1) := dk_172 (dk_at dksX0_books_1 0 rfl rfl)
abbrev cX0_newBooks : ByteArray := prog_1_method_14_code
def yX0_newBooks : MethodName := ⟨RX0, "newBooks", "([I)I"⟩
def dkwX0_newBooks_6 : List UInt8 := [185, 0, 101, 1, 0, 42, 180, 0, 109, 96, 172]
abbrev dktX0_newBooks_6 : List UInt8 := dkwX0_newBooks_6 ++ []
def dkwX0_newBooks_5 : List UInt8 := [4, 181, 0, 161, 42, 16, 7, 181, 0, 164, 42, 180, 0, 55, 185, 0, 145, 1, 0, 42, 180, 0, 26]
abbrev dktX0_newBooks_5 : List UInt8 := dkwX0_newBooks_5 ++ dktX0_newBooks_6
def dkwX0_newBooks_4 : List UInt8 := [184, 0, 152, 42, 180, 0, 40, 3, 42, 180, 0, 34, 3, 21, 4, 184, 0, 152, 42, 7, 181, 0, 158, 42]
abbrev dktX0_newBooks_4 : List UInt8 := dkwX0_newBooks_4 ++ dktX0_newBooks_5
def dkwX0_newBooks_3 : List UInt8 := [185, 0, 148, 2, 0, 87, 42, 21, 4, 181, 0, 109, 42, 180, 0, 37, 3, 42, 180, 0, 30, 3, 21, 4]
abbrev dktX0_newBooks_3 : List UInt8 := dkwX0_newBooks_3 ++ dktX0_newBooks_4
def dkwX0_newBooks_2 : List UInt8 := [156, 0, 6, 21, 4, 172, 42, 180, 0, 26, 185, 0, 145, 1, 0, 42, 180, 0, 26, 44]
abbrev dktX0_newBooks_2 : List UInt8 := dkwX0_newBooks_2 ++ dktX0_newBooks_3
def dkwX0_newBooks_1 : List UInt8 := [43, 4, 44, 182, 0, 138, 62, 29, 156, 0, 5, 29, 172, 42, 43, 29, 182, 0, 142, 54, 4, 21, 4]
abbrev dktX0_newBooks_1 : List UInt8 := dkwX0_newBooks_1 ++ dktX0_newBooks_2
def dkwX0_newBooks_0 : List UInt8 := [43, 3, 184, 0, 113, 16, 98, 159, 0, 6, 16, 156, 172, 187, 0, 23, 89, 16, 7, 183, 0, 135, 77, 42]
abbrev dktX0_newBooks_0 : List UInt8 := dkwX0_newBooks_0 ++ dktX0_newBooks_1
theorem dksX0_newBooks_0 : cX0_newBooks.data.toList.drop 0 = dktX0_newBooks_0 := by decide +kernel
theorem dksX0_newBooks_1 : cX0_newBooks.data.toList.drop 24 = dktX0_newBooks_1 := dk_seg dksX0_newBooks_0 24 rfl rfl
theorem dksX0_newBooks_2 : cX0_newBooks.data.toList.drop 47 = dktX0_newBooks_2 := dk_seg dksX0_newBooks_1 23 rfl rfl
theorem dksX0_newBooks_3 : cX0_newBooks.data.toList.drop 67 = dktX0_newBooks_3 := dk_seg dksX0_newBooks_2 20 rfl rfl
theorem dksX0_newBooks_4 : cX0_newBooks.data.toList.drop 91 = dktX0_newBooks_4 := dk_seg dksX0_newBooks_3 24 rfl rfl
theorem dksX0_newBooks_5 : cX0_newBooks.data.toList.drop 115 = dktX0_newBooks_5 := dk_seg dksX0_newBooks_4 24 rfl rfl
theorem dksX0_newBooks_6 : cX0_newBooks.data.toList.drop 138 = dktX0_newBooks_6 := dk_seg dksX0_newBooks_5 23 rfl rfl
theorem dX0_newBooks_0 : decode cX0_newBooks 0 = .ok (.aload_n 1, 1) := dk_43 (dk_at dksX0_newBooks_0 0 rfl rfl)
theorem dX0_newBooks_1 : decode cX0_newBooks 1 = .ok (.iconst 0, 1) := dk_3 (dk_at dksX0_newBooks_0 1 rfl rfl)
theorem dX0_newBooks_2 : decode cX0_newBooks 2 = .ok (.invokestatic 113, 3) := dk_184 0 113 (dk_at dksX0_newBooks_0 2 rfl rfl)
theorem dX0_newBooks_5 : decode cX0_newBooks 5 = .ok (.bipush 98, 2) := dk_16 98 (dk_at dksX0_newBooks_0 5 rfl rfl)
theorem dX0_newBooks_7 : decode cX0_newBooks 7 = .ok (.if_icmp .eq 6, 3) := dk_159 0 6 (dk_at dksX0_newBooks_0 7 rfl rfl)
theorem dX0_newBooks_10 : decode cX0_newBooks 10 = .ok (.bipush (-100), 2) := dk_16 156 (dk_at dksX0_newBooks_0 10 rfl rfl)
theorem dX0_newBooks_12 : decode cX0_newBooks 12 = .ok (.ireturn, 1) := dk_172 (dk_at dksX0_newBooks_0 12 rfl rfl)
theorem dX0_newBooks_13 : decode cX0_newBooks 13 = .ok (.new 23, 3) := dk_187 0 23 (dk_at dksX0_newBooks_0 13 rfl rfl)
theorem dX0_newBooks_16 : decode cX0_newBooks 16 = .ok (.dup, 1) := dk_89 (dk_at dksX0_newBooks_0 16 rfl rfl)
theorem dX0_newBooks_17 : decode cX0_newBooks 17 = .ok (.bipush 7, 2) := dk_16 7 (dk_at dksX0_newBooks_0 17 rfl rfl)
theorem dX0_newBooks_19 : decode cX0_newBooks 19 = .ok (.invokespecial 135, 3) := dk_183 0 135 (dk_at dksX0_newBooks_0 19 rfl rfl)
theorem dX0_newBooks_22 : decode cX0_newBooks 22 = .ok (.astore_n 2, 1) := dk_77 (dk_at dksX0_newBooks_0 22 rfl rfl)
theorem dX0_newBooks_23 : decode cX0_newBooks 23 = .ok (.aload_n 0, 1) := dk_42 (dk_at dksX0_newBooks_0 23 rfl rfl)
theorem dX0_newBooks_24 : decode cX0_newBooks 24 = .ok (.aload_n 1, 1) := dk_43 (dk_at dksX0_newBooks_1 0 rfl rfl)
theorem dX0_newBooks_25 : decode cX0_newBooks 25 = .ok (.iconst 1, 1) := dk_4 (dk_at dksX0_newBooks_1 1 rfl rfl)
theorem dX0_newBooks_26 : decode cX0_newBooks 26 = .ok (.aload_n 2, 1) := dk_44 (dk_at dksX0_newBooks_1 2 rfl rfl)
theorem dX0_newBooks_27 : decode cX0_newBooks 27 = .ok (.invokevirtual 138, 3) := dk_182 0 138 (dk_at dksX0_newBooks_1 3 rfl rfl)
theorem dX0_newBooks_30 : decode cX0_newBooks 30 = .ok (.istore_n 3, 1) := dk_62 (dk_at dksX0_newBooks_1 6 rfl rfl)
theorem dX0_newBooks_31 : decode cX0_newBooks 31 = .ok (.iload_n 3, 1) := dk_29 (dk_at dksX0_newBooks_1 7 rfl rfl)
theorem dX0_newBooks_32 : decode cX0_newBooks 32 = .ok (.ifCond .ge 5, 3) := dk_156 0 5 (dk_at dksX0_newBooks_1 8 rfl rfl)
theorem dX0_newBooks_35 : decode cX0_newBooks 35 = .ok (.iload_n 3, 1) := dk_29 (dk_at dksX0_newBooks_1 11 rfl rfl)
theorem dX0_newBooks_36 : decode cX0_newBooks 36 = .ok (.ireturn, 1) := dk_172 (dk_at dksX0_newBooks_1 12 rfl rfl)
theorem dX0_newBooks_37 : decode cX0_newBooks 37 = .ok (.aload_n 0, 1) := dk_42 (dk_at dksX0_newBooks_1 13 rfl rfl)
theorem dX0_newBooks_38 : decode cX0_newBooks 38 = .ok (.aload_n 1, 1) := dk_43 (dk_at dksX0_newBooks_1 14 rfl rfl)
theorem dX0_newBooks_39 : decode cX0_newBooks 39 = .ok (.iload_n 3, 1) := dk_29 (dk_at dksX0_newBooks_1 15 rfl rfl)
theorem dX0_newBooks_40 : decode cX0_newBooks 40 = .ok (.invokevirtual 142, 3) := dk_182 0 142 (dk_at dksX0_newBooks_1 16 rfl rfl)
theorem dX0_newBooks_43 : decode cX0_newBooks 43 = .ok (.istore 4, 2) := dk_54 4 (dk_at dksX0_newBooks_1 19 rfl rfl)
theorem dX0_newBooks_45 : decode cX0_newBooks 45 = .ok (.iload 4, 2) := dk_21 4 (dk_at dksX0_newBooks_1 21 rfl rfl)
theorem dX0_newBooks_47 : decode cX0_newBooks 47 = .ok (.ifCond .ge 6, 3) := dk_156 0 6 (dk_at dksX0_newBooks_2 0 rfl rfl)
theorem dX0_newBooks_50 : decode cX0_newBooks 50 = .ok (.iload 4, 2) := dk_21 4 (dk_at dksX0_newBooks_2 3 rfl rfl)
theorem dX0_newBooks_52 : decode cX0_newBooks 52 = .ok (.ireturn, 1) := dk_172 (dk_at dksX0_newBooks_2 5 rfl rfl)
theorem dX0_newBooks_53 : decode cX0_newBooks 53 = .ok (.aload_n 0, 1) := dk_42 (dk_at dksX0_newBooks_2 6 rfl rfl)
theorem dX0_newBooks_54 : decode cX0_newBooks 54 = .ok (.getfield 26, 3) := dk_180 0 26 (dk_at dksX0_newBooks_2 7 rfl rfl)
theorem dX0_newBooks_57 : decode cX0_newBooks 57 = .ok (.invokeinterface 145 1, 5) := by decide +kernel
theorem dX0_newBooks_62 : decode cX0_newBooks 62 = .ok (.aload_n 0, 1) := dk_42 (dk_at dksX0_newBooks_2 15 rfl rfl)
theorem dX0_newBooks_63 : decode cX0_newBooks 63 = .ok (.getfield 26, 3) := dk_180 0 26 (dk_at dksX0_newBooks_2 16 rfl rfl)
theorem dX0_newBooks_66 : decode cX0_newBooks 66 = .ok (.aload_n 2, 1) := dk_44 (dk_at dksX0_newBooks_2 19 rfl rfl)
theorem dX0_newBooks_67 : decode cX0_newBooks 67 = .ok (.invokeinterface 148 2, 5) := by decide +kernel
theorem dX0_newBooks_72 : decode cX0_newBooks 72 = .ok (.pop, 1) := dk_87 (dk_at dksX0_newBooks_3 5 rfl rfl)
theorem dX0_newBooks_73 : decode cX0_newBooks 73 = .ok (.aload_n 0, 1) := dk_42 (dk_at dksX0_newBooks_3 6 rfl rfl)
theorem dX0_newBooks_74 : decode cX0_newBooks 74 = .ok (.iload 4, 2) := dk_21 4 (dk_at dksX0_newBooks_3 7 rfl rfl)
theorem dX0_newBooks_76 : decode cX0_newBooks 76 = .ok (.putfield 109, 3) := dk_181 0 109 (dk_at dksX0_newBooks_3 9 rfl rfl)
theorem dX0_newBooks_79 : decode cX0_newBooks 79 = .ok (.aload_n 0, 1) := dk_42 (dk_at dksX0_newBooks_3 12 rfl rfl)
theorem dX0_newBooks_80 : decode cX0_newBooks 80 = .ok (.getfield 37, 3) := dk_180 0 37 (dk_at dksX0_newBooks_3 13 rfl rfl)
theorem dX0_newBooks_83 : decode cX0_newBooks 83 = .ok (.iconst 0, 1) := dk_3 (dk_at dksX0_newBooks_3 16 rfl rfl)
theorem dX0_newBooks_84 : decode cX0_newBooks 84 = .ok (.aload_n 0, 1) := dk_42 (dk_at dksX0_newBooks_3 17 rfl rfl)
theorem dX0_newBooks_85 : decode cX0_newBooks 85 = .ok (.getfield 30, 3) := dk_180 0 30 (dk_at dksX0_newBooks_3 18 rfl rfl)
theorem dX0_newBooks_88 : decode cX0_newBooks 88 = .ok (.iconst 0, 1) := dk_3 (dk_at dksX0_newBooks_3 21 rfl rfl)
theorem dX0_newBooks_89 : decode cX0_newBooks 89 = .ok (.iload 4, 2) := dk_21 4 (dk_at dksX0_newBooks_3 22 rfl rfl)
theorem dX0_newBooks_91 : decode cX0_newBooks 91 = .ok (.invokestatic 152, 3) := dk_184 0 152 (dk_at dksX0_newBooks_4 0 rfl rfl)
theorem dX0_newBooks_94 : decode cX0_newBooks 94 = .ok (.aload_n 0, 1) := dk_42 (dk_at dksX0_newBooks_4 3 rfl rfl)
theorem dX0_newBooks_95 : decode cX0_newBooks 95 = .ok (.getfield 40, 3) := dk_180 0 40 (dk_at dksX0_newBooks_4 4 rfl rfl)
theorem dX0_newBooks_98 : decode cX0_newBooks 98 = .ok (.iconst 0, 1) := dk_3 (dk_at dksX0_newBooks_4 7 rfl rfl)
theorem dX0_newBooks_99 : decode cX0_newBooks 99 = .ok (.aload_n 0, 1) := dk_42 (dk_at dksX0_newBooks_4 8 rfl rfl)
theorem dX0_newBooks_100 : decode cX0_newBooks 100 = .ok (.getfield 34, 3) := dk_180 0 34 (dk_at dksX0_newBooks_4 9 rfl rfl)
theorem dX0_newBooks_103 : decode cX0_newBooks 103 = .ok (.iconst 0, 1) := dk_3 (dk_at dksX0_newBooks_4 12 rfl rfl)
theorem dX0_newBooks_104 : decode cX0_newBooks 104 = .ok (.iload 4, 2) := dk_21 4 (dk_at dksX0_newBooks_4 13 rfl rfl)
theorem dX0_newBooks_106 : decode cX0_newBooks 106 = .ok (.invokestatic 152, 3) := dk_184 0 152 (dk_at dksX0_newBooks_4 15 rfl rfl)
theorem dX0_newBooks_109 : decode cX0_newBooks 109 = .ok (.aload_n 0, 1) := dk_42 (dk_at dksX0_newBooks_4 18 rfl rfl)
theorem dX0_newBooks_110 : decode cX0_newBooks 110 = .ok (.iconst 4, 1) := dk_7 (dk_at dksX0_newBooks_4 19 rfl rfl)
theorem dX0_newBooks_111 : decode cX0_newBooks 111 = .ok (.putfield 158, 3) := dk_181 0 158 (dk_at dksX0_newBooks_4 20 rfl rfl)
theorem dX0_newBooks_114 : decode cX0_newBooks 114 = .ok (.aload_n 0, 1) := dk_42 (dk_at dksX0_newBooks_4 23 rfl rfl)
theorem dX0_newBooks_115 : decode cX0_newBooks 115 = .ok (.iconst 1, 1) := dk_4 (dk_at dksX0_newBooks_5 0 rfl rfl)
theorem dX0_newBooks_116 : decode cX0_newBooks 116 = .ok (.putfield 161, 3) := dk_181 0 161 (dk_at dksX0_newBooks_5 1 rfl rfl)
theorem dX0_newBooks_119 : decode cX0_newBooks 119 = .ok (.aload_n 0, 1) := dk_42 (dk_at dksX0_newBooks_5 4 rfl rfl)
theorem dX0_newBooks_120 : decode cX0_newBooks 120 = .ok (.bipush 7, 2) := dk_16 7 (dk_at dksX0_newBooks_5 5 rfl rfl)
theorem dX0_newBooks_122 : decode cX0_newBooks 122 = .ok (.putfield 164, 3) := dk_181 0 164 (dk_at dksX0_newBooks_5 7 rfl rfl)
theorem dX0_newBooks_125 : decode cX0_newBooks 125 = .ok (.aload_n 0, 1) := dk_42 (dk_at dksX0_newBooks_5 10 rfl rfl)
theorem dX0_newBooks_126 : decode cX0_newBooks 126 = .ok (.getfield 55, 3) := dk_180 0 55 (dk_at dksX0_newBooks_5 11 rfl rfl)
theorem dX0_newBooks_129 : decode cX0_newBooks 129 = .ok (.invokeinterface 145 1, 5) := by decide +kernel
theorem dX0_newBooks_134 : decode cX0_newBooks 134 = .ok (.aload_n 0, 1) := dk_42 (dk_at dksX0_newBooks_5 19 rfl rfl)
theorem dX0_newBooks_135 : decode cX0_newBooks 135 = .ok (.getfield 26, 3) := dk_180 0 26 (dk_at dksX0_newBooks_5 20 rfl rfl)
theorem dX0_newBooks_138 : decode cX0_newBooks 138 = .ok (.invokeinterface 101 1, 5) := by decide +kernel
theorem dX0_newBooks_143 : decode cX0_newBooks 143 = .ok (.aload_n 0, 1) := dk_42 (dk_at dksX0_newBooks_6 5 rfl rfl)
theorem dX0_newBooks_144 : decode cX0_newBooks 144 = .ok (.getfield 109, 3) := dk_180 0 109 (dk_at dksX0_newBooks_6 6 rfl rfl)
theorem dX0_newBooks_147 : decode cX0_newBooks 147 = .ok (.iadd, 1) := dk_96 (dk_at dksX0_newBooks_6 9 rfl rfl)
theorem dX0_newBooks_148 : decode cX0_newBooks 148 = .ok (.ireturn, 1) := dk_172 (dk_at dksX0_newBooks_6 10 rfl rfl)
abbrev cX0_codeAt : ByteArray := prog_1_method_9_code
def yX0_codeAt : MethodName := ⟨RX0, "codeAt", "([II)I"⟩
def dkwX0_codeAt_0 : List UInt8 := [27, 42, 190, 162, 0, 9, 42, 27, 46, 167, 0, 5, 16, 247, 172]
abbrev dktX0_codeAt_0 : List UInt8 := dkwX0_codeAt_0 ++ []
theorem dksX0_codeAt_0 : cX0_codeAt.data.toList.drop 0 = dktX0_codeAt_0 := by decide +kernel
theorem dX0_codeAt_0 : decode cX0_codeAt 0 = .ok (.iload_n 1, 1) := dk_27 (dk_at dksX0_codeAt_0 0 rfl rfl)
theorem dX0_codeAt_1 : decode cX0_codeAt 1 = .ok (.aload_n 0, 1) := dk_42 (dk_at dksX0_codeAt_0 1 rfl rfl)
theorem dX0_codeAt_2 : decode cX0_codeAt 2 = .ok (.arraylength, 1) := dk_190 (dk_at dksX0_codeAt_0 2 rfl rfl)
theorem dX0_codeAt_3 : decode cX0_codeAt 3 = .ok (.if_icmp .ge 9, 3) := dk_162 0 9 (dk_at dksX0_codeAt_0 3 rfl rfl)
theorem dX0_codeAt_6 : decode cX0_codeAt 6 = .ok (.aload_n 0, 1) := dk_42 (dk_at dksX0_codeAt_0 6 rfl rfl)
theorem dX0_codeAt_7 : decode cX0_codeAt 7 = .ok (.iload_n 1, 1) := dk_27 (dk_at dksX0_codeAt_0 7 rfl rfl)
theorem dX0_codeAt_8 : decode cX0_codeAt 8 = .ok (.iaload, 1) := dk_46 (dk_at dksX0_codeAt_0 8 rfl rfl)
theorem dX0_codeAt_9 : decode cX0_codeAt 9 = .ok (.goto 5, 3) := dk_167 0 5 (dk_at dksX0_codeAt_0 9 rfl rfl)
theorem dX0_codeAt_12 : decode cX0_codeAt 12 = .ok (.bipush (-9), 2) := dk_16 247 (dk_at dksX0_codeAt_0 12 rfl rfl)
theorem dX0_codeAt_14 : decode cX0_codeAt 14 = .ok (.ireturn, 1) := dk_172 (dk_at dksX0_codeAt_0 14 rfl rfl)
abbrev cX0_leftIn : ByteArray := prog_1_method_12_code
def yX0_leftIn : MethodName := ⟨RX0, "leftIn", "([IILjava/util/List;)I"⟩
def dkwX0_leftIn_7 : List UInt8 := [185, 0, 131, 2, 0, 87, 132, 4, 4, 167, 255, 88, 21, 4, 172]
abbrev dktX0_leftIn_7 : List UInt8 := dkwX0_leftIn_7 ++ []
def dkwX0_leftIn_6 : List UInt8 := [54, 8, 21, 8, 156, 0, 9, 16, 153, 21, 4, 100, 172, 45, 42, 21, 6, 21, 7, 21, 8, 182, 0, 127]
abbrev dktX0_leftIn_6 : List UInt8 := dkwX0_leftIn_6 ++ dktX0_leftIn_7
def dkwX0_leftIn_5 : List UInt8 := [184, 0, 121, 54, 7, 21, 7, 156, 0, 9, 16, 154, 21, 4, 100, 172, 43, 21, 4, 6, 96, 184, 0, 124]
abbrev dktX0_leftIn_5 : List UInt8 := dkwX0_leftIn_5 ++ dktX0_leftIn_6
def dkwX0_leftIn_4 : List UInt8 := [167, 0, 5, 16, 247, 54, 6, 21, 6, 156, 0, 9, 16, 155, 21, 4, 100, 172, 43, 21, 4, 5, 96]
abbrev dktX0_leftIn_4 : List UInt8 := dkwX0_leftIn_4 ++ dktX0_leftIn_5
def dkwX0_leftIn_3 : List UInt8 := [167, 0, 27, 21, 5, 16, 76, 160, 0, 7, 4, 167, 0, 16, 21, 5, 16, 68, 160, 0, 7, 5]
abbrev dktX0_leftIn_3 : List UInt8 := dkwX0_leftIn_3 ++ dktX0_leftIn_4
def dkwX0_leftIn_2 : List UInt8 := [21, 4, 100, 172, 43, 21, 4, 4, 96, 184, 0, 113, 54, 5, 21, 5, 16, 80, 160, 0, 7, 3]
abbrev dktX0_leftIn_2 : List UInt8 := dkwX0_leftIn_2 ++ dktX0_leftIn_3
def dkwX0_leftIn_1 : List UInt8 := [185, 0, 101, 1, 0, 16, 7, 159, 0, 14, 43, 21, 4, 184, 0, 113, 16, 59, 159, 0, 9, 16, 156]
abbrev dktX0_leftIn_1 : List UInt8 := dkwX0_leftIn_1 ++ dktX0_leftIn_2
def dkwX0_leftIn_0 : List UInt8 := [28, 54, 4, 45, 185, 0, 95, 1, 0, 154, 0, 14, 43, 21, 4, 184, 0, 113, 16, 59, 160, 0, 154, 45]
abbrev dktX0_leftIn_0 : List UInt8 := dkwX0_leftIn_0 ++ dktX0_leftIn_1
theorem dksX0_leftIn_0 : cX0_leftIn.data.toList.drop 0 = dktX0_leftIn_0 := by decide +kernel
theorem dksX0_leftIn_1 : cX0_leftIn.data.toList.drop 24 = dktX0_leftIn_1 := dk_seg dksX0_leftIn_0 24 rfl rfl
theorem dksX0_leftIn_2 : cX0_leftIn.data.toList.drop 47 = dktX0_leftIn_2 := dk_seg dksX0_leftIn_1 23 rfl rfl
theorem dksX0_leftIn_3 : cX0_leftIn.data.toList.drop 69 = dktX0_leftIn_3 := dk_seg dksX0_leftIn_2 22 rfl rfl
theorem dksX0_leftIn_4 : cX0_leftIn.data.toList.drop 91 = dktX0_leftIn_4 := dk_seg dksX0_leftIn_3 22 rfl rfl
theorem dksX0_leftIn_5 : cX0_leftIn.data.toList.drop 114 = dktX0_leftIn_5 := dk_seg dksX0_leftIn_4 23 rfl rfl
theorem dksX0_leftIn_6 : cX0_leftIn.data.toList.drop 138 = dktX0_leftIn_6 := dk_seg dksX0_leftIn_5 24 rfl rfl
theorem dksX0_leftIn_7 : cX0_leftIn.data.toList.drop 162 = dktX0_leftIn_7 := dk_seg dksX0_leftIn_6 24 rfl rfl
theorem dX0_leftIn_0 : decode cX0_leftIn 0 = .ok (.iload_n 2, 1) := dk_28 (dk_at dksX0_leftIn_0 0 rfl rfl)
theorem dX0_leftIn_1 : decode cX0_leftIn 1 = .ok (.istore 4, 2) := dk_54 4 (dk_at dksX0_leftIn_0 1 rfl rfl)
theorem dX0_leftIn_3 : decode cX0_leftIn 3 = .ok (.aload_n 3, 1) := dk_45 (dk_at dksX0_leftIn_0 3 rfl rfl)
theorem dX0_leftIn_4 : decode cX0_leftIn 4 = .ok (.invokeinterface 95 1, 5) := by decide +kernel
theorem dX0_leftIn_9 : decode cX0_leftIn 9 = .ok (.ifCond .ne 14, 3) := dk_154 0 14 (dk_at dksX0_leftIn_0 9 rfl rfl)
theorem dX0_leftIn_12 : decode cX0_leftIn 12 = .ok (.aload_n 1, 1) := dk_43 (dk_at dksX0_leftIn_0 12 rfl rfl)
theorem dX0_leftIn_13 : decode cX0_leftIn 13 = .ok (.iload 4, 2) := dk_21 4 (dk_at dksX0_leftIn_0 13 rfl rfl)
theorem dX0_leftIn_15 : decode cX0_leftIn 15 = .ok (.invokestatic 113, 3) := dk_184 0 113 (dk_at dksX0_leftIn_0 15 rfl rfl)
theorem dX0_leftIn_18 : decode cX0_leftIn 18 = .ok (.bipush 59, 2) := dk_16 59 (dk_at dksX0_leftIn_0 18 rfl rfl)
theorem dX0_leftIn_20 : decode cX0_leftIn 20 = .ok (.if_icmp .ne 154, 3) := dk_160 0 154 (dk_at dksX0_leftIn_0 20 rfl rfl)
theorem dX0_leftIn_23 : decode cX0_leftIn 23 = .ok (.aload_n 3, 1) := dk_45 (dk_at dksX0_leftIn_0 23 rfl rfl)
theorem dX0_leftIn_24 : decode cX0_leftIn 24 = .ok (.invokeinterface 101 1, 5) := by decide +kernel
theorem dX0_leftIn_29 : decode cX0_leftIn 29 = .ok (.bipush 7, 2) := dk_16 7 (dk_at dksX0_leftIn_1 5 rfl rfl)
theorem dX0_leftIn_31 : decode cX0_leftIn 31 = .ok (.if_icmp .eq 14, 3) := dk_159 0 14 (dk_at dksX0_leftIn_1 7 rfl rfl)
theorem dX0_leftIn_34 : decode cX0_leftIn 34 = .ok (.aload_n 1, 1) := dk_43 (dk_at dksX0_leftIn_1 10 rfl rfl)
theorem dX0_leftIn_35 : decode cX0_leftIn 35 = .ok (.iload 4, 2) := dk_21 4 (dk_at dksX0_leftIn_1 11 rfl rfl)
theorem dX0_leftIn_37 : decode cX0_leftIn 37 = .ok (.invokestatic 113, 3) := dk_184 0 113 (dk_at dksX0_leftIn_1 13 rfl rfl)
theorem dX0_leftIn_40 : decode cX0_leftIn 40 = .ok (.bipush 59, 2) := dk_16 59 (dk_at dksX0_leftIn_1 16 rfl rfl)
theorem dX0_leftIn_42 : decode cX0_leftIn 42 = .ok (.if_icmp .eq 9, 3) := dk_159 0 9 (dk_at dksX0_leftIn_1 18 rfl rfl)
theorem dX0_leftIn_45 : decode cX0_leftIn 45 = .ok (.bipush (-100), 2) := dk_16 156 (dk_at dksX0_leftIn_1 21 rfl rfl)
theorem dX0_leftIn_47 : decode cX0_leftIn 47 = .ok (.iload 4, 2) := dk_21 4 (dk_at dksX0_leftIn_2 0 rfl rfl)
theorem dX0_leftIn_49 : decode cX0_leftIn 49 = .ok (.isub, 1) := dk_100 (dk_at dksX0_leftIn_2 2 rfl rfl)
theorem dX0_leftIn_50 : decode cX0_leftIn 50 = .ok (.ireturn, 1) := dk_172 (dk_at dksX0_leftIn_2 3 rfl rfl)
theorem dX0_leftIn_51 : decode cX0_leftIn 51 = .ok (.aload_n 1, 1) := dk_43 (dk_at dksX0_leftIn_2 4 rfl rfl)
theorem dX0_leftIn_52 : decode cX0_leftIn 52 = .ok (.iload 4, 2) := dk_21 4 (dk_at dksX0_leftIn_2 5 rfl rfl)
theorem dX0_leftIn_54 : decode cX0_leftIn 54 = .ok (.iconst 1, 1) := dk_4 (dk_at dksX0_leftIn_2 7 rfl rfl)
theorem dX0_leftIn_55 : decode cX0_leftIn 55 = .ok (.iadd, 1) := dk_96 (dk_at dksX0_leftIn_2 8 rfl rfl)
theorem dX0_leftIn_56 : decode cX0_leftIn 56 = .ok (.invokestatic 113, 3) := dk_184 0 113 (dk_at dksX0_leftIn_2 9 rfl rfl)
theorem dX0_leftIn_59 : decode cX0_leftIn 59 = .ok (.istore 5, 2) := dk_54 5 (dk_at dksX0_leftIn_2 12 rfl rfl)
theorem dX0_leftIn_61 : decode cX0_leftIn 61 = .ok (.iload 5, 2) := dk_21 5 (dk_at dksX0_leftIn_2 14 rfl rfl)
theorem dX0_leftIn_63 : decode cX0_leftIn 63 = .ok (.bipush 80, 2) := dk_16 80 (dk_at dksX0_leftIn_2 16 rfl rfl)
theorem dX0_leftIn_65 : decode cX0_leftIn 65 = .ok (.if_icmp .ne 7, 3) := dk_160 0 7 (dk_at dksX0_leftIn_2 18 rfl rfl)
theorem dX0_leftIn_68 : decode cX0_leftIn 68 = .ok (.iconst 0, 1) := dk_3 (dk_at dksX0_leftIn_2 21 rfl rfl)
theorem dX0_leftIn_69 : decode cX0_leftIn 69 = .ok (.goto 27, 3) := dk_167 0 27 (dk_at dksX0_leftIn_3 0 rfl rfl)
theorem dX0_leftIn_72 : decode cX0_leftIn 72 = .ok (.iload 5, 2) := dk_21 5 (dk_at dksX0_leftIn_3 3 rfl rfl)
theorem dX0_leftIn_74 : decode cX0_leftIn 74 = .ok (.bipush 76, 2) := dk_16 76 (dk_at dksX0_leftIn_3 5 rfl rfl)
theorem dX0_leftIn_76 : decode cX0_leftIn 76 = .ok (.if_icmp .ne 7, 3) := dk_160 0 7 (dk_at dksX0_leftIn_3 7 rfl rfl)
theorem dX0_leftIn_79 : decode cX0_leftIn 79 = .ok (.iconst 1, 1) := dk_4 (dk_at dksX0_leftIn_3 10 rfl rfl)
theorem dX0_leftIn_80 : decode cX0_leftIn 80 = .ok (.goto 16, 3) := dk_167 0 16 (dk_at dksX0_leftIn_3 11 rfl rfl)
theorem dX0_leftIn_83 : decode cX0_leftIn 83 = .ok (.iload 5, 2) := dk_21 5 (dk_at dksX0_leftIn_3 14 rfl rfl)
theorem dX0_leftIn_85 : decode cX0_leftIn 85 = .ok (.bipush 68, 2) := dk_16 68 (dk_at dksX0_leftIn_3 16 rfl rfl)
theorem dX0_leftIn_87 : decode cX0_leftIn 87 = .ok (.if_icmp .ne 7, 3) := dk_160 0 7 (dk_at dksX0_leftIn_3 18 rfl rfl)
theorem dX0_leftIn_90 : decode cX0_leftIn 90 = .ok (.iconst 2, 1) := dk_5 (dk_at dksX0_leftIn_3 21 rfl rfl)
theorem dX0_leftIn_91 : decode cX0_leftIn 91 = .ok (.goto 5, 3) := dk_167 0 5 (dk_at dksX0_leftIn_4 0 rfl rfl)
theorem dX0_leftIn_94 : decode cX0_leftIn 94 = .ok (.bipush (-9), 2) := dk_16 247 (dk_at dksX0_leftIn_4 3 rfl rfl)
theorem dX0_leftIn_96 : decode cX0_leftIn 96 = .ok (.istore 6, 2) := dk_54 6 (dk_at dksX0_leftIn_4 5 rfl rfl)
theorem dX0_leftIn_98 : decode cX0_leftIn 98 = .ok (.iload 6, 2) := dk_21 6 (dk_at dksX0_leftIn_4 7 rfl rfl)
theorem dX0_leftIn_100 : decode cX0_leftIn 100 = .ok (.ifCond .ge 9, 3) := dk_156 0 9 (dk_at dksX0_leftIn_4 9 rfl rfl)
theorem dX0_leftIn_103 : decode cX0_leftIn 103 = .ok (.bipush (-101), 2) := dk_16 155 (dk_at dksX0_leftIn_4 12 rfl rfl)
theorem dX0_leftIn_105 : decode cX0_leftIn 105 = .ok (.iload 4, 2) := dk_21 4 (dk_at dksX0_leftIn_4 14 rfl rfl)
theorem dX0_leftIn_107 : decode cX0_leftIn 107 = .ok (.isub, 1) := dk_100 (dk_at dksX0_leftIn_4 16 rfl rfl)
theorem dX0_leftIn_108 : decode cX0_leftIn 108 = .ok (.ireturn, 1) := dk_172 (dk_at dksX0_leftIn_4 17 rfl rfl)
theorem dX0_leftIn_109 : decode cX0_leftIn 109 = .ok (.aload_n 1, 1) := dk_43 (dk_at dksX0_leftIn_4 18 rfl rfl)
theorem dX0_leftIn_110 : decode cX0_leftIn 110 = .ok (.iload 4, 2) := dk_21 4 (dk_at dksX0_leftIn_4 19 rfl rfl)
theorem dX0_leftIn_112 : decode cX0_leftIn 112 = .ok (.iconst 2, 1) := dk_5 (dk_at dksX0_leftIn_4 21 rfl rfl)
theorem dX0_leftIn_113 : decode cX0_leftIn 113 = .ok (.iadd, 1) := dk_96 (dk_at dksX0_leftIn_4 22 rfl rfl)
theorem dX0_leftIn_114 : decode cX0_leftIn 114 = .ok (.invokestatic 121, 3) := dk_184 0 121 (dk_at dksX0_leftIn_5 0 rfl rfl)
theorem dX0_leftIn_117 : decode cX0_leftIn 117 = .ok (.istore 7, 2) := dk_54 7 (dk_at dksX0_leftIn_5 3 rfl rfl)
theorem dX0_leftIn_119 : decode cX0_leftIn 119 = .ok (.iload 7, 2) := dk_21 7 (dk_at dksX0_leftIn_5 5 rfl rfl)
theorem dX0_leftIn_121 : decode cX0_leftIn 121 = .ok (.ifCond .ge 9, 3) := dk_156 0 9 (dk_at dksX0_leftIn_5 7 rfl rfl)
theorem dX0_leftIn_124 : decode cX0_leftIn 124 = .ok (.bipush (-102), 2) := dk_16 154 (dk_at dksX0_leftIn_5 10 rfl rfl)
theorem dX0_leftIn_126 : decode cX0_leftIn 126 = .ok (.iload 4, 2) := dk_21 4 (dk_at dksX0_leftIn_5 12 rfl rfl)
theorem dX0_leftIn_128 : decode cX0_leftIn 128 = .ok (.isub, 1) := dk_100 (dk_at dksX0_leftIn_5 14 rfl rfl)
theorem dX0_leftIn_129 : decode cX0_leftIn 129 = .ok (.ireturn, 1) := dk_172 (dk_at dksX0_leftIn_5 15 rfl rfl)
theorem dX0_leftIn_130 : decode cX0_leftIn 130 = .ok (.aload_n 1, 1) := dk_43 (dk_at dksX0_leftIn_5 16 rfl rfl)
theorem dX0_leftIn_131 : decode cX0_leftIn 131 = .ok (.iload 4, 2) := dk_21 4 (dk_at dksX0_leftIn_5 17 rfl rfl)
theorem dX0_leftIn_133 : decode cX0_leftIn 133 = .ok (.iconst 3, 1) := dk_6 (dk_at dksX0_leftIn_5 19 rfl rfl)
theorem dX0_leftIn_134 : decode cX0_leftIn 134 = .ok (.iadd, 1) := dk_96 (dk_at dksX0_leftIn_5 20 rfl rfl)
theorem dX0_leftIn_135 : decode cX0_leftIn 135 = .ok (.invokestatic 124, 3) := dk_184 0 124 (dk_at dksX0_leftIn_5 21 rfl rfl)
theorem dX0_leftIn_138 : decode cX0_leftIn 138 = .ok (.istore 8, 2) := dk_54 8 (dk_at dksX0_leftIn_6 0 rfl rfl)
theorem dX0_leftIn_140 : decode cX0_leftIn 140 = .ok (.iload 8, 2) := dk_21 8 (dk_at dksX0_leftIn_6 2 rfl rfl)
theorem dX0_leftIn_142 : decode cX0_leftIn 142 = .ok (.ifCond .ge 9, 3) := dk_156 0 9 (dk_at dksX0_leftIn_6 4 rfl rfl)
theorem dX0_leftIn_145 : decode cX0_leftIn 145 = .ok (.bipush (-103), 2) := dk_16 153 (dk_at dksX0_leftIn_6 7 rfl rfl)
theorem dX0_leftIn_147 : decode cX0_leftIn 147 = .ok (.iload 4, 2) := dk_21 4 (dk_at dksX0_leftIn_6 9 rfl rfl)
theorem dX0_leftIn_149 : decode cX0_leftIn 149 = .ok (.isub, 1) := dk_100 (dk_at dksX0_leftIn_6 11 rfl rfl)
theorem dX0_leftIn_150 : decode cX0_leftIn 150 = .ok (.ireturn, 1) := dk_172 (dk_at dksX0_leftIn_6 12 rfl rfl)
theorem dX0_leftIn_151 : decode cX0_leftIn 151 = .ok (.aload_n 3, 1) := dk_45 (dk_at dksX0_leftIn_6 13 rfl rfl)
theorem dX0_leftIn_152 : decode cX0_leftIn 152 = .ok (.aload_n 0, 1) := dk_42 (dk_at dksX0_leftIn_6 14 rfl rfl)
theorem dX0_leftIn_153 : decode cX0_leftIn 153 = .ok (.iload 6, 2) := dk_21 6 (dk_at dksX0_leftIn_6 15 rfl rfl)
theorem dX0_leftIn_155 : decode cX0_leftIn 155 = .ok (.iload 7, 2) := dk_21 7 (dk_at dksX0_leftIn_6 17 rfl rfl)
theorem dX0_leftIn_157 : decode cX0_leftIn 157 = .ok (.iload 8, 2) := dk_21 8 (dk_at dksX0_leftIn_6 19 rfl rfl)
theorem dX0_leftIn_159 : decode cX0_leftIn 159 = .ok (.invokevirtual 127, 3) := dk_182 0 127 (dk_at dksX0_leftIn_6 21 rfl rfl)
theorem dX0_leftIn_162 : decode cX0_leftIn 162 = .ok (.invokeinterface 131 2, 5) := by decide +kernel
theorem dX0_leftIn_167 : decode cX0_leftIn 167 = .ok (.pop, 1) := dk_87 (dk_at dksX0_leftIn_7 5 rfl rfl)
theorem dX0_leftIn_168 : decode cX0_leftIn 168 = .ok (.iinc 4 4, 3) := dk_132 4 4 (dk_at dksX0_leftIn_7 6 rfl rfl)
theorem dX0_leftIn_171 : decode cX0_leftIn 171 = .ok (.goto (-168), 3) := dk_167 255 88 (dk_at dksX0_leftIn_7 9 rfl rfl)
theorem dX0_leftIn_174 : decode cX0_leftIn 174 = .ok (.iload 4, 2) := dk_21 4 (dk_at dksX0_leftIn_7 12 rfl rfl)
theorem dX0_leftIn_176 : decode cX0_leftIn 176 = .ok (.ireturn, 1) := dk_172 (dk_at dksX0_leftIn_7 14 rfl rfl)
abbrev cX0_lettersAt : ByteArray := prog_1_method_10_code
def yX0_lettersAt : MethodName := ⟨RX0, "lettersAt", "([II)I"⟩
def dkwX0_lettersAt_1 : List UInt8 := [167, 0, 5, 16, 247, 172]
abbrev dktX0_lettersAt_1 : List UInt8 := dkwX0_lettersAt_1 ++ []
def dkwX0_lettersAt_0 : List UInt8 := [42, 27, 184, 0, 113, 16, 48, 100, 61, 28, 133, 10, 20, 0, 117, 184, 0, 105, 153, 0, 7, 28]
abbrev dktX0_lettersAt_0 : List UInt8 := dkwX0_lettersAt_0 ++ dktX0_lettersAt_1
theorem dksX0_lettersAt_0 : cX0_lettersAt.data.toList.drop 0 = dktX0_lettersAt_0 := by decide +kernel
theorem dksX0_lettersAt_1 : cX0_lettersAt.data.toList.drop 22 = dktX0_lettersAt_1 := dk_seg dksX0_lettersAt_0 22 rfl rfl
theorem dX0_lettersAt_0 : decode cX0_lettersAt 0 = .ok (.aload_n 0, 1) := dk_42 (dk_at dksX0_lettersAt_0 0 rfl rfl)
theorem dX0_lettersAt_1 : decode cX0_lettersAt 1 = .ok (.iload_n 1, 1) := dk_27 (dk_at dksX0_lettersAt_0 1 rfl rfl)
theorem dX0_lettersAt_2 : decode cX0_lettersAt 2 = .ok (.invokestatic 113, 3) := dk_184 0 113 (dk_at dksX0_lettersAt_0 2 rfl rfl)
theorem dX0_lettersAt_5 : decode cX0_lettersAt 5 = .ok (.bipush 48, 2) := dk_16 48 (dk_at dksX0_lettersAt_0 5 rfl rfl)
theorem dX0_lettersAt_7 : decode cX0_lettersAt 7 = .ok (.isub, 1) := dk_100 (dk_at dksX0_lettersAt_0 7 rfl rfl)
theorem dX0_lettersAt_8 : decode cX0_lettersAt 8 = .ok (.istore_n 2, 1) := dk_61 (dk_at dksX0_lettersAt_0 8 rfl rfl)
theorem dX0_lettersAt_9 : decode cX0_lettersAt 9 = .ok (.iload_n 2, 1) := dk_28 (dk_at dksX0_lettersAt_0 9 rfl rfl)
theorem dX0_lettersAt_10 : decode cX0_lettersAt 10 = .ok (.i2l, 1) := dk_133 (dk_at dksX0_lettersAt_0 10 rfl rfl)
theorem dX0_lettersAt_11 : decode cX0_lettersAt 11 = .ok (.lconst 1, 1) := dk_10 (dk_at dksX0_lettersAt_0 11 rfl rfl)
theorem dX0_lettersAt_12 : decode cX0_lettersAt 12 = .ok (.ldc2_w 117, 3) := dk_20 0 117 (dk_at dksX0_lettersAt_0 12 rfl rfl)
theorem dX0_lettersAt_15 : decode cX0_lettersAt 15 = .ok (.invokestatic 105, 3) := dk_184 0 105 (dk_at dksX0_lettersAt_0 15 rfl rfl)
theorem dX0_lettersAt_18 : decode cX0_lettersAt 18 = .ok (.ifCond .eq 7, 3) := dk_153 0 7 (dk_at dksX0_lettersAt_0 18 rfl rfl)
theorem dX0_lettersAt_21 : decode cX0_lettersAt 21 = .ok (.iload_n 2, 1) := dk_28 (dk_at dksX0_lettersAt_0 21 rfl rfl)
theorem dX0_lettersAt_22 : decode cX0_lettersAt 22 = .ok (.goto 5, 3) := dk_167 0 5 (dk_at dksX0_lettersAt_1 0 rfl rfl)
theorem dX0_lettersAt_25 : decode cX0_lettersAt 25 = .ok (.bipush (-9), 2) := dk_16 247 (dk_at dksX0_lettersAt_1 3 rfl rfl)
theorem dX0_lettersAt_27 : decode cX0_lettersAt 27 = .ok (.ireturn, 1) := dk_172 (dk_at dksX0_lettersAt_1 5 rfl rfl)
abbrev cX0_anchorAt : ByteArray := prog_1_method_11_code
def yX0_anchorAt : MethodName := ⟨RX0, "anchorAt", "([II)I"⟩
def dkwX0_anchorAt_1 : List UInt8 := [20, 0, 119, 184, 0, 105, 153, 0, 10, 28, 16, 97, 100, 167, 0, 5, 16, 247, 172]
abbrev dktX0_anchorAt_1 : List UInt8 := dkwX0_anchorAt_1 ++ []
def dkwX0_anchorAt_0 : List UInt8 := [42, 27, 184, 0, 113, 61, 28, 16, 45, 160, 0, 7, 7, 167, 0, 27, 28, 16, 97, 100, 133, 9]
abbrev dktX0_anchorAt_0 : List UInt8 := dkwX0_anchorAt_0 ++ dktX0_anchorAt_1
theorem dksX0_anchorAt_0 : cX0_anchorAt.data.toList.drop 0 = dktX0_anchorAt_0 := by decide +kernel
theorem dksX0_anchorAt_1 : cX0_anchorAt.data.toList.drop 22 = dktX0_anchorAt_1 := dk_seg dksX0_anchorAt_0 22 rfl rfl
theorem dX0_anchorAt_0 : decode cX0_anchorAt 0 = .ok (.aload_n 0, 1) := dk_42 (dk_at dksX0_anchorAt_0 0 rfl rfl)
theorem dX0_anchorAt_1 : decode cX0_anchorAt 1 = .ok (.iload_n 1, 1) := dk_27 (dk_at dksX0_anchorAt_0 1 rfl rfl)
theorem dX0_anchorAt_2 : decode cX0_anchorAt 2 = .ok (.invokestatic 113, 3) := dk_184 0 113 (dk_at dksX0_anchorAt_0 2 rfl rfl)
theorem dX0_anchorAt_5 : decode cX0_anchorAt 5 = .ok (.istore_n 2, 1) := dk_61 (dk_at dksX0_anchorAt_0 5 rfl rfl)
theorem dX0_anchorAt_6 : decode cX0_anchorAt 6 = .ok (.iload_n 2, 1) := dk_28 (dk_at dksX0_anchorAt_0 6 rfl rfl)
theorem dX0_anchorAt_7 : decode cX0_anchorAt 7 = .ok (.bipush 45, 2) := dk_16 45 (dk_at dksX0_anchorAt_0 7 rfl rfl)
theorem dX0_anchorAt_9 : decode cX0_anchorAt 9 = .ok (.if_icmp .ne 7, 3) := dk_160 0 7 (dk_at dksX0_anchorAt_0 9 rfl rfl)
theorem dX0_anchorAt_12 : decode cX0_anchorAt 12 = .ok (.iconst 4, 1) := dk_7 (dk_at dksX0_anchorAt_0 12 rfl rfl)
theorem dX0_anchorAt_13 : decode cX0_anchorAt 13 = .ok (.goto 27, 3) := dk_167 0 27 (dk_at dksX0_anchorAt_0 13 rfl rfl)
theorem dX0_anchorAt_16 : decode cX0_anchorAt 16 = .ok (.iload_n 2, 1) := dk_28 (dk_at dksX0_anchorAt_0 16 rfl rfl)
theorem dX0_anchorAt_17 : decode cX0_anchorAt 17 = .ok (.bipush 97, 2) := dk_16 97 (dk_at dksX0_anchorAt_0 17 rfl rfl)
theorem dX0_anchorAt_19 : decode cX0_anchorAt 19 = .ok (.isub, 1) := dk_100 (dk_at dksX0_anchorAt_0 19 rfl rfl)
theorem dX0_anchorAt_20 : decode cX0_anchorAt 20 = .ok (.i2l, 1) := dk_133 (dk_at dksX0_anchorAt_0 20 rfl rfl)
theorem dX0_anchorAt_21 : decode cX0_anchorAt 21 = .ok (.lconst 0, 1) := dk_9 (dk_at dksX0_anchorAt_0 21 rfl rfl)
theorem dX0_anchorAt_22 : decode cX0_anchorAt 22 = .ok (.ldc2_w 119, 3) := dk_20 0 119 (dk_at dksX0_anchorAt_1 0 rfl rfl)
theorem dX0_anchorAt_25 : decode cX0_anchorAt 25 = .ok (.invokestatic 105, 3) := dk_184 0 105 (dk_at dksX0_anchorAt_1 3 rfl rfl)
theorem dX0_anchorAt_28 : decode cX0_anchorAt 28 = .ok (.ifCond .eq 10, 3) := dk_153 0 10 (dk_at dksX0_anchorAt_1 6 rfl rfl)
theorem dX0_anchorAt_31 : decode cX0_anchorAt 31 = .ok (.iload_n 2, 1) := dk_28 (dk_at dksX0_anchorAt_1 9 rfl rfl)
theorem dX0_anchorAt_32 : decode cX0_anchorAt 32 = .ok (.bipush 97, 2) := dk_16 97 (dk_at dksX0_anchorAt_1 10 rfl rfl)
theorem dX0_anchorAt_34 : decode cX0_anchorAt 34 = .ok (.isub, 1) := dk_100 (dk_at dksX0_anchorAt_1 12 rfl rfl)
theorem dX0_anchorAt_35 : decode cX0_anchorAt 35 = .ok (.goto 5, 3) := dk_167 0 5 (dk_at dksX0_anchorAt_1 13 rfl rfl)
theorem dX0_anchorAt_38 : decode cX0_anchorAt 38 = .ok (.bipush (-9), 2) := dk_16 247 (dk_at dksX0_anchorAt_1 16 rfl rfl)
theorem dX0_anchorAt_40 : decode cX0_anchorAt 40 = .ok (.ireturn, 1) := dk_172 (dk_at dksX0_anchorAt_1 18 rfl rfl)
abbrev cX0_rightIn : ByteArray := prog_1_method_13_code
def yX0_rightIn : MethodName := ⟨RX0, "rightIn", "([II)I"⟩
def dkwX0_rightIn_4 : List UInt8 := [21, 4, 100, 172, 132, 3, 1, 132, 4, 3, 167, 255, 158, 29, 172]
abbrev dktX0_rightIn_4 : List UInt8 := dkwX0_rightIn_4 ++ []
def dkwX0_rightIn_3 : List UInt8 := [180, 0, 40, 29, 43, 21, 4, 5, 96, 184, 0, 124, 79, 42, 180, 0, 40, 29, 46, 156, 0, 9, 16, 154]
abbrev dktX0_rightIn_3 : List UInt8 := dkwX0_rightIn_3 ++ dktX0_rightIn_4
def dkwX0_rightIn_2 : List UInt8 := [4, 96, 184, 0, 121, 79, 42, 180, 0, 37, 29, 46, 156, 0, 9, 16, 155, 21, 4, 100, 172, 42]
abbrev dktX0_rightIn_2 : List UInt8 := dkwX0_rightIn_2 ++ dktX0_rightIn_3
def dkwX0_rightIn_1 : List UInt8 := [21, 4, 184, 0, 113, 16, 44, 159, 0, 9, 16, 156, 21, 4, 100, 172, 42, 180, 0, 37, 29, 43, 21, 4]
abbrev dktX0_rightIn_1 : List UInt8 := dkwX0_rightIn_1 ++ dktX0_rightIn_2
def dkwX0_rightIn_0 : List UInt8 := [3, 62, 28, 54, 4, 29, 153, 0, 10, 21, 4, 43, 190, 162, 0, 93, 29, 16, 7, 159, 0, 14, 43]
abbrev dktX0_rightIn_0 : List UInt8 := dkwX0_rightIn_0 ++ dktX0_rightIn_1
theorem dksX0_rightIn_0 : cX0_rightIn.data.toList.drop 0 = dktX0_rightIn_0 := by decide +kernel
theorem dksX0_rightIn_1 : cX0_rightIn.data.toList.drop 23 = dktX0_rightIn_1 := dk_seg dksX0_rightIn_0 23 rfl rfl
theorem dksX0_rightIn_2 : cX0_rightIn.data.toList.drop 47 = dktX0_rightIn_2 := dk_seg dksX0_rightIn_1 24 rfl rfl
theorem dksX0_rightIn_3 : cX0_rightIn.data.toList.drop 69 = dktX0_rightIn_3 := dk_seg dksX0_rightIn_2 22 rfl rfl
theorem dksX0_rightIn_4 : cX0_rightIn.data.toList.drop 93 = dktX0_rightIn_4 := dk_seg dksX0_rightIn_3 24 rfl rfl
theorem dX0_rightIn_0 : decode cX0_rightIn 0 = .ok (.iconst 0, 1) := dk_3 (dk_at dksX0_rightIn_0 0 rfl rfl)
theorem dX0_rightIn_1 : decode cX0_rightIn 1 = .ok (.istore_n 3, 1) := dk_62 (dk_at dksX0_rightIn_0 1 rfl rfl)
theorem dX0_rightIn_2 : decode cX0_rightIn 2 = .ok (.iload_n 2, 1) := dk_28 (dk_at dksX0_rightIn_0 2 rfl rfl)
theorem dX0_rightIn_3 : decode cX0_rightIn 3 = .ok (.istore 4, 2) := dk_54 4 (dk_at dksX0_rightIn_0 3 rfl rfl)
theorem dX0_rightIn_5 : decode cX0_rightIn 5 = .ok (.iload_n 3, 1) := dk_29 (dk_at dksX0_rightIn_0 5 rfl rfl)
theorem dX0_rightIn_6 : decode cX0_rightIn 6 = .ok (.ifCond .eq 10, 3) := dk_153 0 10 (dk_at dksX0_rightIn_0 6 rfl rfl)
theorem dX0_rightIn_9 : decode cX0_rightIn 9 = .ok (.iload 4, 2) := dk_21 4 (dk_at dksX0_rightIn_0 9 rfl rfl)
theorem dX0_rightIn_11 : decode cX0_rightIn 11 = .ok (.aload_n 1, 1) := dk_43 (dk_at dksX0_rightIn_0 11 rfl rfl)
theorem dX0_rightIn_12 : decode cX0_rightIn 12 = .ok (.arraylength, 1) := dk_190 (dk_at dksX0_rightIn_0 12 rfl rfl)
theorem dX0_rightIn_13 : decode cX0_rightIn 13 = .ok (.if_icmp .ge 93, 3) := dk_162 0 93 (dk_at dksX0_rightIn_0 13 rfl rfl)
theorem dX0_rightIn_16 : decode cX0_rightIn 16 = .ok (.iload_n 3, 1) := dk_29 (dk_at dksX0_rightIn_0 16 rfl rfl)
theorem dX0_rightIn_17 : decode cX0_rightIn 17 = .ok (.bipush 7, 2) := dk_16 7 (dk_at dksX0_rightIn_0 17 rfl rfl)
theorem dX0_rightIn_19 : decode cX0_rightIn 19 = .ok (.if_icmp .eq 14, 3) := dk_159 0 14 (dk_at dksX0_rightIn_0 19 rfl rfl)
theorem dX0_rightIn_22 : decode cX0_rightIn 22 = .ok (.aload_n 1, 1) := dk_43 (dk_at dksX0_rightIn_0 22 rfl rfl)
theorem dX0_rightIn_23 : decode cX0_rightIn 23 = .ok (.iload 4, 2) := dk_21 4 (dk_at dksX0_rightIn_1 0 rfl rfl)
theorem dX0_rightIn_25 : decode cX0_rightIn 25 = .ok (.invokestatic 113, 3) := dk_184 0 113 (dk_at dksX0_rightIn_1 2 rfl rfl)
theorem dX0_rightIn_28 : decode cX0_rightIn 28 = .ok (.bipush 44, 2) := dk_16 44 (dk_at dksX0_rightIn_1 5 rfl rfl)
theorem dX0_rightIn_30 : decode cX0_rightIn 30 = .ok (.if_icmp .eq 9, 3) := dk_159 0 9 (dk_at dksX0_rightIn_1 7 rfl rfl)
theorem dX0_rightIn_33 : decode cX0_rightIn 33 = .ok (.bipush (-100), 2) := dk_16 156 (dk_at dksX0_rightIn_1 10 rfl rfl)
theorem dX0_rightIn_35 : decode cX0_rightIn 35 = .ok (.iload 4, 2) := dk_21 4 (dk_at dksX0_rightIn_1 12 rfl rfl)
theorem dX0_rightIn_37 : decode cX0_rightIn 37 = .ok (.isub, 1) := dk_100 (dk_at dksX0_rightIn_1 14 rfl rfl)
theorem dX0_rightIn_38 : decode cX0_rightIn 38 = .ok (.ireturn, 1) := dk_172 (dk_at dksX0_rightIn_1 15 rfl rfl)
theorem dX0_rightIn_39 : decode cX0_rightIn 39 = .ok (.aload_n 0, 1) := dk_42 (dk_at dksX0_rightIn_1 16 rfl rfl)
theorem dX0_rightIn_40 : decode cX0_rightIn 40 = .ok (.getfield 37, 3) := dk_180 0 37 (dk_at dksX0_rightIn_1 17 rfl rfl)
theorem dX0_rightIn_43 : decode cX0_rightIn 43 = .ok (.iload_n 3, 1) := dk_29 (dk_at dksX0_rightIn_1 20 rfl rfl)
theorem dX0_rightIn_44 : decode cX0_rightIn 44 = .ok (.aload_n 1, 1) := dk_43 (dk_at dksX0_rightIn_1 21 rfl rfl)
theorem dX0_rightIn_45 : decode cX0_rightIn 45 = .ok (.iload 4, 2) := dk_21 4 (dk_at dksX0_rightIn_1 22 rfl rfl)
theorem dX0_rightIn_47 : decode cX0_rightIn 47 = .ok (.iconst 1, 1) := dk_4 (dk_at dksX0_rightIn_2 0 rfl rfl)
theorem dX0_rightIn_48 : decode cX0_rightIn 48 = .ok (.iadd, 1) := dk_96 (dk_at dksX0_rightIn_2 1 rfl rfl)
theorem dX0_rightIn_49 : decode cX0_rightIn 49 = .ok (.invokestatic 121, 3) := dk_184 0 121 (dk_at dksX0_rightIn_2 2 rfl rfl)
theorem dX0_rightIn_52 : decode cX0_rightIn 52 = .ok (.iastore, 1) := dk_79 (dk_at dksX0_rightIn_2 5 rfl rfl)
theorem dX0_rightIn_53 : decode cX0_rightIn 53 = .ok (.aload_n 0, 1) := dk_42 (dk_at dksX0_rightIn_2 6 rfl rfl)
theorem dX0_rightIn_54 : decode cX0_rightIn 54 = .ok (.getfield 37, 3) := dk_180 0 37 (dk_at dksX0_rightIn_2 7 rfl rfl)
theorem dX0_rightIn_57 : decode cX0_rightIn 57 = .ok (.iload_n 3, 1) := dk_29 (dk_at dksX0_rightIn_2 10 rfl rfl)
theorem dX0_rightIn_58 : decode cX0_rightIn 58 = .ok (.iaload, 1) := dk_46 (dk_at dksX0_rightIn_2 11 rfl rfl)
theorem dX0_rightIn_59 : decode cX0_rightIn 59 = .ok (.ifCond .ge 9, 3) := dk_156 0 9 (dk_at dksX0_rightIn_2 12 rfl rfl)
theorem dX0_rightIn_62 : decode cX0_rightIn 62 = .ok (.bipush (-101), 2) := dk_16 155 (dk_at dksX0_rightIn_2 15 rfl rfl)
theorem dX0_rightIn_64 : decode cX0_rightIn 64 = .ok (.iload 4, 2) := dk_21 4 (dk_at dksX0_rightIn_2 17 rfl rfl)
theorem dX0_rightIn_66 : decode cX0_rightIn 66 = .ok (.isub, 1) := dk_100 (dk_at dksX0_rightIn_2 19 rfl rfl)
theorem dX0_rightIn_67 : decode cX0_rightIn 67 = .ok (.ireturn, 1) := dk_172 (dk_at dksX0_rightIn_2 20 rfl rfl)
theorem dX0_rightIn_68 : decode cX0_rightIn 68 = .ok (.aload_n 0, 1) := dk_42 (dk_at dksX0_rightIn_2 21 rfl rfl)
theorem dX0_rightIn_69 : decode cX0_rightIn 69 = .ok (.getfield 40, 3) := dk_180 0 40 (dk_at dksX0_rightIn_3 0 rfl rfl)
theorem dX0_rightIn_72 : decode cX0_rightIn 72 = .ok (.iload_n 3, 1) := dk_29 (dk_at dksX0_rightIn_3 3 rfl rfl)
theorem dX0_rightIn_73 : decode cX0_rightIn 73 = .ok (.aload_n 1, 1) := dk_43 (dk_at dksX0_rightIn_3 4 rfl rfl)
theorem dX0_rightIn_74 : decode cX0_rightIn 74 = .ok (.iload 4, 2) := dk_21 4 (dk_at dksX0_rightIn_3 5 rfl rfl)
theorem dX0_rightIn_76 : decode cX0_rightIn 76 = .ok (.iconst 2, 1) := dk_5 (dk_at dksX0_rightIn_3 7 rfl rfl)
theorem dX0_rightIn_77 : decode cX0_rightIn 77 = .ok (.iadd, 1) := dk_96 (dk_at dksX0_rightIn_3 8 rfl rfl)
theorem dX0_rightIn_78 : decode cX0_rightIn 78 = .ok (.invokestatic 124, 3) := dk_184 0 124 (dk_at dksX0_rightIn_3 9 rfl rfl)
theorem dX0_rightIn_81 : decode cX0_rightIn 81 = .ok (.iastore, 1) := dk_79 (dk_at dksX0_rightIn_3 12 rfl rfl)
theorem dX0_rightIn_82 : decode cX0_rightIn 82 = .ok (.aload_n 0, 1) := dk_42 (dk_at dksX0_rightIn_3 13 rfl rfl)
theorem dX0_rightIn_83 : decode cX0_rightIn 83 = .ok (.getfield 40, 3) := dk_180 0 40 (dk_at dksX0_rightIn_3 14 rfl rfl)
theorem dX0_rightIn_86 : decode cX0_rightIn 86 = .ok (.iload_n 3, 1) := dk_29 (dk_at dksX0_rightIn_3 17 rfl rfl)
theorem dX0_rightIn_87 : decode cX0_rightIn 87 = .ok (.iaload, 1) := dk_46 (dk_at dksX0_rightIn_3 18 rfl rfl)
theorem dX0_rightIn_88 : decode cX0_rightIn 88 = .ok (.ifCond .ge 9, 3) := dk_156 0 9 (dk_at dksX0_rightIn_3 19 rfl rfl)
theorem dX0_rightIn_91 : decode cX0_rightIn 91 = .ok (.bipush (-102), 2) := dk_16 154 (dk_at dksX0_rightIn_3 22 rfl rfl)
theorem dX0_rightIn_93 : decode cX0_rightIn 93 = .ok (.iload 4, 2) := dk_21 4 (dk_at dksX0_rightIn_4 0 rfl rfl)
theorem dX0_rightIn_95 : decode cX0_rightIn 95 = .ok (.isub, 1) := dk_100 (dk_at dksX0_rightIn_4 2 rfl rfl)
theorem dX0_rightIn_96 : decode cX0_rightIn 96 = .ok (.ireturn, 1) := dk_172 (dk_at dksX0_rightIn_4 3 rfl rfl)
theorem dX0_rightIn_97 : decode cX0_rightIn 97 = .ok (.iinc 3 1, 3) := dk_132 3 1 (dk_at dksX0_rightIn_4 4 rfl rfl)
theorem dX0_rightIn_100 : decode cX0_rightIn 100 = .ok (.iinc 4 3, 3) := dk_132 4 3 (dk_at dksX0_rightIn_4 7 rfl rfl)
theorem dX0_rightIn_103 : decode cX0_rightIn 103 = .ok (.goto (-98), 3) := dk_167 255 158 (dk_at dksX0_rightIn_4 10 rfl rfl)
theorem dX0_rightIn_106 : decode cX0_rightIn 106 = .ok (.iload_n 3, 1) := dk_29 (dk_at dksX0_rightIn_4 13 rfl rfl)
theorem dX0_rightIn_107 : decode cX0_rightIn 107 = .ok (.ireturn, 1) := dk_172 (dk_at dksX0_rightIn_4 14 rfl rfl)
abbrev cX0_looked : ByteArray := prog_1_method_61_code
def yX0_looked : MethodName := ⟨RX0, "looked", "(LBookPairs$Looking;Z)I"⟩
def dkwX0_looked_2 : List UInt8 := [182, 1, 122, 172]
abbrev dktX0_looked_2 : List UInt8 := dkwX0_looked_2 ++ []
def dkwX0_looked_1 : List UInt8 := [20, 1, 1, 184, 0, 105, 153, 0, 14, 28, 153, 0, 10, 43, 182, 1, 179, 167, 0, 9, 42, 16, 254]
abbrev dktX0_looked_1 : List UInt8 := dkwX0_looked_1 ++ dktX0_looked_2
def dkwX0_looked_0 : List UInt8 := [43, 180, 1, 171, 184, 1, 119, 153, 0, 9, 42, 2, 182, 1, 122, 172, 43, 180, 1, 176, 133, 9]
abbrev dktX0_looked_0 : List UInt8 := dkwX0_looked_0 ++ dktX0_looked_1
theorem dksX0_looked_0 : cX0_looked.data.toList.drop 0 = dktX0_looked_0 := by decide +kernel
theorem dksX0_looked_1 : cX0_looked.data.toList.drop 22 = dktX0_looked_1 := dk_seg dksX0_looked_0 22 rfl rfl
theorem dksX0_looked_2 : cX0_looked.data.toList.drop 45 = dktX0_looked_2 := dk_seg dksX0_looked_1 23 rfl rfl
theorem dX0_looked_0 : decode cX0_looked 0 = .ok (.aload_n 1, 1) := dk_43 (dk_at dksX0_looked_0 0 rfl rfl)
theorem dX0_looked_1 : decode cX0_looked 1 = .ok (.getfield 427, 3) := dk_180 1 171 (dk_at dksX0_looked_0 1 rfl rfl)
theorem dX0_looked_4 : decode cX0_looked 4 = .ok (.invokestatic 375, 3) := dk_184 1 119 (dk_at dksX0_looked_0 4 rfl rfl)
theorem dX0_looked_7 : decode cX0_looked 7 = .ok (.ifCond .eq 9, 3) := dk_153 0 9 (dk_at dksX0_looked_0 7 rfl rfl)
theorem dX0_looked_10 : decode cX0_looked 10 = .ok (.aload_n 0, 1) := dk_42 (dk_at dksX0_looked_0 10 rfl rfl)
theorem dX0_looked_11 : decode cX0_looked 11 = .ok (.iconst (-1), 1) := dk_2 (dk_at dksX0_looked_0 11 rfl rfl)
theorem dX0_looked_12 : decode cX0_looked 12 = .ok (.invokevirtual 378, 3) := dk_182 1 122 (dk_at dksX0_looked_0 12 rfl rfl)
theorem dX0_looked_15 : decode cX0_looked 15 = .ok (.ireturn, 1) := dk_172 (dk_at dksX0_looked_0 15 rfl rfl)
theorem dX0_looked_16 : decode cX0_looked 16 = .ok (.aload_n 1, 1) := dk_43 (dk_at dksX0_looked_0 16 rfl rfl)
theorem dX0_looked_17 : decode cX0_looked 17 = .ok (.getfield 432, 3) := dk_180 1 176 (dk_at dksX0_looked_0 17 rfl rfl)
theorem dX0_looked_20 : decode cX0_looked 20 = .ok (.i2l, 1) := dk_133 (dk_at dksX0_looked_0 20 rfl rfl)
theorem dX0_looked_21 : decode cX0_looked 21 = .ok (.lconst 0, 1) := dk_9 (dk_at dksX0_looked_0 21 rfl rfl)
theorem dX0_looked_22 : decode cX0_looked 22 = .ok (.ldc2_w 257, 3) := dk_20 1 1 (dk_at dksX0_looked_1 0 rfl rfl)
theorem dX0_looked_25 : decode cX0_looked 25 = .ok (.invokestatic 105, 3) := dk_184 0 105 (dk_at dksX0_looked_1 3 rfl rfl)
theorem dX0_looked_28 : decode cX0_looked 28 = .ok (.ifCond .eq 14, 3) := dk_153 0 14 (dk_at dksX0_looked_1 6 rfl rfl)
theorem dX0_looked_31 : decode cX0_looked 31 = .ok (.iload_n 2, 1) := dk_28 (dk_at dksX0_looked_1 9 rfl rfl)
theorem dX0_looked_32 : decode cX0_looked 32 = .ok (.ifCond .eq 10, 3) := dk_153 0 10 (dk_at dksX0_looked_1 10 rfl rfl)
theorem dX0_looked_35 : decode cX0_looked 35 = .ok (.aload_n 1, 1) := dk_43 (dk_at dksX0_looked_1 13 rfl rfl)
theorem dX0_looked_36 : decode cX0_looked 36 = .ok (.invokevirtual 435, 3) := dk_182 1 179 (dk_at dksX0_looked_1 14 rfl rfl)
theorem dX0_looked_39 : decode cX0_looked 39 = .ok (.goto 9, 3) := dk_167 0 9 (dk_at dksX0_looked_1 17 rfl rfl)
theorem dX0_looked_42 : decode cX0_looked 42 = .ok (.aload_n 0, 1) := dk_42 (dk_at dksX0_looked_1 20 rfl rfl)
theorem dX0_looked_43 : decode cX0_looked 43 = .ok (.bipush (-2), 2) := dk_16 254 (dk_at dksX0_looked_1 21 rfl rfl)
theorem dX0_looked_45 : decode cX0_looked 45 = .ok (.invokevirtual 378, 3) := dk_182 1 122 (dk_at dksX0_looked_2 0 rfl rfl)
theorem dX0_looked_48 : decode cX0_looked 48 = .ok (.ireturn, 1) := dk_172 (dk_at dksX0_looked_2 3 rfl rfl)
abbrev cX0_cellsOf : ByteArray := prog_1_method_60_code
def yX0_cellsOf : MethodName := ⟨RX0, "cellsOf", "(Ljava/lang/Object;III)[I"⟩
def dkwX0_cellsOf_3 : List UInt8 := [184, 1, 148, 79, 132, 7, 1, 167, 255, 231, 25, 6, 176]
abbrev dktX0_cellsOf_3 : List UInt8 := dkwX0_cellsOf_3 ++ []
def dkwX0_cellsOf_2 : List UInt8 := [58, 6, 3, 54, 7, 21, 7, 25, 6, 190, 162, 0, 23, 25, 6, 21, 7, 42, 27, 28, 21, 7, 96]
abbrev dktX0_cellsOf_2 : List UInt8 := dkwX0_cellsOf_2 ++ dktX0_cellsOf_3
def dkwX0_cellsOf_1 : List UInt8 := [155, 0, 15, 28, 21, 4, 29, 100, 163, 0, 7, 4, 167, 0, 4, 3, 184, 1, 167, 25, 5, 190, 188, 10]
abbrev dktX0_cellsOf_1 : List UInt8 := dkwX0_cellsOf_1 ++ dktX0_cellsOf_2
def dkwX0_cellsOf_0 : List UInt8 := [42, 27, 184, 1, 163, 54, 4, 29, 16, 61, 184, 0, 212, 188, 8, 58, 5, 29, 16, 61, 162, 0, 19, 28]
abbrev dktX0_cellsOf_0 : List UInt8 := dkwX0_cellsOf_0 ++ dktX0_cellsOf_1
theorem dksX0_cellsOf_0 : cX0_cellsOf.data.toList.drop 0 = dktX0_cellsOf_0 := by decide +kernel
theorem dksX0_cellsOf_1 : cX0_cellsOf.data.toList.drop 24 = dktX0_cellsOf_1 := dk_seg dksX0_cellsOf_0 24 rfl rfl
theorem dksX0_cellsOf_2 : cX0_cellsOf.data.toList.drop 48 = dktX0_cellsOf_2 := dk_seg dksX0_cellsOf_1 24 rfl rfl
theorem dksX0_cellsOf_3 : cX0_cellsOf.data.toList.drop 71 = dktX0_cellsOf_3 := dk_seg dksX0_cellsOf_2 23 rfl rfl
theorem dX0_cellsOf_0 : decode cX0_cellsOf 0 = .ok (.aload_n 0, 1) := dk_42 (dk_at dksX0_cellsOf_0 0 rfl rfl)
theorem dX0_cellsOf_1 : decode cX0_cellsOf 1 = .ok (.iload_n 1, 1) := dk_27 (dk_at dksX0_cellsOf_0 1 rfl rfl)
theorem dX0_cellsOf_2 : decode cX0_cellsOf 2 = .ok (.invokestatic 419, 3) := dk_184 1 163 (dk_at dksX0_cellsOf_0 2 rfl rfl)
theorem dX0_cellsOf_5 : decode cX0_cellsOf 5 = .ok (.istore 4, 2) := dk_54 4 (dk_at dksX0_cellsOf_0 5 rfl rfl)
theorem dX0_cellsOf_7 : decode cX0_cellsOf 7 = .ok (.iload_n 3, 1) := dk_29 (dk_at dksX0_cellsOf_0 7 rfl rfl)
theorem dX0_cellsOf_8 : decode cX0_cellsOf 8 = .ok (.bipush 61, 2) := dk_16 61 (dk_at dksX0_cellsOf_0 8 rfl rfl)
theorem dX0_cellsOf_10 : decode cX0_cellsOf 10 = .ok (.invokestatic 212, 3) := dk_184 0 212 (dk_at dksX0_cellsOf_0 10 rfl rfl)
theorem dX0_cellsOf_13 : decode cX0_cellsOf 13 = .ok (.newarray .byte, 2) := dk_188_8 (dk_at dksX0_cellsOf_0 13 rfl rfl)
theorem dX0_cellsOf_15 : decode cX0_cellsOf 15 = .ok (.astore 5, 2) := dk_58 5 (dk_at dksX0_cellsOf_0 15 rfl rfl)
theorem dX0_cellsOf_17 : decode cX0_cellsOf 17 = .ok (.iload_n 3, 1) := dk_29 (dk_at dksX0_cellsOf_0 17 rfl rfl)
theorem dX0_cellsOf_18 : decode cX0_cellsOf 18 = .ok (.bipush 61, 2) := dk_16 61 (dk_at dksX0_cellsOf_0 18 rfl rfl)
theorem dX0_cellsOf_20 : decode cX0_cellsOf 20 = .ok (.if_icmp .ge 19, 3) := dk_162 0 19 (dk_at dksX0_cellsOf_0 20 rfl rfl)
theorem dX0_cellsOf_23 : decode cX0_cellsOf 23 = .ok (.iload_n 2, 1) := dk_28 (dk_at dksX0_cellsOf_0 23 rfl rfl)
theorem dX0_cellsOf_24 : decode cX0_cellsOf 24 = .ok (.ifCond .lt 15, 3) := dk_155 0 15 (dk_at dksX0_cellsOf_1 0 rfl rfl)
theorem dX0_cellsOf_27 : decode cX0_cellsOf 27 = .ok (.iload_n 2, 1) := dk_28 (dk_at dksX0_cellsOf_1 3 rfl rfl)
theorem dX0_cellsOf_28 : decode cX0_cellsOf 28 = .ok (.iload 4, 2) := dk_21 4 (dk_at dksX0_cellsOf_1 4 rfl rfl)
theorem dX0_cellsOf_30 : decode cX0_cellsOf 30 = .ok (.iload_n 3, 1) := dk_29 (dk_at dksX0_cellsOf_1 6 rfl rfl)
theorem dX0_cellsOf_31 : decode cX0_cellsOf 31 = .ok (.isub, 1) := dk_100 (dk_at dksX0_cellsOf_1 7 rfl rfl)
theorem dX0_cellsOf_32 : decode cX0_cellsOf 32 = .ok (.if_icmp .gt 7, 3) := dk_163 0 7 (dk_at dksX0_cellsOf_1 8 rfl rfl)
theorem dX0_cellsOf_35 : decode cX0_cellsOf 35 = .ok (.iconst 1, 1) := dk_4 (dk_at dksX0_cellsOf_1 11 rfl rfl)
theorem dX0_cellsOf_36 : decode cX0_cellsOf 36 = .ok (.goto 4, 3) := dk_167 0 4 (dk_at dksX0_cellsOf_1 12 rfl rfl)
theorem dX0_cellsOf_39 : decode cX0_cellsOf 39 = .ok (.iconst 0, 1) := dk_3 (dk_at dksX0_cellsOf_1 15 rfl rfl)
theorem dX0_cellsOf_40 : decode cX0_cellsOf 40 = .ok (.invokestatic 423, 3) := dk_184 1 167 (dk_at dksX0_cellsOf_1 16 rfl rfl)
theorem dX0_cellsOf_43 : decode cX0_cellsOf 43 = .ok (.aload 5, 2) := dk_25 5 (dk_at dksX0_cellsOf_1 19 rfl rfl)
theorem dX0_cellsOf_45 : decode cX0_cellsOf 45 = .ok (.arraylength, 1) := dk_190 (dk_at dksX0_cellsOf_1 21 rfl rfl)
theorem dX0_cellsOf_46 : decode cX0_cellsOf 46 = .ok (.newarray .int, 2) := dk_188_10 (dk_at dksX0_cellsOf_1 22 rfl rfl)
theorem dX0_cellsOf_48 : decode cX0_cellsOf 48 = .ok (.astore 6, 2) := dk_58 6 (dk_at dksX0_cellsOf_2 0 rfl rfl)
theorem dX0_cellsOf_50 : decode cX0_cellsOf 50 = .ok (.iconst 0, 1) := dk_3 (dk_at dksX0_cellsOf_2 2 rfl rfl)
theorem dX0_cellsOf_51 : decode cX0_cellsOf 51 = .ok (.istore 7, 2) := dk_54 7 (dk_at dksX0_cellsOf_2 3 rfl rfl)
theorem dX0_cellsOf_53 : decode cX0_cellsOf 53 = .ok (.iload 7, 2) := dk_21 7 (dk_at dksX0_cellsOf_2 5 rfl rfl)
theorem dX0_cellsOf_55 : decode cX0_cellsOf 55 = .ok (.aload 6, 2) := dk_25 6 (dk_at dksX0_cellsOf_2 7 rfl rfl)
theorem dX0_cellsOf_57 : decode cX0_cellsOf 57 = .ok (.arraylength, 1) := dk_190 (dk_at dksX0_cellsOf_2 9 rfl rfl)
theorem dX0_cellsOf_58 : decode cX0_cellsOf 58 = .ok (.if_icmp .ge 23, 3) := dk_162 0 23 (dk_at dksX0_cellsOf_2 10 rfl rfl)
theorem dX0_cellsOf_61 : decode cX0_cellsOf 61 = .ok (.aload 6, 2) := dk_25 6 (dk_at dksX0_cellsOf_2 13 rfl rfl)
theorem dX0_cellsOf_63 : decode cX0_cellsOf 63 = .ok (.iload 7, 2) := dk_21 7 (dk_at dksX0_cellsOf_2 15 rfl rfl)
theorem dX0_cellsOf_65 : decode cX0_cellsOf 65 = .ok (.aload_n 0, 1) := dk_42 (dk_at dksX0_cellsOf_2 17 rfl rfl)
theorem dX0_cellsOf_66 : decode cX0_cellsOf 66 = .ok (.iload_n 1, 1) := dk_27 (dk_at dksX0_cellsOf_2 18 rfl rfl)
theorem dX0_cellsOf_67 : decode cX0_cellsOf 67 = .ok (.iload_n 2, 1) := dk_28 (dk_at dksX0_cellsOf_2 19 rfl rfl)
theorem dX0_cellsOf_68 : decode cX0_cellsOf 68 = .ok (.iload 7, 2) := dk_21 7 (dk_at dksX0_cellsOf_2 20 rfl rfl)
theorem dX0_cellsOf_70 : decode cX0_cellsOf 70 = .ok (.iadd, 1) := dk_96 (dk_at dksX0_cellsOf_2 22 rfl rfl)
theorem dX0_cellsOf_71 : decode cX0_cellsOf 71 = .ok (.invokestatic 404, 3) := dk_184 1 148 (dk_at dksX0_cellsOf_3 0 rfl rfl)
theorem dX0_cellsOf_74 : decode cX0_cellsOf 74 = .ok (.iastore, 1) := dk_79 (dk_at dksX0_cellsOf_3 3 rfl rfl)
theorem dX0_cellsOf_75 : decode cX0_cellsOf 75 = .ok (.iinc 7 1, 3) := dk_132 7 1 (dk_at dksX0_cellsOf_3 4 rfl rfl)
theorem dX0_cellsOf_78 : decode cX0_cellsOf 78 = .ok (.goto (-25), 3) := dk_167 255 231 (dk_at dksX0_cellsOf_3 7 rfl rfl)
theorem dX0_cellsOf_81 : decode cX0_cellsOf 81 = .ok (.aload 6, 2) := dk_25 6 (dk_at dksX0_cellsOf_3 10 rfl rfl)
theorem dX0_cellsOf_83 : decode cX0_cellsOf 83 = .ok (.areturn, 1) := dk_176 (dk_at dksX0_cellsOf_3 12 rfl rfl)
abbrev cX0_sizeOf : ByteArray := prog_1_method_51_code
def yX0_sizeOf : MethodName := ⟨RX0, "sizeOf", "(Ljava/lang/Object;I)I"⟩
def dkwX0_sizeOf_1 : List UInt8 := [167, 0, 8, 42, 192, 1, 114, 190, 172]
abbrev dktX0_sizeOf_1 : List UInt8 := dkwX0_sizeOf_1 ++ []
def dkwX0_sizeOf_0 : List UInt8 := [27, 154, 0, 11, 42, 192, 1, 110, 190, 167, 0, 21, 27, 4, 160, 0, 11, 42, 192, 1, 112, 190]
abbrev dktX0_sizeOf_0 : List UInt8 := dkwX0_sizeOf_0 ++ dktX0_sizeOf_1
theorem dksX0_sizeOf_0 : cX0_sizeOf.data.toList.drop 0 = dktX0_sizeOf_0 := by decide +kernel
theorem dksX0_sizeOf_1 : cX0_sizeOf.data.toList.drop 22 = dktX0_sizeOf_1 := dk_seg dksX0_sizeOf_0 22 rfl rfl
theorem dX0_sizeOf_0 : decode cX0_sizeOf 0 = .ok (.iload_n 1, 1) := dk_27 (dk_at dksX0_sizeOf_0 0 rfl rfl)
theorem dX0_sizeOf_1 : decode cX0_sizeOf 1 = .ok (.ifCond .ne 11, 3) := dk_154 0 11 (dk_at dksX0_sizeOf_0 1 rfl rfl)
theorem dX0_sizeOf_4 : decode cX0_sizeOf 4 = .ok (.aload_n 0, 1) := dk_42 (dk_at dksX0_sizeOf_0 4 rfl rfl)
theorem dX0_sizeOf_5 : decode cX0_sizeOf 5 = .ok (.checkcast 366, 3) := dk_192 1 110 (dk_at dksX0_sizeOf_0 5 rfl rfl)
theorem dX0_sizeOf_8 : decode cX0_sizeOf 8 = .ok (.arraylength, 1) := dk_190 (dk_at dksX0_sizeOf_0 8 rfl rfl)
theorem dX0_sizeOf_9 : decode cX0_sizeOf 9 = .ok (.goto 21, 3) := dk_167 0 21 (dk_at dksX0_sizeOf_0 9 rfl rfl)
theorem dX0_sizeOf_12 : decode cX0_sizeOf 12 = .ok (.iload_n 1, 1) := dk_27 (dk_at dksX0_sizeOf_0 12 rfl rfl)
theorem dX0_sizeOf_13 : decode cX0_sizeOf 13 = .ok (.iconst 1, 1) := dk_4 (dk_at dksX0_sizeOf_0 13 rfl rfl)
theorem dX0_sizeOf_14 : decode cX0_sizeOf 14 = .ok (.if_icmp .ne 11, 3) := dk_160 0 11 (dk_at dksX0_sizeOf_0 14 rfl rfl)
theorem dX0_sizeOf_17 : decode cX0_sizeOf 17 = .ok (.aload_n 0, 1) := dk_42 (dk_at dksX0_sizeOf_0 17 rfl rfl)
theorem dX0_sizeOf_18 : decode cX0_sizeOf 18 = .ok (.checkcast 368, 3) := dk_192 1 112 (dk_at dksX0_sizeOf_0 18 rfl rfl)
theorem dX0_sizeOf_21 : decode cX0_sizeOf 21 = .ok (.arraylength, 1) := dk_190 (dk_at dksX0_sizeOf_0 21 rfl rfl)
theorem dX0_sizeOf_22 : decode cX0_sizeOf 22 = .ok (.goto 8, 3) := dk_167 0 8 (dk_at dksX0_sizeOf_1 0 rfl rfl)
theorem dX0_sizeOf_25 : decode cX0_sizeOf 25 = .ok (.aload_n 0, 1) := dk_42 (dk_at dksX0_sizeOf_1 3 rfl rfl)
theorem dX0_sizeOf_26 : decode cX0_sizeOf 26 = .ok (.checkcast 370, 3) := dk_192 1 114 (dk_at dksX0_sizeOf_1 4 rfl rfl)
theorem dX0_sizeOf_29 : decode cX0_sizeOf 29 = .ok (.arraylength, 1) := dk_190 (dk_at dksX0_sizeOf_1 7 rfl rfl)
theorem dX0_sizeOf_30 : decode cX0_sizeOf 30 = .ok (.ireturn, 1) := dk_172 (dk_at dksX0_sizeOf_1 8 rfl rfl)
abbrev cX0_need : ByteArray := prog_1_method_59_code
def yX0_need : MethodName := ⟨RX0, "need", "(Z)V"⟩
def dkwX0_need_0 : List UInt8 := [26, 154, 0, 14, 187, 1, 143, 89, 19, 1, 158, 183, 1, 160, 191, 177]
abbrev dktX0_need_0 : List UInt8 := dkwX0_need_0 ++ []
theorem dksX0_need_0 : cX0_need.data.toList.drop 0 = dktX0_need_0 := by decide +kernel
theorem dX0_need_0 : decode cX0_need 0 = .ok (.iload_n 0, 1) := dk_26 (dk_at dksX0_need_0 0 rfl rfl)
theorem dX0_need_1 : decode cX0_need 1 = .ok (.ifCond .ne 14, 3) := dk_154 0 14 (dk_at dksX0_need_0 1 rfl rfl)
theorem dX0_need_4 : decode cX0_need 4 = .ok (.new 399, 3) := dk_187 1 143 (dk_at dksX0_need_0 4 rfl rfl)
theorem dX0_need_7 : decode cX0_need 7 = .ok (.dup, 1) := dk_89 (dk_at dksX0_need_0 7 rfl rfl)
theorem dX0_need_8 : decode cX0_need 8 = .ok (.ldc_w 414, 3) := dk_19 1 158 (dk_at dksX0_need_0 8 rfl rfl)
theorem dX0_need_11 : decode cX0_need 11 = .ok (.invokespecial 416, 3) := dk_183 1 160 (dk_at dksX0_need_0 11 rfl rfl)
theorem dX0_need_14 : decode cX0_need 14 = .ok (.athrow, 1) := dk_191 (dk_at dksX0_need_0 14 rfl rfl)
theorem dX0_need_15 : decode cX0_need 15 = .ok (.return_, 1) := dk_177 (dk_at dksX0_need_0 15 rfl rfl)
abbrev cX0_day : ByteArray := prog_1_method_63_code
def yX0_day : MethodName := ⟨RX0, "day", "(IIIII)I"⟩
def dkwX0_day_3 : List UInt8 := [42, 21, 5, 186, 1, 193, 0, 0, 183, 1, 186, 21, 6, 182, 1, 189, 172]
abbrev dktX0_day_3 : List UInt8 := dkwX0_day_3 ++ []
def dkwX0_day_2 : List UInt8 := [54, 6, 42, 187, 1, 172, 89, 42, 27, 28, 29, 21, 6, 153, 0, 10, 5, 21, 4, 104, 167, 0, 4, 3]
abbrev dktX0_day_2 : List UInt8 := dkwX0_day_2 ++ dktX0_day_3
def dkwX0_day_1 : List UInt8 := [154, 0, 18, 21, 5, 133, 20, 1, 52, 20, 1, 54, 184, 0, 105, 153, 0, 7, 4, 167, 0, 4, 3]
abbrev dktX0_day_1 : List UInt8 := dkwX0_day_1 ++ dktX0_day_2
def dkwX0_day_0 : List UInt8 := [21, 4, 133, 9, 20, 1, 56, 184, 0, 105, 153, 0, 35, 21, 5, 133, 9, 20, 0, 192, 184, 0, 105]
abbrev dktX0_day_0 : List UInt8 := dkwX0_day_0 ++ dktX0_day_1
theorem dksX0_day_0 : cX0_day.data.toList.drop 0 = dktX0_day_0 := by decide +kernel
theorem dksX0_day_1 : cX0_day.data.toList.drop 23 = dktX0_day_1 := dk_seg dksX0_day_0 23 rfl rfl
theorem dksX0_day_2 : cX0_day.data.toList.drop 46 = dktX0_day_2 := dk_seg dksX0_day_1 23 rfl rfl
theorem dksX0_day_3 : cX0_day.data.toList.drop 70 = dktX0_day_3 := dk_seg dksX0_day_2 24 rfl rfl
theorem dX0_day_0 : decode cX0_day 0 = .ok (.iload 4, 2) := dk_21 4 (dk_at dksX0_day_0 0 rfl rfl)
theorem dX0_day_2 : decode cX0_day 2 = .ok (.i2l, 1) := dk_133 (dk_at dksX0_day_0 2 rfl rfl)
theorem dX0_day_3 : decode cX0_day 3 = .ok (.lconst 0, 1) := dk_9 (dk_at dksX0_day_0 3 rfl rfl)
theorem dX0_day_4 : decode cX0_day 4 = .ok (.ldc2_w 312, 3) := dk_20 1 56 (dk_at dksX0_day_0 4 rfl rfl)
theorem dX0_day_7 : decode cX0_day 7 = .ok (.invokestatic 105, 3) := dk_184 0 105 (dk_at dksX0_day_0 7 rfl rfl)
theorem dX0_day_10 : decode cX0_day 10 = .ok (.ifCond .eq 35, 3) := dk_153 0 35 (dk_at dksX0_day_0 10 rfl rfl)
theorem dX0_day_13 : decode cX0_day 13 = .ok (.iload 5, 2) := dk_21 5 (dk_at dksX0_day_0 13 rfl rfl)
theorem dX0_day_15 : decode cX0_day 15 = .ok (.i2l, 1) := dk_133 (dk_at dksX0_day_0 15 rfl rfl)
theorem dX0_day_16 : decode cX0_day 16 = .ok (.lconst 0, 1) := dk_9 (dk_at dksX0_day_0 16 rfl rfl)
theorem dX0_day_17 : decode cX0_day 17 = .ok (.ldc2_w 192, 3) := dk_20 0 192 (dk_at dksX0_day_0 17 rfl rfl)
theorem dX0_day_20 : decode cX0_day 20 = .ok (.invokestatic 105, 3) := dk_184 0 105 (dk_at dksX0_day_0 20 rfl rfl)
theorem dX0_day_23 : decode cX0_day 23 = .ok (.ifCond .ne 18, 3) := dk_154 0 18 (dk_at dksX0_day_1 0 rfl rfl)
theorem dX0_day_26 : decode cX0_day 26 = .ok (.iload 5, 2) := dk_21 5 (dk_at dksX0_day_1 3 rfl rfl)
theorem dX0_day_28 : decode cX0_day 28 = .ok (.i2l, 1) := dk_133 (dk_at dksX0_day_1 5 rfl rfl)
theorem dX0_day_29 : decode cX0_day 29 = .ok (.ldc2_w 308, 3) := dk_20 1 52 (dk_at dksX0_day_1 6 rfl rfl)
theorem dX0_day_32 : decode cX0_day 32 = .ok (.ldc2_w 310, 3) := dk_20 1 54 (dk_at dksX0_day_1 9 rfl rfl)
theorem dX0_day_35 : decode cX0_day 35 = .ok (.invokestatic 105, 3) := dk_184 0 105 (dk_at dksX0_day_1 12 rfl rfl)
theorem dX0_day_38 : decode cX0_day 38 = .ok (.ifCond .eq 7, 3) := dk_153 0 7 (dk_at dksX0_day_1 15 rfl rfl)
theorem dX0_day_41 : decode cX0_day 41 = .ok (.iconst 1, 1) := dk_4 (dk_at dksX0_day_1 18 rfl rfl)
theorem dX0_day_42 : decode cX0_day 42 = .ok (.goto 4, 3) := dk_167 0 4 (dk_at dksX0_day_1 19 rfl rfl)
theorem dX0_day_45 : decode cX0_day 45 = .ok (.iconst 0, 1) := dk_3 (dk_at dksX0_day_1 22 rfl rfl)
theorem dX0_day_46 : decode cX0_day 46 = .ok (.istore 6, 2) := dk_54 6 (dk_at dksX0_day_2 0 rfl rfl)
theorem dX0_day_48 : decode cX0_day 48 = .ok (.aload_n 0, 1) := dk_42 (dk_at dksX0_day_2 2 rfl rfl)
theorem dX0_day_49 : decode cX0_day 49 = .ok (.new 428, 3) := dk_187 1 172 (dk_at dksX0_day_2 3 rfl rfl)
theorem dX0_day_52 : decode cX0_day 52 = .ok (.dup, 1) := dk_89 (dk_at dksX0_day_2 6 rfl rfl)
theorem dX0_day_53 : decode cX0_day 53 = .ok (.aload_n 0, 1) := dk_42 (dk_at dksX0_day_2 7 rfl rfl)
theorem dX0_day_54 : decode cX0_day 54 = .ok (.iload_n 1, 1) := dk_27 (dk_at dksX0_day_2 8 rfl rfl)
theorem dX0_day_55 : decode cX0_day 55 = .ok (.iload_n 2, 1) := dk_28 (dk_at dksX0_day_2 9 rfl rfl)
theorem dX0_day_56 : decode cX0_day 56 = .ok (.iload_n 3, 1) := dk_29 (dk_at dksX0_day_2 10 rfl rfl)
theorem dX0_day_57 : decode cX0_day 57 = .ok (.iload 6, 2) := dk_21 6 (dk_at dksX0_day_2 11 rfl rfl)
theorem dX0_day_59 : decode cX0_day 59 = .ok (.ifCond .eq 10, 3) := dk_153 0 10 (dk_at dksX0_day_2 13 rfl rfl)
theorem dX0_day_62 : decode cX0_day 62 = .ok (.iconst 2, 1) := dk_5 (dk_at dksX0_day_2 16 rfl rfl)
theorem dX0_day_63 : decode cX0_day 63 = .ok (.iload 4, 2) := dk_21 4 (dk_at dksX0_day_2 17 rfl rfl)
theorem dX0_day_65 : decode cX0_day 65 = .ok (.imul, 1) := dk_104 (dk_at dksX0_day_2 19 rfl rfl)
theorem dX0_day_66 : decode cX0_day 66 = .ok (.goto 4, 3) := dk_167 0 4 (dk_at dksX0_day_2 20 rfl rfl)
theorem dX0_day_69 : decode cX0_day 69 = .ok (.iconst 0, 1) := dk_3 (dk_at dksX0_day_2 23 rfl rfl)
theorem dX0_day_70 : decode cX0_day 70 = .ok (.aload_n 0, 1) := dk_42 (dk_at dksX0_day_3 0 rfl rfl)
theorem dX0_day_71 : decode cX0_day 71 = .ok (.iload 5, 2) := dk_21 5 (dk_at dksX0_day_3 1 rfl rfl)
theorem dX0_day_73 : decode cX0_day 73 = .ok (.invokedynamic 449, 5) := by decide +kernel
theorem dX0_day_78 : decode cX0_day 78 = .ok (.invokespecial 442, 3) := dk_183 1 186 (dk_at dksX0_day_3 8 rfl rfl)
theorem dX0_day_81 : decode cX0_day 81 = .ok (.iload 6, 2) := dk_21 6 (dk_at dksX0_day_3 11 rfl rfl)
theorem dX0_day_83 : decode cX0_day 83 = .ok (.invokevirtual 445, 3) := dk_182 1 189 (dk_at dksX0_day_3 13 rfl rfl)
theorem dX0_day_86 : decode cX0_day 86 = .ok (.ireturn, 1) := dk_172 (dk_at dksX0_day_3 16 rfl rfl)
abbrev cX0_lambda_day_8 : ByteArray := prog_1_method_71_code
def yX0_lambda_day_8 : MethodName := ⟨RX0, "lambda$day$8", "(I[I)I"⟩
def dkwX0_lambda_day_8_0 : List UInt8 := [42, 44, 27, 182, 1, 219, 172]
abbrev dktX0_lambda_day_8_0 : List UInt8 := dkwX0_lambda_day_8_0 ++ []
theorem dksX0_lambda_day_8_0 : cX0_lambda_day_8.data.toList.drop 0 = dktX0_lambda_day_8_0 := by decide +kernel
theorem dX0_lambda_day_8_0 : decode cX0_lambda_day_8 0 = .ok (.aload_n 0, 1) := dk_42 (dk_at dksX0_lambda_day_8_0 0 rfl rfl)
theorem dX0_lambda_day_8_1 : decode cX0_lambda_day_8 1 = .ok (.aload_n 2, 1) := dk_44 (dk_at dksX0_lambda_day_8_0 1 rfl rfl)
theorem dX0_lambda_day_8_2 : decode cX0_lambda_day_8 2 = .ok (.iload_n 1, 1) := dk_27 (dk_at dksX0_lambda_day_8_0 2 rfl rfl)
theorem dX0_lambda_day_8_3 : decode cX0_lambda_day_8 3 = .ok (.invokevirtual 475, 3) := dk_182 1 219 (dk_at dksX0_lambda_day_8_0 3 rfl rfl)
theorem dX0_lambda_day_8_6 : decode cX0_lambda_day_8 6 = .ok (.ireturn, 1) := dk_172 (dk_at dksX0_lambda_day_8_0 6 rfl rfl)
abbrev cX0_dayBy : ByteArray := prog_1_method_36_code
def yX0_dayBy : MethodName := ⟨RX0, "dayBy", "([II)I"⟩
def dkwX0_dayBy_8 : List UInt8 := [180, 0, 52, 21, 8, 46, 181, 0, 245, 132, 8, 1, 167, 255, 215, 21, 7, 172]
abbrev dktX0_dayBy_8 : List UInt8 := dkwX0_dayBy_8 ++ []
def dkwX0_dayBy_7 : List UInt8 := [185, 0, 101, 1, 0, 162, 0, 33, 42, 180, 0, 26, 21, 8, 185, 0, 167, 2, 0, 192, 0, 84, 42]
abbrev dktX0_dayBy_7 : List UInt8 := dkwX0_dayBy_7 ++ dktX0_dayBy_8
def dkwX0_dayBy_6 : List UInt8 := [181, 0, 161, 42, 21, 5, 181, 0, 164, 42, 25, 6, 181, 0, 30, 3, 54, 8, 21, 8, 42, 180, 0, 26]
abbrev dktX0_dayBy_6 : List UInt8 := dkwX0_dayBy_6 ++ dktX0_dayBy_7
def dkwX0_dayBy_5 : List UInt8 := [132, 7, 1, 167, 255, 215, 42, 43, 28, 182, 1, 75, 54, 7, 42, 29, 181, 0, 158, 42, 21, 4]
abbrev dktX0_dayBy_5 : List UInt8 := dkwX0_dayBy_5 ++ dktX0_dayBy_6
def dkwX0_dayBy_4 : List UInt8 := [180, 0, 52, 21, 7, 42, 180, 0, 26, 21, 7, 185, 0, 167, 2, 0, 192, 0, 84, 180, 0, 245, 79]
abbrev dktX0_dayBy_4 : List UInt8 := dkwX0_dayBy_4 ++ dktX0_dayBy_5
def dkwX0_dayBy_3 : List UInt8 := [3, 16, 7, 184, 0, 152, 3, 54, 7, 21, 7, 42, 180, 0, 26, 185, 0, 101, 1, 0, 162, 0, 33, 42]
abbrev dktX0_dayBy_3 : List UInt8 := dkwX0_dayBy_3 ++ dktX0_dayBy_4
def dkwX0_dayBy_2 : List UInt8 := [180, 0, 161, 54, 4, 42, 180, 0, 164, 54, 5, 16, 7, 188, 10, 58, 6, 42, 180, 0, 30, 3, 25, 6]
abbrev dktX0_dayBy_2 : List UInt8 := dkwX0_dayBy_2 ++ dktX0_dayBy_3
def dkwX0_dayBy_1 : List UInt8 := [96, 46, 184, 1, 72, 154, 0, 6, 16, 254, 172, 132, 3, 2, 167, 255, 230, 42, 180, 0, 158, 62, 42]
abbrev dktX0_dayBy_1 : List UInt8 := dkwX0_dayBy_1 ++ dktX0_dayBy_2
def dkwX0_dayBy_0 : List UInt8 := [42, 182, 1, 3, 153, 0, 6, 16, 253, 172, 3, 62, 29, 43, 190, 162, 0, 26, 43, 29, 46, 43, 29, 4]
abbrev dktX0_dayBy_0 : List UInt8 := dkwX0_dayBy_0 ++ dktX0_dayBy_1
theorem dksX0_dayBy_0 : cX0_dayBy.data.toList.drop 0 = dktX0_dayBy_0 := by decide +kernel
theorem dksX0_dayBy_1 : cX0_dayBy.data.toList.drop 24 = dktX0_dayBy_1 := dk_seg dksX0_dayBy_0 24 rfl rfl
theorem dksX0_dayBy_2 : cX0_dayBy.data.toList.drop 47 = dktX0_dayBy_2 := dk_seg dksX0_dayBy_1 23 rfl rfl
theorem dksX0_dayBy_3 : cX0_dayBy.data.toList.drop 71 = dktX0_dayBy_3 := dk_seg dksX0_dayBy_2 24 rfl rfl
theorem dksX0_dayBy_4 : cX0_dayBy.data.toList.drop 95 = dktX0_dayBy_4 := dk_seg dksX0_dayBy_3 24 rfl rfl
theorem dksX0_dayBy_5 : cX0_dayBy.data.toList.drop 118 = dktX0_dayBy_5 := dk_seg dksX0_dayBy_4 23 rfl rfl
theorem dksX0_dayBy_6 : cX0_dayBy.data.toList.drop 140 = dktX0_dayBy_6 := dk_seg dksX0_dayBy_5 22 rfl rfl
theorem dksX0_dayBy_7 : cX0_dayBy.data.toList.drop 164 = dktX0_dayBy_7 := dk_seg dksX0_dayBy_6 24 rfl rfl
theorem dksX0_dayBy_8 : cX0_dayBy.data.toList.drop 187 = dktX0_dayBy_8 := dk_seg dksX0_dayBy_7 23 rfl rfl
theorem dX0_dayBy_0 : decode cX0_dayBy 0 = .ok (.aload_n 0, 1) := dk_42 (dk_at dksX0_dayBy_0 0 rfl rfl)
theorem dX0_dayBy_1 : decode cX0_dayBy 1 = .ok (.invokevirtual 259, 3) := dk_182 1 3 (dk_at dksX0_dayBy_0 1 rfl rfl)
theorem dX0_dayBy_4 : decode cX0_dayBy 4 = .ok (.ifCond .eq 6, 3) := dk_153 0 6 (dk_at dksX0_dayBy_0 4 rfl rfl)
theorem dX0_dayBy_7 : decode cX0_dayBy 7 = .ok (.bipush (-3), 2) := dk_16 253 (dk_at dksX0_dayBy_0 7 rfl rfl)
theorem dX0_dayBy_9 : decode cX0_dayBy 9 = .ok (.ireturn, 1) := dk_172 (dk_at dksX0_dayBy_0 9 rfl rfl)
theorem dX0_dayBy_10 : decode cX0_dayBy 10 = .ok (.iconst 0, 1) := dk_3 (dk_at dksX0_dayBy_0 10 rfl rfl)
theorem dX0_dayBy_11 : decode cX0_dayBy 11 = .ok (.istore_n 3, 1) := dk_62 (dk_at dksX0_dayBy_0 11 rfl rfl)
theorem dX0_dayBy_12 : decode cX0_dayBy 12 = .ok (.iload_n 3, 1) := dk_29 (dk_at dksX0_dayBy_0 12 rfl rfl)
theorem dX0_dayBy_13 : decode cX0_dayBy 13 = .ok (.aload_n 1, 1) := dk_43 (dk_at dksX0_dayBy_0 13 rfl rfl)
theorem dX0_dayBy_14 : decode cX0_dayBy 14 = .ok (.arraylength, 1) := dk_190 (dk_at dksX0_dayBy_0 14 rfl rfl)
theorem dX0_dayBy_15 : decode cX0_dayBy 15 = .ok (.if_icmp .ge 26, 3) := dk_162 0 26 (dk_at dksX0_dayBy_0 15 rfl rfl)
theorem dX0_dayBy_18 : decode cX0_dayBy 18 = .ok (.aload_n 1, 1) := dk_43 (dk_at dksX0_dayBy_0 18 rfl rfl)
theorem dX0_dayBy_19 : decode cX0_dayBy 19 = .ok (.iload_n 3, 1) := dk_29 (dk_at dksX0_dayBy_0 19 rfl rfl)
theorem dX0_dayBy_20 : decode cX0_dayBy 20 = .ok (.iaload, 1) := dk_46 (dk_at dksX0_dayBy_0 20 rfl rfl)
theorem dX0_dayBy_21 : decode cX0_dayBy 21 = .ok (.aload_n 1, 1) := dk_43 (dk_at dksX0_dayBy_0 21 rfl rfl)
theorem dX0_dayBy_22 : decode cX0_dayBy 22 = .ok (.iload_n 3, 1) := dk_29 (dk_at dksX0_dayBy_0 22 rfl rfl)
theorem dX0_dayBy_23 : decode cX0_dayBy 23 = .ok (.iconst 1, 1) := dk_4 (dk_at dksX0_dayBy_0 23 rfl rfl)
theorem dX0_dayBy_24 : decode cX0_dayBy 24 = .ok (.iadd, 1) := dk_96 (dk_at dksX0_dayBy_1 0 rfl rfl)
theorem dX0_dayBy_25 : decode cX0_dayBy 25 = .ok (.iaload, 1) := dk_46 (dk_at dksX0_dayBy_1 1 rfl rfl)
theorem dX0_dayBy_26 : decode cX0_dayBy 26 = .ok (.invokestatic 328, 3) := dk_184 1 72 (dk_at dksX0_dayBy_1 2 rfl rfl)
theorem dX0_dayBy_29 : decode cX0_dayBy 29 = .ok (.ifCond .ne 6, 3) := dk_154 0 6 (dk_at dksX0_dayBy_1 5 rfl rfl)
theorem dX0_dayBy_32 : decode cX0_dayBy 32 = .ok (.bipush (-2), 2) := dk_16 254 (dk_at dksX0_dayBy_1 8 rfl rfl)
theorem dX0_dayBy_34 : decode cX0_dayBy 34 = .ok (.ireturn, 1) := dk_172 (dk_at dksX0_dayBy_1 10 rfl rfl)
theorem dX0_dayBy_35 : decode cX0_dayBy 35 = .ok (.iinc 3 2, 3) := dk_132 3 2 (dk_at dksX0_dayBy_1 11 rfl rfl)
theorem dX0_dayBy_38 : decode cX0_dayBy 38 = .ok (.goto (-26), 3) := dk_167 255 230 (dk_at dksX0_dayBy_1 14 rfl rfl)
theorem dX0_dayBy_41 : decode cX0_dayBy 41 = .ok (.aload_n 0, 1) := dk_42 (dk_at dksX0_dayBy_1 17 rfl rfl)
theorem dX0_dayBy_42 : decode cX0_dayBy 42 = .ok (.getfield 158, 3) := dk_180 0 158 (dk_at dksX0_dayBy_1 18 rfl rfl)
theorem dX0_dayBy_45 : decode cX0_dayBy 45 = .ok (.istore_n 3, 1) := dk_62 (dk_at dksX0_dayBy_1 21 rfl rfl)
theorem dX0_dayBy_46 : decode cX0_dayBy 46 = .ok (.aload_n 0, 1) := dk_42 (dk_at dksX0_dayBy_1 22 rfl rfl)
theorem dX0_dayBy_47 : decode cX0_dayBy 47 = .ok (.getfield 161, 3) := dk_180 0 161 (dk_at dksX0_dayBy_2 0 rfl rfl)
theorem dX0_dayBy_50 : decode cX0_dayBy 50 = .ok (.istore 4, 2) := dk_54 4 (dk_at dksX0_dayBy_2 3 rfl rfl)
theorem dX0_dayBy_52 : decode cX0_dayBy 52 = .ok (.aload_n 0, 1) := dk_42 (dk_at dksX0_dayBy_2 5 rfl rfl)
theorem dX0_dayBy_53 : decode cX0_dayBy 53 = .ok (.getfield 164, 3) := dk_180 0 164 (dk_at dksX0_dayBy_2 6 rfl rfl)
theorem dX0_dayBy_56 : decode cX0_dayBy 56 = .ok (.istore 5, 2) := dk_54 5 (dk_at dksX0_dayBy_2 9 rfl rfl)
theorem dX0_dayBy_58 : decode cX0_dayBy 58 = .ok (.bipush 7, 2) := dk_16 7 (dk_at dksX0_dayBy_2 11 rfl rfl)
theorem dX0_dayBy_60 : decode cX0_dayBy 60 = .ok (.newarray .int, 2) := dk_188_10 (dk_at dksX0_dayBy_2 13 rfl rfl)
theorem dX0_dayBy_62 : decode cX0_dayBy 62 = .ok (.astore 6, 2) := dk_58 6 (dk_at dksX0_dayBy_2 15 rfl rfl)
theorem dX0_dayBy_64 : decode cX0_dayBy 64 = .ok (.aload_n 0, 1) := dk_42 (dk_at dksX0_dayBy_2 17 rfl rfl)
theorem dX0_dayBy_65 : decode cX0_dayBy 65 = .ok (.getfield 30, 3) := dk_180 0 30 (dk_at dksX0_dayBy_2 18 rfl rfl)
theorem dX0_dayBy_68 : decode cX0_dayBy 68 = .ok (.iconst 0, 1) := dk_3 (dk_at dksX0_dayBy_2 21 rfl rfl)
theorem dX0_dayBy_69 : decode cX0_dayBy 69 = .ok (.aload 6, 2) := dk_25 6 (dk_at dksX0_dayBy_2 22 rfl rfl)
theorem dX0_dayBy_71 : decode cX0_dayBy 71 = .ok (.iconst 0, 1) := dk_3 (dk_at dksX0_dayBy_3 0 rfl rfl)
theorem dX0_dayBy_72 : decode cX0_dayBy 72 = .ok (.bipush 7, 2) := dk_16 7 (dk_at dksX0_dayBy_3 1 rfl rfl)
theorem dX0_dayBy_74 : decode cX0_dayBy 74 = .ok (.invokestatic 152, 3) := dk_184 0 152 (dk_at dksX0_dayBy_3 3 rfl rfl)
theorem dX0_dayBy_77 : decode cX0_dayBy 77 = .ok (.iconst 0, 1) := dk_3 (dk_at dksX0_dayBy_3 6 rfl rfl)
theorem dX0_dayBy_78 : decode cX0_dayBy 78 = .ok (.istore 7, 2) := dk_54 7 (dk_at dksX0_dayBy_3 7 rfl rfl)
theorem dX0_dayBy_80 : decode cX0_dayBy 80 = .ok (.iload 7, 2) := dk_21 7 (dk_at dksX0_dayBy_3 9 rfl rfl)
theorem dX0_dayBy_82 : decode cX0_dayBy 82 = .ok (.aload_n 0, 1) := dk_42 (dk_at dksX0_dayBy_3 11 rfl rfl)
theorem dX0_dayBy_83 : decode cX0_dayBy 83 = .ok (.getfield 26, 3) := dk_180 0 26 (dk_at dksX0_dayBy_3 12 rfl rfl)
theorem dX0_dayBy_86 : decode cX0_dayBy 86 = .ok (.invokeinterface 101 1, 5) := by decide +kernel
theorem dX0_dayBy_91 : decode cX0_dayBy 91 = .ok (.if_icmp .ge 33, 3) := dk_162 0 33 (dk_at dksX0_dayBy_3 20 rfl rfl)
theorem dX0_dayBy_94 : decode cX0_dayBy 94 = .ok (.aload_n 0, 1) := dk_42 (dk_at dksX0_dayBy_3 23 rfl rfl)
theorem dX0_dayBy_95 : decode cX0_dayBy 95 = .ok (.getfield 52, 3) := dk_180 0 52 (dk_at dksX0_dayBy_4 0 rfl rfl)
theorem dX0_dayBy_98 : decode cX0_dayBy 98 = .ok (.iload 7, 2) := dk_21 7 (dk_at dksX0_dayBy_4 3 rfl rfl)
theorem dX0_dayBy_100 : decode cX0_dayBy 100 = .ok (.aload_n 0, 1) := dk_42 (dk_at dksX0_dayBy_4 5 rfl rfl)
theorem dX0_dayBy_101 : decode cX0_dayBy 101 = .ok (.getfield 26, 3) := dk_180 0 26 (dk_at dksX0_dayBy_4 6 rfl rfl)
theorem dX0_dayBy_104 : decode cX0_dayBy 104 = .ok (.iload 7, 2) := dk_21 7 (dk_at dksX0_dayBy_4 9 rfl rfl)
theorem dX0_dayBy_106 : decode cX0_dayBy 106 = .ok (.invokeinterface 167 2, 5) := by decide +kernel
theorem dX0_dayBy_111 : decode cX0_dayBy 111 = .ok (.checkcast 84, 3) := dk_192 0 84 (dk_at dksX0_dayBy_4 16 rfl rfl)
theorem dX0_dayBy_114 : decode cX0_dayBy 114 = .ok (.getfield 245, 3) := dk_180 0 245 (dk_at dksX0_dayBy_4 19 rfl rfl)
theorem dX0_dayBy_117 : decode cX0_dayBy 117 = .ok (.iastore, 1) := dk_79 (dk_at dksX0_dayBy_4 22 rfl rfl)
theorem dX0_dayBy_118 : decode cX0_dayBy 118 = .ok (.iinc 7 1, 3) := dk_132 7 1 (dk_at dksX0_dayBy_5 0 rfl rfl)
theorem dX0_dayBy_121 : decode cX0_dayBy 121 = .ok (.goto (-41), 3) := dk_167 255 215 (dk_at dksX0_dayBy_5 3 rfl rfl)
theorem dX0_dayBy_124 : decode cX0_dayBy 124 = .ok (.aload_n 0, 1) := dk_42 (dk_at dksX0_dayBy_5 6 rfl rfl)
theorem dX0_dayBy_125 : decode cX0_dayBy 125 = .ok (.aload_n 1, 1) := dk_43 (dk_at dksX0_dayBy_5 7 rfl rfl)
theorem dX0_dayBy_126 : decode cX0_dayBy 126 = .ok (.iload_n 2, 1) := dk_28 (dk_at dksX0_dayBy_5 8 rfl rfl)
theorem dX0_dayBy_127 : decode cX0_dayBy 127 = .ok (.invokevirtual 331, 3) := dk_182 1 75 (dk_at dksX0_dayBy_5 9 rfl rfl)
theorem dX0_dayBy_130 : decode cX0_dayBy 130 = .ok (.istore 7, 2) := dk_54 7 (dk_at dksX0_dayBy_5 12 rfl rfl)
theorem dX0_dayBy_132 : decode cX0_dayBy 132 = .ok (.aload_n 0, 1) := dk_42 (dk_at dksX0_dayBy_5 14 rfl rfl)
theorem dX0_dayBy_133 : decode cX0_dayBy 133 = .ok (.iload_n 3, 1) := dk_29 (dk_at dksX0_dayBy_5 15 rfl rfl)
theorem dX0_dayBy_134 : decode cX0_dayBy 134 = .ok (.putfield 158, 3) := dk_181 0 158 (dk_at dksX0_dayBy_5 16 rfl rfl)
theorem dX0_dayBy_137 : decode cX0_dayBy 137 = .ok (.aload_n 0, 1) := dk_42 (dk_at dksX0_dayBy_5 19 rfl rfl)
theorem dX0_dayBy_138 : decode cX0_dayBy 138 = .ok (.iload 4, 2) := dk_21 4 (dk_at dksX0_dayBy_5 20 rfl rfl)
theorem dX0_dayBy_140 : decode cX0_dayBy 140 = .ok (.putfield 161, 3) := dk_181 0 161 (dk_at dksX0_dayBy_6 0 rfl rfl)
theorem dX0_dayBy_143 : decode cX0_dayBy 143 = .ok (.aload_n 0, 1) := dk_42 (dk_at dksX0_dayBy_6 3 rfl rfl)
theorem dX0_dayBy_144 : decode cX0_dayBy 144 = .ok (.iload 5, 2) := dk_21 5 (dk_at dksX0_dayBy_6 4 rfl rfl)
theorem dX0_dayBy_146 : decode cX0_dayBy 146 = .ok (.putfield 164, 3) := dk_181 0 164 (dk_at dksX0_dayBy_6 6 rfl rfl)
theorem dX0_dayBy_149 : decode cX0_dayBy 149 = .ok (.aload_n 0, 1) := dk_42 (dk_at dksX0_dayBy_6 9 rfl rfl)
theorem dX0_dayBy_150 : decode cX0_dayBy 150 = .ok (.aload 6, 2) := dk_25 6 (dk_at dksX0_dayBy_6 10 rfl rfl)
theorem dX0_dayBy_152 : decode cX0_dayBy 152 = .ok (.putfield 30, 3) := dk_181 0 30 (dk_at dksX0_dayBy_6 12 rfl rfl)
theorem dX0_dayBy_155 : decode cX0_dayBy 155 = .ok (.iconst 0, 1) := dk_3 (dk_at dksX0_dayBy_6 15 rfl rfl)
theorem dX0_dayBy_156 : decode cX0_dayBy 156 = .ok (.istore 8, 2) := dk_54 8 (dk_at dksX0_dayBy_6 16 rfl rfl)
theorem dX0_dayBy_158 : decode cX0_dayBy 158 = .ok (.iload 8, 2) := dk_21 8 (dk_at dksX0_dayBy_6 18 rfl rfl)
theorem dX0_dayBy_160 : decode cX0_dayBy 160 = .ok (.aload_n 0, 1) := dk_42 (dk_at dksX0_dayBy_6 20 rfl rfl)
theorem dX0_dayBy_161 : decode cX0_dayBy 161 = .ok (.getfield 26, 3) := dk_180 0 26 (dk_at dksX0_dayBy_6 21 rfl rfl)
theorem dX0_dayBy_164 : decode cX0_dayBy 164 = .ok (.invokeinterface 101 1, 5) := by decide +kernel
theorem dX0_dayBy_169 : decode cX0_dayBy 169 = .ok (.if_icmp .ge 33, 3) := dk_162 0 33 (dk_at dksX0_dayBy_7 5 rfl rfl)
theorem dX0_dayBy_172 : decode cX0_dayBy 172 = .ok (.aload_n 0, 1) := dk_42 (dk_at dksX0_dayBy_7 8 rfl rfl)
theorem dX0_dayBy_173 : decode cX0_dayBy 173 = .ok (.getfield 26, 3) := dk_180 0 26 (dk_at dksX0_dayBy_7 9 rfl rfl)
theorem dX0_dayBy_176 : decode cX0_dayBy 176 = .ok (.iload 8, 2) := dk_21 8 (dk_at dksX0_dayBy_7 12 rfl rfl)
theorem dX0_dayBy_178 : decode cX0_dayBy 178 = .ok (.invokeinterface 167 2, 5) := by decide +kernel
theorem dX0_dayBy_183 : decode cX0_dayBy 183 = .ok (.checkcast 84, 3) := dk_192 0 84 (dk_at dksX0_dayBy_7 19 rfl rfl)
theorem dX0_dayBy_186 : decode cX0_dayBy 186 = .ok (.aload_n 0, 1) := dk_42 (dk_at dksX0_dayBy_7 22 rfl rfl)
theorem dX0_dayBy_187 : decode cX0_dayBy 187 = .ok (.getfield 52, 3) := dk_180 0 52 (dk_at dksX0_dayBy_8 0 rfl rfl)
theorem dX0_dayBy_190 : decode cX0_dayBy 190 = .ok (.iload 8, 2) := dk_21 8 (dk_at dksX0_dayBy_8 3 rfl rfl)
theorem dX0_dayBy_192 : decode cX0_dayBy 192 = .ok (.iaload, 1) := dk_46 (dk_at dksX0_dayBy_8 5 rfl rfl)
theorem dX0_dayBy_193 : decode cX0_dayBy 193 = .ok (.putfield 245, 3) := dk_181 0 245 (dk_at dksX0_dayBy_8 6 rfl rfl)
theorem dX0_dayBy_196 : decode cX0_dayBy 196 = .ok (.iinc 8 1, 3) := dk_132 8 1 (dk_at dksX0_dayBy_8 9 rfl rfl)
theorem dX0_dayBy_199 : decode cX0_dayBy 199 = .ok (.goto (-41), 3) := dk_167 255 215 (dk_at dksX0_dayBy_8 12 rfl rfl)
theorem dX0_dayBy_202 : decode cX0_dayBy 202 = .ok (.iload 7, 2) := dk_21 7 (dk_at dksX0_dayBy_8 15 rfl rfl)
theorem dX0_dayBy_204 : decode cX0_dayBy 204 = .ok (.ireturn, 1) := dk_172 (dk_at dksX0_dayBy_8 17 rfl rfl)
abbrev cX0_isAsTold : ByteArray := prog_1_method_34_code
def yX0_isAsTold : MethodName := ⟨RX0, "isAsTold", "(II)Z"⟩
def dkwX0_isAsTold_3 : List UInt8 := [153, 0, 7, 4, 167, 0, 4, 3, 172]
abbrev dktX0_isAsTold_3 : List UInt8 := dkwX0_isAsTold_3 ++ []
def dkwX0_isAsTold_2 : List UInt8 := [153, 0, 31, 26, 133, 9, 27, 16, 22, 160, 0, 9, 20, 1, 6, 167, 0, 6, 20, 0, 117, 184, 0, 105]
abbrev dktX0_isAsTold_2 : List UInt8 := dkwX0_isAsTold_2 ++ dktX0_isAsTold_3
def dkwX0_isAsTold_1 : List UInt8 := [153, 0, 13, 26, 133, 10, 20, 0, 117, 184, 0, 105, 172, 27, 133, 20, 1, 56, 20, 1, 58, 184, 0, 105]
abbrev dktX0_isAsTold_1 : List UInt8 := dkwX0_isAsTold_1 ++ dktX0_isAsTold_2
def dkwX0_isAsTold_0 : List UInt8 := [27, 133, 9, 20, 1, 50, 184, 0, 105, 154, 0, 17, 27, 133, 20, 1, 52, 20, 1, 54, 184, 0, 105]
abbrev dktX0_isAsTold_0 : List UInt8 := dkwX0_isAsTold_0 ++ dktX0_isAsTold_1
theorem dksX0_isAsTold_0 : cX0_isAsTold.data.toList.drop 0 = dktX0_isAsTold_0 := by decide +kernel
theorem dksX0_isAsTold_1 : cX0_isAsTold.data.toList.drop 23 = dktX0_isAsTold_1 := dk_seg dksX0_isAsTold_0 23 rfl rfl
theorem dksX0_isAsTold_2 : cX0_isAsTold.data.toList.drop 47 = dktX0_isAsTold_2 := dk_seg dksX0_isAsTold_1 24 rfl rfl
theorem dksX0_isAsTold_3 : cX0_isAsTold.data.toList.drop 71 = dktX0_isAsTold_3 := dk_seg dksX0_isAsTold_2 24 rfl rfl
theorem dX0_isAsTold_0 : decode cX0_isAsTold 0 = .ok (.iload_n 1, 1) := dk_27 (dk_at dksX0_isAsTold_0 0 rfl rfl)
theorem dX0_isAsTold_1 : decode cX0_isAsTold 1 = .ok (.i2l, 1) := dk_133 (dk_at dksX0_isAsTold_0 1 rfl rfl)
theorem dX0_isAsTold_2 : decode cX0_isAsTold 2 = .ok (.lconst 0, 1) := dk_9 (dk_at dksX0_isAsTold_0 2 rfl rfl)
theorem dX0_isAsTold_3 : decode cX0_isAsTold 3 = .ok (.ldc2_w 306, 3) := dk_20 1 50 (dk_at dksX0_isAsTold_0 3 rfl rfl)
theorem dX0_isAsTold_6 : decode cX0_isAsTold 6 = .ok (.invokestatic 105, 3) := dk_184 0 105 (dk_at dksX0_isAsTold_0 6 rfl rfl)
theorem dX0_isAsTold_9 : decode cX0_isAsTold 9 = .ok (.ifCond .ne 17, 3) := dk_154 0 17 (dk_at dksX0_isAsTold_0 9 rfl rfl)
theorem dX0_isAsTold_12 : decode cX0_isAsTold 12 = .ok (.iload_n 1, 1) := dk_27 (dk_at dksX0_isAsTold_0 12 rfl rfl)
theorem dX0_isAsTold_13 : decode cX0_isAsTold 13 = .ok (.i2l, 1) := dk_133 (dk_at dksX0_isAsTold_0 13 rfl rfl)
theorem dX0_isAsTold_14 : decode cX0_isAsTold 14 = .ok (.ldc2_w 308, 3) := dk_20 1 52 (dk_at dksX0_isAsTold_0 14 rfl rfl)
theorem dX0_isAsTold_17 : decode cX0_isAsTold 17 = .ok (.ldc2_w 310, 3) := dk_20 1 54 (dk_at dksX0_isAsTold_0 17 rfl rfl)
theorem dX0_isAsTold_20 : decode cX0_isAsTold 20 = .ok (.invokestatic 105, 3) := dk_184 0 105 (dk_at dksX0_isAsTold_0 20 rfl rfl)
theorem dX0_isAsTold_23 : decode cX0_isAsTold 23 = .ok (.ifCond .eq 13, 3) := dk_153 0 13 (dk_at dksX0_isAsTold_1 0 rfl rfl)
theorem dX0_isAsTold_26 : decode cX0_isAsTold 26 = .ok (.iload_n 0, 1) := dk_26 (dk_at dksX0_isAsTold_1 3 rfl rfl)
theorem dX0_isAsTold_27 : decode cX0_isAsTold 27 = .ok (.i2l, 1) := dk_133 (dk_at dksX0_isAsTold_1 4 rfl rfl)
theorem dX0_isAsTold_28 : decode cX0_isAsTold 28 = .ok (.lconst 1, 1) := dk_10 (dk_at dksX0_isAsTold_1 5 rfl rfl)
theorem dX0_isAsTold_29 : decode cX0_isAsTold 29 = .ok (.ldc2_w 117, 3) := dk_20 0 117 (dk_at dksX0_isAsTold_1 6 rfl rfl)
theorem dX0_isAsTold_32 : decode cX0_isAsTold 32 = .ok (.invokestatic 105, 3) := dk_184 0 105 (dk_at dksX0_isAsTold_1 9 rfl rfl)
theorem dX0_isAsTold_35 : decode cX0_isAsTold 35 = .ok (.ireturn, 1) := dk_172 (dk_at dksX0_isAsTold_1 12 rfl rfl)
theorem dX0_isAsTold_36 : decode cX0_isAsTold 36 = .ok (.iload_n 1, 1) := dk_27 (dk_at dksX0_isAsTold_1 13 rfl rfl)
theorem dX0_isAsTold_37 : decode cX0_isAsTold 37 = .ok (.i2l, 1) := dk_133 (dk_at dksX0_isAsTold_1 14 rfl rfl)
theorem dX0_isAsTold_38 : decode cX0_isAsTold 38 = .ok (.ldc2_w 312, 3) := dk_20 1 56 (dk_at dksX0_isAsTold_1 15 rfl rfl)
theorem dX0_isAsTold_41 : decode cX0_isAsTold 41 = .ok (.ldc2_w 314, 3) := dk_20 1 58 (dk_at dksX0_isAsTold_1 18 rfl rfl)
theorem dX0_isAsTold_44 : decode cX0_isAsTold 44 = .ok (.invokestatic 105, 3) := dk_184 0 105 (dk_at dksX0_isAsTold_1 21 rfl rfl)
theorem dX0_isAsTold_47 : decode cX0_isAsTold 47 = .ok (.ifCond .eq 31, 3) := dk_153 0 31 (dk_at dksX0_isAsTold_2 0 rfl rfl)
theorem dX0_isAsTold_50 : decode cX0_isAsTold 50 = .ok (.iload_n 0, 1) := dk_26 (dk_at dksX0_isAsTold_2 3 rfl rfl)
theorem dX0_isAsTold_51 : decode cX0_isAsTold 51 = .ok (.i2l, 1) := dk_133 (dk_at dksX0_isAsTold_2 4 rfl rfl)
theorem dX0_isAsTold_52 : decode cX0_isAsTold 52 = .ok (.lconst 0, 1) := dk_9 (dk_at dksX0_isAsTold_2 5 rfl rfl)
theorem dX0_isAsTold_53 : decode cX0_isAsTold 53 = .ok (.iload_n 1, 1) := dk_27 (dk_at dksX0_isAsTold_2 6 rfl rfl)
theorem dX0_isAsTold_54 : decode cX0_isAsTold 54 = .ok (.bipush 22, 2) := dk_16 22 (dk_at dksX0_isAsTold_2 7 rfl rfl)
theorem dX0_isAsTold_56 : decode cX0_isAsTold 56 = .ok (.if_icmp .ne 9, 3) := dk_160 0 9 (dk_at dksX0_isAsTold_2 9 rfl rfl)
theorem dX0_isAsTold_59 : decode cX0_isAsTold 59 = .ok (.ldc2_w 262, 3) := dk_20 1 6 (dk_at dksX0_isAsTold_2 12 rfl rfl)
theorem dX0_isAsTold_62 : decode cX0_isAsTold 62 = .ok (.goto 6, 3) := dk_167 0 6 (dk_at dksX0_isAsTold_2 15 rfl rfl)
theorem dX0_isAsTold_65 : decode cX0_isAsTold 65 = .ok (.ldc2_w 117, 3) := dk_20 0 117 (dk_at dksX0_isAsTold_2 18 rfl rfl)
theorem dX0_isAsTold_68 : decode cX0_isAsTold 68 = .ok (.invokestatic 105, 3) := dk_184 0 105 (dk_at dksX0_isAsTold_2 21 rfl rfl)
theorem dX0_isAsTold_71 : decode cX0_isAsTold 71 = .ok (.ifCond .eq 7, 3) := dk_153 0 7 (dk_at dksX0_isAsTold_3 0 rfl rfl)
theorem dX0_isAsTold_74 : decode cX0_isAsTold 74 = .ok (.iconst 1, 1) := dk_4 (dk_at dksX0_isAsTold_3 3 rfl rfl)
theorem dX0_isAsTold_75 : decode cX0_isAsTold 75 = .ok (.goto 4, 3) := dk_167 0 4 (dk_at dksX0_isAsTold_3 4 rfl rfl)
theorem dX0_isAsTold_78 : decode cX0_isAsTold 78 = .ok (.iconst 0, 1) := dk_3 (dk_at dksX0_isAsTold_3 7 rfl rfl)
theorem dX0_isAsTold_79 : decode cX0_isAsTold 79 = .ok (.ireturn, 1) := dk_172 (dk_at dksX0_isAsTold_3 8 rfl rfl)
abbrev cX0_dayOf : ByteArray := prog_1_method_35_code
def yX0_dayOf : MethodName := ⟨RX0, "dayOf", "([II)I"⟩
def dkwX0_dayOf_5 : List UInt8 := [28, 154, 0, 7, 3, 167, 0, 6, 28, 4, 100, 182, 1, 69, 172]
abbrev dktX0_dayOf_5 : List UInt8 := dkwX0_dayOf_5 ++ []
def dkwX0_dayOf_4 : List UInt8 := [16, 10, 100, 182, 0, 238, 153, 0, 8, 16, 247, 167, 0, 11, 42, 28, 16, 10, 100, 182, 0, 248, 172, 42]
abbrev dktX0_dayOf_4 : List UInt8 := dkwX0_dayOf_4 ++ dktX0_dayOf_5
def dkwX0_dayOf_3 : List UInt8 := [28, 4, 160, 0, 5, 29, 172, 29, 155, 0, 8, 16, 156, 29, 100, 172, 28, 16, 10, 161, 0, 28, 42, 28]
abbrev dktX0_dayOf_3 : List UInt8 := dkwX0_dayOf_3 ++ dktX0_dayOf_4
def dkwX0_dayOf_2 : List UInt8 := [185, 1, 64, 3, 0, 153, 0, 8, 16, 247, 167, 0, 7, 21, 4, 5, 108, 62, 132, 4, 2, 167, 255, 194]
abbrev dktX0_dayOf_2 : List UInt8 := dkwX0_dayOf_2 ++ dktX0_dayOf_3
def dkwX0_dayOf_1 : List UInt8 := [54, 5, 42, 180, 0, 19, 21, 5, 16, 10, 108, 50, 180, 1, 60, 43, 21, 4, 46, 21, 5, 16, 10, 112]
abbrev dktX0_dayOf_1 : List UInt8 := dkwX0_dayOf_1 ++ dktX0_dayOf_2
def dkwX0_dayOf_0 : List UInt8 := [16, 247, 62, 3, 54, 4, 21, 4, 43, 190, 162, 0, 61, 29, 156, 0, 57, 43, 21, 4, 4, 96, 46]
abbrev dktX0_dayOf_0 : List UInt8 := dkwX0_dayOf_0 ++ dktX0_dayOf_1
theorem dksX0_dayOf_0 : cX0_dayOf.data.toList.drop 0 = dktX0_dayOf_0 := by decide +kernel
theorem dksX0_dayOf_1 : cX0_dayOf.data.toList.drop 23 = dktX0_dayOf_1 := dk_seg dksX0_dayOf_0 23 rfl rfl
theorem dksX0_dayOf_2 : cX0_dayOf.data.toList.drop 47 = dktX0_dayOf_2 := dk_seg dksX0_dayOf_1 24 rfl rfl
theorem dksX0_dayOf_3 : cX0_dayOf.data.toList.drop 71 = dktX0_dayOf_3 := dk_seg dksX0_dayOf_2 24 rfl rfl
theorem dksX0_dayOf_4 : cX0_dayOf.data.toList.drop 95 = dktX0_dayOf_4 := dk_seg dksX0_dayOf_3 24 rfl rfl
theorem dksX0_dayOf_5 : cX0_dayOf.data.toList.drop 119 = dktX0_dayOf_5 := dk_seg dksX0_dayOf_4 24 rfl rfl
theorem dX0_dayOf_0 : decode cX0_dayOf 0 = .ok (.bipush (-9), 2) := dk_16 247 (dk_at dksX0_dayOf_0 0 rfl rfl)
theorem dX0_dayOf_2 : decode cX0_dayOf 2 = .ok (.istore_n 3, 1) := dk_62 (dk_at dksX0_dayOf_0 2 rfl rfl)
theorem dX0_dayOf_3 : decode cX0_dayOf 3 = .ok (.iconst 0, 1) := dk_3 (dk_at dksX0_dayOf_0 3 rfl rfl)
theorem dX0_dayOf_4 : decode cX0_dayOf 4 = .ok (.istore 4, 2) := dk_54 4 (dk_at dksX0_dayOf_0 4 rfl rfl)
theorem dX0_dayOf_6 : decode cX0_dayOf 6 = .ok (.iload 4, 2) := dk_21 4 (dk_at dksX0_dayOf_0 6 rfl rfl)
theorem dX0_dayOf_8 : decode cX0_dayOf 8 = .ok (.aload_n 1, 1) := dk_43 (dk_at dksX0_dayOf_0 8 rfl rfl)
theorem dX0_dayOf_9 : decode cX0_dayOf 9 = .ok (.arraylength, 1) := dk_190 (dk_at dksX0_dayOf_0 9 rfl rfl)
theorem dX0_dayOf_10 : decode cX0_dayOf 10 = .ok (.if_icmp .ge 61, 3) := dk_162 0 61 (dk_at dksX0_dayOf_0 10 rfl rfl)
theorem dX0_dayOf_13 : decode cX0_dayOf 13 = .ok (.iload_n 3, 1) := dk_29 (dk_at dksX0_dayOf_0 13 rfl rfl)
theorem dX0_dayOf_14 : decode cX0_dayOf 14 = .ok (.ifCond .ge 57, 3) := dk_156 0 57 (dk_at dksX0_dayOf_0 14 rfl rfl)
theorem dX0_dayOf_17 : decode cX0_dayOf 17 = .ok (.aload_n 1, 1) := dk_43 (dk_at dksX0_dayOf_0 17 rfl rfl)
theorem dX0_dayOf_18 : decode cX0_dayOf 18 = .ok (.iload 4, 2) := dk_21 4 (dk_at dksX0_dayOf_0 18 rfl rfl)
theorem dX0_dayOf_20 : decode cX0_dayOf 20 = .ok (.iconst 1, 1) := dk_4 (dk_at dksX0_dayOf_0 20 rfl rfl)
theorem dX0_dayOf_21 : decode cX0_dayOf 21 = .ok (.iadd, 1) := dk_96 (dk_at dksX0_dayOf_0 21 rfl rfl)
theorem dX0_dayOf_22 : decode cX0_dayOf 22 = .ok (.iaload, 1) := dk_46 (dk_at dksX0_dayOf_0 22 rfl rfl)
theorem dX0_dayOf_23 : decode cX0_dayOf 23 = .ok (.istore 5, 2) := dk_54 5 (dk_at dksX0_dayOf_1 0 rfl rfl)
theorem dX0_dayOf_25 : decode cX0_dayOf 25 = .ok (.aload_n 0, 1) := dk_42 (dk_at dksX0_dayOf_1 2 rfl rfl)
theorem dX0_dayOf_26 : decode cX0_dayOf 26 = .ok (.getfield 19, 3) := dk_180 0 19 (dk_at dksX0_dayOf_1 3 rfl rfl)
theorem dX0_dayOf_29 : decode cX0_dayOf 29 = .ok (.iload 5, 2) := dk_21 5 (dk_at dksX0_dayOf_1 6 rfl rfl)
theorem dX0_dayOf_31 : decode cX0_dayOf 31 = .ok (.bipush 10, 2) := dk_16 10 (dk_at dksX0_dayOf_1 8 rfl rfl)
theorem dX0_dayOf_33 : decode cX0_dayOf 33 = .ok (.idiv, 1) := dk_108 (dk_at dksX0_dayOf_1 10 rfl rfl)
theorem dX0_dayOf_34 : decode cX0_dayOf 34 = .ok (.aaload, 1) := dk_50 (dk_at dksX0_dayOf_1 11 rfl rfl)
theorem dX0_dayOf_35 : decode cX0_dayOf 35 = .ok (.getfield 316, 3) := dk_180 1 60 (dk_at dksX0_dayOf_1 12 rfl rfl)
theorem dX0_dayOf_38 : decode cX0_dayOf 38 = .ok (.aload_n 1, 1) := dk_43 (dk_at dksX0_dayOf_1 15 rfl rfl)
theorem dX0_dayOf_39 : decode cX0_dayOf 39 = .ok (.iload 4, 2) := dk_21 4 (dk_at dksX0_dayOf_1 16 rfl rfl)
theorem dX0_dayOf_41 : decode cX0_dayOf 41 = .ok (.iaload, 1) := dk_46 (dk_at dksX0_dayOf_1 18 rfl rfl)
theorem dX0_dayOf_42 : decode cX0_dayOf 42 = .ok (.iload 5, 2) := dk_21 5 (dk_at dksX0_dayOf_1 19 rfl rfl)
theorem dX0_dayOf_44 : decode cX0_dayOf 44 = .ok (.bipush 10, 2) := dk_16 10 (dk_at dksX0_dayOf_1 21 rfl rfl)
theorem dX0_dayOf_46 : decode cX0_dayOf 46 = .ok (.irem, 1) := dk_112 (dk_at dksX0_dayOf_1 23 rfl rfl)
theorem dX0_dayOf_47 : decode cX0_dayOf 47 = .ok (.invokeinterface 320 3, 5) := by decide +kernel
theorem dX0_dayOf_52 : decode cX0_dayOf 52 = .ok (.ifCond .eq 8, 3) := dk_153 0 8 (dk_at dksX0_dayOf_2 5 rfl rfl)
theorem dX0_dayOf_55 : decode cX0_dayOf 55 = .ok (.bipush (-9), 2) := dk_16 247 (dk_at dksX0_dayOf_2 8 rfl rfl)
theorem dX0_dayOf_57 : decode cX0_dayOf 57 = .ok (.goto 7, 3) := dk_167 0 7 (dk_at dksX0_dayOf_2 10 rfl rfl)
theorem dX0_dayOf_60 : decode cX0_dayOf 60 = .ok (.iload 4, 2) := dk_21 4 (dk_at dksX0_dayOf_2 13 rfl rfl)
theorem dX0_dayOf_62 : decode cX0_dayOf 62 = .ok (.iconst 2, 1) := dk_5 (dk_at dksX0_dayOf_2 15 rfl rfl)
theorem dX0_dayOf_63 : decode cX0_dayOf 63 = .ok (.idiv, 1) := dk_108 (dk_at dksX0_dayOf_2 16 rfl rfl)
theorem dX0_dayOf_64 : decode cX0_dayOf 64 = .ok (.istore_n 3, 1) := dk_62 (dk_at dksX0_dayOf_2 17 rfl rfl)
theorem dX0_dayOf_65 : decode cX0_dayOf 65 = .ok (.iinc 4 2, 3) := dk_132 4 2 (dk_at dksX0_dayOf_2 18 rfl rfl)
theorem dX0_dayOf_68 : decode cX0_dayOf 68 = .ok (.goto (-62), 3) := dk_167 255 194 (dk_at dksX0_dayOf_2 21 rfl rfl)
theorem dX0_dayOf_71 : decode cX0_dayOf 71 = .ok (.iload_n 2, 1) := dk_28 (dk_at dksX0_dayOf_3 0 rfl rfl)
theorem dX0_dayOf_72 : decode cX0_dayOf 72 = .ok (.iconst 1, 1) := dk_4 (dk_at dksX0_dayOf_3 1 rfl rfl)
theorem dX0_dayOf_73 : decode cX0_dayOf 73 = .ok (.if_icmp .ne 5, 3) := dk_160 0 5 (dk_at dksX0_dayOf_3 2 rfl rfl)
theorem dX0_dayOf_76 : decode cX0_dayOf 76 = .ok (.iload_n 3, 1) := dk_29 (dk_at dksX0_dayOf_3 5 rfl rfl)
theorem dX0_dayOf_77 : decode cX0_dayOf 77 = .ok (.ireturn, 1) := dk_172 (dk_at dksX0_dayOf_3 6 rfl rfl)
theorem dX0_dayOf_78 : decode cX0_dayOf 78 = .ok (.iload_n 3, 1) := dk_29 (dk_at dksX0_dayOf_3 7 rfl rfl)
theorem dX0_dayOf_79 : decode cX0_dayOf 79 = .ok (.ifCond .lt 8, 3) := dk_155 0 8 (dk_at dksX0_dayOf_3 8 rfl rfl)
theorem dX0_dayOf_82 : decode cX0_dayOf 82 = .ok (.bipush (-100), 2) := dk_16 156 (dk_at dksX0_dayOf_3 11 rfl rfl)
theorem dX0_dayOf_84 : decode cX0_dayOf 84 = .ok (.iload_n 3, 1) := dk_29 (dk_at dksX0_dayOf_3 13 rfl rfl)
theorem dX0_dayOf_85 : decode cX0_dayOf 85 = .ok (.isub, 1) := dk_100 (dk_at dksX0_dayOf_3 14 rfl rfl)
theorem dX0_dayOf_86 : decode cX0_dayOf 86 = .ok (.ireturn, 1) := dk_172 (dk_at dksX0_dayOf_3 15 rfl rfl)
theorem dX0_dayOf_87 : decode cX0_dayOf 87 = .ok (.iload_n 2, 1) := dk_28 (dk_at dksX0_dayOf_3 16 rfl rfl)
theorem dX0_dayOf_88 : decode cX0_dayOf 88 = .ok (.bipush 10, 2) := dk_16 10 (dk_at dksX0_dayOf_3 17 rfl rfl)
theorem dX0_dayOf_90 : decode cX0_dayOf 90 = .ok (.if_icmp .lt 28, 3) := dk_161 0 28 (dk_at dksX0_dayOf_3 19 rfl rfl)
theorem dX0_dayOf_93 : decode cX0_dayOf 93 = .ok (.aload_n 0, 1) := dk_42 (dk_at dksX0_dayOf_3 22 rfl rfl)
theorem dX0_dayOf_94 : decode cX0_dayOf 94 = .ok (.iload_n 2, 1) := dk_28 (dk_at dksX0_dayOf_3 23 rfl rfl)
theorem dX0_dayOf_95 : decode cX0_dayOf 95 = .ok (.bipush 10, 2) := dk_16 10 (dk_at dksX0_dayOf_4 0 rfl rfl)
theorem dX0_dayOf_97 : decode cX0_dayOf 97 = .ok (.isub, 1) := dk_100 (dk_at dksX0_dayOf_4 2 rfl rfl)
theorem dX0_dayOf_98 : decode cX0_dayOf 98 = .ok (.invokevirtual 238, 3) := dk_182 0 238 (dk_at dksX0_dayOf_4 3 rfl rfl)
theorem dX0_dayOf_101 : decode cX0_dayOf 101 = .ok (.ifCond .eq 8, 3) := dk_153 0 8 (dk_at dksX0_dayOf_4 6 rfl rfl)
theorem dX0_dayOf_104 : decode cX0_dayOf 104 = .ok (.bipush (-9), 2) := dk_16 247 (dk_at dksX0_dayOf_4 9 rfl rfl)
theorem dX0_dayOf_106 : decode cX0_dayOf 106 = .ok (.goto 11, 3) := dk_167 0 11 (dk_at dksX0_dayOf_4 11 rfl rfl)
theorem dX0_dayOf_109 : decode cX0_dayOf 109 = .ok (.aload_n 0, 1) := dk_42 (dk_at dksX0_dayOf_4 14 rfl rfl)
theorem dX0_dayOf_110 : decode cX0_dayOf 110 = .ok (.iload_n 2, 1) := dk_28 (dk_at dksX0_dayOf_4 15 rfl rfl)
theorem dX0_dayOf_111 : decode cX0_dayOf 111 = .ok (.bipush 10, 2) := dk_16 10 (dk_at dksX0_dayOf_4 16 rfl rfl)
theorem dX0_dayOf_113 : decode cX0_dayOf 113 = .ok (.isub, 1) := dk_100 (dk_at dksX0_dayOf_4 18 rfl rfl)
theorem dX0_dayOf_114 : decode cX0_dayOf 114 = .ok (.invokevirtual 248, 3) := dk_182 0 248 (dk_at dksX0_dayOf_4 19 rfl rfl)
theorem dX0_dayOf_117 : decode cX0_dayOf 117 = .ok (.ireturn, 1) := dk_172 (dk_at dksX0_dayOf_4 22 rfl rfl)
theorem dX0_dayOf_118 : decode cX0_dayOf 118 = .ok (.aload_n 0, 1) := dk_42 (dk_at dksX0_dayOf_4 23 rfl rfl)
theorem dX0_dayOf_119 : decode cX0_dayOf 119 = .ok (.iload_n 2, 1) := dk_28 (dk_at dksX0_dayOf_5 0 rfl rfl)
theorem dX0_dayOf_120 : decode cX0_dayOf 120 = .ok (.ifCond .ne 7, 3) := dk_154 0 7 (dk_at dksX0_dayOf_5 1 rfl rfl)
theorem dX0_dayOf_123 : decode cX0_dayOf 123 = .ok (.iconst 0, 1) := dk_3 (dk_at dksX0_dayOf_5 4 rfl rfl)
theorem dX0_dayOf_124 : decode cX0_dayOf 124 = .ok (.goto 6, 3) := dk_167 0 6 (dk_at dksX0_dayOf_5 5 rfl rfl)
theorem dX0_dayOf_127 : decode cX0_dayOf 127 = .ok (.iload_n 2, 1) := dk_28 (dk_at dksX0_dayOf_5 8 rfl rfl)
theorem dX0_dayOf_128 : decode cX0_dayOf 128 = .ok (.iconst 1, 1) := dk_4 (dk_at dksX0_dayOf_5 9 rfl rfl)
theorem dX0_dayOf_129 : decode cX0_dayOf 129 = .ok (.isub, 1) := dk_100 (dk_at dksX0_dayOf_5 10 rfl rfl)
theorem dX0_dayOf_130 : decode cX0_dayOf 130 = .ok (.invokevirtual 325, 3) := dk_182 1 69 (dk_at dksX0_dayOf_5 11 rfl rfl)
theorem dX0_dayOf_133 : decode cX0_dayOf 133 = .ok (.ireturn, 1) := dk_172 (dk_at dksX0_dayOf_5 14 rfl rfl)
abbrev cX0_copy : ByteArray := prog_1_method_64_code
def yX0_copy : MethodName := ⟨RX0, "copy", "(IIIII)I"⟩
def dkwX0_copy_1 : List UInt8 := [187, 1, 196, 89, 42, 27, 28, 29, 21, 4, 21, 5, 183, 1, 198, 182, 1, 201, 172]
abbrev dktX0_copy_1 : List UInt8 := dkwX0_copy_1 ++ []
def dkwX0_copy_0 : List UInt8 := [27, 184, 1, 119, 154, 0, 10, 29, 184, 1, 119, 153, 0, 11, 42, 2, 182, 1, 122, 167, 0, 21]
abbrev dktX0_copy_0 : List UInt8 := dkwX0_copy_0 ++ dktX0_copy_1
theorem dksX0_copy_0 : cX0_copy.data.toList.drop 0 = dktX0_copy_0 := by decide +kernel
theorem dksX0_copy_1 : cX0_copy.data.toList.drop 22 = dktX0_copy_1 := dk_seg dksX0_copy_0 22 rfl rfl
theorem dX0_copy_0 : decode cX0_copy 0 = .ok (.iload_n 1, 1) := dk_27 (dk_at dksX0_copy_0 0 rfl rfl)
theorem dX0_copy_1 : decode cX0_copy 1 = .ok (.invokestatic 375, 3) := dk_184 1 119 (dk_at dksX0_copy_0 1 rfl rfl)
theorem dX0_copy_4 : decode cX0_copy 4 = .ok (.ifCond .ne 10, 3) := dk_154 0 10 (dk_at dksX0_copy_0 4 rfl rfl)
theorem dX0_copy_7 : decode cX0_copy 7 = .ok (.iload_n 3, 1) := dk_29 (dk_at dksX0_copy_0 7 rfl rfl)
theorem dX0_copy_8 : decode cX0_copy 8 = .ok (.invokestatic 375, 3) := dk_184 1 119 (dk_at dksX0_copy_0 8 rfl rfl)
theorem dX0_copy_11 : decode cX0_copy 11 = .ok (.ifCond .eq 11, 3) := dk_153 0 11 (dk_at dksX0_copy_0 11 rfl rfl)
theorem dX0_copy_14 : decode cX0_copy 14 = .ok (.aload_n 0, 1) := dk_42 (dk_at dksX0_copy_0 14 rfl rfl)
theorem dX0_copy_15 : decode cX0_copy 15 = .ok (.iconst (-1), 1) := dk_2 (dk_at dksX0_copy_0 15 rfl rfl)
theorem dX0_copy_16 : decode cX0_copy 16 = .ok (.invokevirtual 378, 3) := dk_182 1 122 (dk_at dksX0_copy_0 16 rfl rfl)
theorem dX0_copy_19 : decode cX0_copy 19 = .ok (.goto 21, 3) := dk_167 0 21 (dk_at dksX0_copy_0 19 rfl rfl)
theorem dX0_copy_22 : decode cX0_copy 22 = .ok (.new 452, 3) := dk_187 1 196 (dk_at dksX0_copy_1 0 rfl rfl)
theorem dX0_copy_25 : decode cX0_copy 25 = .ok (.dup, 1) := dk_89 (dk_at dksX0_copy_1 3 rfl rfl)
theorem dX0_copy_26 : decode cX0_copy 26 = .ok (.aload_n 0, 1) := dk_42 (dk_at dksX0_copy_1 4 rfl rfl)
theorem dX0_copy_27 : decode cX0_copy 27 = .ok (.iload_n 1, 1) := dk_27 (dk_at dksX0_copy_1 5 rfl rfl)
theorem dX0_copy_28 : decode cX0_copy 28 = .ok (.iload_n 2, 1) := dk_28 (dk_at dksX0_copy_1 6 rfl rfl)
theorem dX0_copy_29 : decode cX0_copy 29 = .ok (.iload_n 3, 1) := dk_29 (dk_at dksX0_copy_1 7 rfl rfl)
theorem dX0_copy_30 : decode cX0_copy 30 = .ok (.iload 4, 2) := dk_21 4 (dk_at dksX0_copy_1 8 rfl rfl)
theorem dX0_copy_32 : decode cX0_copy 32 = .ok (.iload 5, 2) := dk_21 5 (dk_at dksX0_copy_1 10 rfl rfl)
theorem dX0_copy_34 : decode cX0_copy 34 = .ok (.invokespecial 454, 3) := dk_183 1 198 (dk_at dksX0_copy_1 12 rfl rfl)
theorem dX0_copy_37 : decode cX0_copy 37 = .ok (.invokevirtual 457, 3) := dk_182 1 201 (dk_at dksX0_copy_1 15 rfl rfl)
theorem dX0_copy_40 : decode cX0_copy 40 = .ok (.ireturn, 1) := dk_172 (dk_at dksX0_copy_1 18 rfl rfl)
abbrev cX0_tell : ByteArray := prog_1_method_65_code
def yX0_tell : MethodName := ⟨RX0, "tell", "(I)I"⟩
def dkwX0_tell_1 : List UInt8 := [192, 0, 84, 182, 1, 202, 172]
abbrev dktX0_tell_1 : List UInt8 := dkwX0_tell_1 ++ []
def dkwX0_tell_0 : List UInt8 := [42, 27, 182, 0, 238, 153, 0, 7, 2, 167, 0, 19, 42, 180, 0, 26, 27, 185, 0, 167, 2, 0]
abbrev dktX0_tell_0 : List UInt8 := dkwX0_tell_0 ++ dktX0_tell_1
theorem dksX0_tell_0 : cX0_tell.data.toList.drop 0 = dktX0_tell_0 := by decide +kernel
theorem dksX0_tell_1 : cX0_tell.data.toList.drop 22 = dktX0_tell_1 := dk_seg dksX0_tell_0 22 rfl rfl
theorem dX0_tell_0 : decode cX0_tell 0 = .ok (.aload_n 0, 1) := dk_42 (dk_at dksX0_tell_0 0 rfl rfl)
theorem dX0_tell_1 : decode cX0_tell 1 = .ok (.iload_n 1, 1) := dk_27 (dk_at dksX0_tell_0 1 rfl rfl)
theorem dX0_tell_2 : decode cX0_tell 2 = .ok (.invokevirtual 238, 3) := dk_182 0 238 (dk_at dksX0_tell_0 2 rfl rfl)
theorem dX0_tell_5 : decode cX0_tell 5 = .ok (.ifCond .eq 7, 3) := dk_153 0 7 (dk_at dksX0_tell_0 5 rfl rfl)
theorem dX0_tell_8 : decode cX0_tell 8 = .ok (.iconst (-1), 1) := dk_2 (dk_at dksX0_tell_0 8 rfl rfl)
theorem dX0_tell_9 : decode cX0_tell 9 = .ok (.goto 19, 3) := dk_167 0 19 (dk_at dksX0_tell_0 9 rfl rfl)
theorem dX0_tell_12 : decode cX0_tell 12 = .ok (.aload_n 0, 1) := dk_42 (dk_at dksX0_tell_0 12 rfl rfl)
theorem dX0_tell_13 : decode cX0_tell 13 = .ok (.getfield 26, 3) := dk_180 0 26 (dk_at dksX0_tell_0 13 rfl rfl)
theorem dX0_tell_16 : decode cX0_tell 16 = .ok (.iload_n 1, 1) := dk_27 (dk_at dksX0_tell_0 16 rfl rfl)
theorem dX0_tell_17 : decode cX0_tell 17 = .ok (.invokeinterface 167 2, 5) := by decide +kernel
theorem dX0_tell_22 : decode cX0_tell 22 = .ok (.checkcast 84, 3) := dk_192 0 84 (dk_at dksX0_tell_1 0 rfl rfl)
theorem dX0_tell_25 : decode cX0_tell 25 = .ok (.invokevirtual 458, 3) := dk_182 1 202 (dk_at dksX0_tell_1 3 rfl rfl)
theorem dX0_tell_28 : decode cX0_tell 28 = .ok (.ireturn, 1) := dk_172 (dk_at dksX0_tell_1 6 rfl rfl)
abbrev cX0_read : ByteArray := prog_1_method_66_code
def yX0_read : MethodName := ⟨RX0, "read", "(I)I"⟩
def dkwX0_read_1 : List UInt8 := [44, 185, 1, 207, 1, 0, 172]
abbrev dktX0_read_1 : List UInt8 := dkwX0_read_1 ++ []
def dkwX0_read_0 : List UInt8 := [42, 27, 182, 0, 238, 153, 0, 5, 2, 172, 42, 180, 0, 26, 27, 185, 0, 167, 2, 0, 192, 1, 205, 77]
abbrev dktX0_read_0 : List UInt8 := dkwX0_read_0 ++ dktX0_read_1
theorem dksX0_read_0 : cX0_read.data.toList.drop 0 = dktX0_read_0 := by decide +kernel
theorem dksX0_read_1 : cX0_read.data.toList.drop 24 = dktX0_read_1 := dk_seg dksX0_read_0 24 rfl rfl
theorem dX0_read_0 : decode cX0_read 0 = .ok (.aload_n 0, 1) := dk_42 (dk_at dksX0_read_0 0 rfl rfl)
theorem dX0_read_1 : decode cX0_read 1 = .ok (.iload_n 1, 1) := dk_27 (dk_at dksX0_read_0 1 rfl rfl)
theorem dX0_read_2 : decode cX0_read 2 = .ok (.invokevirtual 238, 3) := dk_182 0 238 (dk_at dksX0_read_0 2 rfl rfl)
theorem dX0_read_5 : decode cX0_read 5 = .ok (.ifCond .eq 5, 3) := dk_153 0 5 (dk_at dksX0_read_0 5 rfl rfl)
theorem dX0_read_8 : decode cX0_read 8 = .ok (.iconst (-1), 1) := dk_2 (dk_at dksX0_read_0 8 rfl rfl)
theorem dX0_read_9 : decode cX0_read 9 = .ok (.ireturn, 1) := dk_172 (dk_at dksX0_read_0 9 rfl rfl)
theorem dX0_read_10 : decode cX0_read 10 = .ok (.aload_n 0, 1) := dk_42 (dk_at dksX0_read_0 10 rfl rfl)
theorem dX0_read_11 : decode cX0_read 11 = .ok (.getfield 26, 3) := dk_180 0 26 (dk_at dksX0_read_0 11 rfl rfl)
theorem dX0_read_14 : decode cX0_read 14 = .ok (.iload_n 1, 1) := dk_27 (dk_at dksX0_read_0 14 rfl rfl)
theorem dX0_read_15 : decode cX0_read 15 = .ok (.invokeinterface 167 2, 5) := by decide +kernel
theorem dX0_read_20 : decode cX0_read 20 = .ok (.checkcast 461, 3) := dk_192 1 205 (dk_at dksX0_read_0 20 rfl rfl)
theorem dX0_read_23 : decode cX0_read 23 = .ok (.astore_n 2, 1) := dk_77 (dk_at dksX0_read_0 23 rfl rfl)
theorem dX0_read_24 : decode cX0_read 24 = .ok (.aload_n 2, 1) := dk_44 (dk_at dksX0_read_1 0 rfl rfl)
theorem dX0_read_25 : decode cX0_read 25 = .ok (.invokeinterface 463 1, 5) := by decide +kernel
theorem dX0_read_30 : decode cX0_read 30 = .ok (.ireturn, 1) := dk_172 (dk_at dksX0_read_1 6 rfl rfl)
abbrev cX0_as : ByteArray := prog_1_method_67_code
def yX0_as : MethodName := ⟨RX0, "as", "(II)I"⟩
def dkwX0_as_2 : List UInt8 := [183, 1, 212, 182, 1, 215, 167, 0, 9, 42, 16, 254, 182, 1, 122, 172]
abbrev dktX0_as_2 : List UInt8 := dkwX0_as_2 ++ []
def dkwX0_as_1 : List UInt8 := [153, 0, 31, 187, 1, 210, 89, 42, 42, 180, 0, 26, 27, 185, 0, 167, 2, 0, 192, 0, 84, 28]
abbrev dktX0_as_1 : List UInt8 := dkwX0_as_1 ++ dktX0_as_2
def dkwX0_as_0 : List UInt8 := [42, 27, 182, 0, 238, 153, 0, 9, 42, 2, 182, 1, 122, 172, 28, 133, 9, 20, 1, 1, 184, 0, 105]
abbrev dktX0_as_0 : List UInt8 := dkwX0_as_0 ++ dktX0_as_1
theorem dksX0_as_0 : cX0_as.data.toList.drop 0 = dktX0_as_0 := by decide +kernel
theorem dksX0_as_1 : cX0_as.data.toList.drop 23 = dktX0_as_1 := dk_seg dksX0_as_0 23 rfl rfl
theorem dksX0_as_2 : cX0_as.data.toList.drop 45 = dktX0_as_2 := dk_seg dksX0_as_1 22 rfl rfl
theorem dX0_as_0 : decode cX0_as 0 = .ok (.aload_n 0, 1) := dk_42 (dk_at dksX0_as_0 0 rfl rfl)
theorem dX0_as_1 : decode cX0_as 1 = .ok (.iload_n 1, 1) := dk_27 (dk_at dksX0_as_0 1 rfl rfl)
theorem dX0_as_2 : decode cX0_as 2 = .ok (.invokevirtual 238, 3) := dk_182 0 238 (dk_at dksX0_as_0 2 rfl rfl)
theorem dX0_as_5 : decode cX0_as 5 = .ok (.ifCond .eq 9, 3) := dk_153 0 9 (dk_at dksX0_as_0 5 rfl rfl)
theorem dX0_as_8 : decode cX0_as 8 = .ok (.aload_n 0, 1) := dk_42 (dk_at dksX0_as_0 8 rfl rfl)
theorem dX0_as_9 : decode cX0_as 9 = .ok (.iconst (-1), 1) := dk_2 (dk_at dksX0_as_0 9 rfl rfl)
theorem dX0_as_10 : decode cX0_as 10 = .ok (.invokevirtual 378, 3) := dk_182 1 122 (dk_at dksX0_as_0 10 rfl rfl)
theorem dX0_as_13 : decode cX0_as 13 = .ok (.ireturn, 1) := dk_172 (dk_at dksX0_as_0 13 rfl rfl)
theorem dX0_as_14 : decode cX0_as 14 = .ok (.iload_n 2, 1) := dk_28 (dk_at dksX0_as_0 14 rfl rfl)
theorem dX0_as_15 : decode cX0_as 15 = .ok (.i2l, 1) := dk_133 (dk_at dksX0_as_0 15 rfl rfl)
theorem dX0_as_16 : decode cX0_as 16 = .ok (.lconst 0, 1) := dk_9 (dk_at dksX0_as_0 16 rfl rfl)
theorem dX0_as_17 : decode cX0_as 17 = .ok (.ldc2_w 257, 3) := dk_20 1 1 (dk_at dksX0_as_0 17 rfl rfl)
theorem dX0_as_20 : decode cX0_as 20 = .ok (.invokestatic 105, 3) := dk_184 0 105 (dk_at dksX0_as_0 20 rfl rfl)
theorem dX0_as_23 : decode cX0_as 23 = .ok (.ifCond .eq 31, 3) := dk_153 0 31 (dk_at dksX0_as_1 0 rfl rfl)
theorem dX0_as_26 : decode cX0_as 26 = .ok (.new 466, 3) := dk_187 1 210 (dk_at dksX0_as_1 3 rfl rfl)
theorem dX0_as_29 : decode cX0_as 29 = .ok (.dup, 1) := dk_89 (dk_at dksX0_as_1 6 rfl rfl)
theorem dX0_as_30 : decode cX0_as 30 = .ok (.aload_n 0, 1) := dk_42 (dk_at dksX0_as_1 7 rfl rfl)
theorem dX0_as_31 : decode cX0_as 31 = .ok (.aload_n 0, 1) := dk_42 (dk_at dksX0_as_1 8 rfl rfl)
theorem dX0_as_32 : decode cX0_as 32 = .ok (.getfield 26, 3) := dk_180 0 26 (dk_at dksX0_as_1 9 rfl rfl)
theorem dX0_as_35 : decode cX0_as 35 = .ok (.iload_n 1, 1) := dk_27 (dk_at dksX0_as_1 12 rfl rfl)
theorem dX0_as_36 : decode cX0_as 36 = .ok (.invokeinterface 167 2, 5) := by decide +kernel
theorem dX0_as_41 : decode cX0_as 41 = .ok (.checkcast 84, 3) := dk_192 0 84 (dk_at dksX0_as_1 18 rfl rfl)
theorem dX0_as_44 : decode cX0_as 44 = .ok (.iload_n 2, 1) := dk_28 (dk_at dksX0_as_1 21 rfl rfl)
theorem dX0_as_45 : decode cX0_as 45 = .ok (.invokespecial 468, 3) := dk_183 1 212 (dk_at dksX0_as_2 0 rfl rfl)
theorem dX0_as_48 : decode cX0_as 48 = .ok (.invokevirtual 471, 3) := dk_182 1 215 (dk_at dksX0_as_2 3 rfl rfl)
theorem dX0_as_51 : decode cX0_as 51 = .ok (.goto 9, 3) := dk_167 0 9 (dk_at dksX0_as_2 6 rfl rfl)
theorem dX0_as_54 : decode cX0_as 54 = .ok (.aload_n 0, 1) := dk_42 (dk_at dksX0_as_2 9 rfl rfl)
theorem dX0_as_55 : decode cX0_as 55 = .ok (.bipush (-2), 2) := dk_16 254 (dk_at dksX0_as_2 10 rfl rfl)
theorem dX0_as_57 : decode cX0_as 57 = .ok (.invokevirtual 378, 3) := dk_182 1 122 (dk_at dksX0_as_2 12 rfl rfl)
theorem dX0_as_60 : decode cX0_as 60 = .ok (.ireturn, 1) := dk_172 (dk_at dksX0_as_2 15 rfl rfl)
abbrev cX0_trace : ByteArray := prog_1_method_68_code
def yX0_trace : MethodName := ⟨RX0, "trace", "()I"⟩
theorem dX0_trace_0 : decode cX0_trace 0 = .ok (.aload_n 0, 1) := by decide +kernel
theorem dX0_trace_1 : decode cX0_trace 1 = .ok (.getfield 472, 3) := by decide +kernel
theorem dX0_trace_4 : decode cX0_trace 4 = .ok (.ireturn, 1) := by decide +kernel
abbrev cX0_fault : ByteArray := prog_1_method_69_code
def yX0_fault : MethodName := ⟨RX0, "fault", "()I"⟩
theorem dX0_fault_0 : decode cX0_fault 0 = .ok (.aload_n 0, 1) := by decide +kernel
theorem dX0_fault_1 : decode cX0_fault 1 = .ok (.getfield 363, 3) := by decide +kernel
theorem dX0_fault_4 : decode cX0_fault 4 = .ok (.ireturn, 1) := by decide +kernel
abbrev cX0_many : ByteArray := prog_1_method_70_code
def yX0_many : MethodName := ⟨RX0, "many", "(I)I"⟩
def dkwX0_many_3 : List UInt8 := [172, 42, 180, 0, 164, 172, 42, 180, 0, 55, 185, 0, 101, 1, 0, 172, 16, 254, 172]
abbrev dktX0_many_3 : List UInt8 := dkwX0_many_3 ++ []
def dkwX0_many_2 : List UInt8 := [42, 180, 0, 26, 185, 0, 101, 1, 0, 172, 42, 180, 0, 109, 172, 42, 180, 0, 158, 172, 42, 180, 0, 161]
abbrev dktX0_many_2 : List UInt8 := dkwX0_many_2 ++ dktX0_many_3
def dkwX0_many_1 : List UInt8 := [170, 0, 0, 0, 0, 0, 79, 0, 0, 0, 0, 0, 0, 0, 5, 0, 0, 0, 39, 0, 0, 0, 49, 0, 0, 0, 54, 0, 0, 0, 59, 0, 0, 0, 64, 0, 0, 0, 69]
abbrev dktX0_many_1 : List UInt8 := dkwX0_many_1 ++ dktX0_many_2
def dkwX0_many_0 : List UInt8 := [27]
abbrev dktX0_many_0 : List UInt8 := dkwX0_many_0 ++ dktX0_many_1
theorem dksX0_many_0 : cX0_many.data.toList.drop 0 = dktX0_many_0 := by decide +kernel
theorem dksX0_many_1 : cX0_many.data.toList.drop 1 = dktX0_many_1 := dk_seg dksX0_many_0 1 rfl rfl
theorem dksX0_many_2 : cX0_many.data.toList.drop 40 = dktX0_many_2 := dk_seg dksX0_many_1 39 rfl rfl
theorem dksX0_many_3 : cX0_many.data.toList.drop 64 = dktX0_many_3 := dk_seg dksX0_many_2 24 rfl rfl
theorem dX0_many_0 : decode cX0_many 0 = .ok (.iload_n 1, 1) := dk_27 (dk_at dksX0_many_0 0 rfl rfl)
theorem dX0_many_1 : decode cX0_many 1 = .ok (.tableswitch 79 0 5 #[39, 49, 54, 59, 64, 69], 39) := by decide +kernel
theorem dX0_many_40 : decode cX0_many 40 = .ok (.aload_n 0, 1) := dk_42 (dk_at dksX0_many_2 0 rfl rfl)
theorem dX0_many_41 : decode cX0_many 41 = .ok (.getfield 26, 3) := dk_180 0 26 (dk_at dksX0_many_2 1 rfl rfl)
theorem dX0_many_44 : decode cX0_many 44 = .ok (.invokeinterface 101 1, 5) := by decide +kernel
theorem dX0_many_49 : decode cX0_many 49 = .ok (.ireturn, 1) := dk_172 (dk_at dksX0_many_2 9 rfl rfl)
theorem dX0_many_50 : decode cX0_many 50 = .ok (.aload_n 0, 1) := dk_42 (dk_at dksX0_many_2 10 rfl rfl)
theorem dX0_many_51 : decode cX0_many 51 = .ok (.getfield 109, 3) := dk_180 0 109 (dk_at dksX0_many_2 11 rfl rfl)
theorem dX0_many_54 : decode cX0_many 54 = .ok (.ireturn, 1) := dk_172 (dk_at dksX0_many_2 14 rfl rfl)
theorem dX0_many_55 : decode cX0_many 55 = .ok (.aload_n 0, 1) := dk_42 (dk_at dksX0_many_2 15 rfl rfl)
theorem dX0_many_56 : decode cX0_many 56 = .ok (.getfield 158, 3) := dk_180 0 158 (dk_at dksX0_many_2 16 rfl rfl)
theorem dX0_many_59 : decode cX0_many 59 = .ok (.ireturn, 1) := dk_172 (dk_at dksX0_many_2 19 rfl rfl)
theorem dX0_many_60 : decode cX0_many 60 = .ok (.aload_n 0, 1) := dk_42 (dk_at dksX0_many_2 20 rfl rfl)
theorem dX0_many_61 : decode cX0_many 61 = .ok (.getfield 161, 3) := dk_180 0 161 (dk_at dksX0_many_2 21 rfl rfl)
theorem dX0_many_64 : decode cX0_many 64 = .ok (.ireturn, 1) := dk_172 (dk_at dksX0_many_3 0 rfl rfl)
theorem dX0_many_65 : decode cX0_many 65 = .ok (.aload_n 0, 1) := dk_42 (dk_at dksX0_many_3 1 rfl rfl)
theorem dX0_many_66 : decode cX0_many 66 = .ok (.getfield 164, 3) := dk_180 0 164 (dk_at dksX0_many_3 2 rfl rfl)
theorem dX0_many_69 : decode cX0_many 69 = .ok (.ireturn, 1) := dk_172 (dk_at dksX0_many_3 5 rfl rfl)
theorem dX0_many_70 : decode cX0_many 70 = .ok (.aload_n 0, 1) := dk_42 (dk_at dksX0_many_3 6 rfl rfl)
theorem dX0_many_71 : decode cX0_many 71 = .ok (.getfield 55, 3) := dk_180 0 55 (dk_at dksX0_many_3 7 rfl rfl)
theorem dX0_many_74 : decode cX0_many 74 = .ok (.invokeinterface 101 1, 5) := by decide +kernel
theorem dX0_many_79 : decode cX0_many 79 = .ok (.ireturn, 1) := dk_172 (dk_at dksX0_many_3 15 rfl rfl)
theorem dX0_many_80 : decode cX0_many 80 = .ok (.bipush (-2), 2) := dk_16 254 (dk_at dksX0_many_3 16 rfl rfl)
theorem dX0_many_82 : decode cX0_many 82 = .ok (.ireturn, 1) := dk_172 (dk_at dksX0_many_3 18 rfl rfl)
theorem q68 : (Jvm.Cond.initialized "BookPairs") ∈ lw_all := lw_g (lw_at lw_m1 1 rfl) rfl
theorem q108 : (Jvm.Cond.instantiable "BookPairs" (19 : Nat)) ∈ lw_all := lw_g (lw_at lw_m1 41 rfl) rfl
theorem q110 : (Jvm.Cond.instanceMethod ({ cls := "BookPairs", name := "<init>", desc := "()V" } : Jvm.MethodName)) ∈ lw_all := lw_g (lw_at lw_m1 43 rfl) rfl
theorem q111 : (Jvm.Cond.code ({ cls := "BookPairs", name := "<init>", desc := "()V" } : Jvm.MethodName) prog_1_method_4_code (1 : Nat) (Option.none : Option Jvm.ClassFile.FieldType)) ∈ lw_all := lw_g (lw_at lw_m1 44 rfl) rfl
theorem q112 : (Jvm.Cond.methodLink "BookPairs" (3 : Nat) ({ cls := "java/lang/Object", name := "<init>", desc := "()V" } : Jvm.MethodName)) ∈ lw_all := lw_g (lw_at lw_m1 45 rfl) rfl
theorem q115 : (Jvm.Cond.classLink "BookPairs" (11 : Nat) "BookPairs$Sort") ∈ lw_all := lw_g (lw_at lw_m1 48 rfl) rfl
theorem q117 : (Jvm.Cond.classLink "BookPairs" (17 : Nat) "BookPairs$Doing") ∈ lw_all := lw_g (lw_at lw_m1 50 rfl) rfl
theorem q119 : (Jvm.Cond.classLink "BookPairs" (23 : Nat) "java/util/ArrayList") ∈ lw_all := lw_g (lw_at lw_m1 52 rfl) rfl
theorem q121 : (Jvm.Cond.methodLink "BookPairs" (25 : Nat) ({ cls := "java/util/ArrayList", name := "<init>", desc := "()V" } : Jvm.MethodName)) ∈ lw_all := lw_g (lw_at lw_m1 54 rfl) rfl
theorem q145 : (Jvm.Cond.classLink "BookPairs" (58 : Nat) "BookPairs$Sheet") ∈ lw_all := lw_g (lw_at lw_m1 78 rfl) rfl
theorem q148 : (Jvm.Cond.privateMethod ({ cls := "BookPairs", name := "lambda$new$0", desc := "(II)I" } : Jvm.MethodName)) ∈ lw_tbl := lw_at lw_m1 81 rfl
theorem q149 : (Jvm.Cond.instanceMethod ({ cls := "BookPairs", name := "lambda$new$0", desc := "(II)I" } : Jvm.MethodName)) ∈ lw_all := lw_g (lw_at lw_m1 82 rfl) rfl
theorem q150 : (Jvm.Cond.code ({ cls := "BookPairs", name := "lambda$new$0", desc := "(II)I" } : Jvm.MethodName) prog_1_method_79_code (3 : Nat) (Option.some Jvm.ClassFile.FieldType.int)) ∈ lw_all := lw_g (lw_at lw_m1 83 rfl) rfl
theorem q151 : (Jvm.Cond.methodLink "BookPairs" (484 : Nat) ({ cls := "BookPairs", name := "differs", desc := "(IIII)I" } : Jvm.MethodName)) ∈ lw_all := lw_g (lw_at lw_m1 84 rfl) rfl
theorem q152 : (Jvm.Cond.privateMethod ({ cls := "BookPairs", name := "differs", desc := "(IIII)I" } : Jvm.MethodName)) ∈ lw_tbl := lw_at lw_m1 85 rfl
theorem q153 : (Jvm.Cond.instanceMethod ({ cls := "BookPairs", name := "differs", desc := "(IIII)I" } : Jvm.MethodName)) ∈ lw_all := lw_g (lw_at lw_m1 86 rfl) rfl
theorem q154 : (Jvm.Cond.code ({ cls := "BookPairs", name := "differs", desc := "(IIII)I" } : Jvm.MethodName) prog_1_method_16_code (9 : Nat) (Option.some Jvm.ClassFile.FieldType.int)) ∈ lw_all := lw_g (lw_at lw_m1 87 rfl) rfl
theorem q155 : (Jvm.Cond.interfaceEntry "BookPairs" (167 : Nat)) ∈ lw_tbl := lw_at lw_m1 88 rfl
theorem q156 : (Jvm.Cond.methodLink "BookPairs" (167 : Nat) ({ cls := "java/util/List", name := "get", desc := "(I)Ljava/lang/Object;" } : Jvm.MethodName)) ∈ lw_all := lw_g (lw_at lw_m1 89 rfl) rfl
theorem q175 : (Jvm.Cond.classLink "BookPairs" (84 : Nat) "BookPairs$Plain") ∈ lw_all := lw_g (lw_at lw_m1 108 rfl) rfl
theorem q176 : (Jvm.Cond.methodLink "BookPairs" (171 : Nat) ({ cls := "BookPairs$Plain", name := "length", desc := "()I" } : Jvm.MethodName)) ∈ lw_all := lw_g (lw_at lw_m1 109 rfl) rfl
theorem q196 : (Jvm.Cond.methodLink "BookPairs" (177 : Nat) ({ cls := "BookPairs", name := "anchorBit", desc := "(I)I" } : Jvm.MethodName)) ∈ lw_all := lw_g (lw_at lw_m1 129 rfl) rfl
theorem q197 : (Jvm.Cond.static ({ cls := "BookPairs", name := "anchorBit", desc := "(I)I" } : Jvm.MethodName)) ∈ lw_all := lw_g (lw_at lw_m1 130 rfl) rfl
theorem q198 : (Jvm.Cond.code ({ cls := "BookPairs", name := "anchorBit", desc := "(I)I" } : Jvm.MethodName) prog_1_method_15_code (1 : Nat) (Option.some Jvm.ClassFile.FieldType.int)) ∈ lw_all := lw_g (lw_at lw_m1 131 rfl) rfl
theorem q199 : (Jvm.Cond.methodLink "BookPairs" (181 : Nat) ({ cls := "java/lang/Math", name := "abs", desc := "(I)I" } : Jvm.MethodName)) ∈ lw_all := lw_g (lw_at lw_m1 132 rfl) rfl
theorem q202 : (Jvm.Cond.methodLink "BookPairs" (68 : Nat) ({ cls := "BookPairs$Sort", name := "<init>", desc := "(LBookPairs$Cost;)V" } : Jvm.MethodName)) ∈ lw_all := lw_g (lw_at lw_m1 135 rfl) rfl
theorem q209 : (Jvm.Cond.fieldLinkNest "BookPairs" (194 : Nat) "BookPairs$Sort" "cost" "LBookPairs$Cost;" "BookPairs") ∈ lw_tbl := lw_at lw_m1 142 rfl
theorem q214 : (Jvm.Cond.privateMethod ({ cls := "BookPairs", name := "lambda$new$1", desc := "(II)I" } : Jvm.MethodName)) ∈ lw_tbl := lw_at lw_m1 147 rfl
theorem q215 : (Jvm.Cond.instanceMethod ({ cls := "BookPairs", name := "lambda$new$1", desc := "(II)I" } : Jvm.MethodName)) ∈ lw_all := lw_g (lw_at lw_m1 148 rfl) rfl
theorem q216 : (Jvm.Cond.code ({ cls := "BookPairs", name := "lambda$new$1", desc := "(II)I" } : Jvm.MethodName) prog_1_method_78_code (3 : Nat) (Option.some Jvm.ClassFile.FieldType.int)) ∈ lw_all := lw_g (lw_at lw_m1 149 rfl) rfl
theorem q217 : (Jvm.Cond.privateMethod ({ cls := "BookPairs", name := "lambda$new$2", desc := "(II)I" } : Jvm.MethodName)) ∈ lw_tbl := lw_at lw_m1 150 rfl
theorem q218 : (Jvm.Cond.instanceMethod ({ cls := "BookPairs", name := "lambda$new$2", desc := "(II)I" } : Jvm.MethodName)) ∈ lw_all := lw_g (lw_at lw_m1 151 rfl) rfl
theorem q219 : (Jvm.Cond.code ({ cls := "BookPairs", name := "lambda$new$2", desc := "(II)I" } : Jvm.MethodName) prog_1_method_77_code (3 : Nat) (Option.some Jvm.ClassFile.FieldType.int)) ∈ lw_all := lw_g (lw_at lw_m1 152 rfl) rfl
theorem q220 : (Jvm.Cond.privateMethod ({ cls := "BookPairs", name := "lambda$new$3", desc := "(II)I" } : Jvm.MethodName)) ∈ lw_tbl := lw_at lw_m1 153 rfl
theorem q221 : (Jvm.Cond.instanceMethod ({ cls := "BookPairs", name := "lambda$new$3", desc := "(II)I" } : Jvm.MethodName)) ∈ lw_all := lw_g (lw_at lw_m1 154 rfl) rfl
theorem q222 : (Jvm.Cond.code ({ cls := "BookPairs", name := "lambda$new$3", desc := "(II)I" } : Jvm.MethodName) prog_1_method_76_code (3 : Nat) (Option.some Jvm.ClassFile.FieldType.int)) ∈ lw_all := lw_g (lw_at lw_m1 155 rfl) rfl
theorem q223 : (Jvm.Cond.privateMethod ({ cls := "BookPairs", name := "lambda$new$4", desc := "(II)I" } : Jvm.MethodName)) ∈ lw_tbl := lw_at lw_m1 156 rfl
theorem q224 : (Jvm.Cond.instanceMethod ({ cls := "BookPairs", name := "lambda$new$4", desc := "(II)I" } : Jvm.MethodName)) ∈ lw_all := lw_g (lw_at lw_m1 157 rfl) rfl
theorem q225 : (Jvm.Cond.code ({ cls := "BookPairs", name := "lambda$new$4", desc := "(II)I" } : Jvm.MethodName) prog_1_method_75_code (3 : Nat) (Option.some Jvm.ClassFile.FieldType.int)) ∈ lw_all := lw_g (lw_at lw_m1 158 rfl) rfl
theorem q227 : (Jvm.Cond.privateMethod ({ cls := "BookPairs", name := "lambda$new$5", desc := "(II)Z" } : Jvm.MethodName)) ∈ lw_tbl := lw_at lw_m1 160 rfl
theorem q228 : (Jvm.Cond.instanceMethod ({ cls := "BookPairs", name := "lambda$new$5", desc := "(II)Z" } : Jvm.MethodName)) ∈ lw_all := lw_g (lw_at lw_m1 161 rfl) rfl
theorem q229 : (Jvm.Cond.code ({ cls := "BookPairs", name := "lambda$new$5", desc := "(II)Z" } : Jvm.MethodName) prog_1_method_74_code (3 : Nat) (Option.some Jvm.ClassFile.FieldType.boolean)) ∈ lw_all := lw_g (lw_at lw_m1 162 rfl) rfl
theorem q230 : (Jvm.Cond.methodLink "BookPairs" (481 : Nat) ({ cls := "BookPairs", name := "letters", desc := "(III)I" } : Jvm.MethodName)) ∈ lw_all := lw_g (lw_at lw_m1 163 rfl) rfl
theorem q231 : (Jvm.Cond.instanceMethod ({ cls := "BookPairs", name := "letters", desc := "(III)I" } : Jvm.MethodName)) ∈ lw_all := lw_g (lw_at lw_m1 164 rfl) rfl
theorem q232 : (Jvm.Cond.selects "BookPairs" ({ cls := "BookPairs", name := "letters", desc := "(III)I" } : Jvm.MethodName) ({ cls := "BookPairs", name := "letters", desc := "(III)I" } : Jvm.MethodName)) ∈ lw_all := lw_g (lw_at lw_m1 165 rfl) rfl
theorem q233 : (Jvm.Cond.code ({ cls := "BookPairs", name := "letters", desc := "(III)I" } : Jvm.MethodName) prog_1_method_28_code (5 : Nat) (Option.some Jvm.ClassFile.FieldType.int)) ∈ lw_all := lw_g (lw_at lw_m1 166 rfl) rfl
theorem q234 : (Jvm.Cond.methodLink "BookPairs" (105 : Nat) ({ cls := "BookPairs", name := "in", desc := "(JJJ)Z" } : Jvm.MethodName)) ∈ lw_all := lw_g (lw_at lw_m1 167 rfl) rfl
theorem q235 : (Jvm.Cond.static ({ cls := "BookPairs", name := "in", desc := "(JJJ)Z" } : Jvm.MethodName)) ∈ lw_all := lw_g (lw_at lw_m1 168 rfl) rfl
theorem q236 : (Jvm.Cond.code ({ cls := "BookPairs", name := "in", desc := "(JJJ)Z" } : Jvm.MethodName) prog_1_method_3_code (6 : Nat) (Option.some Jvm.ClassFile.FieldType.boolean)) ∈ lw_all := lw_g (lw_at lw_m1 169 rfl) rfl
theorem q237 : (Jvm.Cond.methodLink "BookPairs" (238 : Nat) ({ cls := "BookPairs", name := "noLeft", desc := "(I)Z" } : Jvm.MethodName)) ∈ lw_all := lw_g (lw_at lw_m1 170 rfl) rfl
theorem q238 : (Jvm.Cond.privateMethod ({ cls := "BookPairs", name := "noLeft", desc := "(I)Z" } : Jvm.MethodName)) ∈ lw_tbl := lw_at lw_m1 171 rfl
theorem q239 : (Jvm.Cond.instanceMethod ({ cls := "BookPairs", name := "noLeft", desc := "(I)Z" } : Jvm.MethodName)) ∈ lw_all := lw_g (lw_at lw_m1 172 rfl) rfl
theorem q240 : (Jvm.Cond.code ({ cls := "BookPairs", name := "noLeft", desc := "(I)Z" } : Jvm.MethodName) prog_1_method_7_code (2 : Nat) (Option.some Jvm.ClassFile.FieldType.boolean)) ∈ lw_all := lw_g (lw_at lw_m1 173 rfl) rfl
theorem q241 : (Jvm.Cond.interfaceEntry "BookPairs" (101 : Nat)) ∈ lw_tbl := lw_at lw_m1 174 rfl
theorem q242 : (Jvm.Cond.methodLink "BookPairs" (101 : Nat) ({ cls := "java/util/List", name := "size", desc := "()I" } : Jvm.MethodName)) ∈ lw_all := lw_g (lw_at lw_m1 175 rfl) rfl
theorem q250 : (Jvm.Cond.methodLink "BookPairs" (251 : Nat) ({ cls := "BookPairs", name := "noRight", desc := "(I)Z" } : Jvm.MethodName)) ∈ lw_all := lw_g (lw_at lw_m1 183 rfl) rfl
theorem q251 : (Jvm.Cond.privateMethod ({ cls := "BookPairs", name := "noRight", desc := "(I)Z" } : Jvm.MethodName)) ∈ lw_tbl := lw_at lw_m1 184 rfl
theorem q252 : (Jvm.Cond.instanceMethod ({ cls := "BookPairs", name := "noRight", desc := "(I)Z" } : Jvm.MethodName)) ∈ lw_all := lw_g (lw_at lw_m1 185 rfl) rfl
theorem q253 : (Jvm.Cond.code ({ cls := "BookPairs", name := "noRight", desc := "(I)Z" } : Jvm.MethodName) prog_1_method_8_code (2 : Nat) (Option.some Jvm.ClassFile.FieldType.boolean)) ∈ lw_all := lw_g (lw_at lw_m1 186 rfl) rfl
theorem q254 : (Jvm.Cond.constantLong "BookPairs" (117 : Nat) (9 : Int64)) ∈ lw_all := lw_g (lw_at lw_m1 187 rfl) rfl
theorem q255 : (Jvm.Cond.methodLink "BookPairs" (79 : Nat) ({ cls := "BookPairs$Doing", name := "<init>", desc := "(LBookPairs$Deed;)V" } : Jvm.MethodName)) ∈ lw_all := lw_g (lw_at lw_m1 188 rfl) rfl
theorem q260 : (Jvm.Cond.fieldLinkNest "BookPairs" (316 : Nat) "BookPairs$Doing" "deed" "LBookPairs$Deed;" "BookPairs") ∈ lw_tbl := lw_at lw_m1 193 rfl
theorem q264 : (Jvm.Cond.privateMethod ({ cls := "BookPairs", name := "lambda$new$6", desc := "(II)Z" } : Jvm.MethodName)) ∈ lw_tbl := lw_at lw_m1 197 rfl
theorem q265 : (Jvm.Cond.instanceMethod ({ cls := "BookPairs", name := "lambda$new$6", desc := "(II)Z" } : Jvm.MethodName)) ∈ lw_all := lw_g (lw_at lw_m1 198 rfl) rfl
theorem q266 : (Jvm.Cond.code ({ cls := "BookPairs", name := "lambda$new$6", desc := "(II)Z" } : Jvm.MethodName) prog_1_method_73_code (3 : Nat) (Option.some Jvm.ClassFile.FieldType.boolean)) ∈ lw_all := lw_g (lw_at lw_m1 199 rfl) rfl
theorem q267 : (Jvm.Cond.privateMethod ({ cls := "BookPairs", name := "lambda$new$7", desc := "(II)Z" } : Jvm.MethodName)) ∈ lw_tbl := lw_at lw_m1 200 rfl
theorem q268 : (Jvm.Cond.instanceMethod ({ cls := "BookPairs", name := "lambda$new$7", desc := "(II)Z" } : Jvm.MethodName)) ∈ lw_all := lw_g (lw_at lw_m1 201 rfl) rfl
theorem q269 : (Jvm.Cond.code ({ cls := "BookPairs", name := "lambda$new$7", desc := "(II)Z" } : Jvm.MethodName) prog_1_method_72_code (3 : Nat) (Option.some Jvm.ClassFile.FieldType.boolean)) ∈ lw_all := lw_g (lw_at lw_m1 202 rfl) rfl
theorem q270 : (Jvm.Cond.methodLink "BookPairs" (478 : Nat) ({ cls := "BookPairs", name := "price", desc := "(II)I" } : Jvm.MethodName)) ∈ lw_all := lw_g (lw_at lw_m1 203 rfl) rfl
theorem q271 : (Jvm.Cond.instanceMethod ({ cls := "BookPairs", name := "price", desc := "(II)I" } : Jvm.MethodName)) ∈ lw_all := lw_g (lw_at lw_m1 204 rfl) rfl
theorem q272 : (Jvm.Cond.selects "BookPairs" ({ cls := "BookPairs", name := "price", desc := "(II)I" } : Jvm.MethodName) ({ cls := "BookPairs", name := "price", desc := "(II)I" } : Jvm.MethodName)) ∈ lw_all := lw_g (lw_at lw_m1 205 rfl) rfl
theorem q273 : (Jvm.Cond.code ({ cls := "BookPairs", name := "price", desc := "(II)I" } : Jvm.MethodName) prog_1_method_29_code (4 : Nat) (Option.some Jvm.ClassFile.FieldType.int)) ∈ lw_all := lw_g (lw_at lw_m1 206 rfl) rfl
theorem q274 : (Jvm.Cond.constantLong "BookPairs" (257 : Nat) (2 : Int64)) ∈ lw_all := lw_g (lw_at lw_m1 207 rfl) rfl
theorem q275 : (Jvm.Cond.methodLink "BookPairs" (259 : Nat) ({ cls := "BookPairs", name := "noBooks", desc := "()Z" } : Jvm.MethodName)) ∈ lw_all := lw_g (lw_at lw_m1 208 rfl) rfl
theorem q276 : (Jvm.Cond.privateMethod ({ cls := "BookPairs", name := "noBooks", desc := "()Z" } : Jvm.MethodName)) ∈ lw_tbl := lw_at lw_m1 209 rfl
theorem q277 : (Jvm.Cond.instanceMethod ({ cls := "BookPairs", name := "noBooks", desc := "()Z" } : Jvm.MethodName)) ∈ lw_all := lw_g (lw_at lw_m1 210 rfl) rfl
theorem q278 : (Jvm.Cond.code ({ cls := "BookPairs", name := "noBooks", desc := "()Z" } : Jvm.MethodName) prog_1_method_6_code (1 : Nat) (Option.some Jvm.ClassFile.FieldType.boolean)) ∈ lw_all := lw_g (lw_at lw_m1 211 rfl) rfl
theorem q279 : (Jvm.Cond.interfaceEntry "BookPairs" (95 : Nat)) ∈ lw_tbl := lw_at lw_m1 212 rfl
theorem q280 : (Jvm.Cond.methodLink "BookPairs" (95 : Nat) ({ cls := "java/util/List", name := "isEmpty", desc := "()Z" } : Jvm.MethodName)) ∈ lw_all := lw_g (lw_at lw_m1 213 rfl) rfl
theorem q288 : (Jvm.Cond.constantLong "BookPairs" (262 : Nat) (7 : Int64)) ∈ lw_all := lw_g (lw_at lw_m1 221 rfl) rfl
theorem q290 : (Jvm.Cond.fieldLink "BookPairs" (13 : Nat) "BookPairs" "sorts" "[LBookPairs$Sort;") ∈ lw_all := lw_g (lw_at lw_m1 223 rfl) rfl
theorem q292 : (Jvm.Cond.fieldLink "BookPairs" (19 : Nat) "BookPairs" "doings" "[LBookPairs$Doing;") ∈ lw_all := lw_g (lw_at lw_m1 225 rfl) rfl
theorem q294 : (Jvm.Cond.fieldLink "BookPairs" (472 : Nat) "BookPairs" "trace" "I") ∈ lw_all := lw_g (lw_at lw_m1 227 rfl) rfl
theorem q296 : (Jvm.Cond.fieldLink "BookPairs" (26 : Nat) "BookPairs" "left" "Ljava/util/List;") ∈ lw_all := lw_g (lw_at lw_m1 229 rfl) rfl
theorem q298 : (Jvm.Cond.fieldLink "BookPairs" (109 : Nat) "BookPairs" "rights" "I") ∈ lw_all := lw_g (lw_at lw_m1 231 rfl) rfl
theorem q299 : (Jvm.Cond.fieldLink "BookPairs" (30 : Nat) "BookPairs" "right" "[I") ∈ lw_all := lw_g (lw_at lw_m1 232 rfl) rfl
theorem q300 : (Jvm.Cond.fieldLink "BookPairs" (34 : Nat) "BookPairs" "rightAnchors" "[I") ∈ lw_all := lw_g (lw_at lw_m1 233 rfl) rfl
theorem q301 : (Jvm.Cond.fieldLink "BookPairs" (158 : Nat) "BookPairs" "skip" "I") ∈ lw_all := lw_g (lw_at lw_m1 234 rfl) rfl
theorem q302 : (Jvm.Cond.fieldLink "BookPairs" (161 : Nat) "BookPairs" "join" "I") ∈ lw_all := lw_g (lw_at lw_m1 235 rfl) rfl
theorem q304 : (Jvm.Cond.fieldLink "BookPairs" (164 : Nat) "BookPairs" "band" "I") ∈ lw_all := lw_g (lw_at lw_m1 237 rfl) rfl
theorem q305 : (Jvm.Cond.fieldLink "BookPairs" (37 : Nat) "BookPairs" "rightThen" "[I") ∈ lw_all := lw_g (lw_at lw_m1 238 rfl) rfl
theorem q306 : (Jvm.Cond.fieldLink "BookPairs" (40 : Nat) "BookPairs" "anchorsThen" "[I") ∈ lw_all := lw_g (lw_at lw_m1 239 rfl) rfl
theorem q308 : (Jvm.Cond.fieldLink "BookPairs" (43 : Nat) "BookPairs" "leastFrom" "[I") ∈ lw_all := lw_g (lw_at lw_m2 1 rfl) rfl
theorem q309 : (Jvm.Cond.fieldLink "BookPairs" (46 : Nat) "BookPairs" "nextFrom" "[I") ∈ lw_all := lw_g (lw_at lw_m2 2 rfl) rfl
theorem q310 : (Jvm.Cond.fieldLink "BookPairs" (49 : Nat) "BookPairs" "alikeFrom" "[I") ∈ lw_all := lw_g (lw_at lw_m2 3 rfl) rfl
theorem q311 : (Jvm.Cond.fieldLink "BookPairs" (52 : Nat) "BookPairs" "lettersKept" "[I") ∈ lw_all := lw_g (lw_at lw_m2 4 rfl) rfl
theorem q312 : (Jvm.Cond.fieldLink "BookPairs" (55 : Nat) "BookPairs" "readings" "Ljava/util/List;") ∈ lw_all := lw_g (lw_at lw_m2 5 rfl) rfl
theorem q314 : (Jvm.Cond.fieldLink "BookPairs" (363 : Nat) "BookPairs" "fault" "I") ∈ lw_all := lw_g (lw_at lw_m2 7 rfl) rfl
theorem q315 : (Jvm.Cond.fieldLink "BookPairs" (60 : Nat) "BookPairs" "sheets" "[LBookPairs$Sheet;") ∈ lw_all := lw_g (lw_at lw_m2 8 rfl) rfl
theorem q316 : (Jvm.Cond.laysFinal "BookPairs" "BookPairs" "sorts" "[LBookPairs$Sort;") ∈ lw_all := lw_g (lw_at lw_m2 9 rfl) rfl
theorem q317 : (Jvm.Cond.soleField "BookPairs" "sorts") ∈ lw_all := lw_g (lw_at lw_m2 10 rfl) rfl
theorem q318 : (Jvm.Cond.laysFinal "BookPairs" "BookPairs" "doings" "[LBookPairs$Doing;") ∈ lw_all := lw_g (lw_at lw_m2 11 rfl) rfl
theorem q319 : (Jvm.Cond.soleField "BookPairs" "doings") ∈ lw_all := lw_g (lw_at lw_m2 12 rfl) rfl
theorem q320 : (Jvm.Cond.lays "BookPairs" "BookPairs" "trace" "I") ∈ lw_all := lw_g (lw_at lw_m2 13 rfl) rfl
theorem q321 : (Jvm.Cond.soleField "BookPairs" "trace") ∈ lw_all := lw_g (lw_at lw_m2 14 rfl) rfl
theorem q322 : (Jvm.Cond.laysFinal "BookPairs" "BookPairs" "left" "Ljava/util/List;") ∈ lw_all := lw_g (lw_at lw_m2 15 rfl) rfl
theorem q323 : (Jvm.Cond.soleField "BookPairs" "left") ∈ lw_all := lw_g (lw_at lw_m2 16 rfl) rfl
theorem q324 : (Jvm.Cond.lays "BookPairs" "BookPairs" "rights" "I") ∈ lw_all := lw_g (lw_at lw_m2 17 rfl) rfl
theorem q325 : (Jvm.Cond.soleField "BookPairs" "rights") ∈ lw_all := lw_g (lw_at lw_m2 18 rfl) rfl
theorem q326 : (Jvm.Cond.lays "BookPairs" "BookPairs" "right" "[I") ∈ lw_all := lw_g (lw_at lw_m2 19 rfl) rfl
theorem q327 : (Jvm.Cond.soleField "BookPairs" "right") ∈ lw_all := lw_g (lw_at lw_m2 20 rfl) rfl
theorem q328 : (Jvm.Cond.lays "BookPairs" "BookPairs" "rightAnchors" "[I") ∈ lw_all := lw_g (lw_at lw_m2 21 rfl) rfl
theorem q329 : (Jvm.Cond.soleField "BookPairs" "rightAnchors") ∈ lw_all := lw_g (lw_at lw_m2 22 rfl) rfl
theorem q330 : (Jvm.Cond.lays "BookPairs" "BookPairs" "skip" "I") ∈ lw_all := lw_g (lw_at lw_m2 23 rfl) rfl
theorem q331 : (Jvm.Cond.soleField "BookPairs" "skip") ∈ lw_all := lw_g (lw_at lw_m2 24 rfl) rfl
theorem q332 : (Jvm.Cond.lays "BookPairs" "BookPairs" "join" "I") ∈ lw_all := lw_g (lw_at lw_m2 25 rfl) rfl
theorem q333 : (Jvm.Cond.soleField "BookPairs" "join") ∈ lw_all := lw_g (lw_at lw_m2 26 rfl) rfl
theorem q334 : (Jvm.Cond.lays "BookPairs" "BookPairs" "band" "I") ∈ lw_all := lw_g (lw_at lw_m2 27 rfl) rfl
theorem q335 : (Jvm.Cond.soleField "BookPairs" "band") ∈ lw_all := lw_g (lw_at lw_m2 28 rfl) rfl
theorem q336 : (Jvm.Cond.laysFinal "BookPairs" "BookPairs" "rightThen" "[I") ∈ lw_all := lw_g (lw_at lw_m2 29 rfl) rfl
theorem q337 : (Jvm.Cond.soleField "BookPairs" "rightThen") ∈ lw_all := lw_g (lw_at lw_m2 30 rfl) rfl
theorem q338 : (Jvm.Cond.laysFinal "BookPairs" "BookPairs" "anchorsThen" "[I") ∈ lw_all := lw_g (lw_at lw_m2 31 rfl) rfl
theorem q339 : (Jvm.Cond.soleField "BookPairs" "anchorsThen") ∈ lw_all := lw_g (lw_at lw_m2 32 rfl) rfl
theorem q340 : (Jvm.Cond.laysFinal "BookPairs" "BookPairs" "leastFrom" "[I") ∈ lw_all := lw_g (lw_at lw_m2 33 rfl) rfl
theorem q341 : (Jvm.Cond.soleField "BookPairs" "leastFrom") ∈ lw_all := lw_g (lw_at lw_m2 34 rfl) rfl
theorem q342 : (Jvm.Cond.laysFinal "BookPairs" "BookPairs" "nextFrom" "[I") ∈ lw_all := lw_g (lw_at lw_m2 35 rfl) rfl
theorem q343 : (Jvm.Cond.soleField "BookPairs" "nextFrom") ∈ lw_all := lw_g (lw_at lw_m2 36 rfl) rfl
theorem q344 : (Jvm.Cond.laysFinal "BookPairs" "BookPairs" "alikeFrom" "[I") ∈ lw_all := lw_g (lw_at lw_m2 37 rfl) rfl
theorem q345 : (Jvm.Cond.soleField "BookPairs" "alikeFrom") ∈ lw_all := lw_g (lw_at lw_m2 38 rfl) rfl
theorem q346 : (Jvm.Cond.laysFinal "BookPairs" "BookPairs" "lettersKept" "[I") ∈ lw_all := lw_g (lw_at lw_m2 39 rfl) rfl
theorem q347 : (Jvm.Cond.soleField "BookPairs" "lettersKept") ∈ lw_all := lw_g (lw_at lw_m2 40 rfl) rfl
theorem q348 : (Jvm.Cond.laysFinal "BookPairs" "BookPairs" "readings" "Ljava/util/List;") ∈ lw_all := lw_g (lw_at lw_m2 41 rfl) rfl
theorem q349 : (Jvm.Cond.soleField "BookPairs" "readings") ∈ lw_all := lw_g (lw_at lw_m2 42 rfl) rfl
theorem q350 : (Jvm.Cond.lays "BookPairs" "BookPairs" "fault" "I") ∈ lw_all := lw_g (lw_at lw_m2 43 rfl) rfl
theorem q351 : (Jvm.Cond.soleField "BookPairs" "fault") ∈ lw_all := lw_g (lw_at lw_m2 44 rfl) rfl
theorem q352 : (Jvm.Cond.laysFinal "BookPairs" "BookPairs" "sheets" "[LBookPairs$Sheet;") ∈ lw_all := lw_g (lw_at lw_m2 45 rfl) rfl
theorem q353 : (Jvm.Cond.soleField "BookPairs" "sheets") ∈ lw_all := lw_g (lw_at lw_m2 46 rfl) rfl
theorem q354 : (Jvm.Cond.superclass "BookPairs" "java/lang/Object") ∈ lw_all := lw_g (lw_at lw_m2 47 rfl) rfl
theorem q356 : (Jvm.Cond.instanceMethod ({ cls := "BookPairs", name := "cost", desc := "(III)I" } : Jvm.MethodName)) ∈ lw_all := lw_g (lw_at lw_m2 49 rfl) rfl
theorem q357 : (Jvm.Cond.selects "BookPairs" ({ cls := "BookPairs", name := "cost", desc := "(III)I" } : Jvm.MethodName) ({ cls := "BookPairs", name := "cost", desc := "(III)I" } : Jvm.MethodName)) ∈ lw_all := lw_g (lw_at lw_m2 50 rfl) rfl
theorem q358 : (Jvm.Cond.code ({ cls := "BookPairs", name := "cost", desc := "(III)I" } : Jvm.MethodName) prog_1_method_18_code (6 : Nat) (Option.some Jvm.ClassFile.FieldType.int)) ∈ lw_all := lw_g (lw_at lw_m2 51 rfl) rfl
theorem q359 : (Jvm.Cond.constantLong "BookPairs" (192 : Nat) (4 : Int64)) ∈ lw_all := lw_g (lw_at lw_m2 52 rfl) rfl
theorem q360 : (Jvm.Cond.methodLink "BookPairs" (186 : Nat) ({ cls := "BookPairs", name := "leftOf", desc := "(I)I" } : Jvm.MethodName)) ∈ lw_all := lw_g (lw_at lw_m2 53 rfl) rfl
theorem q361 : (Jvm.Cond.static ({ cls := "BookPairs", name := "leftOf", desc := "(I)I" } : Jvm.MethodName)) ∈ lw_all := lw_g (lw_at lw_m2 54 rfl) rfl
theorem q362 : (Jvm.Cond.code ({ cls := "BookPairs", name := "leftOf", desc := "(I)I" } : Jvm.MethodName) prog_1_method_1_code (1 : Nat) (Option.some Jvm.ClassFile.FieldType.int)) ∈ lw_all := lw_g (lw_at lw_m2 55 rfl) rfl
theorem q363 : (Jvm.Cond.methodLink "BookPairs" (189 : Nat) ({ cls := "BookPairs", name := "rightOf", desc := "(I)I" } : Jvm.MethodName)) ∈ lw_all := lw_g (lw_at lw_m2 56 rfl) rfl
theorem q364 : (Jvm.Cond.static ({ cls := "BookPairs", name := "rightOf", desc := "(I)I" } : Jvm.MethodName)) ∈ lw_all := lw_g (lw_at lw_m2 57 rfl) rfl
theorem q365 : (Jvm.Cond.code ({ cls := "BookPairs", name := "rightOf", desc := "(I)I" } : Jvm.MethodName) prog_1_method_2_code (1 : Nat) (Option.some Jvm.ClassFile.FieldType.int)) ∈ lw_all := lw_g (lw_at lw_m2 58 rfl) rfl
theorem q366 : (Jvm.Cond.interfaceEntry "BookPairs" (198 : Nat)) ∈ lw_tbl := lw_at lw_m2 59 rfl
theorem q367 : (Jvm.Cond.methodLink "BookPairs" (198 : Nat) ({ cls := "BookPairs$Cost", name := "of", desc := "(II)I" } : Jvm.MethodName)) ∈ lw_all := lw_g (lw_at lw_m2 60 rfl) rfl
theorem q371 : (Jvm.Cond.instanceMethod ({ cls := "BookPairs", name := "ofLeft", desc := "(II)I" } : Jvm.MethodName)) ∈ lw_all := lw_g (lw_at lw_m2 64 rfl) rfl
theorem q372 : (Jvm.Cond.selects "BookPairs" ({ cls := "BookPairs", name := "ofLeft", desc := "(II)I" } : Jvm.MethodName) ({ cls := "BookPairs", name := "ofLeft", desc := "(II)I" } : Jvm.MethodName)) ∈ lw_all := lw_g (lw_at lw_m2 65 rfl) rfl
theorem q373 : (Jvm.Cond.code ({ cls := "BookPairs", name := "ofLeft", desc := "(II)I" } : Jvm.MethodName) prog_1_method_26_code (4 : Nat) (Option.some Jvm.ClassFile.FieldType.int)) ∈ lw_all := lw_g (lw_at lw_m2 66 rfl) rfl
theorem q374 : (Jvm.Cond.methodLink "BookPairs" (242 : Nat) ({ cls := "BookPairs$Plain", name := "kind", desc := "()I" } : Jvm.MethodName)) ∈ lw_all := lw_g (lw_at lw_m2 67 rfl) rfl
theorem q385 : (Jvm.Cond.methodLink "BookPairs" (248 : Nat) ({ cls := "BookPairs", name := "partnersOfLeft", desc := "(I)I" } : Jvm.MethodName)) ∈ lw_all := lw_g (lw_at lw_m2 78 rfl) rfl
theorem q386 : (Jvm.Cond.privateMethod ({ cls := "BookPairs", name := "partnersOfLeft", desc := "(I)I" } : Jvm.MethodName)) ∈ lw_tbl := lw_at lw_m2 79 rfl
theorem q387 : (Jvm.Cond.instanceMethod ({ cls := "BookPairs", name := "partnersOfLeft", desc := "(I)I" } : Jvm.MethodName)) ∈ lw_all := lw_g (lw_at lw_m2 80 rfl) rfl
theorem q388 : (Jvm.Cond.code ({ cls := "BookPairs", name := "partnersOfLeft", desc := "(I)I" } : Jvm.MethodName) prog_1_method_24_code (3 : Nat) (Option.some Jvm.ClassFile.FieldType.int)) ∈ lw_all := lw_g (lw_at lw_m2 81 rfl) rfl
theorem q389 : (Jvm.Cond.classLink "BookPairs" (226 : Nat) "BookPairs$2") ∈ lw_all := lw_g (lw_at lw_m2 82 rfl) rfl
theorem q391 : (Jvm.Cond.methodLink "BookPairs" (228 : Nat) ({ cls := "BookPairs$2", name := "<init>", desc := "(LBookPairs;I)V" } : Jvm.MethodName)) ∈ lw_all := lw_g (lw_at lw_m2 84 rfl) rfl
theorem q417 : (Jvm.Cond.methodLink "BookPairs" (231 : Nat) ({ cls := "BookPairs$Sum", name := "all", desc := "()I" } : Jvm.MethodName)) ∈ lw_all := lw_g (lw_at lw_m2 110 rfl) rfl
theorem q431 : (Jvm.Cond.privateMethod ({ cls := "BookPairs", name := "aligns", desc := "(I)I" } : Jvm.MethodName)) ∈ lw_tbl := lw_at lw_m2 124 rfl
theorem q432 : (Jvm.Cond.instanceMethod ({ cls := "BookPairs", name := "aligns", desc := "(I)I" } : Jvm.MethodName)) ∈ lw_all := lw_g (lw_at lw_m2 125 rfl) rfl
theorem q433 : (Jvm.Cond.code ({ cls := "BookPairs", name := "aligns", desc := "(I)I" } : Jvm.MethodName) prog_1_method_21_code (4 : Nat) (Option.some Jvm.ClassFile.FieldType.int)) ∈ lw_all := lw_g (lw_at lw_m2 126 rfl) rfl
theorem q434 : (Jvm.Cond.methodLink "BookPairs" (215 : Nat) ({ cls := "BookPairs", name := "looksFrom", desc := "(III)V" } : Jvm.MethodName)) ∈ lw_all := lw_g (lw_at lw_m2 127 rfl) rfl
theorem q435 : (Jvm.Cond.privateMethod ({ cls := "BookPairs", name := "looksFrom", desc := "(III)V" } : Jvm.MethodName)) ∈ lw_tbl := lw_at lw_m2 128 rfl
theorem q436 : (Jvm.Cond.instanceMethod ({ cls := "BookPairs", name := "looksFrom", desc := "(III)V" } : Jvm.MethodName)) ∈ lw_all := lw_g (lw_at lw_m2 129 rfl) rfl
theorem q437 : (Jvm.Cond.code ({ cls := "BookPairs", name := "looksFrom", desc := "(III)V" } : Jvm.MethodName) prog_1_method_19_code (8 : Nat) (Option.none : Option Jvm.ClassFile.FieldType)) ∈ lw_all := lw_g (lw_at lw_m2 130 rfl) rfl
theorem q438 : (Jvm.Cond.constant "BookPairs" (203 : Nat) (100000 : Int32)) ∈ lw_all := lw_g (lw_at lw_m2 131 rfl) rfl
theorem q439 : (Jvm.Cond.methodLink "BookPairs" (204 : Nat) ({ cls := "BookPairs", name := "areThere", desc := "(III)Z" } : Jvm.MethodName)) ∈ lw_all := lw_g (lw_at lw_m2 132 rfl) rfl
theorem q440 : (Jvm.Cond.privateMethod ({ cls := "BookPairs", name := "areThere", desc := "(III)Z" } : Jvm.MethodName)) ∈ lw_tbl := lw_at lw_m2 133 rfl
theorem q441 : (Jvm.Cond.instanceMethod ({ cls := "BookPairs", name := "areThere", desc := "(III)Z" } : Jvm.MethodName)) ∈ lw_all := lw_g (lw_at lw_m2 134 rfl) rfl
theorem q442 : (Jvm.Cond.code ({ cls := "BookPairs", name := "areThere", desc := "(III)Z" } : Jvm.MethodName) prog_1_method_17_code (4 : Nat) (Option.some Jvm.ClassFile.FieldType.boolean)) ∈ lw_all := lw_g (lw_at lw_m2 135 rfl) rfl
theorem q443 : (Jvm.Cond.methodLink "BookPairs" (208 : Nat) ({ cls := "BookPairs", name := "weighs", desc := "(III)V" } : Jvm.MethodName)) ∈ lw_all := lw_g (lw_at lw_m2 136 rfl) rfl
theorem q444 : (Jvm.Cond.privateMethod ({ cls := "BookPairs", name := "weighs", desc := "(III)V" } : Jvm.MethodName)) ∈ lw_tbl := lw_at lw_m2 137 rfl
theorem q445 : (Jvm.Cond.instanceMethod ({ cls := "BookPairs", name := "weighs", desc := "(III)V" } : Jvm.MethodName)) ∈ lw_all := lw_g (lw_at lw_m2 138 rfl) rfl
theorem q446 : (Jvm.Cond.code ({ cls := "BookPairs", name := "weighs", desc := "(III)V" } : Jvm.MethodName) prog_1_method_20_code (5 : Nat) (Option.none : Option Jvm.ClassFile.FieldType)) ∈ lw_all := lw_g (lw_at lw_m2 139 rfl) rfl
theorem q447 : (Jvm.Cond.methodLink "BookPairs" (212 : Nat) ({ cls := "java/lang/Math", name := "min", desc := "(II)I" } : Jvm.MethodName)) ∈ lw_all := lw_g (lw_at lw_m2 140 rfl) rfl
theorem q521 : (Jvm.Cond.fieldLinkNest "BookPairs" (295 : Nat) "BookPairs$Bead" "sort" "I" "BookPairs") ∈ lw_tbl := lw_at lw_m2 214 rfl
theorem q523 : (Jvm.Cond.fieldLinkNest "BookPairs" (298 : Nat) "BookPairs$Bead" "i" "I" "BookPairs") ∈ lw_tbl := lw_at lw_m2 216 rfl
theorem q525 : (Jvm.Cond.fieldLinkNest "BookPairs" (301 : Nat) "BookPairs$Bead" "j" "I" "BookPairs") ∈ lw_tbl := lw_at lw_m2 218 rfl
theorem q562 : (Jvm.Cond.instanceMethod ({ cls := "BookPairs", name := "ofRight", desc := "(II)I" } : Jvm.MethodName)) ∈ lw_all := lw_g (lw_at lw_m3 15 rfl) rfl
theorem q563 : (Jvm.Cond.selects "BookPairs" ({ cls := "BookPairs", name := "ofRight", desc := "(II)I" } : Jvm.MethodName) ({ cls := "BookPairs", name := "ofRight", desc := "(II)I" } : Jvm.MethodName)) ∈ lw_all := lw_g (lw_at lw_m3 16 rfl) rfl
theorem q564 : (Jvm.Cond.code ({ cls := "BookPairs", name := "ofRight", desc := "(II)I" } : Jvm.MethodName) prog_1_method_27_code (3 : Nat) (Option.some Jvm.ClassFile.FieldType.int)) ∈ lw_all := lw_g (lw_at lw_m3 17 rfl) rfl
theorem q565 : (Jvm.Cond.methodLink "BookPairs" (254 : Nat) ({ cls := "BookPairs", name := "partnersOfRight", desc := "(I)I" } : Jvm.MethodName)) ∈ lw_all := lw_g (lw_at lw_m3 18 rfl) rfl
theorem q566 : (Jvm.Cond.privateMethod ({ cls := "BookPairs", name := "partnersOfRight", desc := "(I)I" } : Jvm.MethodName)) ∈ lw_tbl := lw_at lw_m3 19 rfl
theorem q567 : (Jvm.Cond.instanceMethod ({ cls := "BookPairs", name := "partnersOfRight", desc := "(I)I" } : Jvm.MethodName)) ∈ lw_all := lw_g (lw_at lw_m3 20 rfl) rfl
theorem q568 : (Jvm.Cond.code ({ cls := "BookPairs", name := "partnersOfRight", desc := "(I)I" } : Jvm.MethodName) prog_1_method_25_code (2 : Nat) (Option.some Jvm.ClassFile.FieldType.int)) ∈ lw_all := lw_g (lw_at lw_m3 21 rfl) rfl
theorem q569 : (Jvm.Cond.classLink "BookPairs" (234 : Nat) "BookPairs$1Partners") ∈ lw_all := lw_g (lw_at lw_m3 22 rfl) rfl
theorem q571 : (Jvm.Cond.methodLink "BookPairs" (236 : Nat) ({ cls := "BookPairs$1Partners", name := "<init>", desc := "(LBookPairs;I)V" } : Jvm.MethodName)) ∈ lw_all := lw_g (lw_at lw_m3 24 rfl) rfl
theorem q584 : (Jvm.Cond.methodLink "BookPairs" (237 : Nat) ({ cls := "BookPairs$1Partners", name := "all", desc := "()I" } : Jvm.MethodName)) ∈ lw_all := lw_g (lw_at lw_m3 37 rfl) rfl
theorem q591 : (Jvm.Cond.instanceMethod ({ cls := "BookPairs", name := "move", desc := "(III)I" } : Jvm.MethodName)) ∈ lw_all := lw_g (lw_at lw_m3 44 rfl) rfl
theorem q592 : (Jvm.Cond.selects "BookPairs" ({ cls := "BookPairs", name := "move", desc := "(III)I" } : Jvm.MethodName) ({ cls := "BookPairs", name := "move", desc := "(III)I" } : Jvm.MethodName)) ∈ lw_all := lw_g (lw_at lw_m3 45 rfl) rfl
theorem q593 : (Jvm.Cond.code ({ cls := "BookPairs", name := "move", desc := "(III)I" } : Jvm.MethodName) prog_1_method_31_code (4 : Nat) (Option.some Jvm.ClassFile.FieldType.int)) ∈ lw_all := lw_g (lw_at lw_m3 46 rfl) rfl
theorem q594 : (Jvm.Cond.methodLink "BookPairs" (264 : Nat) ({ cls := "BookPairs", name := "movedIn", desc := "([IIII)[I" } : Jvm.MethodName)) ∈ lw_all := lw_g (lw_at lw_m3 47 rfl) rfl
theorem q595 : (Jvm.Cond.privateMethod ({ cls := "BookPairs", name := "movedIn", desc := "([IIII)[I" } : Jvm.MethodName)) ∈ lw_tbl := lw_at lw_m3 48 rfl
theorem q596 : (Jvm.Cond.instanceMethod ({ cls := "BookPairs", name := "movedIn", desc := "([IIII)[I" } : Jvm.MethodName)) ∈ lw_all := lw_g (lw_at lw_m3 49 rfl) rfl
theorem q597 : (Jvm.Cond.code ({ cls := "BookPairs", name := "movedIn", desc := "([IIII)[I" } : Jvm.MethodName) prog_1_method_30_code (10 : Nat) (Option.some (Jvm.ClassFile.FieldType.array Jvm.ClassFile.FieldType.int))) ∈ lw_all := lw_g (lw_at lw_m3 50 rfl) rfl
theorem q599 : (Jvm.Cond.instanceMethod ({ cls := "BookPairs", name := "best", desc := "(I)I" } : Jvm.MethodName)) ∈ lw_all := lw_g (lw_at lw_m3 52 rfl) rfl
theorem q600 : (Jvm.Cond.selects "BookPairs" ({ cls := "BookPairs", name := "best", desc := "(I)I" } : Jvm.MethodName) ({ cls := "BookPairs", name := "best", desc := "(I)I" } : Jvm.MethodName)) ∈ lw_all := lw_g (lw_at lw_m3 53 rfl) rfl
theorem q601 : (Jvm.Cond.code ({ cls := "BookPairs", name := "best", desc := "(I)I" } : Jvm.MethodName) prog_1_method_32_code (3 : Nat) (Option.some Jvm.ClassFile.FieldType.int)) ∈ lw_all := lw_g (lw_at lw_m3 54 rfl) rfl
theorem q602 : (Jvm.Cond.constantLong "BookPairs" (119 : Nat) (3 : Int64)) ∈ lw_all := lw_g (lw_at lw_m3 55 rfl) rfl
theorem q603 : (Jvm.Cond.methodLink "BookPairs" (268 : Nat) ({ cls := "BookPairs", name := "aligns", desc := "(I)I" } : Jvm.MethodName)) ∈ lw_all := lw_g (lw_at lw_m3 56 rfl) rfl
theorem q604 : (Jvm.Cond.methodLink "BookPairs" (271 : Nat) ({ cls := "BookPairs", name := "pairs", desc := "()I" } : Jvm.MethodName)) ∈ lw_all := lw_g (lw_at lw_m3 57 rfl) rfl
theorem q605 : (Jvm.Cond.privateMethod ({ cls := "BookPairs", name := "pairs", desc := "()I" } : Jvm.MethodName)) ∈ lw_tbl := lw_at lw_m3 58 rfl
theorem q606 : (Jvm.Cond.instanceMethod ({ cls := "BookPairs", name := "pairs", desc := "()I" } : Jvm.MethodName)) ∈ lw_all := lw_g (lw_at lw_m3 59 rfl) rfl
theorem q607 : (Jvm.Cond.code ({ cls := "BookPairs", name := "pairs", desc := "()I" } : Jvm.MethodName) prog_1_method_23_code (1 : Nat) (Option.some Jvm.ClassFile.FieldType.int)) ∈ lw_all := lw_g (lw_at lw_m3 60 rfl) rfl
theorem q608 : (Jvm.Cond.classLink "BookPairs" (218 : Nat) "BookPairs$1") ∈ lw_all := lw_g (lw_at lw_m3 61 rfl) rfl
theorem q610 : (Jvm.Cond.methodLink "BookPairs" (220 : Nat) ({ cls := "BookPairs$1", name := "<init>", desc := "(LBookPairs;)V" } : Jvm.MethodName)) ∈ lw_all := lw_g (lw_at lw_m3 63 rfl) rfl
theorem q620 : (Jvm.Cond.methodLink "BookPairs" (223 : Nat) ({ cls := "BookPairs$1", name := "all", desc := "()I" } : Jvm.MethodName)) ∈ lw_all := lw_g (lw_at lw_m3 73 rfl) rfl
theorem q623 : (Jvm.Cond.methodLink "BookPairs" (274 : Nat) ({ cls := "BookPairs", name := "orNone", desc := "(I)I" } : Jvm.MethodName)) ∈ lw_all := lw_g (lw_at lw_m3 76 rfl) rfl
theorem q624 : (Jvm.Cond.static ({ cls := "BookPairs", name := "orNone", desc := "(I)I" } : Jvm.MethodName)) ∈ lw_all := lw_g (lw_at lw_m3 77 rfl) rfl
theorem q625 : (Jvm.Cond.code ({ cls := "BookPairs", name := "orNone", desc := "(I)I" } : Jvm.MethodName) prog_1_method_22_code (1 : Nat) (Option.some Jvm.ClassFile.FieldType.int)) ∈ lw_all := lw_g (lw_at lw_m3 78 rfl) rfl
theorem q627 : (Jvm.Cond.instanceMethod ({ cls := "BookPairs", name := "ofPair", desc := "(II)I" } : Jvm.MethodName)) ∈ lw_all := lw_g (lw_at lw_m3 80 rfl) rfl
theorem q628 : (Jvm.Cond.selects "BookPairs" ({ cls := "BookPairs", name := "ofPair", desc := "(II)I" } : Jvm.MethodName) ({ cls := "BookPairs", name := "ofPair", desc := "(II)I" } : Jvm.MethodName)) ∈ lw_all := lw_g (lw_at lw_m3 81 rfl) rfl
theorem q629 : (Jvm.Cond.code ({ cls := "BookPairs", name := "ofPair", desc := "(II)I" } : Jvm.MethodName) prog_1_method_33_code (6 : Nat) (Option.some Jvm.ClassFile.FieldType.int)) ∈ lw_all := lw_g (lw_at lw_m3 82 rfl) rfl
theorem q630 : (Jvm.Cond.classLink "BookPairs" (277 : Nat) "BookPairs$Best") ∈ lw_all := lw_g (lw_at lw_m3 83 rfl) rfl
theorem q631 : (Jvm.Cond.methodLinkNest "BookPairs" (279 : Nat) ({ cls := "BookPairs$Best", name := "<init>", desc := "(LBookPairs;)V" } : Jvm.MethodName) "BookPairs") ∈ lw_tbl := lw_at lw_m3 84 rfl
theorem q632 : (Jvm.Cond.methodLink "BookPairs" (280 : Nat) ({ cls := "BookPairs$Best", name := "iterator", desc := "()Ljava/util/Iterator;" } : Jvm.MethodName)) ∈ lw_all := lw_g (lw_at lw_m3 85 rfl) rfl
theorem q633 : (Jvm.Cond.interfaceEntry "BookPairs" (284 : Nat)) ∈ lw_tbl := lw_at lw_m3 86 rfl
theorem q634 : (Jvm.Cond.methodLink "BookPairs" (284 : Nat) ({ cls := "java/util/Iterator", name := "hasNext", desc := "()Z" } : Jvm.MethodName)) ∈ lw_all := lw_g (lw_at lw_m3 87 rfl) rfl
theorem q635 : (Jvm.Cond.interfaceEntry "BookPairs" (289 : Nat)) ∈ lw_tbl := lw_at lw_m3 88 rfl
theorem q636 : (Jvm.Cond.methodLink "BookPairs" (289 : Nat) ({ cls := "java/util/Iterator", name := "next", desc := "()Ljava/lang/Object;" } : Jvm.MethodName)) ∈ lw_all := lw_g (lw_at lw_m3 89 rfl) rfl
theorem q637 : (Jvm.Cond.classLink "BookPairs" (293 : Nat) "BookPairs$Bead") ∈ lw_all := lw_g (lw_at lw_m3 90 rfl) rfl
theorem q638 : (Jvm.Cond.methodLink "BookPairs" (304 : Nat) ({ cls := "BookPairs$Bead", name := "cost", desc := "()I" } : Jvm.MethodName)) ∈ lw_all := lw_g (lw_at lw_m3 91 rfl) rfl
theorem q645 : (Jvm.Cond.instanceMethod ({ cls := "BookPairs", name := "by", desc := "(I)I" } : Jvm.MethodName)) ∈ lw_all := lw_g (lw_at lw_m3 98 rfl) rfl
theorem q646 : (Jvm.Cond.selects "BookPairs" ({ cls := "BookPairs", name := "by", desc := "(I)I" } : Jvm.MethodName) ({ cls := "BookPairs", name := "by", desc := "(I)I" } : Jvm.MethodName)) ∈ lw_all := lw_g (lw_at lw_m3 99 rfl) rfl
theorem q647 : (Jvm.Cond.code ({ cls := "BookPairs", name := "by", desc := "(I)I" } : Jvm.MethodName) prog_1_method_37_code (2 : Nat) (Option.some Jvm.ClassFile.FieldType.int)) ∈ lw_all := lw_g (lw_at lw_m3 100 rfl) rfl
theorem q649 : (Jvm.Cond.instanceMethod ({ cls := "BookPairs", name := "enough", desc := "()I" } : Jvm.MethodName)) ∈ lw_all := lw_g (lw_at lw_m3 102 rfl) rfl
theorem q650 : (Jvm.Cond.selects "BookPairs" ({ cls := "BookPairs", name := "enough", desc := "()I" } : Jvm.MethodName) ({ cls := "BookPairs", name := "enough", desc := "()I" } : Jvm.MethodName)) ∈ lw_all := lw_g (lw_at lw_m3 103 rfl) rfl
theorem q651 : (Jvm.Cond.code ({ cls := "BookPairs", name := "enough", desc := "()I" } : Jvm.MethodName) prog_1_method_38_code (3 : Nat) (Option.some Jvm.ClassFile.FieldType.int)) ∈ lw_all := lw_g (lw_at lw_m3 104 rfl) rfl
theorem q653 : (Jvm.Cond.instanceMethod ({ cls := "BookPairs", name := "reading", desc := "(II)I" } : Jvm.MethodName)) ∈ lw_all := lw_g (lw_at lw_m3 106 rfl) rfl
theorem q654 : (Jvm.Cond.selects "BookPairs" ({ cls := "BookPairs", name := "reading", desc := "(II)I" } : Jvm.MethodName) ({ cls := "BookPairs", name := "reading", desc := "(II)I" } : Jvm.MethodName)) ∈ lw_all := lw_g (lw_at lw_m3 107 rfl) rfl
theorem q655 : (Jvm.Cond.code ({ cls := "BookPairs", name := "reading", desc := "(II)I" } : Jvm.MethodName) prog_1_method_39_code (3 : Nat) (Option.some Jvm.ClassFile.FieldType.int)) ∈ lw_all := lw_g (lw_at lw_m3 108 rfl) rfl
theorem q656 : (Jvm.Cond.constantLong "BookPairs" (334 : Nat) (500 : Int64)) ∈ lw_all := lw_g (lw_at lw_m3 109 rfl) rfl
theorem q657 : (Jvm.Cond.classLink "BookPairs" (336 : Nat) "BookPairs$Reading") ∈ lw_all := lw_g (lw_at lw_m3 110 rfl) rfl
theorem q659 : (Jvm.Cond.methodLink "BookPairs" (338 : Nat) ({ cls := "BookPairs$Reading", name := "<init>", desc := "(II)V" } : Jvm.MethodName)) ∈ lw_all := lw_g (lw_at lw_m3 112 rfl) rfl
theorem q664 : (Jvm.Cond.fieldLinkNest "BookPairs" (344 : Nat) "BookPairs$Reading" "w" "I" "BookPairs") ∈ lw_tbl := lw_at lw_m3 117 rfl
theorem q666 : (Jvm.Cond.fieldLinkNest "BookPairs" (347 : Nat) "BookPairs$Reading" "c" "I" "BookPairs") ∈ lw_tbl := lw_at lw_m3 119 rfl
theorem q672 : (Jvm.Cond.interfaceEntry "BookPairs" (131 : Nat)) ∈ lw_tbl := lw_at lw_m3 125 rfl
theorem q673 : (Jvm.Cond.methodLink "BookPairs" (131 : Nat) ({ cls := "java/util/List", name := "add", desc := "(Ljava/lang/Object;)Z" } : Jvm.MethodName)) ∈ lw_all := lw_g (lw_at lw_m3 126 rfl) rfl
theorem q709 : (Jvm.Cond.selects "BookPairs" ({ cls := "java/lang/Object", name := "getClass", desc := "()Ljava/lang/Class;" } : Jvm.MethodName) ({ cls := "java/lang/Object", name := "getClass", desc := "()Ljava/lang/Class;" } : Jvm.MethodName)) ∈ lw_all := lw_g (lw_at lw_m3 162 rfl) rfl
theorem q748 : (Jvm.Cond.instanceMethod ({ cls := "BookPairs", name := "back", desc := "(I)I" } : Jvm.MethodName)) ∈ lw_all := lw_g (lw_at lw_m3 201 rfl) rfl
theorem q749 : (Jvm.Cond.selects "BookPairs" ({ cls := "BookPairs", name := "back", desc := "(I)I" } : Jvm.MethodName) ({ cls := "BookPairs", name := "back", desc := "(I)I" } : Jvm.MethodName)) ∈ lw_all := lw_g (lw_at lw_m3 202 rfl) rfl
theorem q750 : (Jvm.Cond.code ({ cls := "BookPairs", name := "back", desc := "(I)I" } : Jvm.MethodName) prog_1_method_40_code (3 : Nat) (Option.some Jvm.ClassFile.FieldType.int)) ∈ lw_all := lw_g (lw_at lw_m3 203 rfl) rfl
theorem q751 : (Jvm.Cond.interfaceEntry "BookPairs" (341 : Nat)) ∈ lw_tbl := lw_at lw_m3 204 rfl
theorem q752 : (Jvm.Cond.methodLink "BookPairs" (341 : Nat) ({ cls := "java/util/List", name := "remove", desc := "(I)Ljava/lang/Object;" } : Jvm.MethodName)) ∈ lw_all := lw_g (lw_at lw_m3 205 rfl) rfl
theorem q766 : (Jvm.Cond.instanceMethod ({ cls := "BookPairs", name := "kinds", desc := "(I)I" } : Jvm.MethodName)) ∈ lw_all := lw_g (lw_at lw_m3 219 rfl) rfl
theorem q767 : (Jvm.Cond.selects "BookPairs" ({ cls := "BookPairs", name := "kinds", desc := "(I)I" } : Jvm.MethodName) ({ cls := "BookPairs", name := "kinds", desc := "(I)I" } : Jvm.MethodName)) ∈ lw_all := lw_g (lw_at lw_m3 220 rfl) rfl
theorem q768 : (Jvm.Cond.code ({ cls := "BookPairs", name := "kinds", desc := "(I)I" } : Jvm.MethodName) prog_1_method_42_code (5 : Nat) (Option.some Jvm.ClassFile.FieldType.int)) ∈ lw_all := lw_g (lw_at lw_m3 221 rfl) rfl
theorem q769 : (Jvm.Cond.methodLink "BookPairs" (127 : Nat) ({ cls := "BookPairs", name := "madeOf", desc := "(III)LBookPairs$Plain;" } : Jvm.MethodName)) ∈ lw_all := lw_g (lw_at lw_m3 222 rfl) rfl
theorem q770 : (Jvm.Cond.privateMethod ({ cls := "BookPairs", name := "madeOf", desc := "(III)LBookPairs$Plain;" } : Jvm.MethodName)) ∈ lw_tbl := lw_at lw_m3 223 rfl
theorem q771 : (Jvm.Cond.instanceMethod ({ cls := "BookPairs", name := "madeOf", desc := "(III)LBookPairs$Plain;" } : Jvm.MethodName)) ∈ lw_all := lw_g (lw_at lw_m3 224 rfl) rfl
theorem q772 : (Jvm.Cond.code ({ cls := "BookPairs", name := "madeOf", desc := "(III)LBookPairs$Plain;" } : Jvm.MethodName) prog_1_method_5_code (4 : Nat) (Option.some (Jvm.ClassFile.FieldType.object "BookPairs$Plain"))) ∈ lw_all := lw_g (lw_at lw_m3 225 rfl) rfl
theorem q774 : (Jvm.Cond.methodLink "BookPairs" (86 : Nat) ({ cls := "BookPairs$Plain", name := "<init>", desc := "(LBookPairs;II)V" } : Jvm.MethodName)) ∈ lw_all := lw_g (lw_at lw_m3 227 rfl) rfl
theorem q779 : (Jvm.Cond.fieldLink "BookPairs" (174 : Nat) "BookPairs$Plain" "anchor" "I") ∈ lw_all := lw_g (lw_at lw_m3 232 rfl) rfl
theorem q786 : (Jvm.Cond.fieldLink "BookPairs" (245 : Nat) "BookPairs$Plain" "letters" "I") ∈ lw_all := lw_g (lw_at lw_m3 239 rfl) rfl
theorem q795 : (Jvm.Cond.classLink "BookPairs" (89 : Nat) "BookPairs$Longer") ∈ lw_all := lw_g (lw_at lw_m4 8 rfl) rfl
theorem q797 : (Jvm.Cond.methodLink "BookPairs" (91 : Nat) ({ cls := "BookPairs$Longer", name := "<init>", desc := "(LBookPairs;II)V" } : Jvm.MethodName)) ∈ lw_all := lw_g (lw_at lw_m4 10 rfl) rfl
theorem q807 : (Jvm.Cond.classLink "BookPairs" (92 : Nat) "BookPairs$Doubled") ∈ lw_all := lw_g (lw_at lw_m4 20 rfl) rfl
theorem q809 : (Jvm.Cond.methodLink "BookPairs" (94 : Nat) ({ cls := "BookPairs$Doubled", name := "<init>", desc := "(LBookPairs;II)V" } : Jvm.MethodName)) ∈ lw_all := lw_g (lw_at lw_m4 22 rfl) rfl
theorem q821 : (Jvm.Cond.interfaceEntry "BookPairs" (350 : Nat)) ∈ lw_tbl := lw_at lw_m4 34 rfl
theorem q822 : (Jvm.Cond.methodLink "BookPairs" (350 : Nat) ({ cls := "java/util/List", name := "set", desc := "(ILjava/lang/Object;)Ljava/lang/Object;" } : Jvm.MethodName)) ∈ lw_all := lw_g (lw_at lw_m4 35 rfl) rfl
theorem q830 : (Jvm.Cond.methodLink "BookPairs" (354 : Nat) ({ cls := "BookPairs", name := "areSo", desc := "()Z" } : Jvm.MethodName)) ∈ lw_all := lw_g (lw_at lw_m4 43 rfl) rfl
theorem q831 : (Jvm.Cond.privateMethod ({ cls := "BookPairs", name := "areSo", desc := "()Z" } : Jvm.MethodName)) ∈ lw_tbl := lw_at lw_m4 44 rfl
theorem q832 : (Jvm.Cond.instanceMethod ({ cls := "BookPairs", name := "areSo", desc := "()Z" } : Jvm.MethodName)) ∈ lw_all := lw_g (lw_at lw_m4 45 rfl) rfl
theorem q833 : (Jvm.Cond.code ({ cls := "BookPairs", name := "areSo", desc := "()Z" } : Jvm.MethodName) prog_1_method_41_code (3 : Nat) (Option.some Jvm.ClassFile.FieldType.boolean)) ∈ lw_all := lw_g (lw_at lw_m4 46 rfl) rfl
theorem q835 : (Jvm.Cond.instanceMethod ({ cls := "BookPairs", name := "letterings", desc := "(I)I" } : Jvm.MethodName)) ∈ lw_all := lw_g (lw_at lw_m4 48 rfl) rfl
theorem q836 : (Jvm.Cond.selects "BookPairs" ({ cls := "BookPairs", name := "letterings", desc := "(I)I" } : Jvm.MethodName) ({ cls := "BookPairs", name := "letterings", desc := "(I)I" } : Jvm.MethodName)) ∈ lw_all := lw_g (lw_at lw_m4 49 rfl) rfl
theorem q837 : (Jvm.Cond.code ({ cls := "BookPairs", name := "letterings", desc := "(I)I" } : Jvm.MethodName) prog_1_method_43_code (6 : Nat) (Option.some Jvm.ClassFile.FieldType.int)) ∈ lw_all := lw_g (lw_at lw_m4 50 rfl) rfl
theorem q839 : (Jvm.Cond.instanceMethod ({ cls := "BookPairs", name := "odds", desc := "(II)J" } : Jvm.MethodName)) ∈ lw_all := lw_g (lw_at lw_m4 52 rfl) rfl
theorem q840 : (Jvm.Cond.selects "BookPairs" ({ cls := "BookPairs", name := "odds", desc := "(II)J" } : Jvm.MethodName) ({ cls := "BookPairs", name := "odds", desc := "(II)J" } : Jvm.MethodName)) ∈ lw_all := lw_g (lw_at lw_m4 53 rfl) rfl
theorem q841 : (Jvm.Cond.code ({ cls := "BookPairs", name := "odds", desc := "(II)J" } : Jvm.MethodName) prog_1_method_45_code (7 : Nat) (Option.some Jvm.ClassFile.FieldType.long)) ∈ lw_all := lw_g (lw_at lw_m4 54 rfl) rfl
theorem q842 : (Jvm.Cond.constantLong "BookPairs" (357 : Nat) (-9223372036854775808 : Int64)) ∈ lw_all := lw_g (lw_at lw_m4 55 rfl) rfl
theorem q843 : (Jvm.Cond.methodLink "BookPairs" (359 : Nat) ({ cls := "BookPairs", name := "greatestOf", desc := "(JJ)J" } : Jvm.MethodName)) ∈ lw_all := lw_g (lw_at lw_m4 56 rfl) rfl
theorem q844 : (Jvm.Cond.static ({ cls := "BookPairs", name := "greatestOf", desc := "(JJ)J" } : Jvm.MethodName)) ∈ lw_all := lw_g (lw_at lw_m4 57 rfl) rfl
theorem q845 : (Jvm.Cond.code ({ cls := "BookPairs", name := "greatestOf", desc := "(JJ)J" } : Jvm.MethodName) prog_1_method_44_code (10 : Nat) (Option.some Jvm.ClassFile.FieldType.long)) ∈ lw_all := lw_g (lw_at lw_m4 58 rfl) rfl
theorem q847 : (Jvm.Cond.instanceMethod ({ cls := "BookPairs", name := "sheet", desc := "(III)I" } : Jvm.MethodName)) ∈ lw_all := lw_g (lw_at lw_m4 60 rfl) rfl
theorem q848 : (Jvm.Cond.selects "BookPairs" ({ cls := "BookPairs", name := "sheet", desc := "(III)I" } : Jvm.MethodName) ({ cls := "BookPairs", name := "sheet", desc := "(III)I" } : Jvm.MethodName)) ∈ lw_all := lw_g (lw_at lw_m4 61 rfl) rfl
theorem q849 : (Jvm.Cond.codeWith ({ cls := "BookPairs", name := "sheet", desc := "(III)I" } : Jvm.MethodName) prog_1_method_55_code (5 : Nat) (Option.some Jvm.ClassFile.FieldType.int) [((43 : Nat), (62 : Nat), (63 : Nat), (388 : Nat))]) ∈ lw_all := lw_g (lw_at lw_m4 62 rfl) rfl
theorem q850 : (Jvm.Cond.classLink "BookPairs" (388 : Nat) "java/lang/NegativeArraySizeException") ∈ lw_all := lw_g (lw_at lw_m4 63 rfl) rfl
theorem q937 : (Jvm.Cond.methodLink "BookPairs" (375 : Nat) ({ cls := "BookPairs", name := "noSheet", desc := "(I)Z" } : Jvm.MethodName)) ∈ lw_all := lw_g (lw_at lw_m4 150 rfl) rfl
theorem q938 : (Jvm.Cond.static ({ cls := "BookPairs", name := "noSheet", desc := "(I)Z" } : Jvm.MethodName)) ∈ lw_all := lw_g (lw_at lw_m4 151 rfl) rfl
theorem q939 : (Jvm.Cond.code ({ cls := "BookPairs", name := "noSheet", desc := "(I)Z" } : Jvm.MethodName) prog_1_method_53_code (1 : Nat) (Option.some Jvm.ClassFile.FieldType.boolean)) ∈ lw_all := lw_g (lw_at lw_m4 152 rfl) rfl
theorem q940 : (Jvm.Cond.methodLink "BookPairs" (378 : Nat) ({ cls := "BookPairs", name := "refused", desc := "(I)I" } : Jvm.MethodName)) ∈ lw_all := lw_g (lw_at lw_m4 153 rfl) rfl
theorem q941 : (Jvm.Cond.privateMethod ({ cls := "BookPairs", name := "refused", desc := "(I)I" } : Jvm.MethodName)) ∈ lw_tbl := lw_at lw_m4 154 rfl
theorem q942 : (Jvm.Cond.instanceMethod ({ cls := "BookPairs", name := "refused", desc := "(I)I" } : Jvm.MethodName)) ∈ lw_all := lw_g (lw_at lw_m4 155 rfl) rfl
theorem q943 : (Jvm.Cond.code ({ cls := "BookPairs", name := "refused", desc := "(I)I" } : Jvm.MethodName) prog_1_method_46_code (2 : Nat) (Option.some Jvm.ClassFile.FieldType.int)) ∈ lw_all := lw_g (lw_at lw_m4 156 rfl) rfl
theorem q945 : (Jvm.Cond.methodLink "BookPairs" (381 : Nat) ({ cls := "BookPairs", name := "rowOf", desc := "(II)Ljava/lang/Object;" } : Jvm.MethodName)) ∈ lw_all := lw_g (lw_at lw_m4 158 rfl) rfl
theorem q946 : (Jvm.Cond.static ({ cls := "BookPairs", name := "rowOf", desc := "(II)Ljava/lang/Object;" } : Jvm.MethodName)) ∈ lw_all := lw_g (lw_at lw_m4 159 rfl) rfl
theorem q947 : (Jvm.Cond.code ({ cls := "BookPairs", name := "rowOf", desc := "(II)Ljava/lang/Object;" } : Jvm.MethodName) prog_1_method_49_code (2 : Nat) (Option.some (Jvm.ClassFile.FieldType.object "java/lang/Object"))) ∈ lw_all := lw_g (lw_at lw_m4 160 rfl) rfl
theorem q948 : (Jvm.Cond.methodLink "BookPairs" (385 : Nat) ({ cls := "BookPairs$Sheet", name := "<init>", desc := "(Ljava/lang/Object;)V" } : Jvm.MethodName)) ∈ lw_all := lw_g (lw_at lw_m4 161 rfl) rfl
theorem q953 : (Jvm.Cond.fieldLink "BookPairs" (371 : Nat) "BookPairs$Sheet" "row" "Ljava/lang/Object;") ∈ lw_all := lw_g (lw_at lw_m4 166 rfl) rfl
theorem q958 : (Jvm.Cond.methodLink "BookPairs" (390 : Nat) ({ cls := "BookPairs", name := "fails", desc := "(I)I" } : Jvm.MethodName)) ∈ lw_all := lw_g (lw_at lw_m4 171 rfl) rfl
theorem q959 : (Jvm.Cond.privateMethod ({ cls := "BookPairs", name := "fails", desc := "(I)I" } : Jvm.MethodName)) ∈ lw_tbl := lw_at lw_m4 172 rfl
theorem q960 : (Jvm.Cond.instanceMethod ({ cls := "BookPairs", name := "fails", desc := "(I)I" } : Jvm.MethodName)) ∈ lw_all := lw_g (lw_at lw_m4 173 rfl) rfl
theorem q961 : (Jvm.Cond.code ({ cls := "BookPairs", name := "fails", desc := "(I)I" } : Jvm.MethodName) prog_1_method_47_code (2 : Nat) (Option.some Jvm.ClassFile.FieldType.int)) ∈ lw_all := lw_g (lw_at lw_m4 174 rfl) rfl
theorem q963 : (Jvm.Cond.instanceMethod ({ cls := "BookPairs", name := "lose", desc := "(I)I" } : Jvm.MethodName)) ∈ lw_all := lw_g (lw_at lw_m4 176 rfl) rfl
theorem q964 : (Jvm.Cond.selects "BookPairs" ({ cls := "BookPairs", name := "lose", desc := "(I)I" } : Jvm.MethodName) ({ cls := "BookPairs", name := "lose", desc := "(I)I" } : Jvm.MethodName)) ∈ lw_all := lw_g (lw_at lw_m4 177 rfl) rfl
theorem q965 : (Jvm.Cond.code ({ cls := "BookPairs", name := "lose", desc := "(I)I" } : Jvm.MethodName) prog_1_method_56_code (3 : Nat) (Option.some Jvm.ClassFile.FieldType.int)) ∈ lw_all := lw_g (lw_at lw_m4 178 rfl) rfl
theorem q967 : (Jvm.Cond.instanceMethod ({ cls := "BookPairs", name := "put", desc := "(III)I" } : Jvm.MethodName)) ∈ lw_all := lw_g (lw_at lw_m4 180 rfl) rfl
theorem q968 : (Jvm.Cond.selects "BookPairs" ({ cls := "BookPairs", name := "put", desc := "(III)I" } : Jvm.MethodName) ({ cls := "BookPairs", name := "put", desc := "(III)I" } : Jvm.MethodName)) ∈ lw_all := lw_g (lw_at lw_m4 181 rfl) rfl
theorem q969 : (Jvm.Cond.codeWith ({ cls := "BookPairs", name := "put", desc := "(III)I" } : Jvm.MethodName) prog_1_method_57_code (5 : Nat) (Option.some Jvm.ClassFile.FieldType.int) [((18 : Nat), (33 : Nat), (34 : Nat), (397 : Nat)), ((18 : Nat), (33 : Nat), (42 : Nat), (399 : Nat))]) ∈ lw_all := lw_g (lw_at lw_m4 182 rfl) rfl
theorem q970 : (Jvm.Cond.classLink "BookPairs" (397 : Nat) "java/lang/NullPointerException") ∈ lw_all := lw_g (lw_at lw_m4 183 rfl) rfl
theorem q995 : (Jvm.Cond.classLink "BookPairs" (399 : Nat) "java/lang/IndexOutOfBoundsException") ∈ lw_all := lw_g (lw_at lw_m4 208 rfl) rfl
theorem q1014 : (Jvm.Cond.methodLink "BookPairs" (393 : Nat) ({ cls := "BookPairs", name := "setIn", desc := "(Ljava/lang/Object;II)V" } : Jvm.MethodName)) ∈ lw_all := lw_g (lw_at lw_m4 227 rfl) rfl
theorem q1015 : (Jvm.Cond.static ({ cls := "BookPairs", name := "setIn", desc := "(Ljava/lang/Object;II)V" } : Jvm.MethodName)) ∈ lw_all := lw_g (lw_at lw_m4 228 rfl) rfl
theorem q1016 : (Jvm.Cond.code ({ cls := "BookPairs", name := "setIn", desc := "(Ljava/lang/Object;II)V" } : Jvm.MethodName) prog_1_method_52_code (3 : Nat) (Option.none : Option Jvm.ClassFile.FieldType)) ∈ lw_all := lw_g (lw_at lw_m4 229 rfl) rfl
theorem q1017 : (Jvm.Cond.classLink "BookPairs" (366 : Nat) "[B") ∈ lw_all := lw_g (lw_at lw_m4 230 rfl) rfl
theorem q1018 : (Jvm.Cond.classLink "BookPairs" (368 : Nat) "[S") ∈ lw_all := lw_g (lw_at lw_m4 231 rfl) rfl
theorem q1019 : (Jvm.Cond.classLink "BookPairs" (370 : Nat) "[I") ∈ lw_all := lw_g (lw_at lw_m4 232 rfl) rfl
theorem q1021 : (Jvm.Cond.instanceMethod ({ cls := "BookPairs", name := "cell", desc := "(III)J" } : Jvm.MethodName)) ∈ lw_all := lw_g (lw_at lw_m4 234 rfl) rfl
theorem q1022 : (Jvm.Cond.selects "BookPairs" ({ cls := "BookPairs", name := "cell", desc := "(III)J" } : Jvm.MethodName) ({ cls := "BookPairs", name := "cell", desc := "(III)J" } : Jvm.MethodName)) ∈ lw_all := lw_g (lw_at lw_m4 235 rfl) rfl
theorem q1023 : (Jvm.Cond.codeWith ({ cls := "BookPairs", name := "cell", desc := "(III)J" } : Jvm.MethodName) prog_1_method_58_code (5 : Nat) (Option.some Jvm.ClassFile.FieldType.long) [((28 : Nat), (39 : Nat), (40 : Nat), (397 : Nat)), ((28 : Nat), (39 : Nat), (48 : Nat), (412 : Nat)), ((28 : Nat), (39 : Nat), (56 : Nat), (399 : Nat))]) ∈ lw_all := lw_g (lw_at lw_m4 236 rfl) rfl
theorem q1024 : (Jvm.Cond.classLink "BookPairs" (412 : Nat) "java/lang/ClassCastException") ∈ lw_all := lw_g (lw_at lw_m4 237 rfl) rfl
theorem q1038 : (Jvm.Cond.methodLink "BookPairs" (401 : Nat) ({ cls := "BookPairs", name := "rowIn", desc := "(I)Ljava/lang/Object;" } : Jvm.MethodName)) ∈ lw_all := lw_g (lw_at lw_m5 11 rfl) rfl
theorem q1039 : (Jvm.Cond.privateMethod ({ cls := "BookPairs", name := "rowIn", desc := "(I)Ljava/lang/Object;" } : Jvm.MethodName)) ∈ lw_tbl := lw_at lw_m5 12 rfl
theorem q1040 : (Jvm.Cond.instanceMethod ({ cls := "BookPairs", name := "rowIn", desc := "(I)Ljava/lang/Object;" } : Jvm.MethodName)) ∈ lw_all := lw_g (lw_at lw_m5 13 rfl) rfl
theorem q1041 : (Jvm.Cond.code ({ cls := "BookPairs", name := "rowIn", desc := "(I)Ljava/lang/Object;" } : Jvm.MethodName) prog_1_method_54_code (2 : Nat) (Option.some (Jvm.ClassFile.FieldType.object "java/lang/Object"))) ∈ lw_all := lw_g (lw_at lw_m5 14 rfl) rfl
theorem q1042 : (Jvm.Cond.methodLink "BookPairs" (404 : Nat) ({ cls := "BookPairs", name := "cellOf", desc := "(Ljava/lang/Object;II)I" } : Jvm.MethodName)) ∈ lw_all := lw_g (lw_at lw_m5 15 rfl) rfl
theorem q1043 : (Jvm.Cond.static ({ cls := "BookPairs", name := "cellOf", desc := "(Ljava/lang/Object;II)I" } : Jvm.MethodName)) ∈ lw_all := lw_g (lw_at lw_m5 16 rfl) rfl
theorem q1044 : (Jvm.Cond.code ({ cls := "BookPairs", name := "cellOf", desc := "(Ljava/lang/Object;II)I" } : Jvm.MethodName) prog_1_method_50_code (3 : Nat) (Option.some Jvm.ClassFile.FieldType.int)) ∈ lw_all := lw_g (lw_at lw_m5 17 rfl) rfl
theorem q1045 : (Jvm.Cond.methodLink "BookPairs" (408 : Nat) ({ cls := "BookPairs", name := "failsLong", desc := "(I)J" } : Jvm.MethodName)) ∈ lw_all := lw_g (lw_at lw_m5 18 rfl) rfl
theorem q1046 : (Jvm.Cond.privateMethod ({ cls := "BookPairs", name := "failsLong", desc := "(I)J" } : Jvm.MethodName)) ∈ lw_tbl := lw_at lw_m5 19 rfl
theorem q1047 : (Jvm.Cond.instanceMethod ({ cls := "BookPairs", name := "failsLong", desc := "(I)J" } : Jvm.MethodName)) ∈ lw_all := lw_g (lw_at lw_m5 20 rfl) rfl
theorem q1048 : (Jvm.Cond.code ({ cls := "BookPairs", name := "failsLong", desc := "(I)J" } : Jvm.MethodName) prog_1_method_48_code (2 : Nat) (Option.some Jvm.ClassFile.FieldType.long)) ∈ lw_all := lw_g (lw_at lw_m5 21 rfl) rfl
theorem q1050 : (Jvm.Cond.instanceMethod ({ cls := "BookPairs", name := "books", desc := "(IIII)I" } : Jvm.MethodName)) ∈ lw_all := lw_g (lw_at lw_m5 23 rfl) rfl
theorem q1051 : (Jvm.Cond.selects "BookPairs" ({ cls := "BookPairs", name := "books", desc := "(IIII)I" } : Jvm.MethodName) ({ cls := "BookPairs", name := "books", desc := "(IIII)I" } : Jvm.MethodName)) ∈ lw_all := lw_g (lw_at lw_m5 24 rfl) rfl
theorem q1052 : (Jvm.Cond.code ({ cls := "BookPairs", name := "books", desc := "(IIII)I" } : Jvm.MethodName) prog_1_method_62_code (5 : Nat) (Option.some Jvm.ClassFile.FieldType.int)) ∈ lw_all := lw_g (lw_at lw_m5 25 rfl) rfl
theorem q1053 : (Jvm.Cond.classLink "BookPairs" (428 : Nat) "BookPairs$Looking") ∈ lw_all := lw_g (lw_at lw_m5 26 rfl) rfl
theorem q1055 : (Jvm.Cond.privateMethod ({ cls := "BookPairs", name := "newBooks", desc := "([I)I" } : Jvm.MethodName)) ∈ lw_tbl := lw_at lw_m5 28 rfl
theorem q1056 : (Jvm.Cond.instanceMethod ({ cls := "BookPairs", name := "newBooks", desc := "([I)I" } : Jvm.MethodName)) ∈ lw_all := lw_g (lw_at lw_m5 29 rfl) rfl
theorem q1057 : (Jvm.Cond.code ({ cls := "BookPairs", name := "newBooks", desc := "([I)I" } : Jvm.MethodName) prog_1_method_14_code (5 : Nat) (Option.some Jvm.ClassFile.FieldType.int)) ∈ lw_all := lw_g (lw_at lw_m5 30 rfl) rfl
theorem q1058 : (Jvm.Cond.methodLink "BookPairs" (113 : Nat) ({ cls := "BookPairs", name := "codeAt", desc := "([II)I" } : Jvm.MethodName)) ∈ lw_all := lw_g (lw_at lw_m5 31 rfl) rfl
theorem q1059 : (Jvm.Cond.static ({ cls := "BookPairs", name := "codeAt", desc := "([II)I" } : Jvm.MethodName)) ∈ lw_all := lw_g (lw_at lw_m5 32 rfl) rfl
theorem q1060 : (Jvm.Cond.code ({ cls := "BookPairs", name := "codeAt", desc := "([II)I" } : Jvm.MethodName) prog_1_method_9_code (2 : Nat) (Option.some Jvm.ClassFile.FieldType.int)) ∈ lw_all := lw_g (lw_at lw_m5 33 rfl) rfl
theorem q1061 : (Jvm.Cond.methodLink "BookPairs" (135 : Nat) ({ cls := "java/util/ArrayList", name := "<init>", desc := "(I)V" } : Jvm.MethodName)) ∈ lw_all := lw_g (lw_at lw_m5 34 rfl) rfl
theorem q1066 : (Jvm.Cond.methodLink "BookPairs" (138 : Nat) ({ cls := "BookPairs", name := "leftIn", desc := "([IILjava/util/List;)I" } : Jvm.MethodName)) ∈ lw_all := lw_g (lw_at lw_m5 39 rfl) rfl
theorem q1067 : (Jvm.Cond.privateMethod ({ cls := "BookPairs", name := "leftIn", desc := "([IILjava/util/List;)I" } : Jvm.MethodName)) ∈ lw_tbl := lw_at lw_m5 40 rfl
theorem q1068 : (Jvm.Cond.instanceMethod ({ cls := "BookPairs", name := "leftIn", desc := "([IILjava/util/List;)I" } : Jvm.MethodName)) ∈ lw_all := lw_g (lw_at lw_m5 41 rfl) rfl
theorem q1069 : (Jvm.Cond.code ({ cls := "BookPairs", name := "leftIn", desc := "([IILjava/util/List;)I" } : Jvm.MethodName) prog_1_method_12_code (9 : Nat) (Option.some Jvm.ClassFile.FieldType.int)) ∈ lw_all := lw_g (lw_at lw_m5 42 rfl) rfl
theorem q1070 : (Jvm.Cond.methodLink "BookPairs" (121 : Nat) ({ cls := "BookPairs", name := "lettersAt", desc := "([II)I" } : Jvm.MethodName)) ∈ lw_all := lw_g (lw_at lw_m5 43 rfl) rfl
theorem q1071 : (Jvm.Cond.static ({ cls := "BookPairs", name := "lettersAt", desc := "([II)I" } : Jvm.MethodName)) ∈ lw_all := lw_g (lw_at lw_m5 44 rfl) rfl
theorem q1072 : (Jvm.Cond.code ({ cls := "BookPairs", name := "lettersAt", desc := "([II)I" } : Jvm.MethodName) prog_1_method_10_code (3 : Nat) (Option.some Jvm.ClassFile.FieldType.int)) ∈ lw_all := lw_g (lw_at lw_m5 45 rfl) rfl
theorem q1073 : (Jvm.Cond.methodLink "BookPairs" (124 : Nat) ({ cls := "BookPairs", name := "anchorAt", desc := "([II)I" } : Jvm.MethodName)) ∈ lw_all := lw_g (lw_at lw_m5 46 rfl) rfl
theorem q1074 : (Jvm.Cond.static ({ cls := "BookPairs", name := "anchorAt", desc := "([II)I" } : Jvm.MethodName)) ∈ lw_all := lw_g (lw_at lw_m5 47 rfl) rfl
theorem q1075 : (Jvm.Cond.code ({ cls := "BookPairs", name := "anchorAt", desc := "([II)I" } : Jvm.MethodName) prog_1_method_11_code (3 : Nat) (Option.some Jvm.ClassFile.FieldType.int)) ∈ lw_all := lw_g (lw_at lw_m5 48 rfl) rfl
theorem q1076 : (Jvm.Cond.methodLink "BookPairs" (142 : Nat) ({ cls := "BookPairs", name := "rightIn", desc := "([II)I" } : Jvm.MethodName)) ∈ lw_all := lw_g (lw_at lw_m5 49 rfl) rfl
theorem q1077 : (Jvm.Cond.privateMethod ({ cls := "BookPairs", name := "rightIn", desc := "([II)I" } : Jvm.MethodName)) ∈ lw_tbl := lw_at lw_m5 50 rfl
theorem q1078 : (Jvm.Cond.instanceMethod ({ cls := "BookPairs", name := "rightIn", desc := "([II)I" } : Jvm.MethodName)) ∈ lw_all := lw_g (lw_at lw_m5 51 rfl) rfl
theorem q1079 : (Jvm.Cond.code ({ cls := "BookPairs", name := "rightIn", desc := "([II)I" } : Jvm.MethodName) prog_1_method_13_code (5 : Nat) (Option.some Jvm.ClassFile.FieldType.int)) ∈ lw_all := lw_g (lw_at lw_m5 52 rfl) rfl
theorem q1080 : (Jvm.Cond.interfaceEntry "BookPairs" (145 : Nat)) ∈ lw_tbl := lw_at lw_m5 53 rfl
theorem q1081 : (Jvm.Cond.methodLink "BookPairs" (145 : Nat) ({ cls := "java/util/List", name := "clear", desc := "()V" } : Jvm.MethodName)) ∈ lw_all := lw_g (lw_at lw_m5 54 rfl) rfl
theorem q1089 : (Jvm.Cond.interfaceEntry "BookPairs" (148 : Nat)) ∈ lw_tbl := lw_at lw_m5 62 rfl
theorem q1090 : (Jvm.Cond.methodLink "BookPairs" (148 : Nat) ({ cls := "java/util/List", name := "addAll", desc := "(Ljava/util/Collection;)Z" } : Jvm.MethodName)) ∈ lw_all := lw_g (lw_at lw_m5 63 rfl) rfl
theorem q1108 : (Jvm.Cond.methodLink "BookPairs" (152 : Nat) ({ cls := "java/lang/System", name := "arraycopy", desc := "(Ljava/lang/Object;ILjava/lang/Object;II)V" } : Jvm.MethodName)) ∈ lw_all := lw_g (lw_at lw_m5 81 rfl) rfl
theorem q1109 : (Jvm.Cond.methodLink "BookPairs" (442 : Nat) ({ cls := "BookPairs$Looking", name := "<init>", desc := "(LBookPairs;IIIILBookPairs$Reader;)V" } : Jvm.MethodName)) ∈ lw_all := lw_g (lw_at lw_m5 82 rfl) rfl
theorem q1117 : (Jvm.Cond.fieldLinkNest "BookPairs" (427 : Nat) "BookPairs$Looking" "sheet" "I" "BookPairs") ∈ lw_tbl := lw_at lw_m5 90 rfl
theorem q1119 : (Jvm.Cond.fieldLinkNest "BookPairs" (432 : Nat) "BookPairs$Looking" "lane" "I" "BookPairs") ∈ lw_tbl := lw_at lw_m5 92 rfl
theorem q1140 : (Jvm.Cond.methodLink "BookPairs" (445 : Nat) ({ cls := "BookPairs", name := "looked", desc := "(LBookPairs$Looking;Z)I" } : Jvm.MethodName)) ∈ lw_all := lw_g (lw_at lw_m5 113 rfl) rfl
theorem q1141 : (Jvm.Cond.privateMethod ({ cls := "BookPairs", name := "looked", desc := "(LBookPairs$Looking;Z)I" } : Jvm.MethodName)) ∈ lw_tbl := lw_at lw_m5 114 rfl
theorem q1142 : (Jvm.Cond.instanceMethod ({ cls := "BookPairs", name := "looked", desc := "(LBookPairs$Looking;Z)I" } : Jvm.MethodName)) ∈ lw_all := lw_g (lw_at lw_m5 115 rfl) rfl
theorem q1143 : (Jvm.Cond.code ({ cls := "BookPairs", name := "looked", desc := "(LBookPairs$Looking;Z)I" } : Jvm.MethodName) prog_1_method_61_code (3 : Nat) (Option.some Jvm.ClassFile.FieldType.int)) ∈ lw_all := lw_g (lw_at lw_m5 116 rfl) rfl
theorem q1144 : (Jvm.Cond.methodLink "BookPairs" (435 : Nat) ({ cls := "BookPairs$Looking", name := "tried", desc := "()I" } : Jvm.MethodName)) ∈ lw_all := lw_g (lw_at lw_m5 117 rfl) rfl
theorem q1181 : (Jvm.Cond.static ({ cls := "BookPairs", name := "cellsOf", desc := "(Ljava/lang/Object;III)[I" } : Jvm.MethodName)) ∈ lw_all := lw_g (lw_at lw_m5 154 rfl) rfl
theorem q1182 : (Jvm.Cond.code ({ cls := "BookPairs", name := "cellsOf", desc := "(Ljava/lang/Object;III)[I" } : Jvm.MethodName) prog_1_method_60_code (8 : Nat) (Option.some (Jvm.ClassFile.FieldType.array Jvm.ClassFile.FieldType.int))) ∈ lw_all := lw_g (lw_at lw_m5 155 rfl) rfl
theorem q1183 : (Jvm.Cond.methodLink "BookPairs" (419 : Nat) ({ cls := "BookPairs", name := "sizeOf", desc := "(Ljava/lang/Object;I)I" } : Jvm.MethodName)) ∈ lw_all := lw_g (lw_at lw_m5 156 rfl) rfl
theorem q1184 : (Jvm.Cond.static ({ cls := "BookPairs", name := "sizeOf", desc := "(Ljava/lang/Object;I)I" } : Jvm.MethodName)) ∈ lw_all := lw_g (lw_at lw_m5 157 rfl) rfl
theorem q1185 : (Jvm.Cond.code ({ cls := "BookPairs", name := "sizeOf", desc := "(Ljava/lang/Object;I)I" } : Jvm.MethodName) prog_1_method_51_code (2 : Nat) (Option.some Jvm.ClassFile.FieldType.int)) ∈ lw_all := lw_g (lw_at lw_m5 158 rfl) rfl
theorem q1186 : (Jvm.Cond.methodLink "BookPairs" (423 : Nat) ({ cls := "BookPairs", name := "need", desc := "(Z)V" } : Jvm.MethodName)) ∈ lw_all := lw_g (lw_at lw_m5 159 rfl) rfl
theorem q1187 : (Jvm.Cond.static ({ cls := "BookPairs", name := "need", desc := "(Z)V" } : Jvm.MethodName)) ∈ lw_all := lw_g (lw_at lw_m5 160 rfl) rfl
theorem q1188 : (Jvm.Cond.code ({ cls := "BookPairs", name := "need", desc := "(Z)V" } : Jvm.MethodName) prog_1_method_59_code (1 : Nat) (Option.none : Option Jvm.ClassFile.FieldType)) ∈ lw_all := lw_g (lw_at lw_m5 161 rfl) rfl
theorem q1197 : (Jvm.Cond.stringRef "BookPairs" (414 : Nat) "not all there") ∈ lw_tbl := lw_at lw_m5 170 rfl
theorem q1198 : (Jvm.Cond.methodLink "BookPairs" (416 : Nat) ({ cls := "java/lang/IndexOutOfBoundsException", name := "<init>", desc := "(Ljava/lang/String;)V" } : Jvm.MethodName)) ∈ lw_all := lw_g (lw_at lw_m5 171 rfl) rfl
theorem q1212 : (Jvm.Cond.instanceMethod ({ cls := "BookPairs", name := "day", desc := "(IIIII)I" } : Jvm.MethodName)) ∈ lw_all := lw_g (lw_at lw_m5 185 rfl) rfl
theorem q1213 : (Jvm.Cond.selects "BookPairs" ({ cls := "BookPairs", name := "day", desc := "(IIIII)I" } : Jvm.MethodName) ({ cls := "BookPairs", name := "day", desc := "(IIIII)I" } : Jvm.MethodName)) ∈ lw_all := lw_g (lw_at lw_m5 186 rfl) rfl
theorem q1214 : (Jvm.Cond.code ({ cls := "BookPairs", name := "day", desc := "(IIIII)I" } : Jvm.MethodName) prog_1_method_63_code (7 : Nat) (Option.some Jvm.ClassFile.FieldType.int)) ∈ lw_all := lw_g (lw_at lw_m5 187 rfl) rfl
theorem q1215 : (Jvm.Cond.constantLong "BookPairs" (312 : Nat) (20 : Int64)) ∈ lw_all := lw_g (lw_at lw_m5 188 rfl) rfl
theorem q1216 : (Jvm.Cond.constantLong "BookPairs" (308 : Nat) (10 : Int64)) ∈ lw_all := lw_g (lw_at lw_m5 189 rfl) rfl
theorem q1217 : (Jvm.Cond.constantLong "BookPairs" (310 : Nat) (16 : Int64)) ∈ lw_all := lw_g (lw_at lw_m5 190 rfl) rfl
theorem q1218 : (Jvm.Cond.privateMethod ({ cls := "BookPairs", name := "lambda$day$8", desc := "(I[I)I" } : Jvm.MethodName)) ∈ lw_tbl := lw_at lw_m5 191 rfl
theorem q1219 : (Jvm.Cond.instanceMethod ({ cls := "BookPairs", name := "lambda$day$8", desc := "(I[I)I" } : Jvm.MethodName)) ∈ lw_all := lw_g (lw_at lw_m5 192 rfl) rfl
theorem q1220 : (Jvm.Cond.code ({ cls := "BookPairs", name := "lambda$day$8", desc := "(I[I)I" } : Jvm.MethodName) prog_1_method_71_code (3 : Nat) (Option.some Jvm.ClassFile.FieldType.int)) ∈ lw_all := lw_g (lw_at lw_m5 193 rfl) rfl
theorem q1221 : (Jvm.Cond.methodLink "BookPairs" (475 : Nat) ({ cls := "BookPairs", name := "dayBy", desc := "([II)I" } : Jvm.MethodName)) ∈ lw_all := lw_g (lw_at lw_m5 194 rfl) rfl
theorem q1222 : (Jvm.Cond.privateMethod ({ cls := "BookPairs", name := "dayBy", desc := "([II)I" } : Jvm.MethodName)) ∈ lw_tbl := lw_at lw_m5 195 rfl
theorem q1223 : (Jvm.Cond.instanceMethod ({ cls := "BookPairs", name := "dayBy", desc := "([II)I" } : Jvm.MethodName)) ∈ lw_all := lw_g (lw_at lw_m5 196 rfl) rfl
theorem q1224 : (Jvm.Cond.code ({ cls := "BookPairs", name := "dayBy", desc := "([II)I" } : Jvm.MethodName) prog_1_method_36_code (9 : Nat) (Option.some Jvm.ClassFile.FieldType.int)) ∈ lw_all := lw_g (lw_at lw_m5 197 rfl) rfl
theorem q1225 : (Jvm.Cond.methodLink "BookPairs" (328 : Nat) ({ cls := "BookPairs", name := "isAsTold", desc := "(II)Z" } : Jvm.MethodName)) ∈ lw_all := lw_g (lw_at lw_m5 198 rfl) rfl
theorem q1226 : (Jvm.Cond.static ({ cls := "BookPairs", name := "isAsTold", desc := "(II)Z" } : Jvm.MethodName)) ∈ lw_all := lw_g (lw_at lw_m5 199 rfl) rfl
theorem q1227 : (Jvm.Cond.code ({ cls := "BookPairs", name := "isAsTold", desc := "(II)Z" } : Jvm.MethodName) prog_1_method_34_code (2 : Nat) (Option.some Jvm.ClassFile.FieldType.boolean)) ∈ lw_all := lw_g (lw_at lw_m5 200 rfl) rfl
theorem q1228 : (Jvm.Cond.constantLong "BookPairs" (306 : Nat) (6 : Int64)) ∈ lw_all := lw_g (lw_at lw_m5 201 rfl) rfl
theorem q1229 : (Jvm.Cond.constantLong "BookPairs" (314 : Nat) (22 : Int64)) ∈ lw_all := lw_g (lw_at lw_m5 202 rfl) rfl
theorem q1230 : (Jvm.Cond.methodLink "BookPairs" (331 : Nat) ({ cls := "BookPairs", name := "dayOf", desc := "([II)I" } : Jvm.MethodName)) ∈ lw_all := lw_g (lw_at lw_m5 203 rfl) rfl
theorem q1231 : (Jvm.Cond.privateMethod ({ cls := "BookPairs", name := "dayOf", desc := "([II)I" } : Jvm.MethodName)) ∈ lw_tbl := lw_at lw_m5 204 rfl
theorem q1232 : (Jvm.Cond.instanceMethod ({ cls := "BookPairs", name := "dayOf", desc := "([II)I" } : Jvm.MethodName)) ∈ lw_all := lw_g (lw_at lw_m5 205 rfl) rfl
theorem q1233 : (Jvm.Cond.code ({ cls := "BookPairs", name := "dayOf", desc := "([II)I" } : Jvm.MethodName) prog_1_method_35_code (6 : Nat) (Option.some Jvm.ClassFile.FieldType.int)) ∈ lw_all := lw_g (lw_at lw_m5 206 rfl) rfl
theorem q1234 : (Jvm.Cond.interfaceEntry "BookPairs" (320 : Nat)) ∈ lw_tbl := lw_at lw_m5 207 rfl
theorem q1235 : (Jvm.Cond.methodLink "BookPairs" (320 : Nat) ({ cls := "BookPairs$Deed", name := "done", desc := "(II)Z" } : Jvm.MethodName)) ∈ lw_all := lw_g (lw_at lw_m5 208 rfl) rfl
theorem q1238 : (Jvm.Cond.methodLink "BookPairs" (325 : Nat) ({ cls := "BookPairs", name := "best", desc := "(I)I" } : Jvm.MethodName)) ∈ lw_all := lw_g (lw_at lw_m5 211 rfl) rfl
theorem q1240 : (Jvm.Cond.instanceMethod ({ cls := "BookPairs", name := "copy", desc := "(IIIII)I" } : Jvm.MethodName)) ∈ lw_all := lw_g (lw_at lw_m5 213 rfl) rfl
theorem q1241 : (Jvm.Cond.selects "BookPairs" ({ cls := "BookPairs", name := "copy", desc := "(IIIII)I" } : Jvm.MethodName) ({ cls := "BookPairs", name := "copy", desc := "(IIIII)I" } : Jvm.MethodName)) ∈ lw_all := lw_g (lw_at lw_m5 214 rfl) rfl
theorem q1242 : (Jvm.Cond.code ({ cls := "BookPairs", name := "copy", desc := "(IIIII)I" } : Jvm.MethodName) prog_1_method_64_code (6 : Nat) (Option.some Jvm.ClassFile.FieldType.int)) ∈ lw_all := lw_g (lw_at lw_m5 215 rfl) rfl
theorem q1243 : (Jvm.Cond.classLink "BookPairs" (452 : Nat) "BookPairs$Copying") ∈ lw_all := lw_g (lw_at lw_m5 216 rfl) rfl
theorem q1245 : (Jvm.Cond.methodLink "BookPairs" (454 : Nat) ({ cls := "BookPairs$Copying", name := "<init>", desc := "(LBookPairs;IIIII)V" } : Jvm.MethodName)) ∈ lw_all := lw_g (lw_at lw_m5 218 rfl) rfl
theorem q1269 : (Jvm.Cond.methodLink "BookPairs" (457 : Nat) ({ cls := "BookPairs$Copying", name := "tried", desc := "()I" } : Jvm.MethodName)) ∈ lw_all := lw_g (lw_at lw_m6 2 rfl) rfl
theorem q1273 : (Jvm.Cond.instanceMethod ({ cls := "BookPairs", name := "tell", desc := "(I)I" } : Jvm.MethodName)) ∈ lw_all := lw_g (lw_at lw_m6 6 rfl) rfl
theorem q1274 : (Jvm.Cond.selects "BookPairs" ({ cls := "BookPairs", name := "tell", desc := "(I)I" } : Jvm.MethodName) ({ cls := "BookPairs", name := "tell", desc := "(I)I" } : Jvm.MethodName)) ∈ lw_all := lw_g (lw_at lw_m6 7 rfl) rfl
theorem q1275 : (Jvm.Cond.code ({ cls := "BookPairs", name := "tell", desc := "(I)I" } : Jvm.MethodName) prog_1_method_65_code (2 : Nat) (Option.some Jvm.ClassFile.FieldType.int)) ∈ lw_all := lw_g (lw_at lw_m6 8 rfl) rfl
theorem q1276 : (Jvm.Cond.methodLink "BookPairs" (458 : Nat) ({ cls := "BookPairs$Plain", name := "said", desc := "()I" } : Jvm.MethodName)) ∈ lw_all := lw_g (lw_at lw_m6 9 rfl) rfl
theorem q1307 : (Jvm.Cond.instanceMethod ({ cls := "BookPairs", name := "read", desc := "(I)I" } : Jvm.MethodName)) ∈ lw_all := lw_g (lw_at lw_m6 40 rfl) rfl
theorem q1308 : (Jvm.Cond.selects "BookPairs" ({ cls := "BookPairs", name := "read", desc := "(I)I" } : Jvm.MethodName) ({ cls := "BookPairs", name := "read", desc := "(I)I" } : Jvm.MethodName)) ∈ lw_all := lw_g (lw_at lw_m6 41 rfl) rfl
theorem q1309 : (Jvm.Cond.code ({ cls := "BookPairs", name := "read", desc := "(I)I" } : Jvm.MethodName) prog_1_method_66_code (3 : Nat) (Option.some Jvm.ClassFile.FieldType.int)) ∈ lw_all := lw_g (lw_at lw_m6 42 rfl) rfl
theorem q1310 : (Jvm.Cond.classLink "BookPairs" (461 : Nat) "BookPairs$Aloud") ∈ lw_all := lw_g (lw_at lw_m6 43 rfl) rfl
theorem q1311 : (Jvm.Cond.interfaceEntry "BookPairs" (463 : Nat)) ∈ lw_tbl := lw_at lw_m6 44 rfl
theorem q1312 : (Jvm.Cond.methodLink "BookPairs" (463 : Nat) ({ cls := "BookPairs$Aloud", name := "readAloud", desc := "()I" } : Jvm.MethodName)) ∈ lw_all := lw_g (lw_at lw_m6 45 rfl) rfl
theorem q1353 : (Jvm.Cond.instanceMethod ({ cls := "BookPairs", name := "as", desc := "(II)I" } : Jvm.MethodName)) ∈ lw_all := lw_g (lw_at lw_m6 86 rfl) rfl
theorem q1354 : (Jvm.Cond.selects "BookPairs" ({ cls := "BookPairs", name := "as", desc := "(II)I" } : Jvm.MethodName) ({ cls := "BookPairs", name := "as", desc := "(II)I" } : Jvm.MethodName)) ∈ lw_all := lw_g (lw_at lw_m6 87 rfl) rfl
theorem q1355 : (Jvm.Cond.code ({ cls := "BookPairs", name := "as", desc := "(II)I" } : Jvm.MethodName) prog_1_method_67_code (3 : Nat) (Option.some Jvm.ClassFile.FieldType.int)) ∈ lw_all := lw_g (lw_at lw_m6 88 rfl) rfl
theorem q1356 : (Jvm.Cond.classLink "BookPairs" (466 : Nat) "BookPairs$Taking") ∈ lw_all := lw_g (lw_at lw_m6 89 rfl) rfl
theorem q1358 : (Jvm.Cond.methodLink "BookPairs" (468 : Nat) ({ cls := "BookPairs$Taking", name := "<init>", desc := "(LBookPairs;LBookPairs$Plain;I)V" } : Jvm.MethodName)) ∈ lw_all := lw_g (lw_at lw_m6 91 rfl) rfl
theorem q1373 : (Jvm.Cond.methodLink "BookPairs" (471 : Nat) ({ cls := "BookPairs$Taking", name := "tried", desc := "()I" } : Jvm.MethodName)) ∈ lw_all := lw_g (lw_at lw_m6 106 rfl) rfl
theorem q1377 : (Jvm.Cond.instanceMethod ({ cls := "BookPairs", name := "trace", desc := "()I" } : Jvm.MethodName)) ∈ lw_all := lw_g (lw_at lw_m6 110 rfl) rfl
theorem q1378 : (Jvm.Cond.selects "BookPairs" ({ cls := "BookPairs", name := "trace", desc := "()I" } : Jvm.MethodName) ({ cls := "BookPairs", name := "trace", desc := "()I" } : Jvm.MethodName)) ∈ lw_all := lw_g (lw_at lw_m6 111 rfl) rfl
theorem q1379 : (Jvm.Cond.code ({ cls := "BookPairs", name := "trace", desc := "()I" } : Jvm.MethodName) prog_1_method_68_code (1 : Nat) (Option.some Jvm.ClassFile.FieldType.int)) ∈ lw_all := lw_g (lw_at lw_m6 112 rfl) rfl
theorem q1381 : (Jvm.Cond.instanceMethod ({ cls := "BookPairs", name := "fault", desc := "()I" } : Jvm.MethodName)) ∈ lw_all := lw_g (lw_at lw_m6 114 rfl) rfl
theorem q1382 : (Jvm.Cond.selects "BookPairs" ({ cls := "BookPairs", name := "fault", desc := "()I" } : Jvm.MethodName) ({ cls := "BookPairs", name := "fault", desc := "()I" } : Jvm.MethodName)) ∈ lw_all := lw_g (lw_at lw_m6 115 rfl) rfl
theorem q1383 : (Jvm.Cond.code ({ cls := "BookPairs", name := "fault", desc := "()I" } : Jvm.MethodName) prog_1_method_69_code (1 : Nat) (Option.some Jvm.ClassFile.FieldType.int)) ∈ lw_all := lw_g (lw_at lw_m6 116 rfl) rfl
theorem q1385 : (Jvm.Cond.instanceMethod ({ cls := "BookPairs", name := "many", desc := "(I)I" } : Jvm.MethodName)) ∈ lw_all := lw_g (lw_at lw_m6 118 rfl) rfl
theorem q1386 : (Jvm.Cond.selects "BookPairs" ({ cls := "BookPairs", name := "many", desc := "(I)I" } : Jvm.MethodName) ({ cls := "BookPairs", name := "many", desc := "(I)I" } : Jvm.MethodName)) ∈ lw_all := lw_g (lw_at lw_m6 119 rfl) rfl
theorem q1387 : (Jvm.Cond.code ({ cls := "BookPairs", name := "many", desc := "(I)I" } : Jvm.MethodName) prog_1_method_70_code (2 : Nat) (Option.some Jvm.ClassFile.FieldType.int)) ∈ lw_all := lw_g (lw_at lw_m6 120 rfl) rfl
theorem q1755 : (Jvm.Cond.castable "BookPairs" "java/lang/Object") ∈ lw_tbl := lw_at lw_m8 8 rfl
theorem in_X0 : ∀ w ∈ wsX00, w ∈ lw_all := lw_in wsX00 [316, 318, 320, 322, 324, 326, 328, 330, 332, 334, 336, 338, 340, 342, 344, 346, 348, 350, 352] (by decide +kernel) (by decide +kernel)
