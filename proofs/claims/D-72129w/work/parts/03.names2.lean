/-! TreeOdds -/
set_option maxRecDepth 100000
def RX0 : String := "TreeOdds"
def TX0 : u_T := fun k => match k with
  | 0 => ("TreeOdds", "row", "[I", true)
  | 1 => ("TreeOdds", "many", "I", false)
  | 2 => ("TreeOdds", "depth", "I", false)
  | 3 => ("TreeOdds", "kind", "I", false)
  | 4 => ("TreeOdds", "guessers", "[LTreeOdds$Guesser;", true)
  | 5 => ("TreeOdds", "tree", "LTreeOdds$Tree;", true)
  | 6 => ("TreeOdds", "trial", "LTreeOdds$Tree;", true)
  | 7 => ("TreeOdds", "guessed", "[I", true)
  | 8 => ("TreeOdds", "costs", "[I", true)
  | 9 => ("TreeOdds", "pastRows", "[I", true)
  | 10 => ("TreeOdds", "pastMany", "[I", true)
  | 11 => ("TreeOdds", "pastDepths", "[I", true)
  | 12 => ("TreeOdds", "pastKinds", "[I", true)
  | 13 => ("TreeOdds", "states", "I", false)
  | 14 => ("TreeOdds", "text", "[B", true)
  | 15 => ("TreeOdds", "typed", "I", false)
  | 16 => ("TreeOdds", "refused", "[I", true)
  | 17 => ("TreeOdds", "sum", "I", false)
  | 18 => ("TreeOdds", "at", "I", false)
  | 19 => ("TreeOdds", "least", "[I", true)
  | 20 => ("TreeOdds", "leaves", "[Z", true)
  | 21 => ("TreeOdds", "good", "I", false)
  | 22 => ("TreeOdds", "writing", "LTreeOdds$Writing;", true)
  | _ => ("TreeOdds", "reader", "LTreeOdds$Reader;", true)
def tyX0 : Nat → FieldType := fun k => match k with
  | 0 => .array .int
  | 1 => .int
  | 2 => .int
  | 3 => .int
  | 4 => .array (.object "TreeOdds$Guesser")
  | 5 => .object "TreeOdds$Tree"
  | 6 => .object "TreeOdds$Tree"
  | 7 => .array .int
  | 8 => .array .int
  | 9 => .array .int
  | 10 => .array .int
  | 11 => .array .int
  | 12 => .array .int
  | 13 => .int
  | 14 => .array .byte
  | 15 => .int
  | 16 => .array .int
  | 17 => .int
  | 18 => .int
  | 19 => .array .int
  | 20 => .array .boolean
  | 21 => .int
  | 22 => .object "TreeOdds$Writing"
  | _ => .object "TreeOdds$Reader"
abbrev wsX00 : List Cond := u_ws RX0 TX0 24
set_option maxRecDepth 100000 in
theorem nmX0 : ∀ a, a < 24 → ∀ b, b < 24 → a ≠ b → (TX0 a).2.1 ≠ (TX0 b).2.1 := by decide +kernel
set_option maxRecDepth 100000 in
theorem tyX0_ok : ∀ k, k < 24 → parseFieldDescriptor (TX0 k).2.2.1 = some (tyX0 k) := by decide +kernel
abbrev cX0_init : ByteArray := prog_1_method_6_code
def yX0_init : MethodName := ⟨RX0, "<init>", "()V"⟩
def dkwX0_init_10 : List UInt8 := [180, 0, 33, 42, 42, 180, 0, 113, 182, 0, 116, 182, 0, 120, 177]
abbrev dktX0_init_10 : List UInt8 := dkwX0_init_10 ++ []
def dkwX0_init_9 : List UInt8 := [180, 0, 39, 6, 187, 0, 37, 89, 42, 186, 0, 110, 0, 0, 183, 0, 105, 83, 42, 180, 0, 46, 42]
abbrev dktX0_init_9 : List UInt8 := dkwX0_init_9 ++ dktX0_init_10
def dkwX0_init_8 : List UInt8 := [183, 0, 105, 83, 42, 180, 0, 39, 5, 187, 0, 37, 89, 186, 0, 109, 0, 0, 183, 0, 105, 83, 42]
abbrev dktX0_init_8 : List UInt8 := dkwX0_init_8 ++ dktX0_init_9
def dkwX0_init_7 : List UInt8 := [186, 0, 101, 0, 0, 183, 0, 105, 83, 42, 180, 0, 39, 4, 187, 0, 37, 89, 186, 0, 108, 0, 0]
abbrev dktX0_init_7 : List UInt8 := dkwX0_init_7 ++ dktX0_init_8
def dkwX0_init_6 : List UInt8 := [181, 0, 90, 42, 187, 0, 94, 89, 42, 183, 0, 96, 181, 0, 97, 42, 180, 0, 39, 3, 187, 0, 37, 89]
abbrev dktX0_init_6 : List UInt8 := dkwX0_init_6 ++ dktX0_init_7
def dkwX0_init_5 : List UInt8 := [188, 10, 181, 0, 78, 42, 17, 0, 128, 188, 4, 181, 0, 81, 42, 187, 0, 85, 89, 42, 183, 0, 87]
abbrev dktX0_init_5 : List UInt8 := dkwX0_init_5 ++ dktX0_init_6
def dkwX0_init_4 : List UInt8 := [188, 10, 181, 0, 68, 42, 16, 120, 188, 8, 181, 0, 71, 42, 6, 188, 10, 181, 0, 75, 42, 17, 0, 128]
abbrev dktX0_init_4 : List UInt8 := dkwX0_init_4 ++ dktX0_init_5
def dkwX0_init_3 : List UInt8 := [188, 10, 181, 0, 59, 42, 16, 6, 188, 10, 181, 0, 62, 42, 16, 6, 188, 10, 181, 0, 65, 42, 16, 6]
abbrev dktX0_init_3 : List UInt8 := dkwX0_init_3 ++ dktX0_init_4
def dkwX0_init_2 : List UInt8 := [181, 0, 50, 42, 16, 100, 188, 10, 181, 0, 53, 42, 16, 100, 188, 10, 181, 0, 56, 42, 17, 2, 88]
abbrev dktX0_init_2 : List UInt8 := dkwX0_init_2 ++ dktX0_init_3
def dkwX0_init_1 : List UInt8 := [181, 0, 39, 42, 187, 0, 43, 89, 183, 0, 45, 181, 0, 46, 42, 187, 0, 43, 89, 183, 0, 45]
abbrev dktX0_init_1 : List UInt8 := dkwX0_init_1 ++ dktX0_init_2
def dkwX0_init_0 : List UInt8 := [42, 183, 0, 23, 42, 16, 100, 188, 10, 181, 0, 29, 42, 6, 181, 0, 33, 42, 7, 189, 0, 37]
abbrev dktX0_init_0 : List UInt8 := dkwX0_init_0 ++ dktX0_init_1
theorem dksX0_init_0 : cX0_init.data.toList.drop 0 = dktX0_init_0 := by decide +kernel
theorem dksX0_init_1 : cX0_init.data.toList.drop 22 = dktX0_init_1 := dk_seg dksX0_init_0 22 rfl rfl
theorem dksX0_init_2 : cX0_init.data.toList.drop 44 = dktX0_init_2 := dk_seg dksX0_init_1 22 rfl rfl
theorem dksX0_init_3 : cX0_init.data.toList.drop 67 = dktX0_init_3 := dk_seg dksX0_init_2 23 rfl rfl
theorem dksX0_init_4 : cX0_init.data.toList.drop 91 = dktX0_init_4 := dk_seg dksX0_init_3 24 rfl rfl
theorem dksX0_init_5 : cX0_init.data.toList.drop 115 = dktX0_init_5 := dk_seg dksX0_init_4 24 rfl rfl
theorem dksX0_init_6 : cX0_init.data.toList.drop 138 = dktX0_init_6 := dk_seg dksX0_init_5 23 rfl rfl
theorem dksX0_init_7 : cX0_init.data.toList.drop 162 = dktX0_init_7 := dk_seg dksX0_init_6 24 rfl rfl
theorem dksX0_init_8 : cX0_init.data.toList.drop 185 = dktX0_init_8 := dk_seg dksX0_init_7 23 rfl rfl
theorem dksX0_init_9 : cX0_init.data.toList.drop 208 = dktX0_init_9 := dk_seg dksX0_init_8 23 rfl rfl
theorem dksX0_init_10 : cX0_init.data.toList.drop 231 = dktX0_init_10 := dk_seg dksX0_init_9 23 rfl rfl
theorem dX0_init_0 : decode cX0_init 0 = .ok (.aload_n 0, 1) := dk_42 (dk_at dksX0_init_0 0 rfl rfl)
theorem dX0_init_1 : decode cX0_init 1 = .ok (.invokespecial 23, 3) := dk_183 0 23 (dk_at dksX0_init_0 1 rfl rfl)
theorem dX0_init_4 : decode cX0_init 4 = .ok (.aload_n 0, 1) := dk_42 (dk_at dksX0_init_0 4 rfl rfl)
theorem dX0_init_5 : decode cX0_init 5 = .ok (.bipush 100, 2) := dk_16 100 (dk_at dksX0_init_0 5 rfl rfl)
theorem dX0_init_7 : decode cX0_init 7 = .ok (.newarray .int, 2) := dk_188_10 (dk_at dksX0_init_0 7 rfl rfl)
theorem dX0_init_9 : decode cX0_init 9 = .ok (.putfield 29, 3) := dk_181 0 29 (dk_at dksX0_init_0 9 rfl rfl)
theorem dX0_init_12 : decode cX0_init 12 = .ok (.aload_n 0, 1) := dk_42 (dk_at dksX0_init_0 12 rfl rfl)
theorem dX0_init_13 : decode cX0_init 13 = .ok (.iconst 3, 1) := dk_6 (dk_at dksX0_init_0 13 rfl rfl)
theorem dX0_init_14 : decode cX0_init 14 = .ok (.putfield 33, 3) := dk_181 0 33 (dk_at dksX0_init_0 14 rfl rfl)
theorem dX0_init_17 : decode cX0_init 17 = .ok (.aload_n 0, 1) := dk_42 (dk_at dksX0_init_0 17 rfl rfl)
theorem dX0_init_18 : decode cX0_init 18 = .ok (.iconst 4, 1) := dk_7 (dk_at dksX0_init_0 18 rfl rfl)
theorem dX0_init_19 : decode cX0_init 19 = .ok (.anewarray 37, 3) := dk_189 0 37 (dk_at dksX0_init_0 19 rfl rfl)
theorem dX0_init_22 : decode cX0_init 22 = .ok (.putfield 39, 3) := dk_181 0 39 (dk_at dksX0_init_1 0 rfl rfl)
theorem dX0_init_25 : decode cX0_init 25 = .ok (.aload_n 0, 1) := dk_42 (dk_at dksX0_init_1 3 rfl rfl)
theorem dX0_init_26 : decode cX0_init 26 = .ok (.new 43, 3) := dk_187 0 43 (dk_at dksX0_init_1 4 rfl rfl)
theorem dX0_init_29 : decode cX0_init 29 = .ok (.dup, 1) := dk_89 (dk_at dksX0_init_1 7 rfl rfl)
theorem dX0_init_30 : decode cX0_init 30 = .ok (.invokespecial 45, 3) := dk_183 0 45 (dk_at dksX0_init_1 8 rfl rfl)
theorem dX0_init_33 : decode cX0_init 33 = .ok (.putfield 46, 3) := dk_181 0 46 (dk_at dksX0_init_1 11 rfl rfl)
theorem dX0_init_36 : decode cX0_init 36 = .ok (.aload_n 0, 1) := dk_42 (dk_at dksX0_init_1 14 rfl rfl)
theorem dX0_init_37 : decode cX0_init 37 = .ok (.new 43, 3) := dk_187 0 43 (dk_at dksX0_init_1 15 rfl rfl)
theorem dX0_init_40 : decode cX0_init 40 = .ok (.dup, 1) := dk_89 (dk_at dksX0_init_1 18 rfl rfl)
theorem dX0_init_41 : decode cX0_init 41 = .ok (.invokespecial 45, 3) := dk_183 0 45 (dk_at dksX0_init_1 19 rfl rfl)
theorem dX0_init_44 : decode cX0_init 44 = .ok (.putfield 50, 3) := dk_181 0 50 (dk_at dksX0_init_2 0 rfl rfl)
theorem dX0_init_47 : decode cX0_init 47 = .ok (.aload_n 0, 1) := dk_42 (dk_at dksX0_init_2 3 rfl rfl)
theorem dX0_init_48 : decode cX0_init 48 = .ok (.bipush 100, 2) := dk_16 100 (dk_at dksX0_init_2 4 rfl rfl)
theorem dX0_init_50 : decode cX0_init 50 = .ok (.newarray .int, 2) := dk_188_10 (dk_at dksX0_init_2 6 rfl rfl)
theorem dX0_init_52 : decode cX0_init 52 = .ok (.putfield 53, 3) := dk_181 0 53 (dk_at dksX0_init_2 8 rfl rfl)
theorem dX0_init_55 : decode cX0_init 55 = .ok (.aload_n 0, 1) := dk_42 (dk_at dksX0_init_2 11 rfl rfl)
theorem dX0_init_56 : decode cX0_init 56 = .ok (.bipush 100, 2) := dk_16 100 (dk_at dksX0_init_2 12 rfl rfl)
theorem dX0_init_58 : decode cX0_init 58 = .ok (.newarray .int, 2) := dk_188_10 (dk_at dksX0_init_2 14 rfl rfl)
theorem dX0_init_60 : decode cX0_init 60 = .ok (.putfield 56, 3) := dk_181 0 56 (dk_at dksX0_init_2 16 rfl rfl)
theorem dX0_init_63 : decode cX0_init 63 = .ok (.aload_n 0, 1) := dk_42 (dk_at dksX0_init_2 19 rfl rfl)
theorem dX0_init_64 : decode cX0_init 64 = .ok (.sipush 600, 3) := dk_17 2 88 (dk_at dksX0_init_2 20 rfl rfl)
theorem dX0_init_67 : decode cX0_init 67 = .ok (.newarray .int, 2) := dk_188_10 (dk_at dksX0_init_3 0 rfl rfl)
theorem dX0_init_69 : decode cX0_init 69 = .ok (.putfield 59, 3) := dk_181 0 59 (dk_at dksX0_init_3 2 rfl rfl)
theorem dX0_init_72 : decode cX0_init 72 = .ok (.aload_n 0, 1) := dk_42 (dk_at dksX0_init_3 5 rfl rfl)
theorem dX0_init_73 : decode cX0_init 73 = .ok (.bipush 6, 2) := dk_16 6 (dk_at dksX0_init_3 6 rfl rfl)
theorem dX0_init_75 : decode cX0_init 75 = .ok (.newarray .int, 2) := dk_188_10 (dk_at dksX0_init_3 8 rfl rfl)
theorem dX0_init_77 : decode cX0_init 77 = .ok (.putfield 62, 3) := dk_181 0 62 (dk_at dksX0_init_3 10 rfl rfl)
theorem dX0_init_80 : decode cX0_init 80 = .ok (.aload_n 0, 1) := dk_42 (dk_at dksX0_init_3 13 rfl rfl)
theorem dX0_init_81 : decode cX0_init 81 = .ok (.bipush 6, 2) := dk_16 6 (dk_at dksX0_init_3 14 rfl rfl)
theorem dX0_init_83 : decode cX0_init 83 = .ok (.newarray .int, 2) := dk_188_10 (dk_at dksX0_init_3 16 rfl rfl)
theorem dX0_init_85 : decode cX0_init 85 = .ok (.putfield 65, 3) := dk_181 0 65 (dk_at dksX0_init_3 18 rfl rfl)
theorem dX0_init_88 : decode cX0_init 88 = .ok (.aload_n 0, 1) := dk_42 (dk_at dksX0_init_3 21 rfl rfl)
theorem dX0_init_89 : decode cX0_init 89 = .ok (.bipush 6, 2) := dk_16 6 (dk_at dksX0_init_3 22 rfl rfl)
theorem dX0_init_91 : decode cX0_init 91 = .ok (.newarray .int, 2) := dk_188_10 (dk_at dksX0_init_4 0 rfl rfl)
theorem dX0_init_93 : decode cX0_init 93 = .ok (.putfield 68, 3) := dk_181 0 68 (dk_at dksX0_init_4 2 rfl rfl)
theorem dX0_init_96 : decode cX0_init 96 = .ok (.aload_n 0, 1) := dk_42 (dk_at dksX0_init_4 5 rfl rfl)
theorem dX0_init_97 : decode cX0_init 97 = .ok (.bipush 120, 2) := dk_16 120 (dk_at dksX0_init_4 6 rfl rfl)
theorem dX0_init_99 : decode cX0_init 99 = .ok (.newarray .byte, 2) := dk_188_8 (dk_at dksX0_init_4 8 rfl rfl)
theorem dX0_init_101 : decode cX0_init 101 = .ok (.putfield 71, 3) := dk_181 0 71 (dk_at dksX0_init_4 10 rfl rfl)
theorem dX0_init_104 : decode cX0_init 104 = .ok (.aload_n 0, 1) := dk_42 (dk_at dksX0_init_4 13 rfl rfl)
theorem dX0_init_105 : decode cX0_init 105 = .ok (.iconst 3, 1) := dk_6 (dk_at dksX0_init_4 14 rfl rfl)
theorem dX0_init_106 : decode cX0_init 106 = .ok (.newarray .int, 2) := dk_188_10 (dk_at dksX0_init_4 15 rfl rfl)
theorem dX0_init_108 : decode cX0_init 108 = .ok (.putfield 75, 3) := dk_181 0 75 (dk_at dksX0_init_4 17 rfl rfl)
theorem dX0_init_111 : decode cX0_init 111 = .ok (.aload_n 0, 1) := dk_42 (dk_at dksX0_init_4 20 rfl rfl)
theorem dX0_init_112 : decode cX0_init 112 = .ok (.sipush 128, 3) := dk_17 0 128 (dk_at dksX0_init_4 21 rfl rfl)
theorem dX0_init_115 : decode cX0_init 115 = .ok (.newarray .int, 2) := dk_188_10 (dk_at dksX0_init_5 0 rfl rfl)
theorem dX0_init_117 : decode cX0_init 117 = .ok (.putfield 78, 3) := dk_181 0 78 (dk_at dksX0_init_5 2 rfl rfl)
theorem dX0_init_120 : decode cX0_init 120 = .ok (.aload_n 0, 1) := dk_42 (dk_at dksX0_init_5 5 rfl rfl)
theorem dX0_init_121 : decode cX0_init 121 = .ok (.sipush 128, 3) := dk_17 0 128 (dk_at dksX0_init_5 6 rfl rfl)
theorem dX0_init_124 : decode cX0_init 124 = .ok (.newarray .boolean, 2) := dk_188_4 (dk_at dksX0_init_5 9 rfl rfl)
theorem dX0_init_126 : decode cX0_init 126 = .ok (.putfield 81, 3) := dk_181 0 81 (dk_at dksX0_init_5 11 rfl rfl)
theorem dX0_init_129 : decode cX0_init 129 = .ok (.aload_n 0, 1) := dk_42 (dk_at dksX0_init_5 14 rfl rfl)
theorem dX0_init_130 : decode cX0_init 130 = .ok (.new 85, 3) := dk_187 0 85 (dk_at dksX0_init_5 15 rfl rfl)
theorem dX0_init_133 : decode cX0_init 133 = .ok (.dup, 1) := dk_89 (dk_at dksX0_init_5 18 rfl rfl)
theorem dX0_init_134 : decode cX0_init 134 = .ok (.aload_n 0, 1) := dk_42 (dk_at dksX0_init_5 19 rfl rfl)
theorem dX0_init_135 : decode cX0_init 135 = .ok (.invokespecial 87, 3) := dk_183 0 87 (dk_at dksX0_init_5 20 rfl rfl)
theorem dX0_init_138 : decode cX0_init 138 = .ok (.putfield 90, 3) := dk_181 0 90 (dk_at dksX0_init_6 0 rfl rfl)
theorem dX0_init_141 : decode cX0_init 141 = .ok (.aload_n 0, 1) := dk_42 (dk_at dksX0_init_6 3 rfl rfl)
theorem dX0_init_142 : decode cX0_init 142 = .ok (.new 94, 3) := dk_187 0 94 (dk_at dksX0_init_6 4 rfl rfl)
theorem dX0_init_145 : decode cX0_init 145 = .ok (.dup, 1) := dk_89 (dk_at dksX0_init_6 7 rfl rfl)
theorem dX0_init_146 : decode cX0_init 146 = .ok (.aload_n 0, 1) := dk_42 (dk_at dksX0_init_6 8 rfl rfl)
theorem dX0_init_147 : decode cX0_init 147 = .ok (.invokespecial 96, 3) := dk_183 0 96 (dk_at dksX0_init_6 9 rfl rfl)
theorem dX0_init_150 : decode cX0_init 150 = .ok (.putfield 97, 3) := dk_181 0 97 (dk_at dksX0_init_6 12 rfl rfl)
theorem dX0_init_153 : decode cX0_init 153 = .ok (.aload_n 0, 1) := dk_42 (dk_at dksX0_init_6 15 rfl rfl)
theorem dX0_init_154 : decode cX0_init 154 = .ok (.getfield 39, 3) := dk_180 0 39 (dk_at dksX0_init_6 16 rfl rfl)
theorem dX0_init_157 : decode cX0_init 157 = .ok (.iconst 0, 1) := dk_3 (dk_at dksX0_init_6 19 rfl rfl)
theorem dX0_init_158 : decode cX0_init 158 = .ok (.new 37, 3) := dk_187 0 37 (dk_at dksX0_init_6 20 rfl rfl)
theorem dX0_init_161 : decode cX0_init 161 = .ok (.dup, 1) := dk_89 (dk_at dksX0_init_6 23 rfl rfl)
theorem dX0_init_162 : decode cX0_init 162 = .ok (.invokedynamic 101, 5) := by decide +kernel
theorem dX0_init_167 : decode cX0_init 167 = .ok (.invokespecial 105, 3) := dk_183 0 105 (dk_at dksX0_init_7 5 rfl rfl)
theorem dX0_init_170 : decode cX0_init 170 = .ok (.aastore, 1) := dk_83 (dk_at dksX0_init_7 8 rfl rfl)
theorem dX0_init_171 : decode cX0_init 171 = .ok (.aload_n 0, 1) := dk_42 (dk_at dksX0_init_7 9 rfl rfl)
theorem dX0_init_172 : decode cX0_init 172 = .ok (.getfield 39, 3) := dk_180 0 39 (dk_at dksX0_init_7 10 rfl rfl)
theorem dX0_init_175 : decode cX0_init 175 = .ok (.iconst 1, 1) := dk_4 (dk_at dksX0_init_7 13 rfl rfl)
theorem dX0_init_176 : decode cX0_init 176 = .ok (.new 37, 3) := dk_187 0 37 (dk_at dksX0_init_7 14 rfl rfl)
theorem dX0_init_179 : decode cX0_init 179 = .ok (.dup, 1) := dk_89 (dk_at dksX0_init_7 17 rfl rfl)
theorem dX0_init_180 : decode cX0_init 180 = .ok (.invokedynamic 108, 5) := by decide +kernel
theorem dX0_init_185 : decode cX0_init 185 = .ok (.invokespecial 105, 3) := dk_183 0 105 (dk_at dksX0_init_8 0 rfl rfl)
theorem dX0_init_188 : decode cX0_init 188 = .ok (.aastore, 1) := dk_83 (dk_at dksX0_init_8 3 rfl rfl)
theorem dX0_init_189 : decode cX0_init 189 = .ok (.aload_n 0, 1) := dk_42 (dk_at dksX0_init_8 4 rfl rfl)
theorem dX0_init_190 : decode cX0_init 190 = .ok (.getfield 39, 3) := dk_180 0 39 (dk_at dksX0_init_8 5 rfl rfl)
theorem dX0_init_193 : decode cX0_init 193 = .ok (.iconst 2, 1) := dk_5 (dk_at dksX0_init_8 8 rfl rfl)
theorem dX0_init_194 : decode cX0_init 194 = .ok (.new 37, 3) := dk_187 0 37 (dk_at dksX0_init_8 9 rfl rfl)
theorem dX0_init_197 : decode cX0_init 197 = .ok (.dup, 1) := dk_89 (dk_at dksX0_init_8 12 rfl rfl)
theorem dX0_init_198 : decode cX0_init 198 = .ok (.invokedynamic 109, 5) := by decide +kernel
theorem dX0_init_203 : decode cX0_init 203 = .ok (.invokespecial 105, 3) := dk_183 0 105 (dk_at dksX0_init_8 18 rfl rfl)
theorem dX0_init_206 : decode cX0_init 206 = .ok (.aastore, 1) := dk_83 (dk_at dksX0_init_8 21 rfl rfl)
theorem dX0_init_207 : decode cX0_init 207 = .ok (.aload_n 0, 1) := dk_42 (dk_at dksX0_init_8 22 rfl rfl)
theorem dX0_init_208 : decode cX0_init 208 = .ok (.getfield 39, 3) := dk_180 0 39 (dk_at dksX0_init_9 0 rfl rfl)
theorem dX0_init_211 : decode cX0_init 211 = .ok (.iconst 3, 1) := dk_6 (dk_at dksX0_init_9 3 rfl rfl)
theorem dX0_init_212 : decode cX0_init 212 = .ok (.new 37, 3) := dk_187 0 37 (dk_at dksX0_init_9 4 rfl rfl)
theorem dX0_init_215 : decode cX0_init 215 = .ok (.dup, 1) := dk_89 (dk_at dksX0_init_9 7 rfl rfl)
theorem dX0_init_216 : decode cX0_init 216 = .ok (.aload_n 0, 1) := dk_42 (dk_at dksX0_init_9 8 rfl rfl)
theorem dX0_init_217 : decode cX0_init 217 = .ok (.invokedynamic 110, 5) := by decide +kernel
theorem dX0_init_222 : decode cX0_init 222 = .ok (.invokespecial 105, 3) := dk_183 0 105 (dk_at dksX0_init_9 14 rfl rfl)
theorem dX0_init_225 : decode cX0_init 225 = .ok (.aastore, 1) := dk_83 (dk_at dksX0_init_9 17 rfl rfl)
theorem dX0_init_226 : decode cX0_init 226 = .ok (.aload_n 0, 1) := dk_42 (dk_at dksX0_init_9 18 rfl rfl)
theorem dX0_init_227 : decode cX0_init 227 = .ok (.getfield 46, 3) := dk_180 0 46 (dk_at dksX0_init_9 19 rfl rfl)
theorem dX0_init_230 : decode cX0_init 230 = .ok (.aload_n 0, 1) := dk_42 (dk_at dksX0_init_9 22 rfl rfl)
theorem dX0_init_231 : decode cX0_init 231 = .ok (.getfield 33, 3) := dk_180 0 33 (dk_at dksX0_init_10 0 rfl rfl)
theorem dX0_init_234 : decode cX0_init 234 = .ok (.aload_n 0, 1) := dk_42 (dk_at dksX0_init_10 3 rfl rfl)
theorem dX0_init_235 : decode cX0_init 235 = .ok (.aload_n 0, 1) := dk_42 (dk_at dksX0_init_10 4 rfl rfl)
theorem dX0_init_236 : decode cX0_init 236 = .ok (.getfield 113, 3) := dk_180 0 113 (dk_at dksX0_init_10 5 rfl rfl)
theorem dX0_init_239 : decode cX0_init 239 = .ok (.invokevirtual 116, 3) := dk_182 0 116 (dk_at dksX0_init_10 8 rfl rfl)
theorem dX0_init_242 : decode cX0_init 242 = .ok (.invokevirtual 120, 3) := dk_182 0 120 (dk_at dksX0_init_10 11 rfl rfl)
theorem dX0_init_245 : decode cX0_init 245 = .ok (.return_, 1) := dk_177 (dk_at dksX0_init_10 14 rfl rfl)
abbrev cX0_lambda_new_0 : ByteArray := prog_1_method_54_code
def yX0_lambda_new_0 : MethodName := ⟨RX0, "lambda$new$0", "(II)I"⟩
def dkwX0_lambda_new_0_0 : List UInt8 := [26, 27, 184, 0, 124, 172]
abbrev dktX0_lambda_new_0_0 : List UInt8 := dkwX0_lambda_new_0_0 ++ []
theorem dksX0_lambda_new_0_0 : cX0_lambda_new_0.data.toList.drop 0 = dktX0_lambda_new_0_0 := by decide +kernel
theorem dX0_lambda_new_0_0 : decode cX0_lambda_new_0 0 = .ok (.iload_n 0, 1) := dk_26 (dk_at dksX0_lambda_new_0_0 0 rfl rfl)
theorem dX0_lambda_new_0_1 : decode cX0_lambda_new_0 1 = .ok (.iload_n 1, 1) := dk_27 (dk_at dksX0_lambda_new_0_0 1 rfl rfl)
theorem dX0_lambda_new_0_2 : decode cX0_lambda_new_0 2 = .ok (.invokestatic 124, 3) := dk_184 0 124 (dk_at dksX0_lambda_new_0_0 2 rfl rfl)
theorem dX0_lambda_new_0_5 : decode cX0_lambda_new_0 5 = .ok (.ireturn, 1) := dk_172 (dk_at dksX0_lambda_new_0_0 5 rfl rfl)
abbrev cX0_even : ByteArray := prog_1_method_5_code
def yX0_even : MethodName := ⟨RX0, "even", "(II)I"⟩
def dkwX0_even_0 : List UInt8 := [20, 0, 21, 5, 27, 104, 4, 96, 133, 105, 5, 26, 104, 5, 27, 104, 96, 5, 96, 133, 109, 136, 172]
abbrev dktX0_even_0 : List UInt8 := dkwX0_even_0 ++ []
theorem dksX0_even_0 : cX0_even.data.toList.drop 0 = dktX0_even_0 := by decide +kernel
theorem dX0_even_0 : decode cX0_even 0 = .ok (.ldc2_w 21, 3) := dk_20 0 21 (dk_at dksX0_even_0 0 rfl rfl)
theorem dX0_even_3 : decode cX0_even 3 = .ok (.iconst 2, 1) := dk_5 (dk_at dksX0_even_0 3 rfl rfl)
theorem dX0_even_4 : decode cX0_even 4 = .ok (.iload_n 1, 1) := dk_27 (dk_at dksX0_even_0 4 rfl rfl)
theorem dX0_even_5 : decode cX0_even 5 = .ok (.imul, 1) := dk_104 (dk_at dksX0_even_0 5 rfl rfl)
theorem dX0_even_6 : decode cX0_even 6 = .ok (.iconst 1, 1) := dk_4 (dk_at dksX0_even_0 6 rfl rfl)
theorem dX0_even_7 : decode cX0_even 7 = .ok (.iadd, 1) := dk_96 (dk_at dksX0_even_0 7 rfl rfl)
theorem dX0_even_8 : decode cX0_even 8 = .ok (.i2l, 1) := dk_133 (dk_at dksX0_even_0 8 rfl rfl)
theorem dX0_even_9 : decode cX0_even 9 = .ok (.lmul, 1) := dk_105 (dk_at dksX0_even_0 9 rfl rfl)
theorem dX0_even_10 : decode cX0_even 10 = .ok (.iconst 2, 1) := dk_5 (dk_at dksX0_even_0 10 rfl rfl)
theorem dX0_even_11 : decode cX0_even 11 = .ok (.iload_n 0, 1) := dk_26 (dk_at dksX0_even_0 11 rfl rfl)
theorem dX0_even_12 : decode cX0_even 12 = .ok (.imul, 1) := dk_104 (dk_at dksX0_even_0 12 rfl rfl)
theorem dX0_even_13 : decode cX0_even 13 = .ok (.iconst 2, 1) := dk_5 (dk_at dksX0_even_0 13 rfl rfl)
theorem dX0_even_14 : decode cX0_even 14 = .ok (.iload_n 1, 1) := dk_27 (dk_at dksX0_even_0 14 rfl rfl)
theorem dX0_even_15 : decode cX0_even 15 = .ok (.imul, 1) := dk_104 (dk_at dksX0_even_0 15 rfl rfl)
theorem dX0_even_16 : decode cX0_even 16 = .ok (.iadd, 1) := dk_96 (dk_at dksX0_even_0 16 rfl rfl)
theorem dX0_even_17 : decode cX0_even 17 = .ok (.iconst 2, 1) := dk_5 (dk_at dksX0_even_0 17 rfl rfl)
theorem dX0_even_18 : decode cX0_even 18 = .ok (.iadd, 1) := dk_96 (dk_at dksX0_even_0 18 rfl rfl)
theorem dX0_even_19 : decode cX0_even 19 = .ok (.i2l, 1) := dk_133 (dk_at dksX0_even_0 19 rfl rfl)
theorem dX0_even_20 : decode cX0_even 20 = .ok (.ldiv, 1) := dk_109 (dk_at dksX0_even_0 20 rfl rfl)
theorem dX0_even_21 : decode cX0_even 21 = .ok (.l2i, 1) := dk_136 (dk_at dksX0_even_0 21 rfl rfl)
theorem dX0_even_22 : decode cX0_even 22 = .ok (.ireturn, 1) := dk_172 (dk_at dksX0_even_0 22 rfl rfl)
abbrev cX0_lambda_new_1 : ByteArray := prog_1_method_53_code
def yX0_lambda_new_1 : MethodName := ⟨RX0, "lambda$new$1", "(II)I"⟩
def dkwX0_lambda_new_1_0 : List UInt8 := [20, 0, 21, 27, 4, 96, 133, 105, 26, 27, 96, 5, 96, 133, 109, 136, 172]
abbrev dktX0_lambda_new_1_0 : List UInt8 := dkwX0_lambda_new_1_0 ++ []
theorem dksX0_lambda_new_1_0 : cX0_lambda_new_1.data.toList.drop 0 = dktX0_lambda_new_1_0 := by decide +kernel
theorem dX0_lambda_new_1_0 : decode cX0_lambda_new_1 0 = .ok (.ldc2_w 21, 3) := dk_20 0 21 (dk_at dksX0_lambda_new_1_0 0 rfl rfl)
theorem dX0_lambda_new_1_3 : decode cX0_lambda_new_1 3 = .ok (.iload_n 1, 1) := dk_27 (dk_at dksX0_lambda_new_1_0 3 rfl rfl)
theorem dX0_lambda_new_1_4 : decode cX0_lambda_new_1 4 = .ok (.iconst 1, 1) := dk_4 (dk_at dksX0_lambda_new_1_0 4 rfl rfl)
theorem dX0_lambda_new_1_5 : decode cX0_lambda_new_1 5 = .ok (.iadd, 1) := dk_96 (dk_at dksX0_lambda_new_1_0 5 rfl rfl)
theorem dX0_lambda_new_1_6 : decode cX0_lambda_new_1 6 = .ok (.i2l, 1) := dk_133 (dk_at dksX0_lambda_new_1_0 6 rfl rfl)
theorem dX0_lambda_new_1_7 : decode cX0_lambda_new_1 7 = .ok (.lmul, 1) := dk_105 (dk_at dksX0_lambda_new_1_0 7 rfl rfl)
theorem dX0_lambda_new_1_8 : decode cX0_lambda_new_1 8 = .ok (.iload_n 0, 1) := dk_26 (dk_at dksX0_lambda_new_1_0 8 rfl rfl)
theorem dX0_lambda_new_1_9 : decode cX0_lambda_new_1 9 = .ok (.iload_n 1, 1) := dk_27 (dk_at dksX0_lambda_new_1_0 9 rfl rfl)
theorem dX0_lambda_new_1_10 : decode cX0_lambda_new_1 10 = .ok (.iadd, 1) := dk_96 (dk_at dksX0_lambda_new_1_0 10 rfl rfl)
theorem dX0_lambda_new_1_11 : decode cX0_lambda_new_1 11 = .ok (.iconst 2, 1) := dk_5 (dk_at dksX0_lambda_new_1_0 11 rfl rfl)
theorem dX0_lambda_new_1_12 : decode cX0_lambda_new_1 12 = .ok (.iadd, 1) := dk_96 (dk_at dksX0_lambda_new_1_0 12 rfl rfl)
theorem dX0_lambda_new_1_13 : decode cX0_lambda_new_1 13 = .ok (.i2l, 1) := dk_133 (dk_at dksX0_lambda_new_1_0 13 rfl rfl)
theorem dX0_lambda_new_1_14 : decode cX0_lambda_new_1 14 = .ok (.ldiv, 1) := dk_109 (dk_at dksX0_lambda_new_1_0 14 rfl rfl)
theorem dX0_lambda_new_1_15 : decode cX0_lambda_new_1 15 = .ok (.l2i, 1) := dk_136 (dk_at dksX0_lambda_new_1_0 15 rfl rfl)
theorem dX0_lambda_new_1_16 : decode cX0_lambda_new_1 16 = .ok (.ireturn, 1) := dk_172 (dk_at dksX0_lambda_new_1_0 16 rfl rfl)
abbrev cX0_lambda_new_2 : ByteArray := prog_1_method_52_code
def yX0_lambda_new_2 : MethodName := ⟨RX0, "lambda$new$2", "(II)I"⟩
def dkwX0_lambda_new_2_0 : List UInt8 := [20, 0, 21, 7, 27, 104, 4, 96, 133, 105, 7, 26, 104, 7, 27, 104, 96, 5, 96, 133, 109, 136, 172]
abbrev dktX0_lambda_new_2_0 : List UInt8 := dkwX0_lambda_new_2_0 ++ []
theorem dksX0_lambda_new_2_0 : cX0_lambda_new_2.data.toList.drop 0 = dktX0_lambda_new_2_0 := by decide +kernel
theorem dX0_lambda_new_2_0 : decode cX0_lambda_new_2 0 = .ok (.ldc2_w 21, 3) := dk_20 0 21 (dk_at dksX0_lambda_new_2_0 0 rfl rfl)
theorem dX0_lambda_new_2_3 : decode cX0_lambda_new_2 3 = .ok (.iconst 4, 1) := dk_7 (dk_at dksX0_lambda_new_2_0 3 rfl rfl)
theorem dX0_lambda_new_2_4 : decode cX0_lambda_new_2 4 = .ok (.iload_n 1, 1) := dk_27 (dk_at dksX0_lambda_new_2_0 4 rfl rfl)
theorem dX0_lambda_new_2_5 : decode cX0_lambda_new_2 5 = .ok (.imul, 1) := dk_104 (dk_at dksX0_lambda_new_2_0 5 rfl rfl)
theorem dX0_lambda_new_2_6 : decode cX0_lambda_new_2 6 = .ok (.iconst 1, 1) := dk_4 (dk_at dksX0_lambda_new_2_0 6 rfl rfl)
theorem dX0_lambda_new_2_7 : decode cX0_lambda_new_2 7 = .ok (.iadd, 1) := dk_96 (dk_at dksX0_lambda_new_2_0 7 rfl rfl)
theorem dX0_lambda_new_2_8 : decode cX0_lambda_new_2 8 = .ok (.i2l, 1) := dk_133 (dk_at dksX0_lambda_new_2_0 8 rfl rfl)
theorem dX0_lambda_new_2_9 : decode cX0_lambda_new_2 9 = .ok (.lmul, 1) := dk_105 (dk_at dksX0_lambda_new_2_0 9 rfl rfl)
theorem dX0_lambda_new_2_10 : decode cX0_lambda_new_2 10 = .ok (.iconst 4, 1) := dk_7 (dk_at dksX0_lambda_new_2_0 10 rfl rfl)
theorem dX0_lambda_new_2_11 : decode cX0_lambda_new_2 11 = .ok (.iload_n 0, 1) := dk_26 (dk_at dksX0_lambda_new_2_0 11 rfl rfl)
theorem dX0_lambda_new_2_12 : decode cX0_lambda_new_2 12 = .ok (.imul, 1) := dk_104 (dk_at dksX0_lambda_new_2_0 12 rfl rfl)
theorem dX0_lambda_new_2_13 : decode cX0_lambda_new_2 13 = .ok (.iconst 4, 1) := dk_7 (dk_at dksX0_lambda_new_2_0 13 rfl rfl)
theorem dX0_lambda_new_2_14 : decode cX0_lambda_new_2 14 = .ok (.iload_n 1, 1) := dk_27 (dk_at dksX0_lambda_new_2_0 14 rfl rfl)
theorem dX0_lambda_new_2_15 : decode cX0_lambda_new_2 15 = .ok (.imul, 1) := dk_104 (dk_at dksX0_lambda_new_2_0 15 rfl rfl)
theorem dX0_lambda_new_2_16 : decode cX0_lambda_new_2 16 = .ok (.iadd, 1) := dk_96 (dk_at dksX0_lambda_new_2_0 16 rfl rfl)
theorem dX0_lambda_new_2_17 : decode cX0_lambda_new_2 17 = .ok (.iconst 2, 1) := dk_5 (dk_at dksX0_lambda_new_2_0 17 rfl rfl)
theorem dX0_lambda_new_2_18 : decode cX0_lambda_new_2 18 = .ok (.iadd, 1) := dk_96 (dk_at dksX0_lambda_new_2_0 18 rfl rfl)
theorem dX0_lambda_new_2_19 : decode cX0_lambda_new_2 19 = .ok (.i2l, 1) := dk_133 (dk_at dksX0_lambda_new_2_0 19 rfl rfl)
theorem dX0_lambda_new_2_20 : decode cX0_lambda_new_2 20 = .ok (.ldiv, 1) := dk_109 (dk_at dksX0_lambda_new_2_0 20 rfl rfl)
theorem dX0_lambda_new_2_21 : decode cX0_lambda_new_2 21 = .ok (.l2i, 1) := dk_136 (dk_at dksX0_lambda_new_2_0 21 rfl rfl)
theorem dX0_lambda_new_2_22 : decode cX0_lambda_new_2 22 = .ok (.ireturn, 1) := dk_172 (dk_at dksX0_lambda_new_2_0 22 rfl rfl)
abbrev cX0_last : ByteArray := prog_1_method_7_code
def yX0_last : MethodName := ⟨RX0, "last", "(II)I"⟩
def dkwX0_last_0 : List UInt8 := [27, 5, 108, 28, 5, 108, 184, 0, 124, 172]
abbrev dktX0_last_0 : List UInt8 := dkwX0_last_0 ++ []
theorem dksX0_last_0 : cX0_last.data.toList.drop 0 = dktX0_last_0 := by decide +kernel
theorem dX0_last_0 : decode cX0_last 0 = .ok (.iload_n 1, 1) := dk_27 (dk_at dksX0_last_0 0 rfl rfl)
theorem dX0_last_1 : decode cX0_last 1 = .ok (.iconst 2, 1) := dk_5 (dk_at dksX0_last_0 1 rfl rfl)
theorem dX0_last_2 : decode cX0_last 2 = .ok (.idiv, 1) := dk_108 (dk_at dksX0_last_0 2 rfl rfl)
theorem dX0_last_3 : decode cX0_last 3 = .ok (.iload_n 2, 1) := dk_28 (dk_at dksX0_last_0 3 rfl rfl)
theorem dX0_last_4 : decode cX0_last 4 = .ok (.iconst 2, 1) := dk_5 (dk_at dksX0_last_0 4 rfl rfl)
theorem dX0_last_5 : decode cX0_last 5 = .ok (.idiv, 1) := dk_108 (dk_at dksX0_last_0 5 rfl rfl)
theorem dX0_last_6 : decode cX0_last 6 = .ok (.invokestatic 124, 3) := dk_184 0 124 (dk_at dksX0_last_0 6 rfl rfl)
theorem dX0_last_9 : decode cX0_last 9 = .ok (.ireturn, 1) := dk_172 (dk_at dksX0_last_0 9 rfl rfl)
abbrev cX0_guess : ByteArray := prog_1_method_8_code
def yX0_guess : MethodName := ⟨RX0, "guess", "(I)LTreeOdds$Guess;"⟩
def dkwX0_guess_0 : List UInt8 := [42, 180, 0, 39, 27, 50, 180, 0, 128, 176]
abbrev dktX0_guess_0 : List UInt8 := dkwX0_guess_0 ++ []
theorem dksX0_guess_0 : cX0_guess.data.toList.drop 0 = dktX0_guess_0 := by decide +kernel
theorem dX0_guess_0 : decode cX0_guess 0 = .ok (.aload_n 0, 1) := dk_42 (dk_at dksX0_guess_0 0 rfl rfl)
theorem dX0_guess_1 : decode cX0_guess 1 = .ok (.getfield 39, 3) := dk_180 0 39 (dk_at dksX0_guess_0 1 rfl rfl)
theorem dX0_guess_4 : decode cX0_guess 4 = .ok (.iload_n 1, 1) := dk_27 (dk_at dksX0_guess_0 4 rfl rfl)
theorem dX0_guess_5 : decode cX0_guess 5 = .ok (.aaload, 1) := dk_50 (dk_at dksX0_guess_0 5 rfl rfl)
theorem dX0_guess_6 : decode cX0_guess 6 = .ok (.getfield 128, 3) := dk_180 0 128 (dk_at dksX0_guess_0 6 rfl rfl)
theorem dX0_guess_9 : decode cX0_guess 9 = .ok (.areturn, 1) := dk_176 (dk_at dksX0_guess_0 9 rfl rfl)
abbrev cX0_sign : ByteArray := prog_1_method_16_code
def yX0_sign : MethodName := ⟨RX0, "sign", "(I)I"⟩
def dkwX0_sign_1 : List UInt8 := [42, 182, 0, 168, 172, 42, 182, 0, 171, 42, 27, 182, 0, 159, 172]
abbrev dktX0_sign_1 : List UInt8 := dkwX0_sign_1 ++ []
def dkwX0_sign_0 : List UInt8 := [27, 133, 9, 10, 184, 0, 161, 154, 0, 8, 42, 182, 0, 165, 172, 42, 180, 0, 143, 16, 100, 160, 0, 8]
abbrev dktX0_sign_0 : List UInt8 := dkwX0_sign_0 ++ dktX0_sign_1
theorem dksX0_sign_0 : cX0_sign.data.toList.drop 0 = dktX0_sign_0 := by decide +kernel
theorem dksX0_sign_1 : cX0_sign.data.toList.drop 24 = dktX0_sign_1 := dk_seg dksX0_sign_0 24 rfl rfl
theorem dX0_sign_0 : decode cX0_sign 0 = .ok (.iload_n 1, 1) := dk_27 (dk_at dksX0_sign_0 0 rfl rfl)
theorem dX0_sign_1 : decode cX0_sign 1 = .ok (.i2l, 1) := dk_133 (dk_at dksX0_sign_0 1 rfl rfl)
theorem dX0_sign_2 : decode cX0_sign 2 = .ok (.lconst 0, 1) := dk_9 (dk_at dksX0_sign_0 2 rfl rfl)
theorem dX0_sign_3 : decode cX0_sign 3 = .ok (.lconst 1, 1) := dk_10 (dk_at dksX0_sign_0 3 rfl rfl)
theorem dX0_sign_4 : decode cX0_sign 4 = .ok (.invokestatic 161, 3) := dk_184 0 161 (dk_at dksX0_sign_0 4 rfl rfl)
theorem dX0_sign_7 : decode cX0_sign 7 = .ok (.ifCond .ne 8, 3) := dk_154 0 8 (dk_at dksX0_sign_0 7 rfl rfl)
theorem dX0_sign_10 : decode cX0_sign 10 = .ok (.aload_n 0, 1) := dk_42 (dk_at dksX0_sign_0 10 rfl rfl)
theorem dX0_sign_11 : decode cX0_sign 11 = .ok (.invokevirtual 165, 3) := dk_182 0 165 (dk_at dksX0_sign_0 11 rfl rfl)
theorem dX0_sign_14 : decode cX0_sign 14 = .ok (.ireturn, 1) := dk_172 (dk_at dksX0_sign_0 14 rfl rfl)
theorem dX0_sign_15 : decode cX0_sign 15 = .ok (.aload_n 0, 1) := dk_42 (dk_at dksX0_sign_0 15 rfl rfl)
theorem dX0_sign_16 : decode cX0_sign 16 = .ok (.getfield 143, 3) := dk_180 0 143 (dk_at dksX0_sign_0 16 rfl rfl)
theorem dX0_sign_19 : decode cX0_sign 19 = .ok (.bipush 100, 2) := dk_16 100 (dk_at dksX0_sign_0 19 rfl rfl)
theorem dX0_sign_21 : decode cX0_sign 21 = .ok (.if_icmp .ne 8, 3) := dk_160 0 8 (dk_at dksX0_sign_0 21 rfl rfl)
theorem dX0_sign_24 : decode cX0_sign 24 = .ok (.aload_n 0, 1) := dk_42 (dk_at dksX0_sign_1 0 rfl rfl)
theorem dX0_sign_25 : decode cX0_sign 25 = .ok (.invokevirtual 168, 3) := dk_182 0 168 (dk_at dksX0_sign_1 1 rfl rfl)
theorem dX0_sign_28 : decode cX0_sign 28 = .ok (.ireturn, 1) := dk_172 (dk_at dksX0_sign_1 4 rfl rfl)
theorem dX0_sign_29 : decode cX0_sign 29 = .ok (.aload_n 0, 1) := dk_42 (dk_at dksX0_sign_1 5 rfl rfl)
theorem dX0_sign_30 : decode cX0_sign 30 = .ok (.invokevirtual 171, 3) := dk_182 0 171 (dk_at dksX0_sign_1 6 rfl rfl)
theorem dX0_sign_33 : decode cX0_sign 33 = .ok (.aload_n 0, 1) := dk_42 (dk_at dksX0_sign_1 9 rfl rfl)
theorem dX0_sign_34 : decode cX0_sign 34 = .ok (.iload_n 1, 1) := dk_27 (dk_at dksX0_sign_1 10 rfl rfl)
theorem dX0_sign_35 : decode cX0_sign 35 = .ok (.invokevirtual 159, 3) := dk_182 0 159 (dk_at dksX0_sign_1 11 rfl rfl)
theorem dX0_sign_38 : decode cX0_sign 38 = .ok (.ireturn, 1) := dk_172 (dk_at dksX0_sign_1 14 rfl rfl)
abbrev cX0_in : ByteArray := prog_1_method_1_code
def yX0_in : MethodName := ⟨RX0, "in", "(JJJ)Z"⟩
def dkwX0_in_0 : List UInt8 := [30, 32, 148, 155, 0, 14, 30, 22, 4, 148, 157, 0, 7, 4, 167, 0, 4, 3, 172]
abbrev dktX0_in_0 : List UInt8 := dkwX0_in_0 ++ []
theorem dksX0_in_0 : cX0_in.data.toList.drop 0 = dktX0_in_0 := by decide +kernel
theorem dX0_in_0 : decode cX0_in 0 = .ok (.lload_n 0, 1) := dk_30 (dk_at dksX0_in_0 0 rfl rfl)
theorem dX0_in_1 : decode cX0_in 1 = .ok (.lload_n 2, 1) := dk_32 (dk_at dksX0_in_0 1 rfl rfl)
theorem dX0_in_2 : decode cX0_in 2 = .ok (.lcmp, 1) := dk_148 (dk_at dksX0_in_0 2 rfl rfl)
theorem dX0_in_3 : decode cX0_in 3 = .ok (.ifCond .lt 14, 3) := dk_155 0 14 (dk_at dksX0_in_0 3 rfl rfl)
theorem dX0_in_6 : decode cX0_in 6 = .ok (.lload_n 0, 1) := dk_30 (dk_at dksX0_in_0 6 rfl rfl)
theorem dX0_in_7 : decode cX0_in 7 = .ok (.lload 4, 2) := dk_22 4 (dk_at dksX0_in_0 7 rfl rfl)
theorem dX0_in_9 : decode cX0_in 9 = .ok (.lcmp, 1) := dk_148 (dk_at dksX0_in_0 9 rfl rfl)
theorem dX0_in_10 : decode cX0_in 10 = .ok (.ifCond .gt 7, 3) := dk_157 0 7 (dk_at dksX0_in_0 10 rfl rfl)
theorem dX0_in_13 : decode cX0_in 13 = .ok (.iconst 1, 1) := dk_4 (dk_at dksX0_in_0 13 rfl rfl)
theorem dX0_in_14 : decode cX0_in 14 = .ok (.goto 4, 3) := dk_167 0 4 (dk_at dksX0_in_0 14 rfl rfl)
theorem dX0_in_17 : decode cX0_in 17 = .ok (.iconst 0, 1) := dk_3 (dk_at dksX0_in_0 17 rfl rfl)
theorem dX0_in_18 : decode cX0_in 18 = .ok (.ireturn, 1) := dk_172 (dk_at dksX0_in_0 18 rfl rfl)
abbrev cX0_bad : ByteArray := prog_1_method_10_code
def yX0_bad : MethodName := ⟨RX0, "bad", "()I"⟩
def dkwX0_bad_0 : List UInt8 := [42, 3, 16, 254, 182, 0, 131, 172]
abbrev dktX0_bad_0 : List UInt8 := dkwX0_bad_0 ++ []
theorem dksX0_bad_0 : cX0_bad.data.toList.drop 0 = dktX0_bad_0 := by decide +kernel
theorem dX0_bad_0 : decode cX0_bad 0 = .ok (.aload_n 0, 1) := dk_42 (dk_at dksX0_bad_0 0 rfl rfl)
theorem dX0_bad_1 : decode cX0_bad 1 = .ok (.iconst 0, 1) := dk_3 (dk_at dksX0_bad_0 1 rfl rfl)
theorem dX0_bad_2 : decode cX0_bad 2 = .ok (.bipush (-2), 2) := dk_16 254 (dk_at dksX0_bad_0 2 rfl rfl)
theorem dX0_bad_4 : decode cX0_bad 4 = .ok (.invokevirtual 131, 3) := dk_182 0 131 (dk_at dksX0_bad_0 4 rfl rfl)
theorem dX0_bad_7 : decode cX0_bad 7 = .ok (.ireturn, 1) := dk_172 (dk_at dksX0_bad_0 7 rfl rfl)
abbrev cX0_refuses : ByteArray := prog_1_method_9_code
def yX0_refuses : MethodName := ⟨RX0, "refuses", "(II)I"⟩
def dkwX0_refuses_0 : List UInt8 := [42, 180, 0, 75, 27, 92, 46, 4, 96, 79, 28, 172]
abbrev dktX0_refuses_0 : List UInt8 := dkwX0_refuses_0 ++ []
theorem dksX0_refuses_0 : cX0_refuses.data.toList.drop 0 = dktX0_refuses_0 := by decide +kernel
theorem dX0_refuses_0 : decode cX0_refuses 0 = .ok (.aload_n 0, 1) := dk_42 (dk_at dksX0_refuses_0 0 rfl rfl)
theorem dX0_refuses_1 : decode cX0_refuses 1 = .ok (.getfield 75, 3) := dk_180 0 75 (dk_at dksX0_refuses_0 1 rfl rfl)
theorem dX0_refuses_4 : decode cX0_refuses 4 = .ok (.iload_n 1, 1) := dk_27 (dk_at dksX0_refuses_0 4 rfl rfl)
theorem dX0_refuses_5 : decode cX0_refuses 5 = .ok (.dup2, 1) := dk_92 (dk_at dksX0_refuses_0 5 rfl rfl)
theorem dX0_refuses_6 : decode cX0_refuses 6 = .ok (.iaload, 1) := dk_46 (dk_at dksX0_refuses_0 6 rfl rfl)
theorem dX0_refuses_7 : decode cX0_refuses 7 = .ok (.iconst 1, 1) := dk_4 (dk_at dksX0_refuses_0 7 rfl rfl)
theorem dX0_refuses_8 : decode cX0_refuses 8 = .ok (.iadd, 1) := dk_96 (dk_at dksX0_refuses_0 8 rfl rfl)
theorem dX0_refuses_9 : decode cX0_refuses 9 = .ok (.iastore, 1) := dk_79 (dk_at dksX0_refuses_0 9 rfl rfl)
theorem dX0_refuses_10 : decode cX0_refuses 10 = .ok (.iload_n 2, 1) := dk_28 (dk_at dksX0_refuses_0 10 rfl rfl)
theorem dX0_refuses_11 : decode cX0_refuses 11 = .ok (.ireturn, 1) := dk_172 (dk_at dksX0_refuses_0 11 rfl rfl)
abbrev cX0_full : ByteArray := prog_1_method_12_code
def yX0_full : MethodName := ⟨RX0, "full", "()I"⟩
def dkwX0_full_0 : List UInt8 := [42, 5, 16, 252, 182, 0, 131, 172]
abbrev dktX0_full_0 : List UInt8 := dkwX0_full_0 ++ []
theorem dksX0_full_0 : cX0_full.data.toList.drop 0 = dktX0_full_0 := by decide +kernel
theorem dX0_full_0 : decode cX0_full 0 = .ok (.aload_n 0, 1) := dk_42 (dk_at dksX0_full_0 0 rfl rfl)
theorem dX0_full_1 : decode cX0_full 1 = .ok (.iconst 2, 1) := dk_5 (dk_at dksX0_full_0 1 rfl rfl)
theorem dX0_full_2 : decode cX0_full 2 = .ok (.bipush (-4), 2) := dk_16 252 (dk_at dksX0_full_0 2 rfl rfl)
theorem dX0_full_4 : decode cX0_full 4 = .ok (.invokevirtual 131, 3) := dk_182 0 131 (dk_at dksX0_full_0 4 rfl rfl)
theorem dX0_full_7 : decode cX0_full 7 = .ok (.ireturn, 1) := dk_172 (dk_at dksX0_full_0 7 rfl rfl)
abbrev cX0_leaves : ByteArray := prog_1_method_13_code
def yX0_leaves : MethodName := ⟨RX0, "leaves", "()V"⟩
def dkwX0_leaves_6 : List UInt8 := [180, 0, 134, 4, 96, 181, 0, 134, 177]
abbrev dktX0_leaves_6 : List UInt8 := dkwX0_leaves_6 ++ []
def dkwX0_leaves_5 : List UInt8 := [180, 0, 134, 42, 180, 0, 33, 79, 42, 180, 0, 68, 42, 180, 0, 134, 42, 180, 0, 113, 79, 42, 89]
abbrev dktX0_leaves_5 : List UInt8 := dkwX0_leaves_5 ++ dktX0_leaves_6
def dkwX0_leaves_4 : List UInt8 := [16, 100, 184, 0, 137, 42, 180, 0, 62, 42, 180, 0, 134, 42, 180, 0, 143, 79, 42, 180, 0, 65, 42]
abbrev dktX0_leaves_4 : List UInt8 := dkwX0_leaves_4 ++ dktX0_leaves_5
def dkwX0_leaves_3 : List UInt8 := [180, 0, 134, 4, 100, 181, 0, 134, 42, 180, 0, 29, 3, 42, 180, 0, 59, 16, 100, 42, 180, 0, 134, 104]
abbrev dktX0_leaves_3 : List UInt8 := dkwX0_leaves_3 ++ dktX0_leaves_4
def dkwX0_leaves_2 : List UInt8 := [180, 0, 65, 3, 8, 184, 0, 137, 42, 180, 0, 68, 4, 42, 180, 0, 68, 3, 8, 184, 0, 137, 42, 89]
abbrev dktX0_leaves_2 : List UInt8 := dkwX0_leaves_2 ++ dktX0_leaves_3
def dkwX0_leaves_1 : List UInt8 := [184, 0, 137, 42, 180, 0, 62, 4, 42, 180, 0, 62, 3, 8, 184, 0, 137, 42, 180, 0, 65, 4, 42]
abbrev dktX0_leaves_1 : List UInt8 := dkwX0_leaves_1 ++ dktX0_leaves_2
def dkwX0_leaves_0 : List UInt8 := [42, 180, 0, 134, 16, 6, 160, 0, 72, 42, 180, 0, 59, 16, 100, 42, 180, 0, 59, 3, 17, 1, 244]
abbrev dktX0_leaves_0 : List UInt8 := dkwX0_leaves_0 ++ dktX0_leaves_1
theorem dksX0_leaves_0 : cX0_leaves.data.toList.drop 0 = dktX0_leaves_0 := by decide +kernel
theorem dksX0_leaves_1 : cX0_leaves.data.toList.drop 23 = dktX0_leaves_1 := dk_seg dksX0_leaves_0 23 rfl rfl
theorem dksX0_leaves_2 : cX0_leaves.data.toList.drop 46 = dktX0_leaves_2 := dk_seg dksX0_leaves_1 23 rfl rfl
theorem dksX0_leaves_3 : cX0_leaves.data.toList.drop 70 = dktX0_leaves_3 := dk_seg dksX0_leaves_2 24 rfl rfl
theorem dksX0_leaves_4 : cX0_leaves.data.toList.drop 94 = dktX0_leaves_4 := dk_seg dksX0_leaves_3 24 rfl rfl
theorem dksX0_leaves_5 : cX0_leaves.data.toList.drop 117 = dktX0_leaves_5 := dk_seg dksX0_leaves_4 23 rfl rfl
theorem dksX0_leaves_6 : cX0_leaves.data.toList.drop 140 = dktX0_leaves_6 := dk_seg dksX0_leaves_5 23 rfl rfl
theorem dX0_leaves_0 : decode cX0_leaves 0 = .ok (.aload_n 0, 1) := dk_42 (dk_at dksX0_leaves_0 0 rfl rfl)
theorem dX0_leaves_1 : decode cX0_leaves 1 = .ok (.getfield 134, 3) := dk_180 0 134 (dk_at dksX0_leaves_0 1 rfl rfl)
theorem dX0_leaves_4 : decode cX0_leaves 4 = .ok (.bipush 6, 2) := dk_16 6 (dk_at dksX0_leaves_0 4 rfl rfl)
theorem dX0_leaves_6 : decode cX0_leaves 6 = .ok (.if_icmp .ne 72, 3) := dk_160 0 72 (dk_at dksX0_leaves_0 6 rfl rfl)
theorem dX0_leaves_9 : decode cX0_leaves 9 = .ok (.aload_n 0, 1) := dk_42 (dk_at dksX0_leaves_0 9 rfl rfl)
theorem dX0_leaves_10 : decode cX0_leaves 10 = .ok (.getfield 59, 3) := dk_180 0 59 (dk_at dksX0_leaves_0 10 rfl rfl)
theorem dX0_leaves_13 : decode cX0_leaves 13 = .ok (.bipush 100, 2) := dk_16 100 (dk_at dksX0_leaves_0 13 rfl rfl)
theorem dX0_leaves_15 : decode cX0_leaves 15 = .ok (.aload_n 0, 1) := dk_42 (dk_at dksX0_leaves_0 15 rfl rfl)
theorem dX0_leaves_16 : decode cX0_leaves 16 = .ok (.getfield 59, 3) := dk_180 0 59 (dk_at dksX0_leaves_0 16 rfl rfl)
theorem dX0_leaves_19 : decode cX0_leaves 19 = .ok (.iconst 0, 1) := dk_3 (dk_at dksX0_leaves_0 19 rfl rfl)
theorem dX0_leaves_20 : decode cX0_leaves 20 = .ok (.sipush 500, 3) := dk_17 1 244 (dk_at dksX0_leaves_0 20 rfl rfl)
theorem dX0_leaves_23 : decode cX0_leaves 23 = .ok (.invokestatic 137, 3) := dk_184 0 137 (dk_at dksX0_leaves_1 0 rfl rfl)
theorem dX0_leaves_26 : decode cX0_leaves 26 = .ok (.aload_n 0, 1) := dk_42 (dk_at dksX0_leaves_1 3 rfl rfl)
theorem dX0_leaves_27 : decode cX0_leaves 27 = .ok (.getfield 62, 3) := dk_180 0 62 (dk_at dksX0_leaves_1 4 rfl rfl)
theorem dX0_leaves_30 : decode cX0_leaves 30 = .ok (.iconst 1, 1) := dk_4 (dk_at dksX0_leaves_1 7 rfl rfl)
theorem dX0_leaves_31 : decode cX0_leaves 31 = .ok (.aload_n 0, 1) := dk_42 (dk_at dksX0_leaves_1 8 rfl rfl)
theorem dX0_leaves_32 : decode cX0_leaves 32 = .ok (.getfield 62, 3) := dk_180 0 62 (dk_at dksX0_leaves_1 9 rfl rfl)
theorem dX0_leaves_35 : decode cX0_leaves 35 = .ok (.iconst 0, 1) := dk_3 (dk_at dksX0_leaves_1 12 rfl rfl)
theorem dX0_leaves_36 : decode cX0_leaves 36 = .ok (.iconst 5, 1) := dk_8 (dk_at dksX0_leaves_1 13 rfl rfl)
theorem dX0_leaves_37 : decode cX0_leaves 37 = .ok (.invokestatic 137, 3) := dk_184 0 137 (dk_at dksX0_leaves_1 14 rfl rfl)
theorem dX0_leaves_40 : decode cX0_leaves 40 = .ok (.aload_n 0, 1) := dk_42 (dk_at dksX0_leaves_1 17 rfl rfl)
theorem dX0_leaves_41 : decode cX0_leaves 41 = .ok (.getfield 65, 3) := dk_180 0 65 (dk_at dksX0_leaves_1 18 rfl rfl)
theorem dX0_leaves_44 : decode cX0_leaves 44 = .ok (.iconst 1, 1) := dk_4 (dk_at dksX0_leaves_1 21 rfl rfl)
theorem dX0_leaves_45 : decode cX0_leaves 45 = .ok (.aload_n 0, 1) := dk_42 (dk_at dksX0_leaves_1 22 rfl rfl)
theorem dX0_leaves_46 : decode cX0_leaves 46 = .ok (.getfield 65, 3) := dk_180 0 65 (dk_at dksX0_leaves_2 0 rfl rfl)
theorem dX0_leaves_49 : decode cX0_leaves 49 = .ok (.iconst 0, 1) := dk_3 (dk_at dksX0_leaves_2 3 rfl rfl)
theorem dX0_leaves_50 : decode cX0_leaves 50 = .ok (.iconst 5, 1) := dk_8 (dk_at dksX0_leaves_2 4 rfl rfl)
theorem dX0_leaves_51 : decode cX0_leaves 51 = .ok (.invokestatic 137, 3) := dk_184 0 137 (dk_at dksX0_leaves_2 5 rfl rfl)
theorem dX0_leaves_54 : decode cX0_leaves 54 = .ok (.aload_n 0, 1) := dk_42 (dk_at dksX0_leaves_2 8 rfl rfl)
theorem dX0_leaves_55 : decode cX0_leaves 55 = .ok (.getfield 68, 3) := dk_180 0 68 (dk_at dksX0_leaves_2 9 rfl rfl)
theorem dX0_leaves_58 : decode cX0_leaves 58 = .ok (.iconst 1, 1) := dk_4 (dk_at dksX0_leaves_2 12 rfl rfl)
theorem dX0_leaves_59 : decode cX0_leaves 59 = .ok (.aload_n 0, 1) := dk_42 (dk_at dksX0_leaves_2 13 rfl rfl)
theorem dX0_leaves_60 : decode cX0_leaves 60 = .ok (.getfield 68, 3) := dk_180 0 68 (dk_at dksX0_leaves_2 14 rfl rfl)
theorem dX0_leaves_63 : decode cX0_leaves 63 = .ok (.iconst 0, 1) := dk_3 (dk_at dksX0_leaves_2 17 rfl rfl)
theorem dX0_leaves_64 : decode cX0_leaves 64 = .ok (.iconst 5, 1) := dk_8 (dk_at dksX0_leaves_2 18 rfl rfl)
theorem dX0_leaves_65 : decode cX0_leaves 65 = .ok (.invokestatic 137, 3) := dk_184 0 137 (dk_at dksX0_leaves_2 19 rfl rfl)
theorem dX0_leaves_68 : decode cX0_leaves 68 = .ok (.aload_n 0, 1) := dk_42 (dk_at dksX0_leaves_2 22 rfl rfl)
theorem dX0_leaves_69 : decode cX0_leaves 69 = .ok (.dup, 1) := dk_89 (dk_at dksX0_leaves_2 23 rfl rfl)
theorem dX0_leaves_70 : decode cX0_leaves 70 = .ok (.getfield 134, 3) := dk_180 0 134 (dk_at dksX0_leaves_3 0 rfl rfl)
theorem dX0_leaves_73 : decode cX0_leaves 73 = .ok (.iconst 1, 1) := dk_4 (dk_at dksX0_leaves_3 3 rfl rfl)
theorem dX0_leaves_74 : decode cX0_leaves 74 = .ok (.isub, 1) := dk_100 (dk_at dksX0_leaves_3 4 rfl rfl)
theorem dX0_leaves_75 : decode cX0_leaves 75 = .ok (.putfield 134, 3) := dk_181 0 134 (dk_at dksX0_leaves_3 5 rfl rfl)
theorem dX0_leaves_78 : decode cX0_leaves 78 = .ok (.aload_n 0, 1) := dk_42 (dk_at dksX0_leaves_3 8 rfl rfl)
theorem dX0_leaves_79 : decode cX0_leaves 79 = .ok (.getfield 29, 3) := dk_180 0 29 (dk_at dksX0_leaves_3 9 rfl rfl)
theorem dX0_leaves_82 : decode cX0_leaves 82 = .ok (.iconst 0, 1) := dk_3 (dk_at dksX0_leaves_3 12 rfl rfl)
theorem dX0_leaves_83 : decode cX0_leaves 83 = .ok (.aload_n 0, 1) := dk_42 (dk_at dksX0_leaves_3 13 rfl rfl)
theorem dX0_leaves_84 : decode cX0_leaves 84 = .ok (.getfield 59, 3) := dk_180 0 59 (dk_at dksX0_leaves_3 14 rfl rfl)
theorem dX0_leaves_87 : decode cX0_leaves 87 = .ok (.bipush 100, 2) := dk_16 100 (dk_at dksX0_leaves_3 17 rfl rfl)
theorem dX0_leaves_89 : decode cX0_leaves 89 = .ok (.aload_n 0, 1) := dk_42 (dk_at dksX0_leaves_3 19 rfl rfl)
theorem dX0_leaves_90 : decode cX0_leaves 90 = .ok (.getfield 134, 3) := dk_180 0 134 (dk_at dksX0_leaves_3 20 rfl rfl)
theorem dX0_leaves_93 : decode cX0_leaves 93 = .ok (.imul, 1) := dk_104 (dk_at dksX0_leaves_3 23 rfl rfl)
theorem dX0_leaves_94 : decode cX0_leaves 94 = .ok (.bipush 100, 2) := dk_16 100 (dk_at dksX0_leaves_4 0 rfl rfl)
theorem dX0_leaves_96 : decode cX0_leaves 96 = .ok (.invokestatic 137, 3) := dk_184 0 137 (dk_at dksX0_leaves_4 2 rfl rfl)
theorem dX0_leaves_99 : decode cX0_leaves 99 = .ok (.aload_n 0, 1) := dk_42 (dk_at dksX0_leaves_4 5 rfl rfl)
theorem dX0_leaves_100 : decode cX0_leaves 100 = .ok (.getfield 62, 3) := dk_180 0 62 (dk_at dksX0_leaves_4 6 rfl rfl)
theorem dX0_leaves_103 : decode cX0_leaves 103 = .ok (.aload_n 0, 1) := dk_42 (dk_at dksX0_leaves_4 9 rfl rfl)
theorem dX0_leaves_104 : decode cX0_leaves 104 = .ok (.getfield 134, 3) := dk_180 0 134 (dk_at dksX0_leaves_4 10 rfl rfl)
theorem dX0_leaves_107 : decode cX0_leaves 107 = .ok (.aload_n 0, 1) := dk_42 (dk_at dksX0_leaves_4 13 rfl rfl)
theorem dX0_leaves_108 : decode cX0_leaves 108 = .ok (.getfield 143, 3) := dk_180 0 143 (dk_at dksX0_leaves_4 14 rfl rfl)
theorem dX0_leaves_111 : decode cX0_leaves 111 = .ok (.iastore, 1) := dk_79 (dk_at dksX0_leaves_4 17 rfl rfl)
theorem dX0_leaves_112 : decode cX0_leaves 112 = .ok (.aload_n 0, 1) := dk_42 (dk_at dksX0_leaves_4 18 rfl rfl)
theorem dX0_leaves_113 : decode cX0_leaves 113 = .ok (.getfield 65, 3) := dk_180 0 65 (dk_at dksX0_leaves_4 19 rfl rfl)
theorem dX0_leaves_116 : decode cX0_leaves 116 = .ok (.aload_n 0, 1) := dk_42 (dk_at dksX0_leaves_4 22 rfl rfl)
theorem dX0_leaves_117 : decode cX0_leaves 117 = .ok (.getfield 134, 3) := dk_180 0 134 (dk_at dksX0_leaves_5 0 rfl rfl)
theorem dX0_leaves_120 : decode cX0_leaves 120 = .ok (.aload_n 0, 1) := dk_42 (dk_at dksX0_leaves_5 3 rfl rfl)
theorem dX0_leaves_121 : decode cX0_leaves 121 = .ok (.getfield 33, 3) := dk_180 0 33 (dk_at dksX0_leaves_5 4 rfl rfl)
theorem dX0_leaves_124 : decode cX0_leaves 124 = .ok (.iastore, 1) := dk_79 (dk_at dksX0_leaves_5 7 rfl rfl)
theorem dX0_leaves_125 : decode cX0_leaves 125 = .ok (.aload_n 0, 1) := dk_42 (dk_at dksX0_leaves_5 8 rfl rfl)
theorem dX0_leaves_126 : decode cX0_leaves 126 = .ok (.getfield 68, 3) := dk_180 0 68 (dk_at dksX0_leaves_5 9 rfl rfl)
theorem dX0_leaves_129 : decode cX0_leaves 129 = .ok (.aload_n 0, 1) := dk_42 (dk_at dksX0_leaves_5 12 rfl rfl)
theorem dX0_leaves_130 : decode cX0_leaves 130 = .ok (.getfield 134, 3) := dk_180 0 134 (dk_at dksX0_leaves_5 13 rfl rfl)
theorem dX0_leaves_133 : decode cX0_leaves 133 = .ok (.aload_n 0, 1) := dk_42 (dk_at dksX0_leaves_5 16 rfl rfl)
theorem dX0_leaves_134 : decode cX0_leaves 134 = .ok (.getfield 113, 3) := dk_180 0 113 (dk_at dksX0_leaves_5 17 rfl rfl)
theorem dX0_leaves_137 : decode cX0_leaves 137 = .ok (.iastore, 1) := dk_79 (dk_at dksX0_leaves_5 20 rfl rfl)
theorem dX0_leaves_138 : decode cX0_leaves 138 = .ok (.aload_n 0, 1) := dk_42 (dk_at dksX0_leaves_5 21 rfl rfl)
theorem dX0_leaves_139 : decode cX0_leaves 139 = .ok (.dup, 1) := dk_89 (dk_at dksX0_leaves_5 22 rfl rfl)
theorem dX0_leaves_140 : decode cX0_leaves 140 = .ok (.getfield 134, 3) := dk_180 0 134 (dk_at dksX0_leaves_6 0 rfl rfl)
theorem dX0_leaves_143 : decode cX0_leaves 143 = .ok (.iconst 1, 1) := dk_4 (dk_at dksX0_leaves_6 3 rfl rfl)
theorem dX0_leaves_144 : decode cX0_leaves 144 = .ok (.iadd, 1) := dk_96 (dk_at dksX0_leaves_6 4 rfl rfl)
theorem dX0_leaves_145 : decode cX0_leaves 145 = .ok (.putfield 134, 3) := dk_181 0 134 (dk_at dksX0_leaves_6 5 rfl rfl)
theorem dX0_leaves_148 : decode cX0_leaves 148 = .ok (.return_, 1) := dk_177 (dk_at dksX0_leaves_6 8 rfl rfl)
abbrev cX0_comes : ByteArray := prog_1_method_14_code
def yX0_comes : MethodName := ⟨RX0, "comes", "(I)I"⟩
def dkwX0_comes_3 : List UInt8 := [180, 0, 143, 4, 100, 46, 172]
abbrev dktX0_comes_3 : List UInt8 := dkwX0_comes_3 ++ []
def dkwX0_comes_2 : List UInt8 := [184, 0, 154, 184, 0, 156, 79, 42, 89, 180, 0, 143, 4, 96, 181, 0, 143, 42, 180, 0, 56, 42]
abbrev dktX0_comes_2 : List UInt8 := dkwX0_comes_2 ++ dktX0_comes_3
def dkwX0_comes_1 : List UInt8 := [27, 79, 42, 180, 0, 53, 42, 180, 0, 143, 28, 79, 42, 180, 0, 56, 42, 180, 0, 143, 28, 27]
abbrev dktX0_comes_1 : List UInt8 := dkwX0_comes_1 ++ dktX0_comes_2
def dkwX0_comes_0 : List UInt8 := [42, 180, 0, 46, 182, 0, 146, 61, 42, 180, 0, 46, 27, 182, 0, 150, 42, 180, 0, 29, 42, 180, 0, 143]
abbrev dktX0_comes_0 : List UInt8 := dkwX0_comes_0 ++ dktX0_comes_1
theorem dksX0_comes_0 : cX0_comes.data.toList.drop 0 = dktX0_comes_0 := by decide +kernel
theorem dksX0_comes_1 : cX0_comes.data.toList.drop 24 = dktX0_comes_1 := dk_seg dksX0_comes_0 24 rfl rfl
theorem dksX0_comes_2 : cX0_comes.data.toList.drop 46 = dktX0_comes_2 := dk_seg dksX0_comes_1 22 rfl rfl
theorem dksX0_comes_3 : cX0_comes.data.toList.drop 68 = dktX0_comes_3 := dk_seg dksX0_comes_2 22 rfl rfl
theorem dX0_comes_0 : decode cX0_comes 0 = .ok (.aload_n 0, 1) := dk_42 (dk_at dksX0_comes_0 0 rfl rfl)
theorem dX0_comes_1 : decode cX0_comes 1 = .ok (.getfield 46, 3) := dk_180 0 46 (dk_at dksX0_comes_0 1 rfl rfl)
theorem dX0_comes_4 : decode cX0_comes 4 = .ok (.invokevirtual 146, 3) := dk_182 0 146 (dk_at dksX0_comes_0 4 rfl rfl)
theorem dX0_comes_7 : decode cX0_comes 7 = .ok (.istore_n 2, 1) := dk_61 (dk_at dksX0_comes_0 7 rfl rfl)
theorem dX0_comes_8 : decode cX0_comes 8 = .ok (.aload_n 0, 1) := dk_42 (dk_at dksX0_comes_0 8 rfl rfl)
theorem dX0_comes_9 : decode cX0_comes 9 = .ok (.getfield 46, 3) := dk_180 0 46 (dk_at dksX0_comes_0 9 rfl rfl)
theorem dX0_comes_12 : decode cX0_comes 12 = .ok (.iload_n 1, 1) := dk_27 (dk_at dksX0_comes_0 12 rfl rfl)
theorem dX0_comes_13 : decode cX0_comes 13 = .ok (.invokevirtual 150, 3) := dk_182 0 150 (dk_at dksX0_comes_0 13 rfl rfl)
theorem dX0_comes_16 : decode cX0_comes 16 = .ok (.aload_n 0, 1) := dk_42 (dk_at dksX0_comes_0 16 rfl rfl)
theorem dX0_comes_17 : decode cX0_comes 17 = .ok (.getfield 29, 3) := dk_180 0 29 (dk_at dksX0_comes_0 17 rfl rfl)
theorem dX0_comes_20 : decode cX0_comes 20 = .ok (.aload_n 0, 1) := dk_42 (dk_at dksX0_comes_0 20 rfl rfl)
theorem dX0_comes_21 : decode cX0_comes 21 = .ok (.getfield 143, 3) := dk_180 0 143 (dk_at dksX0_comes_0 21 rfl rfl)
theorem dX0_comes_24 : decode cX0_comes 24 = .ok (.iload_n 1, 1) := dk_27 (dk_at dksX0_comes_1 0 rfl rfl)
theorem dX0_comes_25 : decode cX0_comes 25 = .ok (.iastore, 1) := dk_79 (dk_at dksX0_comes_1 1 rfl rfl)
theorem dX0_comes_26 : decode cX0_comes 26 = .ok (.aload_n 0, 1) := dk_42 (dk_at dksX0_comes_1 2 rfl rfl)
theorem dX0_comes_27 : decode cX0_comes 27 = .ok (.getfield 53, 3) := dk_180 0 53 (dk_at dksX0_comes_1 3 rfl rfl)
theorem dX0_comes_30 : decode cX0_comes 30 = .ok (.aload_n 0, 1) := dk_42 (dk_at dksX0_comes_1 6 rfl rfl)
theorem dX0_comes_31 : decode cX0_comes 31 = .ok (.getfield 143, 3) := dk_180 0 143 (dk_at dksX0_comes_1 7 rfl rfl)
theorem dX0_comes_34 : decode cX0_comes 34 = .ok (.iload_n 2, 1) := dk_28 (dk_at dksX0_comes_1 10 rfl rfl)
theorem dX0_comes_35 : decode cX0_comes 35 = .ok (.iastore, 1) := dk_79 (dk_at dksX0_comes_1 11 rfl rfl)
theorem dX0_comes_36 : decode cX0_comes 36 = .ok (.aload_n 0, 1) := dk_42 (dk_at dksX0_comes_1 12 rfl rfl)
theorem dX0_comes_37 : decode cX0_comes 37 = .ok (.getfield 56, 3) := dk_180 0 56 (dk_at dksX0_comes_1 13 rfl rfl)
theorem dX0_comes_40 : decode cX0_comes 40 = .ok (.aload_n 0, 1) := dk_42 (dk_at dksX0_comes_1 16 rfl rfl)
theorem dX0_comes_41 : decode cX0_comes 41 = .ok (.getfield 143, 3) := dk_180 0 143 (dk_at dksX0_comes_1 17 rfl rfl)
theorem dX0_comes_44 : decode cX0_comes 44 = .ok (.iload_n 2, 1) := dk_28 (dk_at dksX0_comes_1 20 rfl rfl)
theorem dX0_comes_45 : decode cX0_comes 45 = .ok (.iload_n 1, 1) := dk_27 (dk_at dksX0_comes_1 21 rfl rfl)
theorem dX0_comes_46 : decode cX0_comes 46 = .ok (.invokestatic 154, 3) := dk_184 0 154 (dk_at dksX0_comes_2 0 rfl rfl)
theorem dX0_comes_49 : decode cX0_comes 49 = .ok (.invokestatic 156, 3) := dk_184 0 156 (dk_at dksX0_comes_2 3 rfl rfl)
theorem dX0_comes_52 : decode cX0_comes 52 = .ok (.iastore, 1) := dk_79 (dk_at dksX0_comes_2 6 rfl rfl)
theorem dX0_comes_53 : decode cX0_comes 53 = .ok (.aload_n 0, 1) := dk_42 (dk_at dksX0_comes_2 7 rfl rfl)
theorem dX0_comes_54 : decode cX0_comes 54 = .ok (.dup, 1) := dk_89 (dk_at dksX0_comes_2 8 rfl rfl)
theorem dX0_comes_55 : decode cX0_comes 55 = .ok (.getfield 143, 3) := dk_180 0 143 (dk_at dksX0_comes_2 9 rfl rfl)
theorem dX0_comes_58 : decode cX0_comes 58 = .ok (.iconst 1, 1) := dk_4 (dk_at dksX0_comes_2 12 rfl rfl)
theorem dX0_comes_59 : decode cX0_comes 59 = .ok (.iadd, 1) := dk_96 (dk_at dksX0_comes_2 13 rfl rfl)
theorem dX0_comes_60 : decode cX0_comes 60 = .ok (.putfield 143, 3) := dk_181 0 143 (dk_at dksX0_comes_2 14 rfl rfl)
theorem dX0_comes_63 : decode cX0_comes 63 = .ok (.aload_n 0, 1) := dk_42 (dk_at dksX0_comes_2 17 rfl rfl)
theorem dX0_comes_64 : decode cX0_comes 64 = .ok (.getfield 56, 3) := dk_180 0 56 (dk_at dksX0_comes_2 18 rfl rfl)
theorem dX0_comes_67 : decode cX0_comes 67 = .ok (.aload_n 0, 1) := dk_42 (dk_at dksX0_comes_2 21 rfl rfl)
theorem dX0_comes_68 : decode cX0_comes 68 = .ok (.getfield 143, 3) := dk_180 0 143 (dk_at dksX0_comes_3 0 rfl rfl)
theorem dX0_comes_71 : decode cX0_comes 71 = .ok (.iconst 1, 1) := dk_4 (dk_at dksX0_comes_3 3 rfl rfl)
theorem dX0_comes_72 : decode cX0_comes 72 = .ok (.isub, 1) := dk_100 (dk_at dksX0_comes_3 4 rfl rfl)
theorem dX0_comes_73 : decode cX0_comes 73 = .ok (.iaload, 1) := dk_46 (dk_at dksX0_comes_3 5 rfl rfl)
theorem dX0_comes_74 : decode cX0_comes 74 = .ok (.ireturn, 1) := dk_172 (dk_at dksX0_comes_3 6 rfl rfl)
abbrev cX0_held : ByteArray := prog_1_method_2_code
def yX0_held : MethodName := ⟨RX0, "held", "(J)I"⟩
def dkwX0_held_0 : List UInt8 := [10, 20, 0, 3, 30, 184, 0, 5, 184, 0, 11, 136, 172]
abbrev dktX0_held_0 : List UInt8 := dkwX0_held_0 ++ []
theorem dksX0_held_0 : cX0_held.data.toList.drop 0 = dktX0_held_0 := by decide +kernel
theorem dX0_held_0 : decode cX0_held 0 = .ok (.lconst 1, 1) := dk_10 (dk_at dksX0_held_0 0 rfl rfl)
theorem dX0_held_1 : decode cX0_held 1 = .ok (.ldc2_w 3, 3) := dk_20 0 3 (dk_at dksX0_held_0 1 rfl rfl)
theorem dX0_held_4 : decode cX0_held 4 = .ok (.lload_n 0, 1) := dk_30 (dk_at dksX0_held_0 4 rfl rfl)
theorem dX0_held_5 : decode cX0_held 5 = .ok (.invokestatic 5, 3) := dk_184 0 5 (dk_at dksX0_held_0 5 rfl rfl)
theorem dX0_held_8 : decode cX0_held 8 = .ok (.invokestatic 11, 3) := dk_184 0 11 (dk_at dksX0_held_0 8 rfl rfl)
theorem dX0_held_11 : decode cX0_held 11 = .ok (.l2i, 1) := dk_136 (dk_at dksX0_held_0 11 rfl rfl)
theorem dX0_held_12 : decode cX0_held 12 = .ok (.ireturn, 1) := dk_172 (dk_at dksX0_held_0 12 rfl rfl)
abbrev cX0_of : ByteArray := prog_1_method_4_code
def yX0_of : MethodName := ⟨RX0, "of", "(II)I"⟩
def dkwX0_of_0 : List UInt8 := [27, 4, 160, 0, 7, 26, 167, 0, 7, 18, 20, 26, 100, 172]
abbrev dktX0_of_0 : List UInt8 := dkwX0_of_0 ++ []
theorem dksX0_of_0 : cX0_of.data.toList.drop 0 = dktX0_of_0 := by decide +kernel
theorem dX0_of_0 : decode cX0_of 0 = .ok (.iload_n 1, 1) := dk_27 (dk_at dksX0_of_0 0 rfl rfl)
theorem dX0_of_1 : decode cX0_of 1 = .ok (.iconst 1, 1) := dk_4 (dk_at dksX0_of_0 1 rfl rfl)
theorem dX0_of_2 : decode cX0_of 2 = .ok (.if_icmp .ne 7, 3) := dk_160 0 7 (dk_at dksX0_of_0 2 rfl rfl)
theorem dX0_of_5 : decode cX0_of 5 = .ok (.iload_n 0, 1) := dk_26 (dk_at dksX0_of_0 5 rfl rfl)
theorem dX0_of_6 : decode cX0_of 6 = .ok (.goto 7, 3) := dk_167 0 7 (dk_at dksX0_of_0 6 rfl rfl)
theorem dX0_of_9 : decode cX0_of 9 = .ok (.ldc 20, 2) := dk_18 20 (dk_at dksX0_of_0 9 rfl rfl)
theorem dX0_of_11 : decode cX0_of 11 = .ok (.iload_n 0, 1) := dk_26 (dk_at dksX0_of_0 11 rfl rfl)
theorem dX0_of_12 : decode cX0_of 12 = .ok (.isub, 1) := dk_100 (dk_at dksX0_of_0 12 rfl rfl)
theorem dX0_of_13 : decode cX0_of 13 = .ok (.ireturn, 1) := dk_172 (dk_at dksX0_of_0 13 rfl rfl)
abbrev cX0_bits : ByteArray := prog_1_method_3_code
def yX0_bits : MethodName := ⟨RX0, "bits", "(I)I"⟩
def dkwX0_bits_1 : List UInt8 := [100, 120, 61, 16, 16, 16, 16, 27, 100, 104, 28, 16, 15, 126, 100, 172]
abbrev dktX0_bits_1 : List UInt8 := dkwX0_bits_1 ++ []
def dkwX0_bits_0 : List UInt8 := [16, 31, 26, 184, 0, 14, 100, 60, 27, 7, 161, 0, 11, 26, 27, 7, 100, 122, 167, 0, 8, 26, 7, 27]
abbrev dktX0_bits_0 : List UInt8 := dkwX0_bits_0 ++ dktX0_bits_1
theorem dksX0_bits_0 : cX0_bits.data.toList.drop 0 = dktX0_bits_0 := by decide +kernel
theorem dksX0_bits_1 : cX0_bits.data.toList.drop 24 = dktX0_bits_1 := dk_seg dksX0_bits_0 24 rfl rfl
theorem dX0_bits_0 : decode cX0_bits 0 = .ok (.bipush 31, 2) := dk_16 31 (dk_at dksX0_bits_0 0 rfl rfl)
theorem dX0_bits_2 : decode cX0_bits 2 = .ok (.iload_n 0, 1) := dk_26 (dk_at dksX0_bits_0 2 rfl rfl)
theorem dX0_bits_3 : decode cX0_bits 3 = .ok (.invokestatic 14, 3) := dk_184 0 14 (dk_at dksX0_bits_0 3 rfl rfl)
theorem dX0_bits_6 : decode cX0_bits 6 = .ok (.isub, 1) := dk_100 (dk_at dksX0_bits_0 6 rfl rfl)
theorem dX0_bits_7 : decode cX0_bits 7 = .ok (.istore_n 1, 1) := dk_60 (dk_at dksX0_bits_0 7 rfl rfl)
theorem dX0_bits_8 : decode cX0_bits 8 = .ok (.iload_n 1, 1) := dk_27 (dk_at dksX0_bits_0 8 rfl rfl)
theorem dX0_bits_9 : decode cX0_bits 9 = .ok (.iconst 4, 1) := dk_7 (dk_at dksX0_bits_0 9 rfl rfl)
theorem dX0_bits_10 : decode cX0_bits 10 = .ok (.if_icmp .lt 11, 3) := dk_161 0 11 (dk_at dksX0_bits_0 10 rfl rfl)
theorem dX0_bits_13 : decode cX0_bits 13 = .ok (.iload_n 0, 1) := dk_26 (dk_at dksX0_bits_0 13 rfl rfl)
theorem dX0_bits_14 : decode cX0_bits 14 = .ok (.iload_n 1, 1) := dk_27 (dk_at dksX0_bits_0 14 rfl rfl)
theorem dX0_bits_15 : decode cX0_bits 15 = .ok (.iconst 4, 1) := dk_7 (dk_at dksX0_bits_0 15 rfl rfl)
theorem dX0_bits_16 : decode cX0_bits 16 = .ok (.isub, 1) := dk_100 (dk_at dksX0_bits_0 16 rfl rfl)
theorem dX0_bits_17 : decode cX0_bits 17 = .ok (.ishr, 1) := dk_122 (dk_at dksX0_bits_0 17 rfl rfl)
theorem dX0_bits_18 : decode cX0_bits 18 = .ok (.goto 8, 3) := dk_167 0 8 (dk_at dksX0_bits_0 18 rfl rfl)
theorem dX0_bits_21 : decode cX0_bits 21 = .ok (.iload_n 0, 1) := dk_26 (dk_at dksX0_bits_0 21 rfl rfl)
theorem dX0_bits_22 : decode cX0_bits 22 = .ok (.iconst 4, 1) := dk_7 (dk_at dksX0_bits_0 22 rfl rfl)
theorem dX0_bits_23 : decode cX0_bits 23 = .ok (.iload_n 1, 1) := dk_27 (dk_at dksX0_bits_0 23 rfl rfl)
theorem dX0_bits_24 : decode cX0_bits 24 = .ok (.isub, 1) := dk_100 (dk_at dksX0_bits_1 0 rfl rfl)
theorem dX0_bits_25 : decode cX0_bits 25 = .ok (.ishl, 1) := dk_120 (dk_at dksX0_bits_1 1 rfl rfl)
theorem dX0_bits_26 : decode cX0_bits 26 = .ok (.istore_n 2, 1) := dk_61 (dk_at dksX0_bits_1 2 rfl rfl)
theorem dX0_bits_27 : decode cX0_bits 27 = .ok (.bipush 16, 2) := dk_16 16 (dk_at dksX0_bits_1 3 rfl rfl)
theorem dX0_bits_29 : decode cX0_bits 29 = .ok (.bipush 16, 2) := dk_16 16 (dk_at dksX0_bits_1 5 rfl rfl)
theorem dX0_bits_31 : decode cX0_bits 31 = .ok (.iload_n 1, 1) := dk_27 (dk_at dksX0_bits_1 7 rfl rfl)
theorem dX0_bits_32 : decode cX0_bits 32 = .ok (.isub, 1) := dk_100 (dk_at dksX0_bits_1 8 rfl rfl)
theorem dX0_bits_33 : decode cX0_bits 33 = .ok (.imul, 1) := dk_104 (dk_at dksX0_bits_1 9 rfl rfl)
theorem dX0_bits_34 : decode cX0_bits 34 = .ok (.iload_n 2, 1) := dk_28 (dk_at dksX0_bits_1 10 rfl rfl)
theorem dX0_bits_35 : decode cX0_bits 35 = .ok (.bipush 15, 2) := dk_16 15 (dk_at dksX0_bits_1 11 rfl rfl)
theorem dX0_bits_37 : decode cX0_bits 37 = .ok (.iand, 1) := dk_126 (dk_at dksX0_bits_1 13 rfl rfl)
theorem dX0_bits_38 : decode cX0_bits 38 = .ok (.isub, 1) := dk_100 (dk_at dksX0_bits_1 14 rfl rfl)
theorem dX0_bits_39 : decode cX0_bits 39 = .ok (.ireturn, 1) := dk_172 (dk_at dksX0_bits_1 15 rfl rfl)
abbrev cX0_signs : ByteArray := prog_1_method_17_code
def yX0_signs : MethodName := ⟨RX0, "signs", "(JI)I"⟩
def dkwX0_signs_3 : List UInt8 := [167, 255, 231, 21, 4, 172]
abbrev dktX0_signs_3 : List UInt8 := dkwX0_signs_3 ++ []
def dkwX0_signs_2 : List UInt8 := [162, 0, 25, 21, 4, 42, 31, 21, 5, 123, 10, 127, 136, 182, 0, 159, 96, 54, 4, 132, 5, 1]
abbrev dktX0_signs_2 : List UInt8 := dkwX0_signs_2 ++ dktX0_signs_3
def dkwX0_signs_1 : List UInt8 := [16, 100, 164, 0, 8, 42, 182, 0, 168, 172, 42, 182, 0, 171, 3, 54, 4, 3, 54, 5, 21, 5, 29]
abbrev dktX0_signs_1 : List UInt8 := dkwX0_signs_1 ++ dktX0_signs_2
def dkwX0_signs_0 : List UInt8 := [29, 133, 10, 20, 0, 173, 184, 0, 161, 154, 0, 8, 42, 182, 0, 165, 172, 42, 180, 0, 143, 29, 96]
abbrev dktX0_signs_0 : List UInt8 := dkwX0_signs_0 ++ dktX0_signs_1
theorem dksX0_signs_0 : cX0_signs.data.toList.drop 0 = dktX0_signs_0 := by decide +kernel
theorem dksX0_signs_1 : cX0_signs.data.toList.drop 23 = dktX0_signs_1 := dk_seg dksX0_signs_0 23 rfl rfl
theorem dksX0_signs_2 : cX0_signs.data.toList.drop 46 = dktX0_signs_2 := dk_seg dksX0_signs_1 23 rfl rfl
theorem dksX0_signs_3 : cX0_signs.data.toList.drop 68 = dktX0_signs_3 := dk_seg dksX0_signs_2 22 rfl rfl
theorem dX0_signs_0 : decode cX0_signs 0 = .ok (.iload_n 3, 1) := dk_29 (dk_at dksX0_signs_0 0 rfl rfl)
theorem dX0_signs_1 : decode cX0_signs 1 = .ok (.i2l, 1) := dk_133 (dk_at dksX0_signs_0 1 rfl rfl)
theorem dX0_signs_2 : decode cX0_signs 2 = .ok (.lconst 1, 1) := dk_10 (dk_at dksX0_signs_0 2 rfl rfl)
theorem dX0_signs_3 : decode cX0_signs 3 = .ok (.ldc2_w 173, 3) := dk_20 0 173 (dk_at dksX0_signs_0 3 rfl rfl)
theorem dX0_signs_6 : decode cX0_signs 6 = .ok (.invokestatic 161, 3) := dk_184 0 161 (dk_at dksX0_signs_0 6 rfl rfl)
theorem dX0_signs_9 : decode cX0_signs 9 = .ok (.ifCond .ne 8, 3) := dk_154 0 8 (dk_at dksX0_signs_0 9 rfl rfl)
theorem dX0_signs_12 : decode cX0_signs 12 = .ok (.aload_n 0, 1) := dk_42 (dk_at dksX0_signs_0 12 rfl rfl)
theorem dX0_signs_13 : decode cX0_signs 13 = .ok (.invokevirtual 165, 3) := dk_182 0 165 (dk_at dksX0_signs_0 13 rfl rfl)
theorem dX0_signs_16 : decode cX0_signs 16 = .ok (.ireturn, 1) := dk_172 (dk_at dksX0_signs_0 16 rfl rfl)
theorem dX0_signs_17 : decode cX0_signs 17 = .ok (.aload_n 0, 1) := dk_42 (dk_at dksX0_signs_0 17 rfl rfl)
theorem dX0_signs_18 : decode cX0_signs 18 = .ok (.getfield 143, 3) := dk_180 0 143 (dk_at dksX0_signs_0 18 rfl rfl)
theorem dX0_signs_21 : decode cX0_signs 21 = .ok (.iload_n 3, 1) := dk_29 (dk_at dksX0_signs_0 21 rfl rfl)
theorem dX0_signs_22 : decode cX0_signs 22 = .ok (.iadd, 1) := dk_96 (dk_at dksX0_signs_0 22 rfl rfl)
theorem dX0_signs_23 : decode cX0_signs 23 = .ok (.bipush 100, 2) := dk_16 100 (dk_at dksX0_signs_1 0 rfl rfl)
theorem dX0_signs_25 : decode cX0_signs 25 = .ok (.if_icmp .le 8, 3) := dk_164 0 8 (dk_at dksX0_signs_1 2 rfl rfl)
theorem dX0_signs_28 : decode cX0_signs 28 = .ok (.aload_n 0, 1) := dk_42 (dk_at dksX0_signs_1 5 rfl rfl)
theorem dX0_signs_29 : decode cX0_signs 29 = .ok (.invokevirtual 168, 3) := dk_182 0 168 (dk_at dksX0_signs_1 6 rfl rfl)
theorem dX0_signs_32 : decode cX0_signs 32 = .ok (.ireturn, 1) := dk_172 (dk_at dksX0_signs_1 9 rfl rfl)
theorem dX0_signs_33 : decode cX0_signs 33 = .ok (.aload_n 0, 1) := dk_42 (dk_at dksX0_signs_1 10 rfl rfl)
theorem dX0_signs_34 : decode cX0_signs 34 = .ok (.invokevirtual 171, 3) := dk_182 0 171 (dk_at dksX0_signs_1 11 rfl rfl)
theorem dX0_signs_37 : decode cX0_signs 37 = .ok (.iconst 0, 1) := dk_3 (dk_at dksX0_signs_1 14 rfl rfl)
theorem dX0_signs_38 : decode cX0_signs 38 = .ok (.istore 4, 2) := dk_54 4 (dk_at dksX0_signs_1 15 rfl rfl)
theorem dX0_signs_40 : decode cX0_signs 40 = .ok (.iconst 0, 1) := dk_3 (dk_at dksX0_signs_1 17 rfl rfl)
theorem dX0_signs_41 : decode cX0_signs 41 = .ok (.istore 5, 2) := dk_54 5 (dk_at dksX0_signs_1 18 rfl rfl)
theorem dX0_signs_43 : decode cX0_signs 43 = .ok (.iload 5, 2) := dk_21 5 (dk_at dksX0_signs_1 20 rfl rfl)
theorem dX0_signs_45 : decode cX0_signs 45 = .ok (.iload_n 3, 1) := dk_29 (dk_at dksX0_signs_1 22 rfl rfl)
theorem dX0_signs_46 : decode cX0_signs 46 = .ok (.if_icmp .ge 25, 3) := dk_162 0 25 (dk_at dksX0_signs_2 0 rfl rfl)
theorem dX0_signs_49 : decode cX0_signs 49 = .ok (.iload 4, 2) := dk_21 4 (dk_at dksX0_signs_2 3 rfl rfl)
theorem dX0_signs_51 : decode cX0_signs 51 = .ok (.aload_n 0, 1) := dk_42 (dk_at dksX0_signs_2 5 rfl rfl)
theorem dX0_signs_52 : decode cX0_signs 52 = .ok (.lload_n 1, 1) := dk_31 (dk_at dksX0_signs_2 6 rfl rfl)
theorem dX0_signs_53 : decode cX0_signs 53 = .ok (.iload 5, 2) := dk_21 5 (dk_at dksX0_signs_2 7 rfl rfl)
theorem dX0_signs_55 : decode cX0_signs 55 = .ok (.lshr, 1) := dk_123 (dk_at dksX0_signs_2 9 rfl rfl)
theorem dX0_signs_56 : decode cX0_signs 56 = .ok (.lconst 1, 1) := dk_10 (dk_at dksX0_signs_2 10 rfl rfl)
theorem dX0_signs_57 : decode cX0_signs 57 = .ok (.land, 1) := dk_127 (dk_at dksX0_signs_2 11 rfl rfl)
theorem dX0_signs_58 : decode cX0_signs 58 = .ok (.l2i, 1) := dk_136 (dk_at dksX0_signs_2 12 rfl rfl)
theorem dX0_signs_59 : decode cX0_signs 59 = .ok (.invokevirtual 159, 3) := dk_182 0 159 (dk_at dksX0_signs_2 13 rfl rfl)
theorem dX0_signs_62 : decode cX0_signs 62 = .ok (.iadd, 1) := dk_96 (dk_at dksX0_signs_2 16 rfl rfl)
theorem dX0_signs_63 : decode cX0_signs 63 = .ok (.istore 4, 2) := dk_54 4 (dk_at dksX0_signs_2 17 rfl rfl)
theorem dX0_signs_65 : decode cX0_signs 65 = .ok (.iinc 5 1, 3) := dk_132 5 1 (dk_at dksX0_signs_2 19 rfl rfl)
theorem dX0_signs_68 : decode cX0_signs 68 = .ok (.goto (-25), 3) := dk_167 255 231 (dk_at dksX0_signs_3 0 rfl rfl)
theorem dX0_signs_71 : decode cX0_signs 71 = .ok (.iload 4, 2) := dk_21 4 (dk_at dksX0_signs_3 3 rfl rfl)
theorem dX0_signs_73 : decode cX0_signs 73 = .ok (.ireturn, 1) := dk_172 (dk_at dksX0_signs_3 5 rfl rfl)
abbrev cX0_draw : ByteArray := prog_1_method_18_code
def yX0_draw : MethodName := ⟨RX0, "draw", "(III)I"⟩
def dkwX0_draw_5 : List UInt8 := [21, 8, 96, 54, 6, 42, 21, 8, 182, 0, 159, 87, 132, 7, 1, 167, 255, 194, 21, 6, 172]
abbrev dktX0_draw_5 : List UInt8 := dkwX0_draw_5 ++ []
def dkwX0_draw_4 : List UInt8 := [20, 0, 21, 109, 20, 0, 177, 113, 29, 133, 148, 156, 0, 7, 4, 167, 0, 4, 3, 54, 8, 21, 6]
abbrev dktX0_draw_4 : List UInt8 := dkwX0_draw_4 ++ dktX0_draw_5
def dkwX0_draw_3 : List UInt8 := [21, 7, 28, 162, 0, 62, 22, 4, 20, 0, 179, 105, 20, 0, 181, 97, 20, 0, 183, 113, 55, 4, 22, 4]
abbrev dktX0_draw_3 : List UInt8 := dkwX0_draw_3 ++ dktX0_draw_4
def dkwX0_draw_2 : List UInt8 := [16, 100, 164, 0, 8, 42, 182, 0, 168, 172, 42, 182, 0, 171, 27, 133, 55, 4, 3, 54, 6, 3, 54, 7]
abbrev dktX0_draw_2 : List UInt8 := dkwX0_draw_2 ++ dktX0_draw_3
def dkwX0_draw_1 : List UInt8 := [29, 133, 9, 20, 0, 177, 184, 0, 161, 154, 0, 8, 42, 182, 0, 165, 172, 42, 180, 0, 143, 28, 96]
abbrev dktX0_draw_1 : List UInt8 := dkwX0_draw_1 ++ dktX0_draw_2
def dkwX0_draw_0 : List UInt8 := [27, 133, 9, 20, 0, 175, 184, 0, 161, 153, 0, 27, 28, 133, 10, 20, 0, 177, 184, 0, 161, 153, 0, 15]
abbrev dktX0_draw_0 : List UInt8 := dkwX0_draw_0 ++ dktX0_draw_1
theorem dksX0_draw_0 : cX0_draw.data.toList.drop 0 = dktX0_draw_0 := by decide +kernel
theorem dksX0_draw_1 : cX0_draw.data.toList.drop 24 = dktX0_draw_1 := dk_seg dksX0_draw_0 24 rfl rfl
theorem dksX0_draw_2 : cX0_draw.data.toList.drop 47 = dktX0_draw_2 := dk_seg dksX0_draw_1 23 rfl rfl
theorem dksX0_draw_3 : cX0_draw.data.toList.drop 71 = dktX0_draw_3 := dk_seg dksX0_draw_2 24 rfl rfl
theorem dksX0_draw_4 : cX0_draw.data.toList.drop 95 = dktX0_draw_4 := dk_seg dksX0_draw_3 24 rfl rfl
theorem dksX0_draw_5 : cX0_draw.data.toList.drop 118 = dktX0_draw_5 := dk_seg dksX0_draw_4 23 rfl rfl
theorem dX0_draw_0 : decode cX0_draw 0 = .ok (.iload_n 1, 1) := dk_27 (dk_at dksX0_draw_0 0 rfl rfl)
theorem dX0_draw_1 : decode cX0_draw 1 = .ok (.i2l, 1) := dk_133 (dk_at dksX0_draw_0 1 rfl rfl)
theorem dX0_draw_2 : decode cX0_draw 2 = .ok (.lconst 0, 1) := dk_9 (dk_at dksX0_draw_0 2 rfl rfl)
theorem dX0_draw_3 : decode cX0_draw 3 = .ok (.ldc2_w 175, 3) := dk_20 0 175 (dk_at dksX0_draw_0 3 rfl rfl)
theorem dX0_draw_6 : decode cX0_draw 6 = .ok (.invokestatic 161, 3) := dk_184 0 161 (dk_at dksX0_draw_0 6 rfl rfl)
theorem dX0_draw_9 : decode cX0_draw 9 = .ok (.ifCond .eq 27, 3) := dk_153 0 27 (dk_at dksX0_draw_0 9 rfl rfl)
theorem dX0_draw_12 : decode cX0_draw 12 = .ok (.iload_n 2, 1) := dk_28 (dk_at dksX0_draw_0 12 rfl rfl)
theorem dX0_draw_13 : decode cX0_draw 13 = .ok (.i2l, 1) := dk_133 (dk_at dksX0_draw_0 13 rfl rfl)
theorem dX0_draw_14 : decode cX0_draw 14 = .ok (.lconst 1, 1) := dk_10 (dk_at dksX0_draw_0 14 rfl rfl)
theorem dX0_draw_15 : decode cX0_draw 15 = .ok (.ldc2_w 177, 3) := dk_20 0 177 (dk_at dksX0_draw_0 15 rfl rfl)
theorem dX0_draw_18 : decode cX0_draw 18 = .ok (.invokestatic 161, 3) := dk_184 0 161 (dk_at dksX0_draw_0 18 rfl rfl)
theorem dX0_draw_21 : decode cX0_draw 21 = .ok (.ifCond .eq 15, 3) := dk_153 0 15 (dk_at dksX0_draw_0 21 rfl rfl)
theorem dX0_draw_24 : decode cX0_draw 24 = .ok (.iload_n 3, 1) := dk_29 (dk_at dksX0_draw_1 0 rfl rfl)
theorem dX0_draw_25 : decode cX0_draw 25 = .ok (.i2l, 1) := dk_133 (dk_at dksX0_draw_1 1 rfl rfl)
theorem dX0_draw_26 : decode cX0_draw 26 = .ok (.lconst 0, 1) := dk_9 (dk_at dksX0_draw_1 2 rfl rfl)
theorem dX0_draw_27 : decode cX0_draw 27 = .ok (.ldc2_w 177, 3) := dk_20 0 177 (dk_at dksX0_draw_1 3 rfl rfl)
theorem dX0_draw_30 : decode cX0_draw 30 = .ok (.invokestatic 161, 3) := dk_184 0 161 (dk_at dksX0_draw_1 6 rfl rfl)
theorem dX0_draw_33 : decode cX0_draw 33 = .ok (.ifCond .ne 8, 3) := dk_154 0 8 (dk_at dksX0_draw_1 9 rfl rfl)
theorem dX0_draw_36 : decode cX0_draw 36 = .ok (.aload_n 0, 1) := dk_42 (dk_at dksX0_draw_1 12 rfl rfl)
theorem dX0_draw_37 : decode cX0_draw 37 = .ok (.invokevirtual 165, 3) := dk_182 0 165 (dk_at dksX0_draw_1 13 rfl rfl)
theorem dX0_draw_40 : decode cX0_draw 40 = .ok (.ireturn, 1) := dk_172 (dk_at dksX0_draw_1 16 rfl rfl)
theorem dX0_draw_41 : decode cX0_draw 41 = .ok (.aload_n 0, 1) := dk_42 (dk_at dksX0_draw_1 17 rfl rfl)
theorem dX0_draw_42 : decode cX0_draw 42 = .ok (.getfield 143, 3) := dk_180 0 143 (dk_at dksX0_draw_1 18 rfl rfl)
theorem dX0_draw_45 : decode cX0_draw 45 = .ok (.iload_n 2, 1) := dk_28 (dk_at dksX0_draw_1 21 rfl rfl)
theorem dX0_draw_46 : decode cX0_draw 46 = .ok (.iadd, 1) := dk_96 (dk_at dksX0_draw_1 22 rfl rfl)
theorem dX0_draw_47 : decode cX0_draw 47 = .ok (.bipush 100, 2) := dk_16 100 (dk_at dksX0_draw_2 0 rfl rfl)
theorem dX0_draw_49 : decode cX0_draw 49 = .ok (.if_icmp .le 8, 3) := dk_164 0 8 (dk_at dksX0_draw_2 2 rfl rfl)
theorem dX0_draw_52 : decode cX0_draw 52 = .ok (.aload_n 0, 1) := dk_42 (dk_at dksX0_draw_2 5 rfl rfl)
theorem dX0_draw_53 : decode cX0_draw 53 = .ok (.invokevirtual 168, 3) := dk_182 0 168 (dk_at dksX0_draw_2 6 rfl rfl)
theorem dX0_draw_56 : decode cX0_draw 56 = .ok (.ireturn, 1) := dk_172 (dk_at dksX0_draw_2 9 rfl rfl)
theorem dX0_draw_57 : decode cX0_draw 57 = .ok (.aload_n 0, 1) := dk_42 (dk_at dksX0_draw_2 10 rfl rfl)
theorem dX0_draw_58 : decode cX0_draw 58 = .ok (.invokevirtual 171, 3) := dk_182 0 171 (dk_at dksX0_draw_2 11 rfl rfl)
theorem dX0_draw_61 : decode cX0_draw 61 = .ok (.iload_n 1, 1) := dk_27 (dk_at dksX0_draw_2 14 rfl rfl)
theorem dX0_draw_62 : decode cX0_draw 62 = .ok (.i2l, 1) := dk_133 (dk_at dksX0_draw_2 15 rfl rfl)
theorem dX0_draw_63 : decode cX0_draw 63 = .ok (.lstore 4, 2) := dk_55 4 (dk_at dksX0_draw_2 16 rfl rfl)
theorem dX0_draw_65 : decode cX0_draw 65 = .ok (.iconst 0, 1) := dk_3 (dk_at dksX0_draw_2 18 rfl rfl)
theorem dX0_draw_66 : decode cX0_draw 66 = .ok (.istore 6, 2) := dk_54 6 (dk_at dksX0_draw_2 19 rfl rfl)
theorem dX0_draw_68 : decode cX0_draw 68 = .ok (.iconst 0, 1) := dk_3 (dk_at dksX0_draw_2 21 rfl rfl)
theorem dX0_draw_69 : decode cX0_draw 69 = .ok (.istore 7, 2) := dk_54 7 (dk_at dksX0_draw_2 22 rfl rfl)
theorem dX0_draw_71 : decode cX0_draw 71 = .ok (.iload 7, 2) := dk_21 7 (dk_at dksX0_draw_3 0 rfl rfl)
theorem dX0_draw_73 : decode cX0_draw 73 = .ok (.iload_n 2, 1) := dk_28 (dk_at dksX0_draw_3 2 rfl rfl)
theorem dX0_draw_74 : decode cX0_draw 74 = .ok (.if_icmp .ge 62, 3) := dk_162 0 62 (dk_at dksX0_draw_3 3 rfl rfl)
theorem dX0_draw_77 : decode cX0_draw 77 = .ok (.lload 4, 2) := dk_22 4 (dk_at dksX0_draw_3 6 rfl rfl)
theorem dX0_draw_79 : decode cX0_draw 79 = .ok (.ldc2_w 179, 3) := dk_20 0 179 (dk_at dksX0_draw_3 8 rfl rfl)
theorem dX0_draw_82 : decode cX0_draw 82 = .ok (.lmul, 1) := dk_105 (dk_at dksX0_draw_3 11 rfl rfl)
theorem dX0_draw_83 : decode cX0_draw 83 = .ok (.ldc2_w 181, 3) := dk_20 0 181 (dk_at dksX0_draw_3 12 rfl rfl)
theorem dX0_draw_86 : decode cX0_draw 86 = .ok (.ladd, 1) := dk_97 (dk_at dksX0_draw_3 15 rfl rfl)
theorem dX0_draw_87 : decode cX0_draw 87 = .ok (.ldc2_w 183, 3) := dk_20 0 183 (dk_at dksX0_draw_3 16 rfl rfl)
theorem dX0_draw_90 : decode cX0_draw 90 = .ok (.lrem, 1) := dk_113 (dk_at dksX0_draw_3 19 rfl rfl)
theorem dX0_draw_91 : decode cX0_draw 91 = .ok (.lstore 4, 2) := dk_55 4 (dk_at dksX0_draw_3 20 rfl rfl)
theorem dX0_draw_93 : decode cX0_draw 93 = .ok (.lload 4, 2) := dk_22 4 (dk_at dksX0_draw_3 22 rfl rfl)
theorem dX0_draw_95 : decode cX0_draw 95 = .ok (.ldc2_w 21, 3) := dk_20 0 21 (dk_at dksX0_draw_4 0 rfl rfl)
theorem dX0_draw_98 : decode cX0_draw 98 = .ok (.ldiv, 1) := dk_109 (dk_at dksX0_draw_4 3 rfl rfl)
theorem dX0_draw_99 : decode cX0_draw 99 = .ok (.ldc2_w 177, 3) := dk_20 0 177 (dk_at dksX0_draw_4 4 rfl rfl)
theorem dX0_draw_102 : decode cX0_draw 102 = .ok (.lrem, 1) := dk_113 (dk_at dksX0_draw_4 7 rfl rfl)
theorem dX0_draw_103 : decode cX0_draw 103 = .ok (.iload_n 3, 1) := dk_29 (dk_at dksX0_draw_4 8 rfl rfl)
theorem dX0_draw_104 : decode cX0_draw 104 = .ok (.i2l, 1) := dk_133 (dk_at dksX0_draw_4 9 rfl rfl)
theorem dX0_draw_105 : decode cX0_draw 105 = .ok (.lcmp, 1) := dk_148 (dk_at dksX0_draw_4 10 rfl rfl)
theorem dX0_draw_106 : decode cX0_draw 106 = .ok (.ifCond .ge 7, 3) := dk_156 0 7 (dk_at dksX0_draw_4 11 rfl rfl)
theorem dX0_draw_109 : decode cX0_draw 109 = .ok (.iconst 1, 1) := dk_4 (dk_at dksX0_draw_4 14 rfl rfl)
theorem dX0_draw_110 : decode cX0_draw 110 = .ok (.goto 4, 3) := dk_167 0 4 (dk_at dksX0_draw_4 15 rfl rfl)
theorem dX0_draw_113 : decode cX0_draw 113 = .ok (.iconst 0, 1) := dk_3 (dk_at dksX0_draw_4 18 rfl rfl)
theorem dX0_draw_114 : decode cX0_draw 114 = .ok (.istore 8, 2) := dk_54 8 (dk_at dksX0_draw_4 19 rfl rfl)
theorem dX0_draw_116 : decode cX0_draw 116 = .ok (.iload 6, 2) := dk_21 6 (dk_at dksX0_draw_4 21 rfl rfl)
theorem dX0_draw_118 : decode cX0_draw 118 = .ok (.iload 8, 2) := dk_21 8 (dk_at dksX0_draw_5 0 rfl rfl)
theorem dX0_draw_120 : decode cX0_draw 120 = .ok (.iadd, 1) := dk_96 (dk_at dksX0_draw_5 2 rfl rfl)
theorem dX0_draw_121 : decode cX0_draw 121 = .ok (.istore 6, 2) := dk_54 6 (dk_at dksX0_draw_5 3 rfl rfl)
theorem dX0_draw_123 : decode cX0_draw 123 = .ok (.aload_n 0, 1) := dk_42 (dk_at dksX0_draw_5 5 rfl rfl)
theorem dX0_draw_124 : decode cX0_draw 124 = .ok (.iload 8, 2) := dk_21 8 (dk_at dksX0_draw_5 6 rfl rfl)
theorem dX0_draw_126 : decode cX0_draw 126 = .ok (.invokevirtual 159, 3) := dk_182 0 159 (dk_at dksX0_draw_5 8 rfl rfl)
theorem dX0_draw_129 : decode cX0_draw 129 = .ok (.pop, 1) := dk_87 (dk_at dksX0_draw_5 11 rfl rfl)
theorem dX0_draw_130 : decode cX0_draw 130 = .ok (.iinc 7 1, 3) := dk_132 7 1 (dk_at dksX0_draw_5 12 rfl rfl)
theorem dX0_draw_133 : decode cX0_draw 133 = .ok (.goto (-62), 3) := dk_167 255 194 (dk_at dksX0_draw_5 15 rfl rfl)
theorem dX0_draw_136 : decode cX0_draw 136 = .ok (.iload 6, 2) := dk_21 6 (dk_at dksX0_draw_5 18 rfl rfl)
theorem dX0_draw_138 : decode cX0_draw 138 = .ok (.ireturn, 1) := dk_172 (dk_at dksX0_draw_5 20 rfl rfl)
abbrev cX0_sets : ByteArray := prog_1_method_19_code
def yX0_sets : MethodName := ⟨RX0, "sets", "(II)I"⟩
def dkwX0_sets_4 : List UInt8 := [180, 0, 143, 182, 0, 189, 29, 172]
abbrev dktX0_sets_4 : List UInt8 := dkwX0_sets_4 ++ []
def dkwX0_sets_3 : List UInt8 := [181, 0, 33, 42, 27, 4, 160, 0, 7, 28, 167, 0, 7, 42, 180, 0, 113, 181, 0, 113, 42, 42]
abbrev dktX0_sets_3 : List UInt8 := dkwX0_sets_3 ++ dktX0_sets_4
def dkwX0_sets_2 : List UInt8 := [180, 0, 33, 167, 0, 7, 42, 180, 0, 113, 62, 42, 27, 154, 0, 7, 28, 167, 0, 7, 42, 180, 0, 33]
abbrev dktX0_sets_2 : List UInt8 := dkwX0_sets_2 ++ dktX0_sets_3
def dkwX0_sets_1 : List UInt8 := [20, 0, 187, 184, 0, 161, 154, 0, 8, 42, 182, 0, 165, 172, 42, 182, 0, 171, 27, 154, 0, 10, 42]
abbrev dktX0_sets_1 : List UInt8 := dkwX0_sets_1 ++ dktX0_sets_2
def dkwX0_sets_0 : List UInt8 := [27, 133, 9, 10, 184, 0, 161, 153, 0, 25, 28, 133, 9, 27, 154, 0, 9, 20, 0, 185, 167, 0, 6]
abbrev dktX0_sets_0 : List UInt8 := dkwX0_sets_0 ++ dktX0_sets_1
theorem dksX0_sets_0 : cX0_sets.data.toList.drop 0 = dktX0_sets_0 := by decide +kernel
theorem dksX0_sets_1 : cX0_sets.data.toList.drop 23 = dktX0_sets_1 := dk_seg dksX0_sets_0 23 rfl rfl
theorem dksX0_sets_2 : cX0_sets.data.toList.drop 46 = dktX0_sets_2 := dk_seg dksX0_sets_1 23 rfl rfl
theorem dksX0_sets_3 : cX0_sets.data.toList.drop 70 = dktX0_sets_3 := dk_seg dksX0_sets_2 24 rfl rfl
theorem dksX0_sets_4 : cX0_sets.data.toList.drop 92 = dktX0_sets_4 := dk_seg dksX0_sets_3 22 rfl rfl
theorem dX0_sets_0 : decode cX0_sets 0 = .ok (.iload_n 1, 1) := dk_27 (dk_at dksX0_sets_0 0 rfl rfl)
theorem dX0_sets_1 : decode cX0_sets 1 = .ok (.i2l, 1) := dk_133 (dk_at dksX0_sets_0 1 rfl rfl)
theorem dX0_sets_2 : decode cX0_sets 2 = .ok (.lconst 0, 1) := dk_9 (dk_at dksX0_sets_0 2 rfl rfl)
theorem dX0_sets_3 : decode cX0_sets 3 = .ok (.lconst 1, 1) := dk_10 (dk_at dksX0_sets_0 3 rfl rfl)
theorem dX0_sets_4 : decode cX0_sets 4 = .ok (.invokestatic 161, 3) := dk_184 0 161 (dk_at dksX0_sets_0 4 rfl rfl)
theorem dX0_sets_7 : decode cX0_sets 7 = .ok (.ifCond .eq 25, 3) := dk_153 0 25 (dk_at dksX0_sets_0 7 rfl rfl)
theorem dX0_sets_10 : decode cX0_sets 10 = .ok (.iload_n 2, 1) := dk_28 (dk_at dksX0_sets_0 10 rfl rfl)
theorem dX0_sets_11 : decode cX0_sets 11 = .ok (.i2l, 1) := dk_133 (dk_at dksX0_sets_0 11 rfl rfl)
theorem dX0_sets_12 : decode cX0_sets 12 = .ok (.lconst 0, 1) := dk_9 (dk_at dksX0_sets_0 12 rfl rfl)
theorem dX0_sets_13 : decode cX0_sets 13 = .ok (.iload_n 1, 1) := dk_27 (dk_at dksX0_sets_0 13 rfl rfl)
theorem dX0_sets_14 : decode cX0_sets 14 = .ok (.ifCond .ne 9, 3) := dk_154 0 9 (dk_at dksX0_sets_0 14 rfl rfl)
theorem dX0_sets_17 : decode cX0_sets 17 = .ok (.ldc2_w 185, 3) := dk_20 0 185 (dk_at dksX0_sets_0 17 rfl rfl)
theorem dX0_sets_20 : decode cX0_sets 20 = .ok (.goto 6, 3) := dk_167 0 6 (dk_at dksX0_sets_0 20 rfl rfl)
theorem dX0_sets_23 : decode cX0_sets 23 = .ok (.ldc2_w 187, 3) := dk_20 0 187 (dk_at dksX0_sets_1 0 rfl rfl)
theorem dX0_sets_26 : decode cX0_sets 26 = .ok (.invokestatic 161, 3) := dk_184 0 161 (dk_at dksX0_sets_1 3 rfl rfl)
theorem dX0_sets_29 : decode cX0_sets 29 = .ok (.ifCond .ne 8, 3) := dk_154 0 8 (dk_at dksX0_sets_1 6 rfl rfl)
theorem dX0_sets_32 : decode cX0_sets 32 = .ok (.aload_n 0, 1) := dk_42 (dk_at dksX0_sets_1 9 rfl rfl)
theorem dX0_sets_33 : decode cX0_sets 33 = .ok (.invokevirtual 165, 3) := dk_182 0 165 (dk_at dksX0_sets_1 10 rfl rfl)
theorem dX0_sets_36 : decode cX0_sets 36 = .ok (.ireturn, 1) := dk_172 (dk_at dksX0_sets_1 13 rfl rfl)
theorem dX0_sets_37 : decode cX0_sets 37 = .ok (.aload_n 0, 1) := dk_42 (dk_at dksX0_sets_1 14 rfl rfl)
theorem dX0_sets_38 : decode cX0_sets 38 = .ok (.invokevirtual 171, 3) := dk_182 0 171 (dk_at dksX0_sets_1 15 rfl rfl)
theorem dX0_sets_41 : decode cX0_sets 41 = .ok (.iload_n 1, 1) := dk_27 (dk_at dksX0_sets_1 18 rfl rfl)
theorem dX0_sets_42 : decode cX0_sets 42 = .ok (.ifCond .ne 10, 3) := dk_154 0 10 (dk_at dksX0_sets_1 19 rfl rfl)
theorem dX0_sets_45 : decode cX0_sets 45 = .ok (.aload_n 0, 1) := dk_42 (dk_at dksX0_sets_1 22 rfl rfl)
theorem dX0_sets_46 : decode cX0_sets 46 = .ok (.getfield 33, 3) := dk_180 0 33 (dk_at dksX0_sets_2 0 rfl rfl)
theorem dX0_sets_49 : decode cX0_sets 49 = .ok (.goto 7, 3) := dk_167 0 7 (dk_at dksX0_sets_2 3 rfl rfl)
theorem dX0_sets_52 : decode cX0_sets 52 = .ok (.aload_n 0, 1) := dk_42 (dk_at dksX0_sets_2 6 rfl rfl)
theorem dX0_sets_53 : decode cX0_sets 53 = .ok (.getfield 113, 3) := dk_180 0 113 (dk_at dksX0_sets_2 7 rfl rfl)
theorem dX0_sets_56 : decode cX0_sets 56 = .ok (.istore_n 3, 1) := dk_62 (dk_at dksX0_sets_2 10 rfl rfl)
theorem dX0_sets_57 : decode cX0_sets 57 = .ok (.aload_n 0, 1) := dk_42 (dk_at dksX0_sets_2 11 rfl rfl)
theorem dX0_sets_58 : decode cX0_sets 58 = .ok (.iload_n 1, 1) := dk_27 (dk_at dksX0_sets_2 12 rfl rfl)
theorem dX0_sets_59 : decode cX0_sets 59 = .ok (.ifCond .ne 7, 3) := dk_154 0 7 (dk_at dksX0_sets_2 13 rfl rfl)
theorem dX0_sets_62 : decode cX0_sets 62 = .ok (.iload_n 2, 1) := dk_28 (dk_at dksX0_sets_2 16 rfl rfl)
theorem dX0_sets_63 : decode cX0_sets 63 = .ok (.goto 7, 3) := dk_167 0 7 (dk_at dksX0_sets_2 17 rfl rfl)
theorem dX0_sets_66 : decode cX0_sets 66 = .ok (.aload_n 0, 1) := dk_42 (dk_at dksX0_sets_2 20 rfl rfl)
theorem dX0_sets_67 : decode cX0_sets 67 = .ok (.getfield 33, 3) := dk_180 0 33 (dk_at dksX0_sets_2 21 rfl rfl)
theorem dX0_sets_70 : decode cX0_sets 70 = .ok (.putfield 33, 3) := dk_181 0 33 (dk_at dksX0_sets_3 0 rfl rfl)
theorem dX0_sets_73 : decode cX0_sets 73 = .ok (.aload_n 0, 1) := dk_42 (dk_at dksX0_sets_3 3 rfl rfl)
theorem dX0_sets_74 : decode cX0_sets 74 = .ok (.iload_n 1, 1) := dk_27 (dk_at dksX0_sets_3 4 rfl rfl)
theorem dX0_sets_75 : decode cX0_sets 75 = .ok (.iconst 1, 1) := dk_4 (dk_at dksX0_sets_3 5 rfl rfl)
theorem dX0_sets_76 : decode cX0_sets 76 = .ok (.if_icmp .ne 7, 3) := dk_160 0 7 (dk_at dksX0_sets_3 6 rfl rfl)
theorem dX0_sets_79 : decode cX0_sets 79 = .ok (.iload_n 2, 1) := dk_28 (dk_at dksX0_sets_3 9 rfl rfl)
theorem dX0_sets_80 : decode cX0_sets 80 = .ok (.goto 7, 3) := dk_167 0 7 (dk_at dksX0_sets_3 10 rfl rfl)
theorem dX0_sets_83 : decode cX0_sets 83 = .ok (.aload_n 0, 1) := dk_42 (dk_at dksX0_sets_3 13 rfl rfl)
theorem dX0_sets_84 : decode cX0_sets 84 = .ok (.getfield 113, 3) := dk_180 0 113 (dk_at dksX0_sets_3 14 rfl rfl)
theorem dX0_sets_87 : decode cX0_sets 87 = .ok (.putfield 113, 3) := dk_181 0 113 (dk_at dksX0_sets_3 17 rfl rfl)
theorem dX0_sets_90 : decode cX0_sets 90 = .ok (.aload_n 0, 1) := dk_42 (dk_at dksX0_sets_3 20 rfl rfl)
theorem dX0_sets_91 : decode cX0_sets 91 = .ok (.aload_n 0, 1) := dk_42 (dk_at dksX0_sets_3 21 rfl rfl)
theorem dX0_sets_92 : decode cX0_sets 92 = .ok (.getfield 143, 3) := dk_180 0 143 (dk_at dksX0_sets_4 0 rfl rfl)
theorem dX0_sets_95 : decode cX0_sets 95 = .ok (.invokevirtual 189, 3) := dk_182 0 189 (dk_at dksX0_sets_4 3 rfl rfl)
theorem dX0_sets_98 : decode cX0_sets 98 = .ok (.iload_n 3, 1) := dk_29 (dk_at dksX0_sets_4 6 rfl rfl)
theorem dX0_sets_99 : decode cX0_sets 99 = .ok (.ireturn, 1) := dk_172 (dk_at dksX0_sets_4 7 rfl rfl)
abbrev cX0_begins : ByteArray := prog_1_method_15_code
def yX0_begins : MethodName := ⟨RX0, "begins", "(I)V"⟩
def dkwX0_begins_2 : List UInt8 := [177]
abbrev dktX0_begins_2 : List UInt8 := dkwX0_begins_2 ++ []
def dkwX0_begins_1 : List UInt8 := [3, 61, 28, 27, 162, 0, 20, 42, 42, 180, 0, 29, 28, 46, 182, 0, 159, 87, 132, 2, 1, 167, 255, 237]
abbrev dktX0_begins_1 : List UInt8 := dkwX0_begins_1 ++ dktX0_begins_2
def dkwX0_begins_0 : List UInt8 := [42, 180, 0, 46, 42, 180, 0, 33, 42, 42, 180, 0, 113, 182, 0, 116, 182, 0, 120, 42, 3, 181, 0, 143]
abbrev dktX0_begins_0 : List UInt8 := dkwX0_begins_0 ++ dktX0_begins_1
theorem dksX0_begins_0 : cX0_begins.data.toList.drop 0 = dktX0_begins_0 := by decide +kernel
theorem dksX0_begins_1 : cX0_begins.data.toList.drop 24 = dktX0_begins_1 := dk_seg dksX0_begins_0 24 rfl rfl
theorem dksX0_begins_2 : cX0_begins.data.toList.drop 48 = dktX0_begins_2 := dk_seg dksX0_begins_1 24 rfl rfl
theorem dX0_begins_0 : decode cX0_begins 0 = .ok (.aload_n 0, 1) := dk_42 (dk_at dksX0_begins_0 0 rfl rfl)
theorem dX0_begins_1 : decode cX0_begins 1 = .ok (.getfield 46, 3) := dk_180 0 46 (dk_at dksX0_begins_0 1 rfl rfl)
theorem dX0_begins_4 : decode cX0_begins 4 = .ok (.aload_n 0, 1) := dk_42 (dk_at dksX0_begins_0 4 rfl rfl)
theorem dX0_begins_5 : decode cX0_begins 5 = .ok (.getfield 33, 3) := dk_180 0 33 (dk_at dksX0_begins_0 5 rfl rfl)
theorem dX0_begins_8 : decode cX0_begins 8 = .ok (.aload_n 0, 1) := dk_42 (dk_at dksX0_begins_0 8 rfl rfl)
theorem dX0_begins_9 : decode cX0_begins 9 = .ok (.aload_n 0, 1) := dk_42 (dk_at dksX0_begins_0 9 rfl rfl)
theorem dX0_begins_10 : decode cX0_begins 10 = .ok (.getfield 113, 3) := dk_180 0 113 (dk_at dksX0_begins_0 10 rfl rfl)
theorem dX0_begins_13 : decode cX0_begins 13 = .ok (.invokevirtual 116, 3) := dk_182 0 116 (dk_at dksX0_begins_0 13 rfl rfl)
theorem dX0_begins_16 : decode cX0_begins 16 = .ok (.invokevirtual 120, 3) := dk_182 0 120 (dk_at dksX0_begins_0 16 rfl rfl)
theorem dX0_begins_19 : decode cX0_begins 19 = .ok (.aload_n 0, 1) := dk_42 (dk_at dksX0_begins_0 19 rfl rfl)
theorem dX0_begins_20 : decode cX0_begins 20 = .ok (.iconst 0, 1) := dk_3 (dk_at dksX0_begins_0 20 rfl rfl)
theorem dX0_begins_21 : decode cX0_begins 21 = .ok (.putfield 143, 3) := dk_181 0 143 (dk_at dksX0_begins_0 21 rfl rfl)
theorem dX0_begins_24 : decode cX0_begins 24 = .ok (.iconst 0, 1) := dk_3 (dk_at dksX0_begins_1 0 rfl rfl)
theorem dX0_begins_25 : decode cX0_begins 25 = .ok (.istore_n 2, 1) := dk_61 (dk_at dksX0_begins_1 1 rfl rfl)
theorem dX0_begins_26 : decode cX0_begins 26 = .ok (.iload_n 2, 1) := dk_28 (dk_at dksX0_begins_1 2 rfl rfl)
theorem dX0_begins_27 : decode cX0_begins 27 = .ok (.iload_n 1, 1) := dk_27 (dk_at dksX0_begins_1 3 rfl rfl)
theorem dX0_begins_28 : decode cX0_begins 28 = .ok (.if_icmp .ge 20, 3) := dk_162 0 20 (dk_at dksX0_begins_1 4 rfl rfl)
theorem dX0_begins_31 : decode cX0_begins 31 = .ok (.aload_n 0, 1) := dk_42 (dk_at dksX0_begins_1 7 rfl rfl)
theorem dX0_begins_32 : decode cX0_begins 32 = .ok (.aload_n 0, 1) := dk_42 (dk_at dksX0_begins_1 8 rfl rfl)
theorem dX0_begins_33 : decode cX0_begins 33 = .ok (.getfield 29, 3) := dk_180 0 29 (dk_at dksX0_begins_1 9 rfl rfl)
theorem dX0_begins_36 : decode cX0_begins 36 = .ok (.iload_n 2, 1) := dk_28 (dk_at dksX0_begins_1 12 rfl rfl)
theorem dX0_begins_37 : decode cX0_begins 37 = .ok (.iaload, 1) := dk_46 (dk_at dksX0_begins_1 13 rfl rfl)
theorem dX0_begins_38 : decode cX0_begins 38 = .ok (.invokevirtual 159, 3) := dk_182 0 159 (dk_at dksX0_begins_1 14 rfl rfl)
theorem dX0_begins_41 : decode cX0_begins 41 = .ok (.pop, 1) := dk_87 (dk_at dksX0_begins_1 17 rfl rfl)
theorem dX0_begins_42 : decode cX0_begins 42 = .ok (.iinc 2 1, 3) := dk_132 2 1 (dk_at dksX0_begins_1 18 rfl rfl)
theorem dX0_begins_45 : decode cX0_begins 45 = .ok (.goto (-19), 3) := dk_167 255 237 (dk_at dksX0_begins_1 21 rfl rfl)
theorem dX0_begins_48 : decode cX0_begins 48 = .ok (.return_, 1) := dk_177 (dk_at dksX0_begins_2 0 rfl rfl)
abbrev cX0_empties : ByteArray := prog_1_method_20_code
def yX0_empties : MethodName := ⟨RX0, "empties", "()I"⟩
def dkwX0_empties_0 : List UInt8 := [42, 182, 0, 171, 42, 180, 0, 143, 60, 42, 3, 182, 0, 189, 27, 172]
abbrev dktX0_empties_0 : List UInt8 := dkwX0_empties_0 ++ []
theorem dksX0_empties_0 : cX0_empties.data.toList.drop 0 = dktX0_empties_0 := by decide +kernel
theorem dX0_empties_0 : decode cX0_empties 0 = .ok (.aload_n 0, 1) := dk_42 (dk_at dksX0_empties_0 0 rfl rfl)
theorem dX0_empties_1 : decode cX0_empties 1 = .ok (.invokevirtual 171, 3) := dk_182 0 171 (dk_at dksX0_empties_0 1 rfl rfl)
theorem dX0_empties_4 : decode cX0_empties 4 = .ok (.aload_n 0, 1) := dk_42 (dk_at dksX0_empties_0 4 rfl rfl)
theorem dX0_empties_5 : decode cX0_empties 5 = .ok (.getfield 143, 3) := dk_180 0 143 (dk_at dksX0_empties_0 5 rfl rfl)
theorem dX0_empties_8 : decode cX0_empties 8 = .ok (.istore_n 1, 1) := dk_60 (dk_at dksX0_empties_0 8 rfl rfl)
theorem dX0_empties_9 : decode cX0_empties 9 = .ok (.aload_n 0, 1) := dk_42 (dk_at dksX0_empties_0 9 rfl rfl)
theorem dX0_empties_10 : decode cX0_empties 10 = .ok (.iconst 0, 1) := dk_3 (dk_at dksX0_empties_0 10 rfl rfl)
theorem dX0_empties_11 : decode cX0_empties 11 = .ok (.invokevirtual 189, 3) := dk_182 0 189 (dk_at dksX0_empties_0 11 rfl rfl)
theorem dX0_empties_14 : decode cX0_empties 14 = .ok (.iload_n 1, 1) := dk_27 (dk_at dksX0_empties_0 14 rfl rfl)
theorem dX0_empties_15 : decode cX0_empties 15 = .ok (.ireturn, 1) := dk_172 (dk_at dksX0_empties_0 15 rfl rfl)
abbrev cX0_drop : ByteArray := prog_1_method_21_code
def yX0_drop : MethodName := ⟨RX0, "drop", "()I"⟩
def dkwX0_drop_1 : List UInt8 := [182, 0, 189, 42, 180, 0, 143, 172]
abbrev dktX0_drop_1 : List UInt8 := dkwX0_drop_1 ++ []
def dkwX0_drop_0 : List UInt8 := [42, 180, 0, 143, 154, 0, 8, 42, 182, 0, 191, 172, 42, 182, 0, 171, 42, 42, 180, 0, 143, 4, 100]
abbrev dktX0_drop_0 : List UInt8 := dkwX0_drop_0 ++ dktX0_drop_1
theorem dksX0_drop_0 : cX0_drop.data.toList.drop 0 = dktX0_drop_0 := by decide +kernel
theorem dksX0_drop_1 : cX0_drop.data.toList.drop 23 = dktX0_drop_1 := dk_seg dksX0_drop_0 23 rfl rfl
theorem dX0_drop_0 : decode cX0_drop 0 = .ok (.aload_n 0, 1) := dk_42 (dk_at dksX0_drop_0 0 rfl rfl)
theorem dX0_drop_1 : decode cX0_drop 1 = .ok (.getfield 143, 3) := dk_180 0 143 (dk_at dksX0_drop_0 1 rfl rfl)
theorem dX0_drop_4 : decode cX0_drop 4 = .ok (.ifCond .ne 8, 3) := dk_154 0 8 (dk_at dksX0_drop_0 4 rfl rfl)
theorem dX0_drop_7 : decode cX0_drop 7 = .ok (.aload_n 0, 1) := dk_42 (dk_at dksX0_drop_0 7 rfl rfl)
theorem dX0_drop_8 : decode cX0_drop 8 = .ok (.invokevirtual 191, 3) := dk_182 0 191 (dk_at dksX0_drop_0 8 rfl rfl)
theorem dX0_drop_11 : decode cX0_drop 11 = .ok (.ireturn, 1) := dk_172 (dk_at dksX0_drop_0 11 rfl rfl)
theorem dX0_drop_12 : decode cX0_drop 12 = .ok (.aload_n 0, 1) := dk_42 (dk_at dksX0_drop_0 12 rfl rfl)
theorem dX0_drop_13 : decode cX0_drop 13 = .ok (.invokevirtual 171, 3) := dk_182 0 171 (dk_at dksX0_drop_0 13 rfl rfl)
theorem dX0_drop_16 : decode cX0_drop 16 = .ok (.aload_n 0, 1) := dk_42 (dk_at dksX0_drop_0 16 rfl rfl)
theorem dX0_drop_17 : decode cX0_drop 17 = .ok (.aload_n 0, 1) := dk_42 (dk_at dksX0_drop_0 17 rfl rfl)
theorem dX0_drop_18 : decode cX0_drop 18 = .ok (.getfield 143, 3) := dk_180 0 143 (dk_at dksX0_drop_0 18 rfl rfl)
theorem dX0_drop_21 : decode cX0_drop 21 = .ok (.iconst 1, 1) := dk_4 (dk_at dksX0_drop_0 21 rfl rfl)
theorem dX0_drop_22 : decode cX0_drop 22 = .ok (.isub, 1) := dk_100 (dk_at dksX0_drop_0 22 rfl rfl)
theorem dX0_drop_23 : decode cX0_drop 23 = .ok (.invokevirtual 189, 3) := dk_182 0 189 (dk_at dksX0_drop_1 0 rfl rfl)
theorem dX0_drop_26 : decode cX0_drop 26 = .ok (.aload_n 0, 1) := dk_42 (dk_at dksX0_drop_1 3 rfl rfl)
theorem dX0_drop_27 : decode cX0_drop 27 = .ok (.getfield 143, 3) := dk_180 0 143 (dk_at dksX0_drop_1 4 rfl rfl)
theorem dX0_drop_30 : decode cX0_drop 30 = .ok (.ireturn, 1) := dk_172 (dk_at dksX0_drop_1 7 rfl rfl)
abbrev cX0_no : ByteArray := prog_1_method_11_code
def yX0_no : MethodName := ⟨RX0, "no", "()I"⟩
def dkwX0_no_0 : List UInt8 := [42, 4, 16, 253, 182, 0, 131, 172]
abbrev dktX0_no_0 : List UInt8 := dkwX0_no_0 ++ []
theorem dksX0_no_0 : cX0_no.data.toList.drop 0 = dktX0_no_0 := by decide +kernel
theorem dX0_no_0 : decode cX0_no 0 = .ok (.aload_n 0, 1) := dk_42 (dk_at dksX0_no_0 0 rfl rfl)
theorem dX0_no_1 : decode cX0_no 1 = .ok (.iconst 1, 1) := dk_4 (dk_at dksX0_no_0 1 rfl rfl)
theorem dX0_no_2 : decode cX0_no 2 = .ok (.bipush (-3), 2) := dk_16 253 (dk_at dksX0_no_0 2 rfl rfl)
theorem dX0_no_4 : decode cX0_no 4 = .ok (.invokevirtual 131, 3) := dk_182 0 131 (dk_at dksX0_no_0 4 rfl rfl)
theorem dX0_no_7 : decode cX0_no 7 = .ok (.ireturn, 1) := dk_172 (dk_at dksX0_no_0 7 rfl rfl)
abbrev cX0_at : ByteArray := prog_1_method_22_code
def yX0_at : MethodName := ⟨RX0, "at", "(I)I"⟩
def dkwX0_at_1 : List UInt8 := [167, 0, 7, 42, 182, 0, 165, 172]
abbrev dktX0_at_1 : List UInt8 := dkwX0_at_1 ++ []
def dkwX0_at_0 : List UInt8 := [27, 133, 9, 42, 180, 0, 143, 4, 100, 133, 184, 0, 161, 153, 0, 12, 42, 180, 0, 29, 27, 46]
abbrev dktX0_at_0 : List UInt8 := dkwX0_at_0 ++ dktX0_at_1
theorem dksX0_at_0 : cX0_at.data.toList.drop 0 = dktX0_at_0 := by decide +kernel
theorem dksX0_at_1 : cX0_at.data.toList.drop 22 = dktX0_at_1 := dk_seg dksX0_at_0 22 rfl rfl
theorem dX0_at_0 : decode cX0_at 0 = .ok (.iload_n 1, 1) := dk_27 (dk_at dksX0_at_0 0 rfl rfl)
theorem dX0_at_1 : decode cX0_at 1 = .ok (.i2l, 1) := dk_133 (dk_at dksX0_at_0 1 rfl rfl)
theorem dX0_at_2 : decode cX0_at 2 = .ok (.lconst 0, 1) := dk_9 (dk_at dksX0_at_0 2 rfl rfl)
theorem dX0_at_3 : decode cX0_at 3 = .ok (.aload_n 0, 1) := dk_42 (dk_at dksX0_at_0 3 rfl rfl)
theorem dX0_at_4 : decode cX0_at 4 = .ok (.getfield 143, 3) := dk_180 0 143 (dk_at dksX0_at_0 4 rfl rfl)
theorem dX0_at_7 : decode cX0_at 7 = .ok (.iconst 1, 1) := dk_4 (dk_at dksX0_at_0 7 rfl rfl)
theorem dX0_at_8 : decode cX0_at 8 = .ok (.isub, 1) := dk_100 (dk_at dksX0_at_0 8 rfl rfl)
theorem dX0_at_9 : decode cX0_at 9 = .ok (.i2l, 1) := dk_133 (dk_at dksX0_at_0 9 rfl rfl)
theorem dX0_at_10 : decode cX0_at 10 = .ok (.invokestatic 161, 3) := dk_184 0 161 (dk_at dksX0_at_0 10 rfl rfl)
theorem dX0_at_13 : decode cX0_at 13 = .ok (.ifCond .eq 12, 3) := dk_153 0 12 (dk_at dksX0_at_0 13 rfl rfl)
theorem dX0_at_16 : decode cX0_at 16 = .ok (.aload_n 0, 1) := dk_42 (dk_at dksX0_at_0 16 rfl rfl)
theorem dX0_at_17 : decode cX0_at 17 = .ok (.getfield 29, 3) := dk_180 0 29 (dk_at dksX0_at_0 17 rfl rfl)
theorem dX0_at_20 : decode cX0_at 20 = .ok (.iload_n 1, 1) := dk_27 (dk_at dksX0_at_0 20 rfl rfl)
theorem dX0_at_21 : decode cX0_at 21 = .ok (.iaload, 1) := dk_46 (dk_at dksX0_at_0 21 rfl rfl)
theorem dX0_at_22 : decode cX0_at 22 = .ok (.goto 7, 3) := dk_167 0 7 (dk_at dksX0_at_1 0 rfl rfl)
theorem dX0_at_25 : decode cX0_at 25 = .ok (.aload_n 0, 1) := dk_42 (dk_at dksX0_at_1 3 rfl rfl)
theorem dX0_at_26 : decode cX0_at 26 = .ok (.invokevirtual 165, 3) := dk_182 0 165 (dk_at dksX0_at_1 4 rfl rfl)
theorem dX0_at_29 : decode cX0_at 29 = .ok (.ireturn, 1) := dk_172 (dk_at dksX0_at_1 7 rfl rfl)
abbrev cX0_guess_2 : ByteArray := prog_1_method_23_code
def yX0_guess_2 : MethodName := ⟨RX0, "guess", "()I"⟩
def dkwX0_guess_2_0 : List UInt8 := [42, 180, 0, 46, 182, 0, 146, 172]
abbrev dktX0_guess_2_0 : List UInt8 := dkwX0_guess_2_0 ++ []
theorem dksX0_guess_2_0 : cX0_guess_2.data.toList.drop 0 = dktX0_guess_2_0 := by decide +kernel
theorem dX0_guess_2_0 : decode cX0_guess_2 0 = .ok (.aload_n 0, 1) := dk_42 (dk_at dksX0_guess_2_0 0 rfl rfl)
theorem dX0_guess_2_1 : decode cX0_guess_2 1 = .ok (.getfield 46, 3) := dk_180 0 46 (dk_at dksX0_guess_2_0 1 rfl rfl)
theorem dX0_guess_2_4 : decode cX0_guess_2 4 = .ok (.invokevirtual 146, 3) := dk_182 0 146 (dk_at dksX0_guess_2_0 4 rfl rfl)
theorem dX0_guess_2_7 : decode cX0_guess_2 7 = .ok (.ireturn, 1) := dk_172 (dk_at dksX0_guess_2_0 7 rfl rfl)
abbrev cX0_was : ByteArray := prog_1_method_24_code
def yX0_was : MethodName := ⟨RX0, "was", "(II)I"⟩
def dkwX0_was_2 : List UInt8 := [180, 0, 56, 27, 46, 172]
abbrev dktX0_was_2 : List UInt8 := dkwX0_was_2 ++ []
def dkwX0_was_1 : List UInt8 := [154, 0, 8, 42, 182, 0, 165, 172, 28, 154, 0, 12, 42, 180, 0, 53, 27, 46, 167, 0, 9, 42]
abbrev dktX0_was_1 : List UInt8 := dkwX0_was_1 ++ dktX0_was_2
def dkwX0_was_0 : List UInt8 := [27, 133, 9, 42, 180, 0, 143, 4, 100, 133, 184, 0, 161, 153, 0, 13, 28, 133, 9, 10, 184, 0, 161]
abbrev dktX0_was_0 : List UInt8 := dkwX0_was_0 ++ dktX0_was_1
theorem dksX0_was_0 : cX0_was.data.toList.drop 0 = dktX0_was_0 := by decide +kernel
theorem dksX0_was_1 : cX0_was.data.toList.drop 23 = dktX0_was_1 := dk_seg dksX0_was_0 23 rfl rfl
theorem dksX0_was_2 : cX0_was.data.toList.drop 45 = dktX0_was_2 := dk_seg dksX0_was_1 22 rfl rfl
theorem dX0_was_0 : decode cX0_was 0 = .ok (.iload_n 1, 1) := dk_27 (dk_at dksX0_was_0 0 rfl rfl)
theorem dX0_was_1 : decode cX0_was 1 = .ok (.i2l, 1) := dk_133 (dk_at dksX0_was_0 1 rfl rfl)
theorem dX0_was_2 : decode cX0_was 2 = .ok (.lconst 0, 1) := dk_9 (dk_at dksX0_was_0 2 rfl rfl)
theorem dX0_was_3 : decode cX0_was 3 = .ok (.aload_n 0, 1) := dk_42 (dk_at dksX0_was_0 3 rfl rfl)
theorem dX0_was_4 : decode cX0_was 4 = .ok (.getfield 143, 3) := dk_180 0 143 (dk_at dksX0_was_0 4 rfl rfl)
theorem dX0_was_7 : decode cX0_was 7 = .ok (.iconst 1, 1) := dk_4 (dk_at dksX0_was_0 7 rfl rfl)
theorem dX0_was_8 : decode cX0_was 8 = .ok (.isub, 1) := dk_100 (dk_at dksX0_was_0 8 rfl rfl)
theorem dX0_was_9 : decode cX0_was 9 = .ok (.i2l, 1) := dk_133 (dk_at dksX0_was_0 9 rfl rfl)
theorem dX0_was_10 : decode cX0_was 10 = .ok (.invokestatic 161, 3) := dk_184 0 161 (dk_at dksX0_was_0 10 rfl rfl)
theorem dX0_was_13 : decode cX0_was 13 = .ok (.ifCond .eq 13, 3) := dk_153 0 13 (dk_at dksX0_was_0 13 rfl rfl)
theorem dX0_was_16 : decode cX0_was 16 = .ok (.iload_n 2, 1) := dk_28 (dk_at dksX0_was_0 16 rfl rfl)
theorem dX0_was_17 : decode cX0_was 17 = .ok (.i2l, 1) := dk_133 (dk_at dksX0_was_0 17 rfl rfl)
theorem dX0_was_18 : decode cX0_was 18 = .ok (.lconst 0, 1) := dk_9 (dk_at dksX0_was_0 18 rfl rfl)
theorem dX0_was_19 : decode cX0_was 19 = .ok (.lconst 1, 1) := dk_10 (dk_at dksX0_was_0 19 rfl rfl)
theorem dX0_was_20 : decode cX0_was 20 = .ok (.invokestatic 161, 3) := dk_184 0 161 (dk_at dksX0_was_0 20 rfl rfl)
theorem dX0_was_23 : decode cX0_was 23 = .ok (.ifCond .ne 8, 3) := dk_154 0 8 (dk_at dksX0_was_1 0 rfl rfl)
theorem dX0_was_26 : decode cX0_was 26 = .ok (.aload_n 0, 1) := dk_42 (dk_at dksX0_was_1 3 rfl rfl)
theorem dX0_was_27 : decode cX0_was 27 = .ok (.invokevirtual 165, 3) := dk_182 0 165 (dk_at dksX0_was_1 4 rfl rfl)
theorem dX0_was_30 : decode cX0_was 30 = .ok (.ireturn, 1) := dk_172 (dk_at dksX0_was_1 7 rfl rfl)
theorem dX0_was_31 : decode cX0_was 31 = .ok (.iload_n 2, 1) := dk_28 (dk_at dksX0_was_1 8 rfl rfl)
theorem dX0_was_32 : decode cX0_was 32 = .ok (.ifCond .ne 12, 3) := dk_154 0 12 (dk_at dksX0_was_1 9 rfl rfl)
theorem dX0_was_35 : decode cX0_was 35 = .ok (.aload_n 0, 1) := dk_42 (dk_at dksX0_was_1 12 rfl rfl)
theorem dX0_was_36 : decode cX0_was 36 = .ok (.getfield 53, 3) := dk_180 0 53 (dk_at dksX0_was_1 13 rfl rfl)
theorem dX0_was_39 : decode cX0_was 39 = .ok (.iload_n 1, 1) := dk_27 (dk_at dksX0_was_1 16 rfl rfl)
theorem dX0_was_40 : decode cX0_was 40 = .ok (.iaload, 1) := dk_46 (dk_at dksX0_was_1 17 rfl rfl)
theorem dX0_was_41 : decode cX0_was 41 = .ok (.goto 9, 3) := dk_167 0 9 (dk_at dksX0_was_1 18 rfl rfl)
theorem dX0_was_44 : decode cX0_was 44 = .ok (.aload_n 0, 1) := dk_42 (dk_at dksX0_was_1 21 rfl rfl)
theorem dX0_was_45 : decode cX0_was 45 = .ok (.getfield 56, 3) := dk_180 0 56 (dk_at dksX0_was_2 0 rfl rfl)
theorem dX0_was_48 : decode cX0_was 48 = .ok (.iload_n 1, 1) := dk_27 (dk_at dksX0_was_2 3 rfl rfl)
theorem dX0_was_49 : decode cX0_was 49 = .ok (.iaload, 1) := dk_46 (dk_at dksX0_was_2 4 rfl rfl)
theorem dX0_was_50 : decode cX0_was 50 = .ok (.ireturn, 1) := dk_172 (dk_at dksX0_was_2 5 rfl rfl)
abbrev cX0_node : ByteArray := prog_1_method_26_code
def yX0_node : MethodName := ⟨RX0, "node", "(III)I"⟩
def dkwX0_node_5 : List UInt8 := [180, 0, 46, 180, 0, 210, 21, 4, 46, 172]
abbrev dktX0_node_5 : List UInt8 := dkwX0_node_5 ++ []
def dkwX0_node_4 : List UInt8 := [180, 0, 46, 21, 4, 182, 0, 207, 172, 27, 42, 180, 0, 33, 160, 0, 8, 18, 20, 167, 0, 13, 42]
abbrev dktX0_node_4 : List UInt8 := dkwX0_node_4 ++ dktX0_node_5
def dkwX0_node_3 : List UInt8 := [42, 180, 0, 46, 180, 0, 201, 21, 4, 46, 172, 42, 180, 0, 46, 180, 0, 204, 21, 4, 46, 172, 42]
abbrev dktX0_node_3 : List UInt8 := dkwX0_node_3 ++ dktX0_node_4
def dkwX0_node_2 : List UInt8 := [170, 0, 0, 0, 0, 58, 0, 0, 0, 0, 0, 0, 0, 2, 0, 0, 0, 26, 0, 0, 0, 37, 0, 0, 0, 48]
abbrev dktX0_node_2 : List UInt8 := dkwX0_node_2 ++ dktX0_node_3
def dkwX0_node_1 : List UInt8 := [182, 0, 165, 172, 27, 28, 184, 0, 198, 54, 4, 29]
abbrev dktX0_node_1 : List UInt8 := dkwX0_node_1 ++ dktX0_node_2
def dkwX0_node_0 : List UInt8 := [42, 27, 28, 182, 0, 194, 153, 0, 15, 29, 133, 9, 20, 0, 187, 184, 0, 161, 154, 0, 8, 42]
abbrev dktX0_node_0 : List UInt8 := dkwX0_node_0 ++ dktX0_node_1
theorem dksX0_node_0 : cX0_node.data.toList.drop 0 = dktX0_node_0 := by decide +kernel
theorem dksX0_node_1 : cX0_node.data.toList.drop 22 = dktX0_node_1 := dk_seg dksX0_node_0 22 rfl rfl
theorem dksX0_node_2 : cX0_node.data.toList.drop 34 = dktX0_node_2 := dk_seg dksX0_node_1 12 rfl rfl
theorem dksX0_node_3 : cX0_node.data.toList.drop 60 = dktX0_node_3 := dk_seg dksX0_node_2 26 rfl rfl
theorem dksX0_node_4 : cX0_node.data.toList.drop 83 = dktX0_node_4 := dk_seg dksX0_node_3 23 rfl rfl
theorem dksX0_node_5 : cX0_node.data.toList.drop 106 = dktX0_node_5 := dk_seg dksX0_node_4 23 rfl rfl
theorem dX0_node_0 : decode cX0_node 0 = .ok (.aload_n 0, 1) := dk_42 (dk_at dksX0_node_0 0 rfl rfl)
theorem dX0_node_1 : decode cX0_node 1 = .ok (.iload_n 1, 1) := dk_27 (dk_at dksX0_node_0 1 rfl rfl)
theorem dX0_node_2 : decode cX0_node 2 = .ok (.iload_n 2, 1) := dk_28 (dk_at dksX0_node_0 2 rfl rfl)
theorem dX0_node_3 : decode cX0_node 3 = .ok (.invokevirtual 194, 3) := dk_182 0 194 (dk_at dksX0_node_0 3 rfl rfl)
theorem dX0_node_6 : decode cX0_node 6 = .ok (.ifCond .eq 15, 3) := dk_153 0 15 (dk_at dksX0_node_0 6 rfl rfl)
theorem dX0_node_9 : decode cX0_node 9 = .ok (.iload_n 3, 1) := dk_29 (dk_at dksX0_node_0 9 rfl rfl)
theorem dX0_node_10 : decode cX0_node 10 = .ok (.i2l, 1) := dk_133 (dk_at dksX0_node_0 10 rfl rfl)
theorem dX0_node_11 : decode cX0_node 11 = .ok (.lconst 0, 1) := dk_9 (dk_at dksX0_node_0 11 rfl rfl)
theorem dX0_node_12 : decode cX0_node 12 = .ok (.ldc2_w 187, 3) := dk_20 0 187 (dk_at dksX0_node_0 12 rfl rfl)
theorem dX0_node_15 : decode cX0_node 15 = .ok (.invokestatic 161, 3) := dk_184 0 161 (dk_at dksX0_node_0 15 rfl rfl)
theorem dX0_node_18 : decode cX0_node 18 = .ok (.ifCond .ne 8, 3) := dk_154 0 8 (dk_at dksX0_node_0 18 rfl rfl)
theorem dX0_node_21 : decode cX0_node 21 = .ok (.aload_n 0, 1) := dk_42 (dk_at dksX0_node_0 21 rfl rfl)
theorem dX0_node_22 : decode cX0_node 22 = .ok (.invokevirtual 165, 3) := dk_182 0 165 (dk_at dksX0_node_1 0 rfl rfl)
theorem dX0_node_25 : decode cX0_node 25 = .ok (.ireturn, 1) := dk_172 (dk_at dksX0_node_1 3 rfl rfl)
theorem dX0_node_26 : decode cX0_node 26 = .ok (.iload_n 1, 1) := dk_27 (dk_at dksX0_node_1 4 rfl rfl)
theorem dX0_node_27 : decode cX0_node 27 = .ok (.iload_n 2, 1) := dk_28 (dk_at dksX0_node_1 5 rfl rfl)
theorem dX0_node_28 : decode cX0_node 28 = .ok (.invokestatic 198, 3) := dk_184 0 198 (dk_at dksX0_node_1 6 rfl rfl)
theorem dX0_node_31 : decode cX0_node 31 = .ok (.istore 4, 2) := dk_54 4 (dk_at dksX0_node_1 9 rfl rfl)
theorem dX0_node_33 : decode cX0_node 33 = .ok (.iload_n 3, 1) := dk_29 (dk_at dksX0_node_1 11 rfl rfl)
theorem dX0_node_34 : decode cX0_node 34 = .ok (.tableswitch 58 0 2 #[26, 37, 48], 26) := by decide +kernel
theorem dX0_node_60 : decode cX0_node 60 = .ok (.aload_n 0, 1) := dk_42 (dk_at dksX0_node_3 0 rfl rfl)
theorem dX0_node_61 : decode cX0_node 61 = .ok (.getfield 46, 3) := dk_180 0 46 (dk_at dksX0_node_3 1 rfl rfl)
theorem dX0_node_64 : decode cX0_node 64 = .ok (.getfield 201, 3) := dk_180 0 201 (dk_at dksX0_node_3 4 rfl rfl)
theorem dX0_node_67 : decode cX0_node 67 = .ok (.iload 4, 2) := dk_21 4 (dk_at dksX0_node_3 7 rfl rfl)
theorem dX0_node_69 : decode cX0_node 69 = .ok (.iaload, 1) := dk_46 (dk_at dksX0_node_3 9 rfl rfl)
theorem dX0_node_70 : decode cX0_node 70 = .ok (.ireturn, 1) := dk_172 (dk_at dksX0_node_3 10 rfl rfl)
theorem dX0_node_71 : decode cX0_node 71 = .ok (.aload_n 0, 1) := dk_42 (dk_at dksX0_node_3 11 rfl rfl)
theorem dX0_node_72 : decode cX0_node 72 = .ok (.getfield 46, 3) := dk_180 0 46 (dk_at dksX0_node_3 12 rfl rfl)
theorem dX0_node_75 : decode cX0_node 75 = .ok (.getfield 204, 3) := dk_180 0 204 (dk_at dksX0_node_3 15 rfl rfl)
theorem dX0_node_78 : decode cX0_node 78 = .ok (.iload 4, 2) := dk_21 4 (dk_at dksX0_node_3 18 rfl rfl)
theorem dX0_node_80 : decode cX0_node 80 = .ok (.iaload, 1) := dk_46 (dk_at dksX0_node_3 20 rfl rfl)
theorem dX0_node_81 : decode cX0_node 81 = .ok (.ireturn, 1) := dk_172 (dk_at dksX0_node_3 21 rfl rfl)
theorem dX0_node_82 : decode cX0_node 82 = .ok (.aload_n 0, 1) := dk_42 (dk_at dksX0_node_3 22 rfl rfl)
theorem dX0_node_83 : decode cX0_node 83 = .ok (.getfield 46, 3) := dk_180 0 46 (dk_at dksX0_node_4 0 rfl rfl)
theorem dX0_node_86 : decode cX0_node 86 = .ok (.iload 4, 2) := dk_21 4 (dk_at dksX0_node_4 3 rfl rfl)
theorem dX0_node_88 : decode cX0_node 88 = .ok (.invokevirtual 207, 3) := dk_182 0 207 (dk_at dksX0_node_4 5 rfl rfl)
theorem dX0_node_91 : decode cX0_node 91 = .ok (.ireturn, 1) := dk_172 (dk_at dksX0_node_4 8 rfl rfl)
theorem dX0_node_92 : decode cX0_node 92 = .ok (.iload_n 1, 1) := dk_27 (dk_at dksX0_node_4 9 rfl rfl)
theorem dX0_node_93 : decode cX0_node 93 = .ok (.aload_n 0, 1) := dk_42 (dk_at dksX0_node_4 10 rfl rfl)
theorem dX0_node_94 : decode cX0_node 94 = .ok (.getfield 33, 3) := dk_180 0 33 (dk_at dksX0_node_4 11 rfl rfl)
theorem dX0_node_97 : decode cX0_node 97 = .ok (.if_icmp .ne 8, 3) := dk_160 0 8 (dk_at dksX0_node_4 14 rfl rfl)
theorem dX0_node_100 : decode cX0_node 100 = .ok (.ldc 20, 2) := dk_18 20 (dk_at dksX0_node_4 17 rfl rfl)
theorem dX0_node_102 : decode cX0_node 102 = .ok (.goto 13, 3) := dk_167 0 13 (dk_at dksX0_node_4 19 rfl rfl)
theorem dX0_node_105 : decode cX0_node 105 = .ok (.aload_n 0, 1) := dk_42 (dk_at dksX0_node_4 22 rfl rfl)
theorem dX0_node_106 : decode cX0_node 106 = .ok (.getfield 46, 3) := dk_180 0 46 (dk_at dksX0_node_5 0 rfl rfl)
theorem dX0_node_109 : decode cX0_node 109 = .ok (.getfield 210, 3) := dk_180 0 210 (dk_at dksX0_node_5 3 rfl rfl)
theorem dX0_node_112 : decode cX0_node 112 = .ok (.iload 4, 2) := dk_21 4 (dk_at dksX0_node_5 6 rfl rfl)
theorem dX0_node_114 : decode cX0_node 114 = .ok (.iaload, 1) := dk_46 (dk_at dksX0_node_5 8 rfl rfl)
theorem dX0_node_115 : decode cX0_node 115 = .ok (.ireturn, 1) := dk_172 (dk_at dksX0_node_5 9 rfl rfl)
abbrev cX0_isNode : ByteArray := prog_1_method_25_code
def yX0_isNode : MethodName := ⟨RX0, "isNode", "(II)Z"⟩
def dkwX0_isNode_1 : List UInt8 := [184, 0, 161, 153, 0, 7, 4, 167, 0, 4, 3, 172]
abbrev dktX0_isNode_1 : List UInt8 := dkwX0_isNode_1 ++ []
def dkwX0_isNode_0 : List UInt8 := [27, 133, 9, 42, 180, 0, 33, 133, 184, 0, 161, 153, 0, 22, 28, 133, 9, 4, 27, 120, 4, 100, 133]
abbrev dktX0_isNode_0 : List UInt8 := dkwX0_isNode_0 ++ dktX0_isNode_1
theorem dksX0_isNode_0 : cX0_isNode.data.toList.drop 0 = dktX0_isNode_0 := by decide +kernel
theorem dksX0_isNode_1 : cX0_isNode.data.toList.drop 23 = dktX0_isNode_1 := dk_seg dksX0_isNode_0 23 rfl rfl
theorem dX0_isNode_0 : decode cX0_isNode 0 = .ok (.iload_n 1, 1) := dk_27 (dk_at dksX0_isNode_0 0 rfl rfl)
theorem dX0_isNode_1 : decode cX0_isNode 1 = .ok (.i2l, 1) := dk_133 (dk_at dksX0_isNode_0 1 rfl rfl)
theorem dX0_isNode_2 : decode cX0_isNode 2 = .ok (.lconst 0, 1) := dk_9 (dk_at dksX0_isNode_0 2 rfl rfl)
theorem dX0_isNode_3 : decode cX0_isNode 3 = .ok (.aload_n 0, 1) := dk_42 (dk_at dksX0_isNode_0 3 rfl rfl)
theorem dX0_isNode_4 : decode cX0_isNode 4 = .ok (.getfield 33, 3) := dk_180 0 33 (dk_at dksX0_isNode_0 4 rfl rfl)
theorem dX0_isNode_7 : decode cX0_isNode 7 = .ok (.i2l, 1) := dk_133 (dk_at dksX0_isNode_0 7 rfl rfl)
theorem dX0_isNode_8 : decode cX0_isNode 8 = .ok (.invokestatic 161, 3) := dk_184 0 161 (dk_at dksX0_isNode_0 8 rfl rfl)
theorem dX0_isNode_11 : decode cX0_isNode 11 = .ok (.ifCond .eq 22, 3) := dk_153 0 22 (dk_at dksX0_isNode_0 11 rfl rfl)
theorem dX0_isNode_14 : decode cX0_isNode 14 = .ok (.iload_n 2, 1) := dk_28 (dk_at dksX0_isNode_0 14 rfl rfl)
theorem dX0_isNode_15 : decode cX0_isNode 15 = .ok (.i2l, 1) := dk_133 (dk_at dksX0_isNode_0 15 rfl rfl)
theorem dX0_isNode_16 : decode cX0_isNode 16 = .ok (.lconst 0, 1) := dk_9 (dk_at dksX0_isNode_0 16 rfl rfl)
theorem dX0_isNode_17 : decode cX0_isNode 17 = .ok (.iconst 1, 1) := dk_4 (dk_at dksX0_isNode_0 17 rfl rfl)
theorem dX0_isNode_18 : decode cX0_isNode 18 = .ok (.iload_n 1, 1) := dk_27 (dk_at dksX0_isNode_0 18 rfl rfl)
theorem dX0_isNode_19 : decode cX0_isNode 19 = .ok (.ishl, 1) := dk_120 (dk_at dksX0_isNode_0 19 rfl rfl)
theorem dX0_isNode_20 : decode cX0_isNode 20 = .ok (.iconst 1, 1) := dk_4 (dk_at dksX0_isNode_0 20 rfl rfl)
theorem dX0_isNode_21 : decode cX0_isNode 21 = .ok (.isub, 1) := dk_100 (dk_at dksX0_isNode_0 21 rfl rfl)
theorem dX0_isNode_22 : decode cX0_isNode 22 = .ok (.i2l, 1) := dk_133 (dk_at dksX0_isNode_0 22 rfl rfl)
theorem dX0_isNode_23 : decode cX0_isNode 23 = .ok (.invokestatic 161, 3) := dk_184 0 161 (dk_at dksX0_isNode_1 0 rfl rfl)
theorem dX0_isNode_26 : decode cX0_isNode 26 = .ok (.ifCond .eq 7, 3) := dk_153 0 7 (dk_at dksX0_isNode_1 3 rfl rfl)
theorem dX0_isNode_29 : decode cX0_isNode 29 = .ok (.iconst 1, 1) := dk_4 (dk_at dksX0_isNode_1 6 rfl rfl)
theorem dX0_isNode_30 : decode cX0_isNode 30 = .ok (.goto 4, 3) := dk_167 0 4 (dk_at dksX0_isNode_1 7 rfl rfl)
theorem dX0_isNode_33 : decode cX0_isNode 33 = .ok (.iconst 0, 1) := dk_3 (dk_at dksX0_isNode_1 10 rfl rfl)
theorem dX0_isNode_34 : decode cX0_isNode 34 = .ok (.ireturn, 1) := dk_172 (dk_at dksX0_isNode_1 11 rfl rfl)
abbrev cX0_cost : ByteArray := prog_1_method_30_code
def yX0_cost : MethodName := ⟨RX0, "cost", "()I"⟩
theorem dX0_cost_0 : decode cX0_cost 0 = .ok (.aload_n 0, 1) := by decide +kernel
theorem dX0_cost_1 : decode cX0_cost 1 = .ok (.invokevirtual 231, 3) := by decide +kernel
theorem dX0_cost_4 : decode cX0_cost 4 = .ok (.ireturn, 1) := by decide +kernel
abbrev cX0_all : ByteArray := prog_1_method_29_code
def yX0_all : MethodName := ⟨RX0, "all", "()I"⟩
def dkwX0_all_1 : List UInt8 := [167, 255, 236, 27, 172]
abbrev dktX0_all_1 : List UInt8 := dkwX0_all_1 ++ []
def dkwX0_all_0 : List UInt8 := [3, 60, 3, 61, 28, 42, 180, 0, 143, 162, 0, 18, 27, 42, 180, 0, 56, 28, 46, 96, 60, 132, 2, 1]
abbrev dktX0_all_0 : List UInt8 := dkwX0_all_0 ++ dktX0_all_1
theorem dksX0_all_0 : cX0_all.data.toList.drop 0 = dktX0_all_0 := by decide +kernel
theorem dksX0_all_1 : cX0_all.data.toList.drop 24 = dktX0_all_1 := dk_seg dksX0_all_0 24 rfl rfl
theorem dX0_all_0 : decode cX0_all 0 = .ok (.iconst 0, 1) := dk_3 (dk_at dksX0_all_0 0 rfl rfl)
theorem dX0_all_1 : decode cX0_all 1 = .ok (.istore_n 1, 1) := dk_60 (dk_at dksX0_all_0 1 rfl rfl)
theorem dX0_all_2 : decode cX0_all 2 = .ok (.iconst 0, 1) := dk_3 (dk_at dksX0_all_0 2 rfl rfl)
theorem dX0_all_3 : decode cX0_all 3 = .ok (.istore_n 2, 1) := dk_61 (dk_at dksX0_all_0 3 rfl rfl)
theorem dX0_all_4 : decode cX0_all 4 = .ok (.iload_n 2, 1) := dk_28 (dk_at dksX0_all_0 4 rfl rfl)
theorem dX0_all_5 : decode cX0_all 5 = .ok (.aload_n 0, 1) := dk_42 (dk_at dksX0_all_0 5 rfl rfl)
theorem dX0_all_6 : decode cX0_all 6 = .ok (.getfield 143, 3) := dk_180 0 143 (dk_at dksX0_all_0 6 rfl rfl)
theorem dX0_all_9 : decode cX0_all 9 = .ok (.if_icmp .ge 18, 3) := dk_162 0 18 (dk_at dksX0_all_0 9 rfl rfl)
theorem dX0_all_12 : decode cX0_all 12 = .ok (.iload_n 1, 1) := dk_27 (dk_at dksX0_all_0 12 rfl rfl)
theorem dX0_all_13 : decode cX0_all 13 = .ok (.aload_n 0, 1) := dk_42 (dk_at dksX0_all_0 13 rfl rfl)
theorem dX0_all_14 : decode cX0_all 14 = .ok (.getfield 56, 3) := dk_180 0 56 (dk_at dksX0_all_0 14 rfl rfl)
theorem dX0_all_17 : decode cX0_all 17 = .ok (.iload_n 2, 1) := dk_28 (dk_at dksX0_all_0 17 rfl rfl)
theorem dX0_all_18 : decode cX0_all 18 = .ok (.iaload, 1) := dk_46 (dk_at dksX0_all_0 18 rfl rfl)
theorem dX0_all_19 : decode cX0_all 19 = .ok (.iadd, 1) := dk_96 (dk_at dksX0_all_0 19 rfl rfl)
theorem dX0_all_20 : decode cX0_all 20 = .ok (.istore_n 1, 1) := dk_60 (dk_at dksX0_all_0 20 rfl rfl)
theorem dX0_all_21 : decode cX0_all 21 = .ok (.iinc 2 1, 3) := dk_132 2 1 (dk_at dksX0_all_0 21 rfl rfl)
theorem dX0_all_24 : decode cX0_all 24 = .ok (.goto (-20), 3) := dk_167 255 236 (dk_at dksX0_all_1 0 rfl rfl)
theorem dX0_all_27 : decode cX0_all 27 = .ok (.iload_n 1, 1) := dk_27 (dk_at dksX0_all_1 3 rfl rfl)
theorem dX0_all_28 : decode cX0_all 28 = .ok (.ireturn, 1) := dk_172 (dk_at dksX0_all_1 4 rfl rfl)
abbrev cX0_costBy : ByteArray := prog_1_method_31_code
def yX0_costBy : MethodName := ⟨RX0, "costBy", "(II)I"⟩
def dkwX0_costBy_1 : List UInt8 := [42, 27, 28, 182, 0, 234, 167, 0, 7, 42, 182, 0, 165, 172]
abbrev dktX0_costBy_1 : List UInt8 := dkwX0_costBy_1 ++ []
def dkwX0_costBy_0 : List UInt8 := [27, 133, 9, 20, 0, 185, 184, 0, 161, 153, 0, 24, 28, 133, 9, 20, 0, 187, 184, 0, 161, 153, 0, 12]
abbrev dktX0_costBy_0 : List UInt8 := dkwX0_costBy_0 ++ dktX0_costBy_1
theorem dksX0_costBy_0 : cX0_costBy.data.toList.drop 0 = dktX0_costBy_0 := by decide +kernel
theorem dksX0_costBy_1 : cX0_costBy.data.toList.drop 24 = dktX0_costBy_1 := dk_seg dksX0_costBy_0 24 rfl rfl
theorem dX0_costBy_0 : decode cX0_costBy 0 = .ok (.iload_n 1, 1) := dk_27 (dk_at dksX0_costBy_0 0 rfl rfl)
theorem dX0_costBy_1 : decode cX0_costBy 1 = .ok (.i2l, 1) := dk_133 (dk_at dksX0_costBy_0 1 rfl rfl)
theorem dX0_costBy_2 : decode cX0_costBy 2 = .ok (.lconst 0, 1) := dk_9 (dk_at dksX0_costBy_0 2 rfl rfl)
theorem dX0_costBy_3 : decode cX0_costBy 3 = .ok (.ldc2_w 185, 3) := dk_20 0 185 (dk_at dksX0_costBy_0 3 rfl rfl)
theorem dX0_costBy_6 : decode cX0_costBy 6 = .ok (.invokestatic 161, 3) := dk_184 0 161 (dk_at dksX0_costBy_0 6 rfl rfl)
theorem dX0_costBy_9 : decode cX0_costBy 9 = .ok (.ifCond .eq 24, 3) := dk_153 0 24 (dk_at dksX0_costBy_0 9 rfl rfl)
theorem dX0_costBy_12 : decode cX0_costBy 12 = .ok (.iload_n 2, 1) := dk_28 (dk_at dksX0_costBy_0 12 rfl rfl)
theorem dX0_costBy_13 : decode cX0_costBy 13 = .ok (.i2l, 1) := dk_133 (dk_at dksX0_costBy_0 13 rfl rfl)
theorem dX0_costBy_14 : decode cX0_costBy 14 = .ok (.lconst 0, 1) := dk_9 (dk_at dksX0_costBy_0 14 rfl rfl)
theorem dX0_costBy_15 : decode cX0_costBy 15 = .ok (.ldc2_w 187, 3) := dk_20 0 187 (dk_at dksX0_costBy_0 15 rfl rfl)
theorem dX0_costBy_18 : decode cX0_costBy 18 = .ok (.invokestatic 161, 3) := dk_184 0 161 (dk_at dksX0_costBy_0 18 rfl rfl)
theorem dX0_costBy_21 : decode cX0_costBy 21 = .ok (.ifCond .eq 12, 3) := dk_153 0 12 (dk_at dksX0_costBy_0 21 rfl rfl)
theorem dX0_costBy_24 : decode cX0_costBy 24 = .ok (.aload_n 0, 1) := dk_42 (dk_at dksX0_costBy_1 0 rfl rfl)
theorem dX0_costBy_25 : decode cX0_costBy 25 = .ok (.iload_n 1, 1) := dk_27 (dk_at dksX0_costBy_1 1 rfl rfl)
theorem dX0_costBy_26 : decode cX0_costBy 26 = .ok (.iload_n 2, 1) := dk_28 (dk_at dksX0_costBy_1 2 rfl rfl)
theorem dX0_costBy_27 : decode cX0_costBy 27 = .ok (.invokevirtual 234, 3) := dk_182 0 234 (dk_at dksX0_costBy_1 3 rfl rfl)
theorem dX0_costBy_30 : decode cX0_costBy 30 = .ok (.goto 7, 3) := dk_167 0 7 (dk_at dksX0_costBy_1 6 rfl rfl)
theorem dX0_costBy_33 : decode cX0_costBy 33 = .ok (.aload_n 0, 1) := dk_42 (dk_at dksX0_costBy_1 9 rfl rfl)
theorem dX0_costBy_34 : decode cX0_costBy 34 = .ok (.invokevirtual 165, 3) := dk_182 0 165 (dk_at dksX0_costBy_1 10 rfl rfl)
theorem dX0_costBy_37 : decode cX0_costBy 37 = .ok (.ireturn, 1) := dk_172 (dk_at dksX0_costBy_1 13 rfl rfl)
abbrev cX0_costOf : ByteArray := prog_1_method_28_code
def yX0_costOf : MethodName := ⟨RX0, "costOf", "(II)I"⟩
def dkwX0_costOf_2 : List UInt8 := [180, 0, 216, 172]
abbrev dktX0_costOf_2 : List UInt8 := dkwX0_costOf_2 ++ []
def dkwX0_costOf_1 : List UInt8 := [180, 0, 50, 42, 180, 0, 143, 42, 186, 0, 219, 0, 0, 42, 186, 0, 223, 0, 0, 182, 0, 227, 42]
abbrev dktX0_costOf_1 : List UInt8 := dkwX0_costOf_1 ++ dktX0_costOf_2
def dkwX0_costOf_0 : List UInt8 := [42, 180, 0, 50, 27, 42, 28, 182, 0, 116, 182, 0, 120, 42, 3, 181, 0, 216, 42, 3, 181, 0, 213, 42]
abbrev dktX0_costOf_0 : List UInt8 := dkwX0_costOf_0 ++ dktX0_costOf_1
theorem dksX0_costOf_0 : cX0_costOf.data.toList.drop 0 = dktX0_costOf_0 := by decide +kernel
theorem dksX0_costOf_1 : cX0_costOf.data.toList.drop 24 = dktX0_costOf_1 := dk_seg dksX0_costOf_0 24 rfl rfl
theorem dksX0_costOf_2 : cX0_costOf.data.toList.drop 47 = dktX0_costOf_2 := dk_seg dksX0_costOf_1 23 rfl rfl
theorem dX0_costOf_0 : decode cX0_costOf 0 = .ok (.aload_n 0, 1) := dk_42 (dk_at dksX0_costOf_0 0 rfl rfl)
theorem dX0_costOf_1 : decode cX0_costOf 1 = .ok (.getfield 50, 3) := dk_180 0 50 (dk_at dksX0_costOf_0 1 rfl rfl)
theorem dX0_costOf_4 : decode cX0_costOf 4 = .ok (.iload_n 1, 1) := dk_27 (dk_at dksX0_costOf_0 4 rfl rfl)
theorem dX0_costOf_5 : decode cX0_costOf 5 = .ok (.aload_n 0, 1) := dk_42 (dk_at dksX0_costOf_0 5 rfl rfl)
theorem dX0_costOf_6 : decode cX0_costOf 6 = .ok (.iload_n 2, 1) := dk_28 (dk_at dksX0_costOf_0 6 rfl rfl)
theorem dX0_costOf_7 : decode cX0_costOf 7 = .ok (.invokevirtual 116, 3) := dk_182 0 116 (dk_at dksX0_costOf_0 7 rfl rfl)
theorem dX0_costOf_10 : decode cX0_costOf 10 = .ok (.invokevirtual 120, 3) := dk_182 0 120 (dk_at dksX0_costOf_0 10 rfl rfl)
theorem dX0_costOf_13 : decode cX0_costOf 13 = .ok (.aload_n 0, 1) := dk_42 (dk_at dksX0_costOf_0 13 rfl rfl)
theorem dX0_costOf_14 : decode cX0_costOf 14 = .ok (.iconst 0, 1) := dk_3 (dk_at dksX0_costOf_0 14 rfl rfl)
theorem dX0_costOf_15 : decode cX0_costOf 15 = .ok (.putfield 216, 3) := dk_181 0 216 (dk_at dksX0_costOf_0 15 rfl rfl)
theorem dX0_costOf_18 : decode cX0_costOf 18 = .ok (.aload_n 0, 1) := dk_42 (dk_at dksX0_costOf_0 18 rfl rfl)
theorem dX0_costOf_19 : decode cX0_costOf 19 = .ok (.iconst 0, 1) := dk_3 (dk_at dksX0_costOf_0 19 rfl rfl)
theorem dX0_costOf_20 : decode cX0_costOf 20 = .ok (.putfield 213, 3) := dk_181 0 213 (dk_at dksX0_costOf_0 20 rfl rfl)
theorem dX0_costOf_23 : decode cX0_costOf 23 = .ok (.aload_n 0, 1) := dk_42 (dk_at dksX0_costOf_0 23 rfl rfl)
theorem dX0_costOf_24 : decode cX0_costOf 24 = .ok (.getfield 50, 3) := dk_180 0 50 (dk_at dksX0_costOf_1 0 rfl rfl)
theorem dX0_costOf_27 : decode cX0_costOf 27 = .ok (.aload_n 0, 1) := dk_42 (dk_at dksX0_costOf_1 3 rfl rfl)
theorem dX0_costOf_28 : decode cX0_costOf 28 = .ok (.getfield 143, 3) := dk_180 0 143 (dk_at dksX0_costOf_1 4 rfl rfl)
theorem dX0_costOf_31 : decode cX0_costOf 31 = .ok (.aload_n 0, 1) := dk_42 (dk_at dksX0_costOf_1 7 rfl rfl)
theorem dX0_costOf_32 : decode cX0_costOf 32 = .ok (.invokedynamic 219, 5) := by decide +kernel
theorem dX0_costOf_37 : decode cX0_costOf 37 = .ok (.aload_n 0, 1) := dk_42 (dk_at dksX0_costOf_1 13 rfl rfl)
theorem dX0_costOf_38 : decode cX0_costOf 38 = .ok (.invokedynamic 223, 5) := by decide +kernel
theorem dX0_costOf_43 : decode cX0_costOf 43 = .ok (.invokevirtual 227, 3) := dk_182 0 227 (dk_at dksX0_costOf_1 19 rfl rfl)
theorem dX0_costOf_46 : decode cX0_costOf 46 = .ok (.aload_n 0, 1) := dk_42 (dk_at dksX0_costOf_1 22 rfl rfl)
theorem dX0_costOf_47 : decode cX0_costOf 47 = .ok (.getfield 216, 3) := dk_180 0 216 (dk_at dksX0_costOf_2 0 rfl rfl)
theorem dX0_costOf_50 : decode cX0_costOf 50 = .ok (.ireturn, 1) := dk_172 (dk_at dksX0_costOf_2 3 rfl rfl)
abbrev cX0_next : ByteArray := prog_1_method_27_code
def yX0_next : MethodName := ⟨RX0, "next", "(I)I"⟩
def dkwX0_next_0 : List UInt8 := [42, 89, 180, 0, 213, 4, 96, 181, 0, 213, 42, 180, 0, 29, 42, 180, 0, 213, 4, 100, 46, 172]
abbrev dktX0_next_0 : List UInt8 := dkwX0_next_0 ++ []
theorem dksX0_next_0 : cX0_next.data.toList.drop 0 = dktX0_next_0 := by decide +kernel
theorem dX0_next_0 : decode cX0_next 0 = .ok (.aload_n 0, 1) := dk_42 (dk_at dksX0_next_0 0 rfl rfl)
theorem dX0_next_1 : decode cX0_next 1 = .ok (.dup, 1) := dk_89 (dk_at dksX0_next_0 1 rfl rfl)
theorem dX0_next_2 : decode cX0_next 2 = .ok (.getfield 213, 3) := dk_180 0 213 (dk_at dksX0_next_0 2 rfl rfl)
theorem dX0_next_5 : decode cX0_next 5 = .ok (.iconst 1, 1) := dk_4 (dk_at dksX0_next_0 5 rfl rfl)
theorem dX0_next_6 : decode cX0_next 6 = .ok (.iadd, 1) := dk_96 (dk_at dksX0_next_0 6 rfl rfl)
theorem dX0_next_7 : decode cX0_next 7 = .ok (.putfield 213, 3) := dk_181 0 213 (dk_at dksX0_next_0 7 rfl rfl)
theorem dX0_next_10 : decode cX0_next 10 = .ok (.aload_n 0, 1) := dk_42 (dk_at dksX0_next_0 10 rfl rfl)
theorem dX0_next_11 : decode cX0_next 11 = .ok (.getfield 29, 3) := dk_180 0 29 (dk_at dksX0_next_0 11 rfl rfl)
theorem dX0_next_14 : decode cX0_next 14 = .ok (.aload_n 0, 1) := dk_42 (dk_at dksX0_next_0 14 rfl rfl)
theorem dX0_next_15 : decode cX0_next 15 = .ok (.getfield 213, 3) := dk_180 0 213 (dk_at dksX0_next_0 15 rfl rfl)
theorem dX0_next_18 : decode cX0_next 18 = .ok (.iconst 1, 1) := dk_4 (dk_at dksX0_next_0 18 rfl rfl)
theorem dX0_next_19 : decode cX0_next 19 = .ok (.isub, 1) := dk_100 (dk_at dksX0_next_0 19 rfl rfl)
theorem dX0_next_20 : decode cX0_next 20 = .ok (.iaload, 1) := dk_46 (dk_at dksX0_next_0 20 rfl rfl)
theorem dX0_next_21 : decode cX0_next 21 = .ok (.ireturn, 1) := dk_172 (dk_at dksX0_next_0 21 rfl rfl)
abbrev cX0_lambda_costOf_3 : ByteArray := prog_1_method_51_code
def yX0_lambda_costOf_3 : MethodName := ⟨RX0, "lambda$costOf$3", "(II)V"⟩
def dkwX0_lambda_costOf_3_0 : List UInt8 := [42, 89, 180, 0, 216, 28, 27, 184, 0, 154, 184, 0, 156, 96, 181, 0, 216, 177]
abbrev dktX0_lambda_costOf_3_0 : List UInt8 := dkwX0_lambda_costOf_3_0 ++ []
theorem dksX0_lambda_costOf_3_0 : cX0_lambda_costOf_3.data.toList.drop 0 = dktX0_lambda_costOf_3_0 := by decide +kernel
theorem dX0_lambda_costOf_3_0 : decode cX0_lambda_costOf_3 0 = .ok (.aload_n 0, 1) := dk_42 (dk_at dksX0_lambda_costOf_3_0 0 rfl rfl)
theorem dX0_lambda_costOf_3_1 : decode cX0_lambda_costOf_3 1 = .ok (.dup, 1) := dk_89 (dk_at dksX0_lambda_costOf_3_0 1 rfl rfl)
theorem dX0_lambda_costOf_3_2 : decode cX0_lambda_costOf_3 2 = .ok (.getfield 216, 3) := dk_180 0 216 (dk_at dksX0_lambda_costOf_3_0 2 rfl rfl)
theorem dX0_lambda_costOf_3_5 : decode cX0_lambda_costOf_3 5 = .ok (.iload_n 2, 1) := dk_28 (dk_at dksX0_lambda_costOf_3_0 5 rfl rfl)
theorem dX0_lambda_costOf_3_6 : decode cX0_lambda_costOf_3 6 = .ok (.iload_n 1, 1) := dk_27 (dk_at dksX0_lambda_costOf_3_0 6 rfl rfl)
theorem dX0_lambda_costOf_3_7 : decode cX0_lambda_costOf_3 7 = .ok (.invokestatic 154, 3) := dk_184 0 154 (dk_at dksX0_lambda_costOf_3_0 7 rfl rfl)
theorem dX0_lambda_costOf_3_10 : decode cX0_lambda_costOf_3 10 = .ok (.invokestatic 156, 3) := dk_184 0 156 (dk_at dksX0_lambda_costOf_3_0 10 rfl rfl)
theorem dX0_lambda_costOf_3_13 : decode cX0_lambda_costOf_3 13 = .ok (.iadd, 1) := dk_96 (dk_at dksX0_lambda_costOf_3_0 13 rfl rfl)
theorem dX0_lambda_costOf_3_14 : decode cX0_lambda_costOf_3 14 = .ok (.putfield 216, 3) := dk_181 0 216 (dk_at dksX0_lambda_costOf_3_0 14 rfl rfl)
theorem dX0_lambda_costOf_3_17 : decode cX0_lambda_costOf_3 17 = .ok (.return_, 1) := dk_177 (dk_at dksX0_lambda_costOf_3_0 17 rfl rfl)
abbrev cX0_best : ByteArray := prog_1_method_32_code
def yX0_best : MethodName := ⟨RX0, "best", "(I)I"⟩
def dkwX0_best_4 : List UInt8 := [29, 172]
abbrev dktX0_best_4 : List UInt8 := dkwX0_best_4 ++ []
def dkwX0_best_3 : List UInt8 := [167, 255, 212, 27, 154, 0, 9, 28, 7, 108, 167, 0, 15, 27, 4, 160, 0, 9, 28, 7, 112, 167, 0, 4]
abbrev dktX0_best_3 : List UInt8 := dkwX0_best_3 ++ dktX0_best_4
def dkwX0_best_2 : List UInt8 := [21, 5, 29, 162, 0, 8, 21, 4, 167, 0, 4, 28, 61, 29, 21, 5, 184, 0, 240, 62, 132, 4, 1]
abbrev dktX0_best_2 : List UInt8 := dkwX0_best_2 ++ dktX0_best_3
def dkwX0_best_1 : List UInt8 := [54, 4, 21, 4, 16, 28, 162, 0, 43, 42, 21, 4, 7, 108, 21, 4, 7, 112, 182, 0, 234, 54, 5]
abbrev dktX0_best_1 : List UInt8 := dkwX0_best_1 ++ dktX0_best_2
def dkwX0_best_0 : List UInt8 := [27, 133, 9, 20, 0, 237, 184, 0, 161, 154, 0, 8, 42, 182, 0, 165, 172, 3, 61, 18, 239, 62, 3]
abbrev dktX0_best_0 : List UInt8 := dkwX0_best_0 ++ dktX0_best_1
theorem dksX0_best_0 : cX0_best.data.toList.drop 0 = dktX0_best_0 := by decide +kernel
theorem dksX0_best_1 : cX0_best.data.toList.drop 23 = dktX0_best_1 := dk_seg dksX0_best_0 23 rfl rfl
theorem dksX0_best_2 : cX0_best.data.toList.drop 46 = dktX0_best_2 := dk_seg dksX0_best_1 23 rfl rfl
theorem dksX0_best_3 : cX0_best.data.toList.drop 69 = dktX0_best_3 := dk_seg dksX0_best_2 23 rfl rfl
theorem dksX0_best_4 : cX0_best.data.toList.drop 93 = dktX0_best_4 := dk_seg dksX0_best_3 24 rfl rfl
theorem dX0_best_0 : decode cX0_best 0 = .ok (.iload_n 1, 1) := dk_27 (dk_at dksX0_best_0 0 rfl rfl)
theorem dX0_best_1 : decode cX0_best 1 = .ok (.i2l, 1) := dk_133 (dk_at dksX0_best_0 1 rfl rfl)
theorem dX0_best_2 : decode cX0_best 2 = .ok (.lconst 0, 1) := dk_9 (dk_at dksX0_best_0 2 rfl rfl)
theorem dX0_best_3 : decode cX0_best 3 = .ok (.ldc2_w 237, 3) := dk_20 0 237 (dk_at dksX0_best_0 3 rfl rfl)
theorem dX0_best_6 : decode cX0_best 6 = .ok (.invokestatic 161, 3) := dk_184 0 161 (dk_at dksX0_best_0 6 rfl rfl)
theorem dX0_best_9 : decode cX0_best 9 = .ok (.ifCond .ne 8, 3) := dk_154 0 8 (dk_at dksX0_best_0 9 rfl rfl)
theorem dX0_best_12 : decode cX0_best 12 = .ok (.aload_n 0, 1) := dk_42 (dk_at dksX0_best_0 12 rfl rfl)
theorem dX0_best_13 : decode cX0_best 13 = .ok (.invokevirtual 165, 3) := dk_182 0 165 (dk_at dksX0_best_0 13 rfl rfl)
theorem dX0_best_16 : decode cX0_best 16 = .ok (.ireturn, 1) := dk_172 (dk_at dksX0_best_0 16 rfl rfl)
theorem dX0_best_17 : decode cX0_best 17 = .ok (.iconst 0, 1) := dk_3 (dk_at dksX0_best_0 17 rfl rfl)
theorem dX0_best_18 : decode cX0_best 18 = .ok (.istore_n 2, 1) := dk_61 (dk_at dksX0_best_0 18 rfl rfl)
theorem dX0_best_19 : decode cX0_best 19 = .ok (.ldc 239, 2) := dk_18 239 (dk_at dksX0_best_0 19 rfl rfl)
theorem dX0_best_21 : decode cX0_best 21 = .ok (.istore_n 3, 1) := dk_62 (dk_at dksX0_best_0 21 rfl rfl)
theorem dX0_best_22 : decode cX0_best 22 = .ok (.iconst 0, 1) := dk_3 (dk_at dksX0_best_0 22 rfl rfl)
theorem dX0_best_23 : decode cX0_best 23 = .ok (.istore 4, 2) := dk_54 4 (dk_at dksX0_best_1 0 rfl rfl)
theorem dX0_best_25 : decode cX0_best 25 = .ok (.iload 4, 2) := dk_21 4 (dk_at dksX0_best_1 2 rfl rfl)
theorem dX0_best_27 : decode cX0_best 27 = .ok (.bipush 28, 2) := dk_16 28 (dk_at dksX0_best_1 4 rfl rfl)
theorem dX0_best_29 : decode cX0_best 29 = .ok (.if_icmp .ge 43, 3) := dk_162 0 43 (dk_at dksX0_best_1 6 rfl rfl)
theorem dX0_best_32 : decode cX0_best 32 = .ok (.aload_n 0, 1) := dk_42 (dk_at dksX0_best_1 9 rfl rfl)
theorem dX0_best_33 : decode cX0_best 33 = .ok (.iload 4, 2) := dk_21 4 (dk_at dksX0_best_1 10 rfl rfl)
theorem dX0_best_35 : decode cX0_best 35 = .ok (.iconst 4, 1) := dk_7 (dk_at dksX0_best_1 12 rfl rfl)
theorem dX0_best_36 : decode cX0_best 36 = .ok (.idiv, 1) := dk_108 (dk_at dksX0_best_1 13 rfl rfl)
theorem dX0_best_37 : decode cX0_best 37 = .ok (.iload 4, 2) := dk_21 4 (dk_at dksX0_best_1 14 rfl rfl)
theorem dX0_best_39 : decode cX0_best 39 = .ok (.iconst 4, 1) := dk_7 (dk_at dksX0_best_1 16 rfl rfl)
theorem dX0_best_40 : decode cX0_best 40 = .ok (.irem, 1) := dk_112 (dk_at dksX0_best_1 17 rfl rfl)
theorem dX0_best_41 : decode cX0_best 41 = .ok (.invokevirtual 234, 3) := dk_182 0 234 (dk_at dksX0_best_1 18 rfl rfl)
theorem dX0_best_44 : decode cX0_best 44 = .ok (.istore 5, 2) := dk_54 5 (dk_at dksX0_best_1 21 rfl rfl)
theorem dX0_best_46 : decode cX0_best 46 = .ok (.iload 5, 2) := dk_21 5 (dk_at dksX0_best_2 0 rfl rfl)
theorem dX0_best_48 : decode cX0_best 48 = .ok (.iload_n 3, 1) := dk_29 (dk_at dksX0_best_2 2 rfl rfl)
theorem dX0_best_49 : decode cX0_best 49 = .ok (.if_icmp .ge 8, 3) := dk_162 0 8 (dk_at dksX0_best_2 3 rfl rfl)
theorem dX0_best_52 : decode cX0_best 52 = .ok (.iload 4, 2) := dk_21 4 (dk_at dksX0_best_2 6 rfl rfl)
theorem dX0_best_54 : decode cX0_best 54 = .ok (.goto 4, 3) := dk_167 0 4 (dk_at dksX0_best_2 8 rfl rfl)
theorem dX0_best_57 : decode cX0_best 57 = .ok (.iload_n 2, 1) := dk_28 (dk_at dksX0_best_2 11 rfl rfl)
theorem dX0_best_58 : decode cX0_best 58 = .ok (.istore_n 2, 1) := dk_61 (dk_at dksX0_best_2 12 rfl rfl)
theorem dX0_best_59 : decode cX0_best 59 = .ok (.iload_n 3, 1) := dk_29 (dk_at dksX0_best_2 13 rfl rfl)
theorem dX0_best_60 : decode cX0_best 60 = .ok (.iload 5, 2) := dk_21 5 (dk_at dksX0_best_2 14 rfl rfl)
theorem dX0_best_62 : decode cX0_best 62 = .ok (.invokestatic 240, 3) := dk_184 0 240 (dk_at dksX0_best_2 16 rfl rfl)
theorem dX0_best_65 : decode cX0_best 65 = .ok (.istore_n 3, 1) := dk_62 (dk_at dksX0_best_2 19 rfl rfl)
theorem dX0_best_66 : decode cX0_best 66 = .ok (.iinc 4 1, 3) := dk_132 4 1 (dk_at dksX0_best_2 20 rfl rfl)
theorem dX0_best_69 : decode cX0_best 69 = .ok (.goto (-44), 3) := dk_167 255 212 (dk_at dksX0_best_3 0 rfl rfl)
theorem dX0_best_72 : decode cX0_best 72 = .ok (.iload_n 1, 1) := dk_27 (dk_at dksX0_best_3 3 rfl rfl)
theorem dX0_best_73 : decode cX0_best 73 = .ok (.ifCond .ne 9, 3) := dk_154 0 9 (dk_at dksX0_best_3 4 rfl rfl)
theorem dX0_best_76 : decode cX0_best 76 = .ok (.iload_n 2, 1) := dk_28 (dk_at dksX0_best_3 7 rfl rfl)
theorem dX0_best_77 : decode cX0_best 77 = .ok (.iconst 4, 1) := dk_7 (dk_at dksX0_best_3 8 rfl rfl)
theorem dX0_best_78 : decode cX0_best 78 = .ok (.idiv, 1) := dk_108 (dk_at dksX0_best_3 9 rfl rfl)
theorem dX0_best_79 : decode cX0_best 79 = .ok (.goto 15, 3) := dk_167 0 15 (dk_at dksX0_best_3 10 rfl rfl)
theorem dX0_best_82 : decode cX0_best 82 = .ok (.iload_n 1, 1) := dk_27 (dk_at dksX0_best_3 13 rfl rfl)
theorem dX0_best_83 : decode cX0_best 83 = .ok (.iconst 1, 1) := dk_4 (dk_at dksX0_best_3 14 rfl rfl)
theorem dX0_best_84 : decode cX0_best 84 = .ok (.if_icmp .ne 9, 3) := dk_160 0 9 (dk_at dksX0_best_3 15 rfl rfl)
theorem dX0_best_87 : decode cX0_best 87 = .ok (.iload_n 2, 1) := dk_28 (dk_at dksX0_best_3 18 rfl rfl)
theorem dX0_best_88 : decode cX0_best 88 = .ok (.iconst 4, 1) := dk_7 (dk_at dksX0_best_3 19 rfl rfl)
theorem dX0_best_89 : decode cX0_best 89 = .ok (.irem, 1) := dk_112 (dk_at dksX0_best_3 20 rfl rfl)
theorem dX0_best_90 : decode cX0_best 90 = .ok (.goto 4, 3) := dk_167 0 4 (dk_at dksX0_best_3 21 rfl rfl)
theorem dX0_best_93 : decode cX0_best 93 = .ok (.iload_n 3, 1) := dk_29 (dk_at dksX0_best_4 0 rfl rfl)
theorem dX0_best_94 : decode cX0_best 94 = .ok (.ireturn, 1) := dk_172 (dk_at dksX0_best_4 1 rfl rfl)
abbrev cX0_follows : ByteArray := prog_1_method_33_code
def yX0_follows : MethodName := ⟨RX0, "follows", "(I)I"⟩
def dkwX0_follows_4 : List UInt8 := [180, 0, 216, 172]
abbrev dktX0_follows_4 : List UInt8 := dkwX0_follows_4 ++ []
def dkwX0_follows_3 : List UInt8 := [181, 0, 213, 42, 180, 0, 50, 27, 186, 0, 247, 0, 0, 42, 186, 0, 250, 0, 0, 182, 0, 227, 42]
abbrev dktX0_follows_3 : List UInt8 := dkwX0_follows_3 ++ dktX0_follows_4
def dkwX0_follows_2 : List UInt8 := [180, 0, 143, 42, 186, 0, 219, 0, 0, 186, 0, 244, 0, 0, 182, 0, 227, 42, 3, 181, 0, 216, 42, 3]
abbrev dktX0_follows_2 : List UInt8 := dkwX0_follows_2 ++ dktX0_follows_3
def dkwX0_follows_1 : List UInt8 := [180, 0, 33, 42, 42, 180, 0, 113, 182, 0, 116, 182, 0, 120, 42, 3, 181, 0, 213, 42, 180, 0, 50, 42]
abbrev dktX0_follows_1 : List UInt8 := dkwX0_follows_1 ++ dktX0_follows_2
def dkwX0_follows_0 : List UInt8 := [27, 133, 10, 20, 0, 242, 184, 0, 161, 154, 0, 8, 42, 182, 0, 165, 172, 42, 180, 0, 50, 42]
abbrev dktX0_follows_0 : List UInt8 := dkwX0_follows_0 ++ dktX0_follows_1
theorem dksX0_follows_0 : cX0_follows.data.toList.drop 0 = dktX0_follows_0 := by decide +kernel
theorem dksX0_follows_1 : cX0_follows.data.toList.drop 22 = dktX0_follows_1 := dk_seg dksX0_follows_0 22 rfl rfl
theorem dksX0_follows_2 : cX0_follows.data.toList.drop 46 = dktX0_follows_2 := dk_seg dksX0_follows_1 24 rfl rfl
theorem dksX0_follows_3 : cX0_follows.data.toList.drop 70 = dktX0_follows_3 := dk_seg dksX0_follows_2 24 rfl rfl
theorem dksX0_follows_4 : cX0_follows.data.toList.drop 93 = dktX0_follows_4 := dk_seg dksX0_follows_3 23 rfl rfl
theorem dX0_follows_0 : decode cX0_follows 0 = .ok (.iload_n 1, 1) := dk_27 (dk_at dksX0_follows_0 0 rfl rfl)
theorem dX0_follows_1 : decode cX0_follows 1 = .ok (.i2l, 1) := dk_133 (dk_at dksX0_follows_0 1 rfl rfl)
theorem dX0_follows_2 : decode cX0_follows 2 = .ok (.lconst 1, 1) := dk_10 (dk_at dksX0_follows_0 2 rfl rfl)
theorem dX0_follows_3 : decode cX0_follows 3 = .ok (.ldc2_w 242, 3) := dk_20 0 242 (dk_at dksX0_follows_0 3 rfl rfl)
theorem dX0_follows_6 : decode cX0_follows 6 = .ok (.invokestatic 161, 3) := dk_184 0 161 (dk_at dksX0_follows_0 6 rfl rfl)
theorem dX0_follows_9 : decode cX0_follows 9 = .ok (.ifCond .ne 8, 3) := dk_154 0 8 (dk_at dksX0_follows_0 9 rfl rfl)
theorem dX0_follows_12 : decode cX0_follows 12 = .ok (.aload_n 0, 1) := dk_42 (dk_at dksX0_follows_0 12 rfl rfl)
theorem dX0_follows_13 : decode cX0_follows 13 = .ok (.invokevirtual 165, 3) := dk_182 0 165 (dk_at dksX0_follows_0 13 rfl rfl)
theorem dX0_follows_16 : decode cX0_follows 16 = .ok (.ireturn, 1) := dk_172 (dk_at dksX0_follows_0 16 rfl rfl)
theorem dX0_follows_17 : decode cX0_follows 17 = .ok (.aload_n 0, 1) := dk_42 (dk_at dksX0_follows_0 17 rfl rfl)
theorem dX0_follows_18 : decode cX0_follows 18 = .ok (.getfield 50, 3) := dk_180 0 50 (dk_at dksX0_follows_0 18 rfl rfl)
theorem dX0_follows_21 : decode cX0_follows 21 = .ok (.aload_n 0, 1) := dk_42 (dk_at dksX0_follows_0 21 rfl rfl)
theorem dX0_follows_22 : decode cX0_follows 22 = .ok (.getfield 33, 3) := dk_180 0 33 (dk_at dksX0_follows_1 0 rfl rfl)
theorem dX0_follows_25 : decode cX0_follows 25 = .ok (.aload_n 0, 1) := dk_42 (dk_at dksX0_follows_1 3 rfl rfl)
theorem dX0_follows_26 : decode cX0_follows 26 = .ok (.aload_n 0, 1) := dk_42 (dk_at dksX0_follows_1 4 rfl rfl)
theorem dX0_follows_27 : decode cX0_follows 27 = .ok (.getfield 113, 3) := dk_180 0 113 (dk_at dksX0_follows_1 5 rfl rfl)
theorem dX0_follows_30 : decode cX0_follows 30 = .ok (.invokevirtual 116, 3) := dk_182 0 116 (dk_at dksX0_follows_1 8 rfl rfl)
theorem dX0_follows_33 : decode cX0_follows 33 = .ok (.invokevirtual 120, 3) := dk_182 0 120 (dk_at dksX0_follows_1 11 rfl rfl)
theorem dX0_follows_36 : decode cX0_follows 36 = .ok (.aload_n 0, 1) := dk_42 (dk_at dksX0_follows_1 14 rfl rfl)
theorem dX0_follows_37 : decode cX0_follows 37 = .ok (.iconst 0, 1) := dk_3 (dk_at dksX0_follows_1 15 rfl rfl)
theorem dX0_follows_38 : decode cX0_follows 38 = .ok (.putfield 213, 3) := dk_181 0 213 (dk_at dksX0_follows_1 16 rfl rfl)
theorem dX0_follows_41 : decode cX0_follows 41 = .ok (.aload_n 0, 1) := dk_42 (dk_at dksX0_follows_1 19 rfl rfl)
theorem dX0_follows_42 : decode cX0_follows 42 = .ok (.getfield 50, 3) := dk_180 0 50 (dk_at dksX0_follows_1 20 rfl rfl)
theorem dX0_follows_45 : decode cX0_follows 45 = .ok (.aload_n 0, 1) := dk_42 (dk_at dksX0_follows_1 23 rfl rfl)
theorem dX0_follows_46 : decode cX0_follows 46 = .ok (.getfield 143, 3) := dk_180 0 143 (dk_at dksX0_follows_2 0 rfl rfl)
theorem dX0_follows_49 : decode cX0_follows 49 = .ok (.aload_n 0, 1) := dk_42 (dk_at dksX0_follows_2 3 rfl rfl)
theorem dX0_follows_50 : decode cX0_follows 50 = .ok (.invokedynamic 219, 5) := by decide +kernel
theorem dX0_follows_55 : decode cX0_follows 55 = .ok (.invokedynamic 244, 5) := by decide +kernel
theorem dX0_follows_60 : decode cX0_follows 60 = .ok (.invokevirtual 227, 3) := dk_182 0 227 (dk_at dksX0_follows_2 14 rfl rfl)
theorem dX0_follows_63 : decode cX0_follows 63 = .ok (.aload_n 0, 1) := dk_42 (dk_at dksX0_follows_2 17 rfl rfl)
theorem dX0_follows_64 : decode cX0_follows 64 = .ok (.iconst 0, 1) := dk_3 (dk_at dksX0_follows_2 18 rfl rfl)
theorem dX0_follows_65 : decode cX0_follows 65 = .ok (.putfield 216, 3) := dk_181 0 216 (dk_at dksX0_follows_2 19 rfl rfl)
theorem dX0_follows_68 : decode cX0_follows 68 = .ok (.aload_n 0, 1) := dk_42 (dk_at dksX0_follows_2 22 rfl rfl)
theorem dX0_follows_69 : decode cX0_follows 69 = .ok (.iconst 0, 1) := dk_3 (dk_at dksX0_follows_2 23 rfl rfl)
theorem dX0_follows_70 : decode cX0_follows 70 = .ok (.putfield 213, 3) := dk_181 0 213 (dk_at dksX0_follows_3 0 rfl rfl)
theorem dX0_follows_73 : decode cX0_follows 73 = .ok (.aload_n 0, 1) := dk_42 (dk_at dksX0_follows_3 3 rfl rfl)
theorem dX0_follows_74 : decode cX0_follows 74 = .ok (.getfield 50, 3) := dk_180 0 50 (dk_at dksX0_follows_3 4 rfl rfl)
theorem dX0_follows_77 : decode cX0_follows 77 = .ok (.iload_n 1, 1) := dk_27 (dk_at dksX0_follows_3 7 rfl rfl)
theorem dX0_follows_78 : decode cX0_follows 78 = .ok (.invokedynamic 247, 5) := by decide +kernel
theorem dX0_follows_83 : decode cX0_follows 83 = .ok (.aload_n 0, 1) := dk_42 (dk_at dksX0_follows_3 13 rfl rfl)
theorem dX0_follows_84 : decode cX0_follows 84 = .ok (.invokedynamic 250, 5) := by decide +kernel
theorem dX0_follows_89 : decode cX0_follows 89 = .ok (.invokevirtual 227, 3) := dk_182 0 227 (dk_at dksX0_follows_3 19 rfl rfl)
theorem dX0_follows_92 : decode cX0_follows 92 = .ok (.aload_n 0, 1) := dk_42 (dk_at dksX0_follows_3 22 rfl rfl)
theorem dX0_follows_93 : decode cX0_follows 93 = .ok (.getfield 216, 3) := dk_180 0 216 (dk_at dksX0_follows_4 0 rfl rfl)
theorem dX0_follows_96 : decode cX0_follows 96 = .ok (.ireturn, 1) := dk_172 (dk_at dksX0_follows_4 3 rfl rfl)
abbrev cX0_lambda_follows_4 : ByteArray := prog_1_method_50_code
def yX0_lambda_follows_4 : MethodName := ⟨RX0, "lambda$follows$4", "(II)V"⟩
theorem dX0_lambda_follows_4_0 : decode cX0_lambda_follows_4 0 = .ok (.return_, 1) := by decide +kernel
abbrev cX0_lambda_follows_5 : ByteArray := prog_1_method_49_code
def yX0_lambda_follows_5 : MethodName := ⟨RX0, "lambda$follows$5", "(I)I"⟩
def dkwX0_lambda_follows_5_0 : List UInt8 := [26, 19, 1, 55, 161, 0, 7, 4, 167, 0, 4, 3, 172]
abbrev dktX0_lambda_follows_5_0 : List UInt8 := dkwX0_lambda_follows_5_0 ++ []
theorem dksX0_lambda_follows_5_0 : cX0_lambda_follows_5.data.toList.drop 0 = dktX0_lambda_follows_5_0 := by decide +kernel
theorem dX0_lambda_follows_5_0 : decode cX0_lambda_follows_5 0 = .ok (.iload_n 0, 1) := dk_26 (dk_at dksX0_lambda_follows_5_0 0 rfl rfl)
theorem dX0_lambda_follows_5_1 : decode cX0_lambda_follows_5 1 = .ok (.ldc_w 311, 3) := dk_19 1 55 (dk_at dksX0_lambda_follows_5_0 1 rfl rfl)
theorem dX0_lambda_follows_5_4 : decode cX0_lambda_follows_5 4 = .ok (.if_icmp .lt 7, 3) := dk_161 0 7 (dk_at dksX0_lambda_follows_5_0 4 rfl rfl)
theorem dX0_lambda_follows_5_7 : decode cX0_lambda_follows_5 7 = .ok (.iconst 1, 1) := dk_4 (dk_at dksX0_lambda_follows_5_0 7 rfl rfl)
theorem dX0_lambda_follows_5_8 : decode cX0_lambda_follows_5 8 = .ok (.goto 4, 3) := dk_167 0 4 (dk_at dksX0_lambda_follows_5_0 8 rfl rfl)
theorem dX0_lambda_follows_5_11 : decode cX0_lambda_follows_5 11 = .ok (.iconst 0, 1) := dk_3 (dk_at dksX0_lambda_follows_5_0 11 rfl rfl)
theorem dX0_lambda_follows_5_12 : decode cX0_lambda_follows_5 12 = .ok (.ireturn, 1) := dk_172 (dk_at dksX0_lambda_follows_5_0 12 rfl rfl)
abbrev cX0_gathers : ByteArray := prog_1_method_34_code
def yX0_gathers : MethodName := ⟨RX0, "gathers", "(II)V"⟩
def dkwX0_gathers_1 : List UInt8 := [181, 0, 213, 177]
abbrev dktX0_gathers_1 : List UInt8 := dkwX0_gathers_1 ++ []
def dkwX0_gathers_0 : List UInt8 := [42, 89, 180, 0, 216, 27, 42, 180, 0, 213, 120, 128, 181, 0, 216, 42, 89, 180, 0, 213, 4, 96]
abbrev dktX0_gathers_0 : List UInt8 := dkwX0_gathers_0 ++ dktX0_gathers_1
theorem dksX0_gathers_0 : cX0_gathers.data.toList.drop 0 = dktX0_gathers_0 := by decide +kernel
theorem dksX0_gathers_1 : cX0_gathers.data.toList.drop 22 = dktX0_gathers_1 := dk_seg dksX0_gathers_0 22 rfl rfl
theorem dX0_gathers_0 : decode cX0_gathers 0 = .ok (.aload_n 0, 1) := dk_42 (dk_at dksX0_gathers_0 0 rfl rfl)
theorem dX0_gathers_1 : decode cX0_gathers 1 = .ok (.dup, 1) := dk_89 (dk_at dksX0_gathers_0 1 rfl rfl)
theorem dX0_gathers_2 : decode cX0_gathers 2 = .ok (.getfield 216, 3) := dk_180 0 216 (dk_at dksX0_gathers_0 2 rfl rfl)
theorem dX0_gathers_5 : decode cX0_gathers 5 = .ok (.iload_n 1, 1) := dk_27 (dk_at dksX0_gathers_0 5 rfl rfl)
theorem dX0_gathers_6 : decode cX0_gathers 6 = .ok (.aload_n 0, 1) := dk_42 (dk_at dksX0_gathers_0 6 rfl rfl)
theorem dX0_gathers_7 : decode cX0_gathers 7 = .ok (.getfield 213, 3) := dk_180 0 213 (dk_at dksX0_gathers_0 7 rfl rfl)
theorem dX0_gathers_10 : decode cX0_gathers 10 = .ok (.ishl, 1) := dk_120 (dk_at dksX0_gathers_0 10 rfl rfl)
theorem dX0_gathers_11 : decode cX0_gathers 11 = .ok (.ior, 1) := dk_128 (dk_at dksX0_gathers_0 11 rfl rfl)
theorem dX0_gathers_12 : decode cX0_gathers 12 = .ok (.putfield 216, 3) := dk_181 0 216 (dk_at dksX0_gathers_0 12 rfl rfl)
theorem dX0_gathers_15 : decode cX0_gathers 15 = .ok (.aload_n 0, 1) := dk_42 (dk_at dksX0_gathers_0 15 rfl rfl)
theorem dX0_gathers_16 : decode cX0_gathers 16 = .ok (.dup, 1) := dk_89 (dk_at dksX0_gathers_0 16 rfl rfl)
theorem dX0_gathers_17 : decode cX0_gathers 17 = .ok (.getfield 213, 3) := dk_180 0 213 (dk_at dksX0_gathers_0 17 rfl rfl)
theorem dX0_gathers_20 : decode cX0_gathers 20 = .ok (.iconst 1, 1) := dk_4 (dk_at dksX0_gathers_0 20 rfl rfl)
theorem dX0_gathers_21 : decode cX0_gathers 21 = .ok (.iadd, 1) := dk_96 (dk_at dksX0_gathers_0 21 rfl rfl)
theorem dX0_gathers_22 : decode cX0_gathers 22 = .ok (.putfield 213, 3) := dk_181 0 213 (dk_at dksX0_gathers_1 0 rfl rfl)
theorem dX0_gathers_25 : decode cX0_gathers 25 = .ok (.return_, 1) := dk_177 (dk_at dksX0_gathers_1 3 rfl rfl)
abbrev cX0_tree : ByteArray := prog_1_method_38_code
def yX0_tree : MethodName := ⟨RX0, "tree", "(I)I"⟩
def dkwX0_tree_1 : List UInt8 := [154, 0, 12, 42, 180, 0, 78, 4, 46, 167, 0, 12, 42, 3, 3, 27, 4, 100, 182, 1, 5, 172]
abbrev dktX0_tree_1 : List UInt8 := dkwX0_tree_1 ++ []
def dkwX0_tree_0 : List UInt8 := [27, 133, 9, 20, 0, 237, 184, 0, 161, 154, 0, 8, 42, 182, 0, 165, 172, 42, 182, 1, 11, 27]
abbrev dktX0_tree_0 : List UInt8 := dkwX0_tree_0 ++ dktX0_tree_1
theorem dksX0_tree_0 : cX0_tree.data.toList.drop 0 = dktX0_tree_0 := by decide +kernel
theorem dksX0_tree_1 : cX0_tree.data.toList.drop 22 = dktX0_tree_1 := dk_seg dksX0_tree_0 22 rfl rfl
theorem dX0_tree_0 : decode cX0_tree 0 = .ok (.iload_n 1, 1) := dk_27 (dk_at dksX0_tree_0 0 rfl rfl)
theorem dX0_tree_1 : decode cX0_tree 1 = .ok (.i2l, 1) := dk_133 (dk_at dksX0_tree_0 1 rfl rfl)
theorem dX0_tree_2 : decode cX0_tree 2 = .ok (.lconst 0, 1) := dk_9 (dk_at dksX0_tree_0 2 rfl rfl)
theorem dX0_tree_3 : decode cX0_tree 3 = .ok (.ldc2_w 237, 3) := dk_20 0 237 (dk_at dksX0_tree_0 3 rfl rfl)
theorem dX0_tree_6 : decode cX0_tree 6 = .ok (.invokestatic 161, 3) := dk_184 0 161 (dk_at dksX0_tree_0 6 rfl rfl)
theorem dX0_tree_9 : decode cX0_tree 9 = .ok (.ifCond .ne 8, 3) := dk_154 0 8 (dk_at dksX0_tree_0 9 rfl rfl)
theorem dX0_tree_12 : decode cX0_tree 12 = .ok (.aload_n 0, 1) := dk_42 (dk_at dksX0_tree_0 12 rfl rfl)
theorem dX0_tree_13 : decode cX0_tree 13 = .ok (.invokevirtual 165, 3) := dk_182 0 165 (dk_at dksX0_tree_0 13 rfl rfl)
theorem dX0_tree_16 : decode cX0_tree 16 = .ok (.ireturn, 1) := dk_172 (dk_at dksX0_tree_0 16 rfl rfl)
theorem dX0_tree_17 : decode cX0_tree 17 = .ok (.aload_n 0, 1) := dk_42 (dk_at dksX0_tree_0 17 rfl rfl)
theorem dX0_tree_18 : decode cX0_tree 18 = .ok (.invokevirtual 267, 3) := dk_182 1 11 (dk_at dksX0_tree_0 18 rfl rfl)
theorem dX0_tree_21 : decode cX0_tree 21 = .ok (.iload_n 1, 1) := dk_27 (dk_at dksX0_tree_0 21 rfl rfl)
theorem dX0_tree_22 : decode cX0_tree 22 = .ok (.ifCond .ne 12, 3) := dk_154 0 12 (dk_at dksX0_tree_1 0 rfl rfl)
theorem dX0_tree_25 : decode cX0_tree 25 = .ok (.aload_n 0, 1) := dk_42 (dk_at dksX0_tree_1 3 rfl rfl)
theorem dX0_tree_26 : decode cX0_tree 26 = .ok (.getfield 78, 3) := dk_180 0 78 (dk_at dksX0_tree_1 4 rfl rfl)
theorem dX0_tree_29 : decode cX0_tree 29 = .ok (.iconst 1, 1) := dk_4 (dk_at dksX0_tree_1 7 rfl rfl)
theorem dX0_tree_30 : decode cX0_tree 30 = .ok (.iaload, 1) := dk_46 (dk_at dksX0_tree_1 8 rfl rfl)
theorem dX0_tree_31 : decode cX0_tree 31 = .ok (.goto 12, 3) := dk_167 0 12 (dk_at dksX0_tree_1 9 rfl rfl)
theorem dX0_tree_34 : decode cX0_tree 34 = .ok (.aload_n 0, 1) := dk_42 (dk_at dksX0_tree_1 12 rfl rfl)
theorem dX0_tree_35 : decode cX0_tree 35 = .ok (.iconst 0, 1) := dk_3 (dk_at dksX0_tree_1 13 rfl rfl)
theorem dX0_tree_36 : decode cX0_tree 36 = .ok (.iconst 0, 1) := dk_3 (dk_at dksX0_tree_1 14 rfl rfl)
theorem dX0_tree_37 : decode cX0_tree 37 = .ok (.iload_n 1, 1) := dk_27 (dk_at dksX0_tree_1 15 rfl rfl)
theorem dX0_tree_38 : decode cX0_tree 38 = .ok (.iconst 1, 1) := dk_4 (dk_at dksX0_tree_1 16 rfl rfl)
theorem dX0_tree_39 : decode cX0_tree 39 = .ok (.isub, 1) := dk_100 (dk_at dksX0_tree_1 17 rfl rfl)
theorem dX0_tree_40 : decode cX0_tree 40 = .ok (.invokevirtual 261, 3) := dk_182 1 5 (dk_at dksX0_tree_1 18 rfl rfl)
theorem dX0_tree_43 : decode cX0_tree 43 = .ok (.ireturn, 1) := dk_172 (dk_at dksX0_tree_1 21 rfl rfl)
abbrev cX0_settles : ByteArray := prog_1_method_36_code
def yX0_settles : MethodName := ⟨RX0, "settles", "()V"⟩
def dkwX0_settles_5 : List UInt8 := [167, 0, 4, 3, 96, 79, 132, 2, 1, 167, 255, 142, 132, 1, 255, 167, 255, 130, 177]
abbrev dktX0_settles_5 : List UInt8 := dkwX0_settles_5 ++ []
def dkwX0_settles_4 : List UInt8 := [84, 42, 180, 0, 78, 29, 21, 4, 21, 5, 184, 0, 240, 27, 42, 180, 0, 33, 162, 0, 8, 16, 8]
abbrev dktX0_settles_4 : List UInt8 := dkwX0_settles_4 ++ dktX0_settles_5
def dkwX0_settles_3 : List UInt8 := [184, 0, 198, 46, 96, 54, 5, 42, 180, 0, 81, 29, 21, 4, 21, 5, 163, 0, 7, 4, 167, 0, 4, 3]
abbrev dktX0_settles_3 : List UInt8 := dkwX0_settles_3 ++ dktX0_settles_4
def dkwX0_settles_2 : List UInt8 := [180, 0, 78, 27, 4, 96, 28, 184, 0, 198, 46, 42, 180, 0, 78, 27, 4, 96, 28, 4, 27, 120, 128]
abbrev dktX0_settles_2 : List UInt8 := dkwX0_settles_2 ++ dktX0_settles_3
def dkwX0_settles_1 : List UInt8 := [42, 27, 28, 182, 1, 2, 54, 4, 27, 42, 180, 0, 33, 160, 0, 8, 18, 239, 167, 0, 32, 42]
abbrev dktX0_settles_1 : List UInt8 := dkwX0_settles_1 ++ dktX0_settles_2
def dkwX0_settles_0 : List UInt8 := [42, 180, 0, 33, 60, 27, 155, 0, 128, 3, 61, 28, 4, 27, 120, 162, 0, 113, 27, 28, 184, 0, 198, 62]
abbrev dktX0_settles_0 : List UInt8 := dkwX0_settles_0 ++ dktX0_settles_1
theorem dksX0_settles_0 : cX0_settles.data.toList.drop 0 = dktX0_settles_0 := by decide +kernel
theorem dksX0_settles_1 : cX0_settles.data.toList.drop 24 = dktX0_settles_1 := dk_seg dksX0_settles_0 24 rfl rfl
theorem dksX0_settles_2 : cX0_settles.data.toList.drop 46 = dktX0_settles_2 := dk_seg dksX0_settles_1 22 rfl rfl
theorem dksX0_settles_3 : cX0_settles.data.toList.drop 69 = dktX0_settles_3 := dk_seg dksX0_settles_2 23 rfl rfl
theorem dksX0_settles_4 : cX0_settles.data.toList.drop 93 = dktX0_settles_4 := dk_seg dksX0_settles_3 24 rfl rfl
theorem dksX0_settles_5 : cX0_settles.data.toList.drop 116 = dktX0_settles_5 := dk_seg dksX0_settles_4 23 rfl rfl
theorem dX0_settles_0 : decode cX0_settles 0 = .ok (.aload_n 0, 1) := dk_42 (dk_at dksX0_settles_0 0 rfl rfl)
theorem dX0_settles_1 : decode cX0_settles 1 = .ok (.getfield 33, 3) := dk_180 0 33 (dk_at dksX0_settles_0 1 rfl rfl)
theorem dX0_settles_4 : decode cX0_settles 4 = .ok (.istore_n 1, 1) := dk_60 (dk_at dksX0_settles_0 4 rfl rfl)
theorem dX0_settles_5 : decode cX0_settles 5 = .ok (.iload_n 1, 1) := dk_27 (dk_at dksX0_settles_0 5 rfl rfl)
theorem dX0_settles_6 : decode cX0_settles 6 = .ok (.ifCond .lt 128, 3) := dk_155 0 128 (dk_at dksX0_settles_0 6 rfl rfl)
theorem dX0_settles_9 : decode cX0_settles 9 = .ok (.iconst 0, 1) := dk_3 (dk_at dksX0_settles_0 9 rfl rfl)
theorem dX0_settles_10 : decode cX0_settles 10 = .ok (.istore_n 2, 1) := dk_61 (dk_at dksX0_settles_0 10 rfl rfl)
theorem dX0_settles_11 : decode cX0_settles 11 = .ok (.iload_n 2, 1) := dk_28 (dk_at dksX0_settles_0 11 rfl rfl)
theorem dX0_settles_12 : decode cX0_settles 12 = .ok (.iconst 1, 1) := dk_4 (dk_at dksX0_settles_0 12 rfl rfl)
theorem dX0_settles_13 : decode cX0_settles 13 = .ok (.iload_n 1, 1) := dk_27 (dk_at dksX0_settles_0 13 rfl rfl)
theorem dX0_settles_14 : decode cX0_settles 14 = .ok (.ishl, 1) := dk_120 (dk_at dksX0_settles_0 14 rfl rfl)
theorem dX0_settles_15 : decode cX0_settles 15 = .ok (.if_icmp .ge 113, 3) := dk_162 0 113 (dk_at dksX0_settles_0 15 rfl rfl)
theorem dX0_settles_18 : decode cX0_settles 18 = .ok (.iload_n 1, 1) := dk_27 (dk_at dksX0_settles_0 18 rfl rfl)
theorem dX0_settles_19 : decode cX0_settles 19 = .ok (.iload_n 2, 1) := dk_28 (dk_at dksX0_settles_0 19 rfl rfl)
theorem dX0_settles_20 : decode cX0_settles 20 = .ok (.invokestatic 198, 3) := dk_184 0 198 (dk_at dksX0_settles_0 20 rfl rfl)
theorem dX0_settles_23 : decode cX0_settles 23 = .ok (.istore_n 3, 1) := dk_62 (dk_at dksX0_settles_0 23 rfl rfl)
theorem dX0_settles_24 : decode cX0_settles 24 = .ok (.aload_n 0, 1) := dk_42 (dk_at dksX0_settles_1 0 rfl rfl)
theorem dX0_settles_25 : decode cX0_settles 25 = .ok (.iload_n 1, 1) := dk_27 (dk_at dksX0_settles_1 1 rfl rfl)
theorem dX0_settles_26 : decode cX0_settles 26 = .ok (.iload_n 2, 1) := dk_28 (dk_at dksX0_settles_1 2 rfl rfl)
theorem dX0_settles_27 : decode cX0_settles 27 = .ok (.invokevirtual 258, 3) := dk_182 1 2 (dk_at dksX0_settles_1 3 rfl rfl)
theorem dX0_settles_30 : decode cX0_settles 30 = .ok (.istore 4, 2) := dk_54 4 (dk_at dksX0_settles_1 6 rfl rfl)
theorem dX0_settles_32 : decode cX0_settles 32 = .ok (.iload_n 1, 1) := dk_27 (dk_at dksX0_settles_1 8 rfl rfl)
theorem dX0_settles_33 : decode cX0_settles 33 = .ok (.aload_n 0, 1) := dk_42 (dk_at dksX0_settles_1 9 rfl rfl)
theorem dX0_settles_34 : decode cX0_settles 34 = .ok (.getfield 33, 3) := dk_180 0 33 (dk_at dksX0_settles_1 10 rfl rfl)
theorem dX0_settles_37 : decode cX0_settles 37 = .ok (.if_icmp .ne 8, 3) := dk_160 0 8 (dk_at dksX0_settles_1 13 rfl rfl)
theorem dX0_settles_40 : decode cX0_settles 40 = .ok (.ldc 239, 2) := dk_18 239 (dk_at dksX0_settles_1 16 rfl rfl)
theorem dX0_settles_42 : decode cX0_settles 42 = .ok (.goto 32, 3) := dk_167 0 32 (dk_at dksX0_settles_1 18 rfl rfl)
theorem dX0_settles_45 : decode cX0_settles 45 = .ok (.aload_n 0, 1) := dk_42 (dk_at dksX0_settles_1 21 rfl rfl)
theorem dX0_settles_46 : decode cX0_settles 46 = .ok (.getfield 78, 3) := dk_180 0 78 (dk_at dksX0_settles_2 0 rfl rfl)
theorem dX0_settles_49 : decode cX0_settles 49 = .ok (.iload_n 1, 1) := dk_27 (dk_at dksX0_settles_2 3 rfl rfl)
theorem dX0_settles_50 : decode cX0_settles 50 = .ok (.iconst 1, 1) := dk_4 (dk_at dksX0_settles_2 4 rfl rfl)
theorem dX0_settles_51 : decode cX0_settles 51 = .ok (.iadd, 1) := dk_96 (dk_at dksX0_settles_2 5 rfl rfl)
theorem dX0_settles_52 : decode cX0_settles 52 = .ok (.iload_n 2, 1) := dk_28 (dk_at dksX0_settles_2 6 rfl rfl)
theorem dX0_settles_53 : decode cX0_settles 53 = .ok (.invokestatic 198, 3) := dk_184 0 198 (dk_at dksX0_settles_2 7 rfl rfl)
theorem dX0_settles_56 : decode cX0_settles 56 = .ok (.iaload, 1) := dk_46 (dk_at dksX0_settles_2 10 rfl rfl)
theorem dX0_settles_57 : decode cX0_settles 57 = .ok (.aload_n 0, 1) := dk_42 (dk_at dksX0_settles_2 11 rfl rfl)
theorem dX0_settles_58 : decode cX0_settles 58 = .ok (.getfield 78, 3) := dk_180 0 78 (dk_at dksX0_settles_2 12 rfl rfl)
theorem dX0_settles_61 : decode cX0_settles 61 = .ok (.iload_n 1, 1) := dk_27 (dk_at dksX0_settles_2 15 rfl rfl)
theorem dX0_settles_62 : decode cX0_settles 62 = .ok (.iconst 1, 1) := dk_4 (dk_at dksX0_settles_2 16 rfl rfl)
theorem dX0_settles_63 : decode cX0_settles 63 = .ok (.iadd, 1) := dk_96 (dk_at dksX0_settles_2 17 rfl rfl)
theorem dX0_settles_64 : decode cX0_settles 64 = .ok (.iload_n 2, 1) := dk_28 (dk_at dksX0_settles_2 18 rfl rfl)
theorem dX0_settles_65 : decode cX0_settles 65 = .ok (.iconst 1, 1) := dk_4 (dk_at dksX0_settles_2 19 rfl rfl)
theorem dX0_settles_66 : decode cX0_settles 66 = .ok (.iload_n 1, 1) := dk_27 (dk_at dksX0_settles_2 20 rfl rfl)
theorem dX0_settles_67 : decode cX0_settles 67 = .ok (.ishl, 1) := dk_120 (dk_at dksX0_settles_2 21 rfl rfl)
theorem dX0_settles_68 : decode cX0_settles 68 = .ok (.ior, 1) := dk_128 (dk_at dksX0_settles_2 22 rfl rfl)
theorem dX0_settles_69 : decode cX0_settles 69 = .ok (.invokestatic 198, 3) := dk_184 0 198 (dk_at dksX0_settles_3 0 rfl rfl)
theorem dX0_settles_72 : decode cX0_settles 72 = .ok (.iaload, 1) := dk_46 (dk_at dksX0_settles_3 3 rfl rfl)
theorem dX0_settles_73 : decode cX0_settles 73 = .ok (.iadd, 1) := dk_96 (dk_at dksX0_settles_3 4 rfl rfl)
theorem dX0_settles_74 : decode cX0_settles 74 = .ok (.istore 5, 2) := dk_54 5 (dk_at dksX0_settles_3 5 rfl rfl)
theorem dX0_settles_76 : decode cX0_settles 76 = .ok (.aload_n 0, 1) := dk_42 (dk_at dksX0_settles_3 7 rfl rfl)
theorem dX0_settles_77 : decode cX0_settles 77 = .ok (.getfield 81, 3) := dk_180 0 81 (dk_at dksX0_settles_3 8 rfl rfl)
theorem dX0_settles_80 : decode cX0_settles 80 = .ok (.iload_n 3, 1) := dk_29 (dk_at dksX0_settles_3 11 rfl rfl)
theorem dX0_settles_81 : decode cX0_settles 81 = .ok (.iload 4, 2) := dk_21 4 (dk_at dksX0_settles_3 12 rfl rfl)
theorem dX0_settles_83 : decode cX0_settles 83 = .ok (.iload 5, 2) := dk_21 5 (dk_at dksX0_settles_3 14 rfl rfl)
theorem dX0_settles_85 : decode cX0_settles 85 = .ok (.if_icmp .gt 7, 3) := dk_163 0 7 (dk_at dksX0_settles_3 16 rfl rfl)
theorem dX0_settles_88 : decode cX0_settles 88 = .ok (.iconst 1, 1) := dk_4 (dk_at dksX0_settles_3 19 rfl rfl)
theorem dX0_settles_89 : decode cX0_settles 89 = .ok (.goto 4, 3) := dk_167 0 4 (dk_at dksX0_settles_3 20 rfl rfl)
theorem dX0_settles_92 : decode cX0_settles 92 = .ok (.iconst 0, 1) := dk_3 (dk_at dksX0_settles_3 23 rfl rfl)
theorem dX0_settles_93 : decode cX0_settles 93 = .ok (.bastore, 1) := dk_84 (dk_at dksX0_settles_4 0 rfl rfl)
theorem dX0_settles_94 : decode cX0_settles 94 = .ok (.aload_n 0, 1) := dk_42 (dk_at dksX0_settles_4 1 rfl rfl)
theorem dX0_settles_95 : decode cX0_settles 95 = .ok (.getfield 78, 3) := dk_180 0 78 (dk_at dksX0_settles_4 2 rfl rfl)
theorem dX0_settles_98 : decode cX0_settles 98 = .ok (.iload_n 3, 1) := dk_29 (dk_at dksX0_settles_4 5 rfl rfl)
theorem dX0_settles_99 : decode cX0_settles 99 = .ok (.iload 4, 2) := dk_21 4 (dk_at dksX0_settles_4 6 rfl rfl)
theorem dX0_settles_101 : decode cX0_settles 101 = .ok (.iload 5, 2) := dk_21 5 (dk_at dksX0_settles_4 8 rfl rfl)
theorem dX0_settles_103 : decode cX0_settles 103 = .ok (.invokestatic 240, 3) := dk_184 0 240 (dk_at dksX0_settles_4 10 rfl rfl)
theorem dX0_settles_106 : decode cX0_settles 106 = .ok (.iload_n 1, 1) := dk_27 (dk_at dksX0_settles_4 13 rfl rfl)
theorem dX0_settles_107 : decode cX0_settles 107 = .ok (.aload_n 0, 1) := dk_42 (dk_at dksX0_settles_4 14 rfl rfl)
theorem dX0_settles_108 : decode cX0_settles 108 = .ok (.getfield 33, 3) := dk_180 0 33 (dk_at dksX0_settles_4 15 rfl rfl)
theorem dX0_settles_111 : decode cX0_settles 111 = .ok (.if_icmp .ge 8, 3) := dk_162 0 8 (dk_at dksX0_settles_4 18 rfl rfl)
theorem dX0_settles_114 : decode cX0_settles 114 = .ok (.bipush 8, 2) := dk_16 8 (dk_at dksX0_settles_4 21 rfl rfl)
theorem dX0_settles_116 : decode cX0_settles 116 = .ok (.goto 4, 3) := dk_167 0 4 (dk_at dksX0_settles_5 0 rfl rfl)
theorem dX0_settles_119 : decode cX0_settles 119 = .ok (.iconst 0, 1) := dk_3 (dk_at dksX0_settles_5 3 rfl rfl)
theorem dX0_settles_120 : decode cX0_settles 120 = .ok (.iadd, 1) := dk_96 (dk_at dksX0_settles_5 4 rfl rfl)
theorem dX0_settles_121 : decode cX0_settles 121 = .ok (.iastore, 1) := dk_79 (dk_at dksX0_settles_5 5 rfl rfl)
theorem dX0_settles_122 : decode cX0_settles 122 = .ok (.iinc 2 1, 3) := dk_132 2 1 (dk_at dksX0_settles_5 6 rfl rfl)
theorem dX0_settles_125 : decode cX0_settles 125 = .ok (.goto (-114), 3) := dk_167 255 142 (dk_at dksX0_settles_5 9 rfl rfl)
theorem dX0_settles_128 : decode cX0_settles 128 = .ok (.iinc 1 (-1), 3) := dk_132 1 255 (dk_at dksX0_settles_5 12 rfl rfl)
theorem dX0_settles_131 : decode cX0_settles 131 = .ok (.goto (-126), 3) := dk_167 255 130 (dk_at dksX0_settles_5 15 rfl rfl)
theorem dX0_settles_134 : decode cX0_settles 134 = .ok (.return_, 1) := dk_177 (dk_at dksX0_settles_5 18 rfl rfl)
abbrev cX0_leafCost : ByteArray := prog_1_method_35_code
def yX0_leafCost : MethodName := ⟨RX0, "leafCost", "(II)I"⟩
def dkwX0_leafCost_7 : List UInt8 := [46, 128, 54, 6, 132, 8, 1, 167, 255, 107, 21, 7, 172]
abbrev dktX0_leafCost_7 : List UInt8 := dkwX0_leafCost_7 ++ []
def dkwX0_leafCost_6 : List UInt8 := [153, 0, 10, 21, 5, 5, 108, 167, 0, 5, 21, 5, 54, 5, 21, 6, 4, 120, 42, 180, 0, 29, 21, 8]
abbrev dktX0_leafCost_6 : List UInt8 := dkwX0_leafCost_6 ++ dktX0_leafCost_7
def dkwX0_leafCost_5 : List UInt8 := [167, 0, 4, 3, 54, 9, 21, 9, 153, 0, 10, 21, 4, 5, 108, 167, 0, 5, 21, 4, 54, 4, 21, 9]
abbrev dktX0_leafCost_5 : List UInt8 := dkwX0_leafCost_5 ++ dktX0_leafCost_6
def dkwX0_leafCost_4 : List UInt8 := [180, 0, 29, 21, 8, 46, 96, 54, 5, 21, 4, 16, 60, 163, 0, 10, 21, 5, 16, 60, 164, 0, 7, 4]
abbrev dktX0_leafCost_4 : List UInt8 := dkwX0_leafCost_4 ++ dktX0_leafCost_5
def dkwX0_leafCost_3 : List UInt8 := [184, 0, 156, 96, 54, 7, 21, 4, 4, 42, 180, 0, 29, 21, 8, 46, 100, 96, 54, 4, 21, 5, 42]
abbrev dktX0_leafCost_3 : List UInt8 := dkwX0_leafCost_3 ++ dktX0_leafCost_4
def dkwX0_leafCost_2 : List UInt8 := [21, 4, 21, 5, 185, 0, 251, 3, 0, 133, 184, 0, 254, 42, 180, 0, 29, 21, 8, 46, 184, 0, 154]
abbrev dktX0_leafCost_2 : List UInt8 := dkwX0_leafCost_2 ++ dktX0_leafCost_3
def dkwX0_leafCost_1 : List UInt8 := [21, 8, 42, 180, 0, 143, 162, 0, 146, 21, 6, 4, 27, 120, 4, 100, 126, 28, 160, 0, 114, 21, 7, 45]
abbrev dktX0_leafCost_1 : List UInt8 := dkwX0_leafCost_1 ++ dktX0_leafCost_2
def dkwX0_leafCost_0 : List UInt8 := [42, 42, 180, 0, 113, 182, 0, 116, 78, 3, 54, 4, 3, 54, 5, 3, 54, 6, 3, 54, 7, 3, 54, 8]
abbrev dktX0_leafCost_0 : List UInt8 := dkwX0_leafCost_0 ++ dktX0_leafCost_1
theorem dksX0_leafCost_0 : cX0_leafCost.data.toList.drop 0 = dktX0_leafCost_0 := by decide +kernel
theorem dksX0_leafCost_1 : cX0_leafCost.data.toList.drop 24 = dktX0_leafCost_1 := dk_seg dksX0_leafCost_0 24 rfl rfl
theorem dksX0_leafCost_2 : cX0_leafCost.data.toList.drop 48 = dktX0_leafCost_2 := dk_seg dksX0_leafCost_1 24 rfl rfl
theorem dksX0_leafCost_3 : cX0_leafCost.data.toList.drop 71 = dktX0_leafCost_3 := dk_seg dksX0_leafCost_2 23 rfl rfl
theorem dksX0_leafCost_4 : cX0_leafCost.data.toList.drop 94 = dktX0_leafCost_4 := dk_seg dksX0_leafCost_3 23 rfl rfl
theorem dksX0_leafCost_5 : cX0_leafCost.data.toList.drop 118 = dktX0_leafCost_5 := dk_seg dksX0_leafCost_4 24 rfl rfl
theorem dksX0_leafCost_6 : cX0_leafCost.data.toList.drop 142 = dktX0_leafCost_6 := dk_seg dksX0_leafCost_5 24 rfl rfl
theorem dksX0_leafCost_7 : cX0_leafCost.data.toList.drop 166 = dktX0_leafCost_7 := dk_seg dksX0_leafCost_6 24 rfl rfl
theorem dX0_leafCost_0 : decode cX0_leafCost 0 = .ok (.aload_n 0, 1) := dk_42 (dk_at dksX0_leafCost_0 0 rfl rfl)
theorem dX0_leafCost_1 : decode cX0_leafCost 1 = .ok (.aload_n 0, 1) := dk_42 (dk_at dksX0_leafCost_0 1 rfl rfl)
theorem dX0_leafCost_2 : decode cX0_leafCost 2 = .ok (.getfield 113, 3) := dk_180 0 113 (dk_at dksX0_leafCost_0 2 rfl rfl)
theorem dX0_leafCost_5 : decode cX0_leafCost 5 = .ok (.invokevirtual 116, 3) := dk_182 0 116 (dk_at dksX0_leafCost_0 5 rfl rfl)
theorem dX0_leafCost_8 : decode cX0_leafCost 8 = .ok (.astore_n 3, 1) := dk_78 (dk_at dksX0_leafCost_0 8 rfl rfl)
theorem dX0_leafCost_9 : decode cX0_leafCost 9 = .ok (.iconst 0, 1) := dk_3 (dk_at dksX0_leafCost_0 9 rfl rfl)
theorem dX0_leafCost_10 : decode cX0_leafCost 10 = .ok (.istore 4, 2) := dk_54 4 (dk_at dksX0_leafCost_0 10 rfl rfl)
theorem dX0_leafCost_12 : decode cX0_leafCost 12 = .ok (.iconst 0, 1) := dk_3 (dk_at dksX0_leafCost_0 12 rfl rfl)
theorem dX0_leafCost_13 : decode cX0_leafCost 13 = .ok (.istore 5, 2) := dk_54 5 (dk_at dksX0_leafCost_0 13 rfl rfl)
theorem dX0_leafCost_15 : decode cX0_leafCost 15 = .ok (.iconst 0, 1) := dk_3 (dk_at dksX0_leafCost_0 15 rfl rfl)
theorem dX0_leafCost_16 : decode cX0_leafCost 16 = .ok (.istore 6, 2) := dk_54 6 (dk_at dksX0_leafCost_0 16 rfl rfl)
theorem dX0_leafCost_18 : decode cX0_leafCost 18 = .ok (.iconst 0, 1) := dk_3 (dk_at dksX0_leafCost_0 18 rfl rfl)
theorem dX0_leafCost_19 : decode cX0_leafCost 19 = .ok (.istore 7, 2) := dk_54 7 (dk_at dksX0_leafCost_0 19 rfl rfl)
theorem dX0_leafCost_21 : decode cX0_leafCost 21 = .ok (.iconst 0, 1) := dk_3 (dk_at dksX0_leafCost_0 21 rfl rfl)
theorem dX0_leafCost_22 : decode cX0_leafCost 22 = .ok (.istore 8, 2) := dk_54 8 (dk_at dksX0_leafCost_0 22 rfl rfl)
theorem dX0_leafCost_24 : decode cX0_leafCost 24 = .ok (.iload 8, 2) := dk_21 8 (dk_at dksX0_leafCost_1 0 rfl rfl)
theorem dX0_leafCost_26 : decode cX0_leafCost 26 = .ok (.aload_n 0, 1) := dk_42 (dk_at dksX0_leafCost_1 2 rfl rfl)
theorem dX0_leafCost_27 : decode cX0_leafCost 27 = .ok (.getfield 143, 3) := dk_180 0 143 (dk_at dksX0_leafCost_1 3 rfl rfl)
theorem dX0_leafCost_30 : decode cX0_leafCost 30 = .ok (.if_icmp .ge 146, 3) := dk_162 0 146 (dk_at dksX0_leafCost_1 6 rfl rfl)
theorem dX0_leafCost_33 : decode cX0_leafCost 33 = .ok (.iload 6, 2) := dk_21 6 (dk_at dksX0_leafCost_1 9 rfl rfl)
theorem dX0_leafCost_35 : decode cX0_leafCost 35 = .ok (.iconst 1, 1) := dk_4 (dk_at dksX0_leafCost_1 11 rfl rfl)
theorem dX0_leafCost_36 : decode cX0_leafCost 36 = .ok (.iload_n 1, 1) := dk_27 (dk_at dksX0_leafCost_1 12 rfl rfl)
theorem dX0_leafCost_37 : decode cX0_leafCost 37 = .ok (.ishl, 1) := dk_120 (dk_at dksX0_leafCost_1 13 rfl rfl)
theorem dX0_leafCost_38 : decode cX0_leafCost 38 = .ok (.iconst 1, 1) := dk_4 (dk_at dksX0_leafCost_1 14 rfl rfl)
theorem dX0_leafCost_39 : decode cX0_leafCost 39 = .ok (.isub, 1) := dk_100 (dk_at dksX0_leafCost_1 15 rfl rfl)
theorem dX0_leafCost_40 : decode cX0_leafCost 40 = .ok (.iand, 1) := dk_126 (dk_at dksX0_leafCost_1 16 rfl rfl)
theorem dX0_leafCost_41 : decode cX0_leafCost 41 = .ok (.iload_n 2, 1) := dk_28 (dk_at dksX0_leafCost_1 17 rfl rfl)
theorem dX0_leafCost_42 : decode cX0_leafCost 42 = .ok (.if_icmp .ne 114, 3) := dk_160 0 114 (dk_at dksX0_leafCost_1 18 rfl rfl)
theorem dX0_leafCost_45 : decode cX0_leafCost 45 = .ok (.iload 7, 2) := dk_21 7 (dk_at dksX0_leafCost_1 21 rfl rfl)
theorem dX0_leafCost_47 : decode cX0_leafCost 47 = .ok (.aload_n 3, 1) := dk_45 (dk_at dksX0_leafCost_1 23 rfl rfl)
theorem dX0_leafCost_48 : decode cX0_leafCost 48 = .ok (.iload 4, 2) := dk_21 4 (dk_at dksX0_leafCost_2 0 rfl rfl)
theorem dX0_leafCost_50 : decode cX0_leafCost 50 = .ok (.iload 5, 2) := dk_21 5 (dk_at dksX0_leafCost_2 2 rfl rfl)
theorem dX0_leafCost_52 : decode cX0_leafCost 52 = .ok (.invokeinterface 251 3, 5) := by decide +kernel
theorem dX0_leafCost_57 : decode cX0_leafCost 57 = .ok (.i2l, 1) := dk_133 (dk_at dksX0_leafCost_2 9 rfl rfl)
theorem dX0_leafCost_58 : decode cX0_leafCost 58 = .ok (.invokestatic 254, 3) := dk_184 0 254 (dk_at dksX0_leafCost_2 10 rfl rfl)
theorem dX0_leafCost_61 : decode cX0_leafCost 61 = .ok (.aload_n 0, 1) := dk_42 (dk_at dksX0_leafCost_2 13 rfl rfl)
theorem dX0_leafCost_62 : decode cX0_leafCost 62 = .ok (.getfield 29, 3) := dk_180 0 29 (dk_at dksX0_leafCost_2 14 rfl rfl)
theorem dX0_leafCost_65 : decode cX0_leafCost 65 = .ok (.iload 8, 2) := dk_21 8 (dk_at dksX0_leafCost_2 17 rfl rfl)
theorem dX0_leafCost_67 : decode cX0_leafCost 67 = .ok (.iaload, 1) := dk_46 (dk_at dksX0_leafCost_2 19 rfl rfl)
theorem dX0_leafCost_68 : decode cX0_leafCost 68 = .ok (.invokestatic 154, 3) := dk_184 0 154 (dk_at dksX0_leafCost_2 20 rfl rfl)
theorem dX0_leafCost_71 : decode cX0_leafCost 71 = .ok (.invokestatic 156, 3) := dk_184 0 156 (dk_at dksX0_leafCost_3 0 rfl rfl)
theorem dX0_leafCost_74 : decode cX0_leafCost 74 = .ok (.iadd, 1) := dk_96 (dk_at dksX0_leafCost_3 3 rfl rfl)
theorem dX0_leafCost_75 : decode cX0_leafCost 75 = .ok (.istore 7, 2) := dk_54 7 (dk_at dksX0_leafCost_3 4 rfl rfl)
theorem dX0_leafCost_77 : decode cX0_leafCost 77 = .ok (.iload 4, 2) := dk_21 4 (dk_at dksX0_leafCost_3 6 rfl rfl)
theorem dX0_leafCost_79 : decode cX0_leafCost 79 = .ok (.iconst 1, 1) := dk_4 (dk_at dksX0_leafCost_3 8 rfl rfl)
theorem dX0_leafCost_80 : decode cX0_leafCost 80 = .ok (.aload_n 0, 1) := dk_42 (dk_at dksX0_leafCost_3 9 rfl rfl)
theorem dX0_leafCost_81 : decode cX0_leafCost 81 = .ok (.getfield 29, 3) := dk_180 0 29 (dk_at dksX0_leafCost_3 10 rfl rfl)
theorem dX0_leafCost_84 : decode cX0_leafCost 84 = .ok (.iload 8, 2) := dk_21 8 (dk_at dksX0_leafCost_3 13 rfl rfl)
theorem dX0_leafCost_86 : decode cX0_leafCost 86 = .ok (.iaload, 1) := dk_46 (dk_at dksX0_leafCost_3 15 rfl rfl)
theorem dX0_leafCost_87 : decode cX0_leafCost 87 = .ok (.isub, 1) := dk_100 (dk_at dksX0_leafCost_3 16 rfl rfl)
theorem dX0_leafCost_88 : decode cX0_leafCost 88 = .ok (.iadd, 1) := dk_96 (dk_at dksX0_leafCost_3 17 rfl rfl)
theorem dX0_leafCost_89 : decode cX0_leafCost 89 = .ok (.istore 4, 2) := dk_54 4 (dk_at dksX0_leafCost_3 18 rfl rfl)
theorem dX0_leafCost_91 : decode cX0_leafCost 91 = .ok (.iload 5, 2) := dk_21 5 (dk_at dksX0_leafCost_3 20 rfl rfl)
theorem dX0_leafCost_93 : decode cX0_leafCost 93 = .ok (.aload_n 0, 1) := dk_42 (dk_at dksX0_leafCost_3 22 rfl rfl)
theorem dX0_leafCost_94 : decode cX0_leafCost 94 = .ok (.getfield 29, 3) := dk_180 0 29 (dk_at dksX0_leafCost_4 0 rfl rfl)
theorem dX0_leafCost_97 : decode cX0_leafCost 97 = .ok (.iload 8, 2) := dk_21 8 (dk_at dksX0_leafCost_4 3 rfl rfl)
theorem dX0_leafCost_99 : decode cX0_leafCost 99 = .ok (.iaload, 1) := dk_46 (dk_at dksX0_leafCost_4 5 rfl rfl)
theorem dX0_leafCost_100 : decode cX0_leafCost 100 = .ok (.iadd, 1) := dk_96 (dk_at dksX0_leafCost_4 6 rfl rfl)
theorem dX0_leafCost_101 : decode cX0_leafCost 101 = .ok (.istore 5, 2) := dk_54 5 (dk_at dksX0_leafCost_4 7 rfl rfl)
theorem dX0_leafCost_103 : decode cX0_leafCost 103 = .ok (.iload 4, 2) := dk_21 4 (dk_at dksX0_leafCost_4 9 rfl rfl)
theorem dX0_leafCost_105 : decode cX0_leafCost 105 = .ok (.bipush 60, 2) := dk_16 60 (dk_at dksX0_leafCost_4 11 rfl rfl)
theorem dX0_leafCost_107 : decode cX0_leafCost 107 = .ok (.if_icmp .gt 10, 3) := dk_163 0 10 (dk_at dksX0_leafCost_4 13 rfl rfl)
theorem dX0_leafCost_110 : decode cX0_leafCost 110 = .ok (.iload 5, 2) := dk_21 5 (dk_at dksX0_leafCost_4 16 rfl rfl)
theorem dX0_leafCost_112 : decode cX0_leafCost 112 = .ok (.bipush 60, 2) := dk_16 60 (dk_at dksX0_leafCost_4 18 rfl rfl)
theorem dX0_leafCost_114 : decode cX0_leafCost 114 = .ok (.if_icmp .le 7, 3) := dk_164 0 7 (dk_at dksX0_leafCost_4 20 rfl rfl)
theorem dX0_leafCost_117 : decode cX0_leafCost 117 = .ok (.iconst 1, 1) := dk_4 (dk_at dksX0_leafCost_4 23 rfl rfl)
theorem dX0_leafCost_118 : decode cX0_leafCost 118 = .ok (.goto 4, 3) := dk_167 0 4 (dk_at dksX0_leafCost_5 0 rfl rfl)
theorem dX0_leafCost_121 : decode cX0_leafCost 121 = .ok (.iconst 0, 1) := dk_3 (dk_at dksX0_leafCost_5 3 rfl rfl)
theorem dX0_leafCost_122 : decode cX0_leafCost 122 = .ok (.istore 9, 2) := dk_54 9 (dk_at dksX0_leafCost_5 4 rfl rfl)
theorem dX0_leafCost_124 : decode cX0_leafCost 124 = .ok (.iload 9, 2) := dk_21 9 (dk_at dksX0_leafCost_5 6 rfl rfl)
theorem dX0_leafCost_126 : decode cX0_leafCost 126 = .ok (.ifCond .eq 10, 3) := dk_153 0 10 (dk_at dksX0_leafCost_5 8 rfl rfl)
theorem dX0_leafCost_129 : decode cX0_leafCost 129 = .ok (.iload 4, 2) := dk_21 4 (dk_at dksX0_leafCost_5 11 rfl rfl)
theorem dX0_leafCost_131 : decode cX0_leafCost 131 = .ok (.iconst 2, 1) := dk_5 (dk_at dksX0_leafCost_5 13 rfl rfl)
theorem dX0_leafCost_132 : decode cX0_leafCost 132 = .ok (.idiv, 1) := dk_108 (dk_at dksX0_leafCost_5 14 rfl rfl)
theorem dX0_leafCost_133 : decode cX0_leafCost 133 = .ok (.goto 5, 3) := dk_167 0 5 (dk_at dksX0_leafCost_5 15 rfl rfl)
theorem dX0_leafCost_136 : decode cX0_leafCost 136 = .ok (.iload 4, 2) := dk_21 4 (dk_at dksX0_leafCost_5 18 rfl rfl)
theorem dX0_leafCost_138 : decode cX0_leafCost 138 = .ok (.istore 4, 2) := dk_54 4 (dk_at dksX0_leafCost_5 20 rfl rfl)
theorem dX0_leafCost_140 : decode cX0_leafCost 140 = .ok (.iload 9, 2) := dk_21 9 (dk_at dksX0_leafCost_5 22 rfl rfl)
theorem dX0_leafCost_142 : decode cX0_leafCost 142 = .ok (.ifCond .eq 10, 3) := dk_153 0 10 (dk_at dksX0_leafCost_6 0 rfl rfl)
theorem dX0_leafCost_145 : decode cX0_leafCost 145 = .ok (.iload 5, 2) := dk_21 5 (dk_at dksX0_leafCost_6 3 rfl rfl)
theorem dX0_leafCost_147 : decode cX0_leafCost 147 = .ok (.iconst 2, 1) := dk_5 (dk_at dksX0_leafCost_6 5 rfl rfl)
theorem dX0_leafCost_148 : decode cX0_leafCost 148 = .ok (.idiv, 1) := dk_108 (dk_at dksX0_leafCost_6 6 rfl rfl)
theorem dX0_leafCost_149 : decode cX0_leafCost 149 = .ok (.goto 5, 3) := dk_167 0 5 (dk_at dksX0_leafCost_6 7 rfl rfl)
theorem dX0_leafCost_152 : decode cX0_leafCost 152 = .ok (.iload 5, 2) := dk_21 5 (dk_at dksX0_leafCost_6 10 rfl rfl)
theorem dX0_leafCost_154 : decode cX0_leafCost 154 = .ok (.istore 5, 2) := dk_54 5 (dk_at dksX0_leafCost_6 12 rfl rfl)
theorem dX0_leafCost_156 : decode cX0_leafCost 156 = .ok (.iload 6, 2) := dk_21 6 (dk_at dksX0_leafCost_6 14 rfl rfl)
theorem dX0_leafCost_158 : decode cX0_leafCost 158 = .ok (.iconst 1, 1) := dk_4 (dk_at dksX0_leafCost_6 16 rfl rfl)
theorem dX0_leafCost_159 : decode cX0_leafCost 159 = .ok (.ishl, 1) := dk_120 (dk_at dksX0_leafCost_6 17 rfl rfl)
theorem dX0_leafCost_160 : decode cX0_leafCost 160 = .ok (.aload_n 0, 1) := dk_42 (dk_at dksX0_leafCost_6 18 rfl rfl)
theorem dX0_leafCost_161 : decode cX0_leafCost 161 = .ok (.getfield 29, 3) := dk_180 0 29 (dk_at dksX0_leafCost_6 19 rfl rfl)
theorem dX0_leafCost_164 : decode cX0_leafCost 164 = .ok (.iload 8, 2) := dk_21 8 (dk_at dksX0_leafCost_6 22 rfl rfl)
theorem dX0_leafCost_166 : decode cX0_leafCost 166 = .ok (.iaload, 1) := dk_46 (dk_at dksX0_leafCost_7 0 rfl rfl)
theorem dX0_leafCost_167 : decode cX0_leafCost 167 = .ok (.ior, 1) := dk_128 (dk_at dksX0_leafCost_7 1 rfl rfl)
theorem dX0_leafCost_168 : decode cX0_leafCost 168 = .ok (.istore 6, 2) := dk_54 6 (dk_at dksX0_leafCost_7 2 rfl rfl)
theorem dX0_leafCost_170 : decode cX0_leafCost 170 = .ok (.iinc 8 1, 3) := dk_132 8 1 (dk_at dksX0_leafCost_7 4 rfl rfl)
theorem dX0_leafCost_173 : decode cX0_leafCost 173 = .ok (.goto (-149), 3) := dk_167 255 107 (dk_at dksX0_leafCost_7 7 rfl rfl)
theorem dX0_leafCost_176 : decode cX0_leafCost 176 = .ok (.iload 7, 2) := dk_21 7 (dk_at dksX0_leafCost_7 10 rfl rfl)
theorem dX0_leafCost_178 : decode cX0_leafCost 178 = .ok (.ireturn, 1) := dk_172 (dk_at dksX0_leafCost_7 12 rfl rfl)
abbrev cX0_treeOf : ByteArray := prog_1_method_37_code
def yX0_treeOf : MethodName := ⟨RX0, "treeOf", "(III)I"⟩
def dkwX0_treeOf_2 : List UInt8 := [54, 5, 29, 154, 0, 11, 21, 4, 21, 5, 96, 167, 0, 10, 21, 4, 21, 5, 184, 1, 9, 172]
abbrev dktX0_treeOf_2 : List UInt8 := dkwX0_treeOf_2 ++ []
def dkwX0_treeOf_1 : List UInt8 := [27, 4, 96, 28, 29, 182, 1, 5, 54, 4, 42, 27, 4, 96, 28, 4, 27, 120, 128, 29, 182, 1, 5]
abbrev dktX0_treeOf_1 : List UInt8 := dkwX0_treeOf_1 ++ dktX0_treeOf_2
def dkwX0_treeOf_0 : List UInt8 := [42, 180, 0, 81, 27, 28, 184, 0, 198, 51, 153, 0, 13, 29, 154, 0, 7, 4, 167, 0, 4, 27, 172, 42]
abbrev dktX0_treeOf_0 : List UInt8 := dkwX0_treeOf_0 ++ dktX0_treeOf_1
theorem dksX0_treeOf_0 : cX0_treeOf.data.toList.drop 0 = dktX0_treeOf_0 := by decide +kernel
theorem dksX0_treeOf_1 : cX0_treeOf.data.toList.drop 24 = dktX0_treeOf_1 := dk_seg dksX0_treeOf_0 24 rfl rfl
theorem dksX0_treeOf_2 : cX0_treeOf.data.toList.drop 47 = dktX0_treeOf_2 := dk_seg dksX0_treeOf_1 23 rfl rfl
theorem dX0_treeOf_0 : decode cX0_treeOf 0 = .ok (.aload_n 0, 1) := dk_42 (dk_at dksX0_treeOf_0 0 rfl rfl)
theorem dX0_treeOf_1 : decode cX0_treeOf 1 = .ok (.getfield 81, 3) := dk_180 0 81 (dk_at dksX0_treeOf_0 1 rfl rfl)
theorem dX0_treeOf_4 : decode cX0_treeOf 4 = .ok (.iload_n 1, 1) := dk_27 (dk_at dksX0_treeOf_0 4 rfl rfl)
theorem dX0_treeOf_5 : decode cX0_treeOf 5 = .ok (.iload_n 2, 1) := dk_28 (dk_at dksX0_treeOf_0 5 rfl rfl)
theorem dX0_treeOf_6 : decode cX0_treeOf 6 = .ok (.invokestatic 198, 3) := dk_184 0 198 (dk_at dksX0_treeOf_0 6 rfl rfl)
theorem dX0_treeOf_9 : decode cX0_treeOf 9 = .ok (.baload, 1) := dk_51 (dk_at dksX0_treeOf_0 9 rfl rfl)
theorem dX0_treeOf_10 : decode cX0_treeOf 10 = .ok (.ifCond .eq 13, 3) := dk_153 0 13 (dk_at dksX0_treeOf_0 10 rfl rfl)
theorem dX0_treeOf_13 : decode cX0_treeOf 13 = .ok (.iload_n 3, 1) := dk_29 (dk_at dksX0_treeOf_0 13 rfl rfl)
theorem dX0_treeOf_14 : decode cX0_treeOf 14 = .ok (.ifCond .ne 7, 3) := dk_154 0 7 (dk_at dksX0_treeOf_0 14 rfl rfl)
theorem dX0_treeOf_17 : decode cX0_treeOf 17 = .ok (.iconst 1, 1) := dk_4 (dk_at dksX0_treeOf_0 17 rfl rfl)
theorem dX0_treeOf_18 : decode cX0_treeOf 18 = .ok (.goto 4, 3) := dk_167 0 4 (dk_at dksX0_treeOf_0 18 rfl rfl)
theorem dX0_treeOf_21 : decode cX0_treeOf 21 = .ok (.iload_n 1, 1) := dk_27 (dk_at dksX0_treeOf_0 21 rfl rfl)
theorem dX0_treeOf_22 : decode cX0_treeOf 22 = .ok (.ireturn, 1) := dk_172 (dk_at dksX0_treeOf_0 22 rfl rfl)
theorem dX0_treeOf_23 : decode cX0_treeOf 23 = .ok (.aload_n 0, 1) := dk_42 (dk_at dksX0_treeOf_0 23 rfl rfl)
theorem dX0_treeOf_24 : decode cX0_treeOf 24 = .ok (.iload_n 1, 1) := dk_27 (dk_at dksX0_treeOf_1 0 rfl rfl)
theorem dX0_treeOf_25 : decode cX0_treeOf 25 = .ok (.iconst 1, 1) := dk_4 (dk_at dksX0_treeOf_1 1 rfl rfl)
theorem dX0_treeOf_26 : decode cX0_treeOf 26 = .ok (.iadd, 1) := dk_96 (dk_at dksX0_treeOf_1 2 rfl rfl)
theorem dX0_treeOf_27 : decode cX0_treeOf 27 = .ok (.iload_n 2, 1) := dk_28 (dk_at dksX0_treeOf_1 3 rfl rfl)
theorem dX0_treeOf_28 : decode cX0_treeOf 28 = .ok (.iload_n 3, 1) := dk_29 (dk_at dksX0_treeOf_1 4 rfl rfl)
theorem dX0_treeOf_29 : decode cX0_treeOf 29 = .ok (.invokevirtual 261, 3) := dk_182 1 5 (dk_at dksX0_treeOf_1 5 rfl rfl)
theorem dX0_treeOf_32 : decode cX0_treeOf 32 = .ok (.istore 4, 2) := dk_54 4 (dk_at dksX0_treeOf_1 8 rfl rfl)
theorem dX0_treeOf_34 : decode cX0_treeOf 34 = .ok (.aload_n 0, 1) := dk_42 (dk_at dksX0_treeOf_1 10 rfl rfl)
theorem dX0_treeOf_35 : decode cX0_treeOf 35 = .ok (.iload_n 1, 1) := dk_27 (dk_at dksX0_treeOf_1 11 rfl rfl)
theorem dX0_treeOf_36 : decode cX0_treeOf 36 = .ok (.iconst 1, 1) := dk_4 (dk_at dksX0_treeOf_1 12 rfl rfl)
theorem dX0_treeOf_37 : decode cX0_treeOf 37 = .ok (.iadd, 1) := dk_96 (dk_at dksX0_treeOf_1 13 rfl rfl)
theorem dX0_treeOf_38 : decode cX0_treeOf 38 = .ok (.iload_n 2, 1) := dk_28 (dk_at dksX0_treeOf_1 14 rfl rfl)
theorem dX0_treeOf_39 : decode cX0_treeOf 39 = .ok (.iconst 1, 1) := dk_4 (dk_at dksX0_treeOf_1 15 rfl rfl)
theorem dX0_treeOf_40 : decode cX0_treeOf 40 = .ok (.iload_n 1, 1) := dk_27 (dk_at dksX0_treeOf_1 16 rfl rfl)
theorem dX0_treeOf_41 : decode cX0_treeOf 41 = .ok (.ishl, 1) := dk_120 (dk_at dksX0_treeOf_1 17 rfl rfl)
theorem dX0_treeOf_42 : decode cX0_treeOf 42 = .ok (.ior, 1) := dk_128 (dk_at dksX0_treeOf_1 18 rfl rfl)
theorem dX0_treeOf_43 : decode cX0_treeOf 43 = .ok (.iload_n 3, 1) := dk_29 (dk_at dksX0_treeOf_1 19 rfl rfl)
theorem dX0_treeOf_44 : decode cX0_treeOf 44 = .ok (.invokevirtual 261, 3) := dk_182 1 5 (dk_at dksX0_treeOf_1 20 rfl rfl)
theorem dX0_treeOf_47 : decode cX0_treeOf 47 = .ok (.istore 5, 2) := dk_54 5 (dk_at dksX0_treeOf_2 0 rfl rfl)
theorem dX0_treeOf_49 : decode cX0_treeOf 49 = .ok (.iload_n 3, 1) := dk_29 (dk_at dksX0_treeOf_2 2 rfl rfl)
theorem dX0_treeOf_50 : decode cX0_treeOf 50 = .ok (.ifCond .ne 11, 3) := dk_154 0 11 (dk_at dksX0_treeOf_2 3 rfl rfl)
theorem dX0_treeOf_53 : decode cX0_treeOf 53 = .ok (.iload 4, 2) := dk_21 4 (dk_at dksX0_treeOf_2 6 rfl rfl)
theorem dX0_treeOf_55 : decode cX0_treeOf 55 = .ok (.iload 5, 2) := dk_21 5 (dk_at dksX0_treeOf_2 8 rfl rfl)
theorem dX0_treeOf_57 : decode cX0_treeOf 57 = .ok (.iadd, 1) := dk_96 (dk_at dksX0_treeOf_2 10 rfl rfl)
theorem dX0_treeOf_58 : decode cX0_treeOf 58 = .ok (.goto 10, 3) := dk_167 0 10 (dk_at dksX0_treeOf_2 11 rfl rfl)
theorem dX0_treeOf_61 : decode cX0_treeOf 61 = .ok (.iload 4, 2) := dk_21 4 (dk_at dksX0_treeOf_2 14 rfl rfl)
theorem dX0_treeOf_63 : decode cX0_treeOf 63 = .ok (.iload 5, 2) := dk_21 5 (dk_at dksX0_treeOf_2 16 rfl rfl)
theorem dX0_treeOf_65 : decode cX0_treeOf 65 = .ok (.invokestatic 265, 3) := dk_184 1 9 (dk_at dksX0_treeOf_2 18 rfl rfl)
theorem dX0_treeOf_68 : decode cX0_treeOf 68 = .ok (.ireturn, 1) := dk_172 (dk_at dksX0_treeOf_2 21 rfl rfl)
abbrev cX0_leaf : ByteArray := prog_1_method_39_code
def yX0_leaf : MethodName := ⟨RX0, "leaf", "(II)I"⟩
def dkwX0_leaf_3 : List UInt8 := [27, 28, 184, 0, 198, 51, 153, 0, 7, 4, 167, 0, 4, 5, 172]
abbrev dktX0_leaf_3 : List UInt8 := dkwX0_leaf_3 ++ []
def dkwX0_leaf_2 : List UInt8 := [167, 0, 4, 3, 126, 62, 132, 4, 1, 167, 255, 225, 29, 154, 0, 7, 3, 167, 0, 21, 42, 180, 0, 81]
abbrev dktX0_leaf_2 : List UInt8 := dkwX0_leaf_2 ++ dktX0_leaf_3
def dkwX0_leaf_1 : List UInt8 := [21, 4, 27, 162, 0, 31, 29, 42, 180, 0, 81, 21, 4, 28, 184, 0, 198, 51, 154, 0, 7, 4]
abbrev dktX0_leaf_1 : List UInt8 := dkwX0_leaf_1 ++ dktX0_leaf_2
def dkwX0_leaf_0 : List UInt8 := [42, 27, 28, 182, 0, 194, 154, 0, 8, 42, 182, 0, 165, 172, 42, 182, 1, 11, 4, 62, 3, 54, 4]
abbrev dktX0_leaf_0 : List UInt8 := dkwX0_leaf_0 ++ dktX0_leaf_1
theorem dksX0_leaf_0 : cX0_leaf.data.toList.drop 0 = dktX0_leaf_0 := by decide +kernel
theorem dksX0_leaf_1 : cX0_leaf.data.toList.drop 23 = dktX0_leaf_1 := dk_seg dksX0_leaf_0 23 rfl rfl
theorem dksX0_leaf_2 : cX0_leaf.data.toList.drop 45 = dktX0_leaf_2 := dk_seg dksX0_leaf_1 22 rfl rfl
theorem dksX0_leaf_3 : cX0_leaf.data.toList.drop 69 = dktX0_leaf_3 := dk_seg dksX0_leaf_2 24 rfl rfl
theorem dX0_leaf_0 : decode cX0_leaf 0 = .ok (.aload_n 0, 1) := dk_42 (dk_at dksX0_leaf_0 0 rfl rfl)
theorem dX0_leaf_1 : decode cX0_leaf 1 = .ok (.iload_n 1, 1) := dk_27 (dk_at dksX0_leaf_0 1 rfl rfl)
theorem dX0_leaf_2 : decode cX0_leaf 2 = .ok (.iload_n 2, 1) := dk_28 (dk_at dksX0_leaf_0 2 rfl rfl)
theorem dX0_leaf_3 : decode cX0_leaf 3 = .ok (.invokevirtual 194, 3) := dk_182 0 194 (dk_at dksX0_leaf_0 3 rfl rfl)
theorem dX0_leaf_6 : decode cX0_leaf 6 = .ok (.ifCond .ne 8, 3) := dk_154 0 8 (dk_at dksX0_leaf_0 6 rfl rfl)
theorem dX0_leaf_9 : decode cX0_leaf 9 = .ok (.aload_n 0, 1) := dk_42 (dk_at dksX0_leaf_0 9 rfl rfl)
theorem dX0_leaf_10 : decode cX0_leaf 10 = .ok (.invokevirtual 165, 3) := dk_182 0 165 (dk_at dksX0_leaf_0 10 rfl rfl)
theorem dX0_leaf_13 : decode cX0_leaf 13 = .ok (.ireturn, 1) := dk_172 (dk_at dksX0_leaf_0 13 rfl rfl)
theorem dX0_leaf_14 : decode cX0_leaf 14 = .ok (.aload_n 0, 1) := dk_42 (dk_at dksX0_leaf_0 14 rfl rfl)
theorem dX0_leaf_15 : decode cX0_leaf 15 = .ok (.invokevirtual 267, 3) := dk_182 1 11 (dk_at dksX0_leaf_0 15 rfl rfl)
theorem dX0_leaf_18 : decode cX0_leaf 18 = .ok (.iconst 1, 1) := dk_4 (dk_at dksX0_leaf_0 18 rfl rfl)
theorem dX0_leaf_19 : decode cX0_leaf 19 = .ok (.istore_n 3, 1) := dk_62 (dk_at dksX0_leaf_0 19 rfl rfl)
theorem dX0_leaf_20 : decode cX0_leaf 20 = .ok (.iconst 0, 1) := dk_3 (dk_at dksX0_leaf_0 20 rfl rfl)
theorem dX0_leaf_21 : decode cX0_leaf 21 = .ok (.istore 4, 2) := dk_54 4 (dk_at dksX0_leaf_0 21 rfl rfl)
theorem dX0_leaf_23 : decode cX0_leaf 23 = .ok (.iload 4, 2) := dk_21 4 (dk_at dksX0_leaf_1 0 rfl rfl)
theorem dX0_leaf_25 : decode cX0_leaf 25 = .ok (.iload_n 1, 1) := dk_27 (dk_at dksX0_leaf_1 2 rfl rfl)
theorem dX0_leaf_26 : decode cX0_leaf 26 = .ok (.if_icmp .ge 31, 3) := dk_162 0 31 (dk_at dksX0_leaf_1 3 rfl rfl)
theorem dX0_leaf_29 : decode cX0_leaf 29 = .ok (.iload_n 3, 1) := dk_29 (dk_at dksX0_leaf_1 6 rfl rfl)
theorem dX0_leaf_30 : decode cX0_leaf 30 = .ok (.aload_n 0, 1) := dk_42 (dk_at dksX0_leaf_1 7 rfl rfl)
theorem dX0_leaf_31 : decode cX0_leaf 31 = .ok (.getfield 81, 3) := dk_180 0 81 (dk_at dksX0_leaf_1 8 rfl rfl)
theorem dX0_leaf_34 : decode cX0_leaf 34 = .ok (.iload 4, 2) := dk_21 4 (dk_at dksX0_leaf_1 11 rfl rfl)
theorem dX0_leaf_36 : decode cX0_leaf 36 = .ok (.iload_n 2, 1) := dk_28 (dk_at dksX0_leaf_1 13 rfl rfl)
theorem dX0_leaf_37 : decode cX0_leaf 37 = .ok (.invokestatic 198, 3) := dk_184 0 198 (dk_at dksX0_leaf_1 14 rfl rfl)
theorem dX0_leaf_40 : decode cX0_leaf 40 = .ok (.baload, 1) := dk_51 (dk_at dksX0_leaf_1 17 rfl rfl)
theorem dX0_leaf_41 : decode cX0_leaf 41 = .ok (.ifCond .ne 7, 3) := dk_154 0 7 (dk_at dksX0_leaf_1 18 rfl rfl)
theorem dX0_leaf_44 : decode cX0_leaf 44 = .ok (.iconst 1, 1) := dk_4 (dk_at dksX0_leaf_1 21 rfl rfl)
theorem dX0_leaf_45 : decode cX0_leaf 45 = .ok (.goto 4, 3) := dk_167 0 4 (dk_at dksX0_leaf_2 0 rfl rfl)
theorem dX0_leaf_48 : decode cX0_leaf 48 = .ok (.iconst 0, 1) := dk_3 (dk_at dksX0_leaf_2 3 rfl rfl)
theorem dX0_leaf_49 : decode cX0_leaf 49 = .ok (.iand, 1) := dk_126 (dk_at dksX0_leaf_2 4 rfl rfl)
theorem dX0_leaf_50 : decode cX0_leaf 50 = .ok (.istore_n 3, 1) := dk_62 (dk_at dksX0_leaf_2 5 rfl rfl)
theorem dX0_leaf_51 : decode cX0_leaf 51 = .ok (.iinc 4 1, 3) := dk_132 4 1 (dk_at dksX0_leaf_2 6 rfl rfl)
theorem dX0_leaf_54 : decode cX0_leaf 54 = .ok (.goto (-31), 3) := dk_167 255 225 (dk_at dksX0_leaf_2 9 rfl rfl)
theorem dX0_leaf_57 : decode cX0_leaf 57 = .ok (.iload_n 3, 1) := dk_29 (dk_at dksX0_leaf_2 12 rfl rfl)
theorem dX0_leaf_58 : decode cX0_leaf 58 = .ok (.ifCond .ne 7, 3) := dk_154 0 7 (dk_at dksX0_leaf_2 13 rfl rfl)
theorem dX0_leaf_61 : decode cX0_leaf 61 = .ok (.iconst 0, 1) := dk_3 (dk_at dksX0_leaf_2 16 rfl rfl)
theorem dX0_leaf_62 : decode cX0_leaf 62 = .ok (.goto 21, 3) := dk_167 0 21 (dk_at dksX0_leaf_2 17 rfl rfl)
theorem dX0_leaf_65 : decode cX0_leaf 65 = .ok (.aload_n 0, 1) := dk_42 (dk_at dksX0_leaf_2 20 rfl rfl)
theorem dX0_leaf_66 : decode cX0_leaf 66 = .ok (.getfield 81, 3) := dk_180 0 81 (dk_at dksX0_leaf_2 21 rfl rfl)
theorem dX0_leaf_69 : decode cX0_leaf 69 = .ok (.iload_n 1, 1) := dk_27 (dk_at dksX0_leaf_3 0 rfl rfl)
theorem dX0_leaf_70 : decode cX0_leaf 70 = .ok (.iload_n 2, 1) := dk_28 (dk_at dksX0_leaf_3 1 rfl rfl)
theorem dX0_leaf_71 : decode cX0_leaf 71 = .ok (.invokestatic 198, 3) := dk_184 0 198 (dk_at dksX0_leaf_3 2 rfl rfl)
theorem dX0_leaf_74 : decode cX0_leaf 74 = .ok (.baload, 1) := dk_51 (dk_at dksX0_leaf_3 5 rfl rfl)
theorem dX0_leaf_75 : decode cX0_leaf 75 = .ok (.ifCond .eq 7, 3) := dk_153 0 7 (dk_at dksX0_leaf_3 6 rfl rfl)
theorem dX0_leaf_78 : decode cX0_leaf 78 = .ok (.iconst 1, 1) := dk_4 (dk_at dksX0_leaf_3 9 rfl rfl)
theorem dX0_leaf_79 : decode cX0_leaf 79 = .ok (.goto 4, 3) := dk_167 0 4 (dk_at dksX0_leaf_3 10 rfl rfl)
theorem dX0_leaf_82 : decode cX0_leaf 82 = .ok (.iconst 2, 1) := dk_5 (dk_at dksX0_leaf_3 13 rfl rfl)
theorem dX0_leaf_83 : decode cX0_leaf 83 = .ok (.ireturn, 1) := dk_172 (dk_at dksX0_leaf_3 14 rfl rfl)
abbrev cX0_written : ByteArray := prog_1_method_40_code
def yX0_written : MethodName := ⟨RX0, "written", "(I)I"⟩
def dkwX0_written_2 : List UInt8 := [42, 180, 0, 90, 180, 1, 20, 27, 46, 167, 0, 5, 16, 251, 172]
abbrev dktX0_written_2 : List UInt8 := dkwX0_written_2 ++ []
def dkwX0_written_1 : List UInt8 := [160, 0, 13, 42, 180, 0, 90, 180, 1, 17, 167, 0, 28, 27, 42, 180, 0, 90, 180, 1, 17, 162, 0, 15]
abbrev dktX0_written_1 : List UInt8 := dkwX0_written_1 ++ dktX0_written_2
def dkwX0_written_0 : List UInt8 := [27, 2, 162, 0, 11, 42, 3, 16, 246, 182, 0, 131, 172, 42, 180, 0, 90, 182, 1, 14, 27, 2]
abbrev dktX0_written_0 : List UInt8 := dkwX0_written_0 ++ dktX0_written_1
theorem dksX0_written_0 : cX0_written.data.toList.drop 0 = dktX0_written_0 := by decide +kernel
theorem dksX0_written_1 : cX0_written.data.toList.drop 22 = dktX0_written_1 := dk_seg dksX0_written_0 22 rfl rfl
theorem dksX0_written_2 : cX0_written.data.toList.drop 46 = dktX0_written_2 := dk_seg dksX0_written_1 24 rfl rfl
theorem dX0_written_0 : decode cX0_written 0 = .ok (.iload_n 1, 1) := dk_27 (dk_at dksX0_written_0 0 rfl rfl)
theorem dX0_written_1 : decode cX0_written 1 = .ok (.iconst (-1), 1) := dk_2 (dk_at dksX0_written_0 1 rfl rfl)
theorem dX0_written_2 : decode cX0_written 2 = .ok (.if_icmp .ge 11, 3) := dk_162 0 11 (dk_at dksX0_written_0 2 rfl rfl)
theorem dX0_written_5 : decode cX0_written 5 = .ok (.aload_n 0, 1) := dk_42 (dk_at dksX0_written_0 5 rfl rfl)
theorem dX0_written_6 : decode cX0_written 6 = .ok (.iconst 0, 1) := dk_3 (dk_at dksX0_written_0 6 rfl rfl)
theorem dX0_written_7 : decode cX0_written 7 = .ok (.bipush (-10), 2) := dk_16 246 (dk_at dksX0_written_0 7 rfl rfl)
theorem dX0_written_9 : decode cX0_written 9 = .ok (.invokevirtual 131, 3) := dk_182 0 131 (dk_at dksX0_written_0 9 rfl rfl)
theorem dX0_written_12 : decode cX0_written 12 = .ok (.ireturn, 1) := dk_172 (dk_at dksX0_written_0 12 rfl rfl)
theorem dX0_written_13 : decode cX0_written 13 = .ok (.aload_n 0, 1) := dk_42 (dk_at dksX0_written_0 13 rfl rfl)
theorem dX0_written_14 : decode cX0_written 14 = .ok (.getfield 90, 3) := dk_180 0 90 (dk_at dksX0_written_0 14 rfl rfl)
theorem dX0_written_17 : decode cX0_written 17 = .ok (.invokevirtual 270, 3) := dk_182 1 14 (dk_at dksX0_written_0 17 rfl rfl)
theorem dX0_written_20 : decode cX0_written 20 = .ok (.iload_n 1, 1) := dk_27 (dk_at dksX0_written_0 20 rfl rfl)
theorem dX0_written_21 : decode cX0_written 21 = .ok (.iconst (-1), 1) := dk_2 (dk_at dksX0_written_0 21 rfl rfl)
theorem dX0_written_22 : decode cX0_written 22 = .ok (.if_icmp .ne 13, 3) := dk_160 0 13 (dk_at dksX0_written_1 0 rfl rfl)
theorem dX0_written_25 : decode cX0_written 25 = .ok (.aload_n 0, 1) := dk_42 (dk_at dksX0_written_1 3 rfl rfl)
theorem dX0_written_26 : decode cX0_written 26 = .ok (.getfield 90, 3) := dk_180 0 90 (dk_at dksX0_written_1 4 rfl rfl)
theorem dX0_written_29 : decode cX0_written 29 = .ok (.getfield 273, 3) := dk_180 1 17 (dk_at dksX0_written_1 7 rfl rfl)
theorem dX0_written_32 : decode cX0_written 32 = .ok (.goto 28, 3) := dk_167 0 28 (dk_at dksX0_written_1 10 rfl rfl)
theorem dX0_written_35 : decode cX0_written 35 = .ok (.iload_n 1, 1) := dk_27 (dk_at dksX0_written_1 13 rfl rfl)
theorem dX0_written_36 : decode cX0_written 36 = .ok (.aload_n 0, 1) := dk_42 (dk_at dksX0_written_1 14 rfl rfl)
theorem dX0_written_37 : decode cX0_written 37 = .ok (.getfield 90, 3) := dk_180 0 90 (dk_at dksX0_written_1 15 rfl rfl)
theorem dX0_written_40 : decode cX0_written 40 = .ok (.getfield 273, 3) := dk_180 1 17 (dk_at dksX0_written_1 18 rfl rfl)
theorem dX0_written_43 : decode cX0_written 43 = .ok (.if_icmp .ge 15, 3) := dk_162 0 15 (dk_at dksX0_written_1 21 rfl rfl)
theorem dX0_written_46 : decode cX0_written 46 = .ok (.aload_n 0, 1) := dk_42 (dk_at dksX0_written_2 0 rfl rfl)
theorem dX0_written_47 : decode cX0_written 47 = .ok (.getfield 90, 3) := dk_180 0 90 (dk_at dksX0_written_2 1 rfl rfl)
theorem dX0_written_50 : decode cX0_written 50 = .ok (.getfield 276, 3) := dk_180 1 20 (dk_at dksX0_written_2 4 rfl rfl)
theorem dX0_written_53 : decode cX0_written 53 = .ok (.iload_n 1, 1) := dk_27 (dk_at dksX0_written_2 7 rfl rfl)
theorem dX0_written_54 : decode cX0_written 54 = .ok (.iaload, 1) := dk_46 (dk_at dksX0_written_2 8 rfl rfl)
theorem dX0_written_55 : decode cX0_written 55 = .ok (.goto 5, 3) := dk_167 0 5 (dk_at dksX0_written_2 9 rfl rfl)
theorem dX0_written_58 : decode cX0_written 58 = .ok (.bipush (-5), 2) := dk_16 251 (dk_at dksX0_written_2 12 rfl rfl)
theorem dX0_written_60 : decode cX0_written 60 = .ok (.ireturn, 1) := dk_172 (dk_at dksX0_written_2 14 rfl rfl)
abbrev cX0_reads : ByteArray := prog_1_method_41_code
def yX0_reads : MethodName := ⟨RX0, "reads", "(II)I"⟩
def dkwX0_reads_3 : List UInt8 := [180, 0, 90, 182, 1, 25, 172]
abbrev dktX0_reads_3 : List UInt8 := dkwX0_reads_3 ++ []
def dkwX0_reads_2 : List UInt8 := [182, 0, 165, 172, 27, 2, 159, 0, 16, 42, 180, 0, 90, 180, 1, 20, 27, 92, 46, 28, 130, 79, 42]
abbrev dktX0_reads_2 : List UInt8 := dkwX0_reads_2 ++ dktX0_reads_3
def dkwX0_reads_1 : List UInt8 := [182, 0, 165, 172, 42, 180, 0, 90, 182, 1, 14, 27, 42, 180, 0, 90, 180, 1, 17, 161, 0, 8, 42]
abbrev dktX0_reads_1 : List UInt8 := dkwX0_reads_1 ++ dktX0_reads_2
def dkwX0_reads_0 : List UInt8 := [27, 2, 161, 0, 20, 27, 2, 159, 0, 20, 28, 133, 10, 20, 1, 23, 184, 0, 161, 154, 0, 8, 42]
abbrev dktX0_reads_0 : List UInt8 := dkwX0_reads_0 ++ dktX0_reads_1
theorem dksX0_reads_0 : cX0_reads.data.toList.drop 0 = dktX0_reads_0 := by decide +kernel
theorem dksX0_reads_1 : cX0_reads.data.toList.drop 23 = dktX0_reads_1 := dk_seg dksX0_reads_0 23 rfl rfl
theorem dksX0_reads_2 : cX0_reads.data.toList.drop 46 = dktX0_reads_2 := dk_seg dksX0_reads_1 23 rfl rfl
theorem dksX0_reads_3 : cX0_reads.data.toList.drop 69 = dktX0_reads_3 := dk_seg dksX0_reads_2 23 rfl rfl
theorem dX0_reads_0 : decode cX0_reads 0 = .ok (.iload_n 1, 1) := dk_27 (dk_at dksX0_reads_0 0 rfl rfl)
theorem dX0_reads_1 : decode cX0_reads 1 = .ok (.iconst (-1), 1) := dk_2 (dk_at dksX0_reads_0 1 rfl rfl)
theorem dX0_reads_2 : decode cX0_reads 2 = .ok (.if_icmp .lt 20, 3) := dk_161 0 20 (dk_at dksX0_reads_0 2 rfl rfl)
theorem dX0_reads_5 : decode cX0_reads 5 = .ok (.iload_n 1, 1) := dk_27 (dk_at dksX0_reads_0 5 rfl rfl)
theorem dX0_reads_6 : decode cX0_reads 6 = .ok (.iconst (-1), 1) := dk_2 (dk_at dksX0_reads_0 6 rfl rfl)
theorem dX0_reads_7 : decode cX0_reads 7 = .ok (.if_icmp .eq 20, 3) := dk_159 0 20 (dk_at dksX0_reads_0 7 rfl rfl)
theorem dX0_reads_10 : decode cX0_reads 10 = .ok (.iload_n 2, 1) := dk_28 (dk_at dksX0_reads_0 10 rfl rfl)
theorem dX0_reads_11 : decode cX0_reads 11 = .ok (.i2l, 1) := dk_133 (dk_at dksX0_reads_0 11 rfl rfl)
theorem dX0_reads_12 : decode cX0_reads 12 = .ok (.lconst 1, 1) := dk_10 (dk_at dksX0_reads_0 12 rfl rfl)
theorem dX0_reads_13 : decode cX0_reads 13 = .ok (.ldc2_w 279, 3) := dk_20 1 23 (dk_at dksX0_reads_0 13 rfl rfl)
theorem dX0_reads_16 : decode cX0_reads 16 = .ok (.invokestatic 161, 3) := dk_184 0 161 (dk_at dksX0_reads_0 16 rfl rfl)
theorem dX0_reads_19 : decode cX0_reads 19 = .ok (.ifCond .ne 8, 3) := dk_154 0 8 (dk_at dksX0_reads_0 19 rfl rfl)
theorem dX0_reads_22 : decode cX0_reads 22 = .ok (.aload_n 0, 1) := dk_42 (dk_at dksX0_reads_0 22 rfl rfl)
theorem dX0_reads_23 : decode cX0_reads 23 = .ok (.invokevirtual 165, 3) := dk_182 0 165 (dk_at dksX0_reads_1 0 rfl rfl)
theorem dX0_reads_26 : decode cX0_reads 26 = .ok (.ireturn, 1) := dk_172 (dk_at dksX0_reads_1 3 rfl rfl)
theorem dX0_reads_27 : decode cX0_reads 27 = .ok (.aload_n 0, 1) := dk_42 (dk_at dksX0_reads_1 4 rfl rfl)
theorem dX0_reads_28 : decode cX0_reads 28 = .ok (.getfield 90, 3) := dk_180 0 90 (dk_at dksX0_reads_1 5 rfl rfl)
theorem dX0_reads_31 : decode cX0_reads 31 = .ok (.invokevirtual 270, 3) := dk_182 1 14 (dk_at dksX0_reads_1 8 rfl rfl)
theorem dX0_reads_34 : decode cX0_reads 34 = .ok (.iload_n 1, 1) := dk_27 (dk_at dksX0_reads_1 11 rfl rfl)
theorem dX0_reads_35 : decode cX0_reads 35 = .ok (.aload_n 0, 1) := dk_42 (dk_at dksX0_reads_1 12 rfl rfl)
theorem dX0_reads_36 : decode cX0_reads 36 = .ok (.getfield 90, 3) := dk_180 0 90 (dk_at dksX0_reads_1 13 rfl rfl)
theorem dX0_reads_39 : decode cX0_reads 39 = .ok (.getfield 273, 3) := dk_180 1 17 (dk_at dksX0_reads_1 16 rfl rfl)
theorem dX0_reads_42 : decode cX0_reads 42 = .ok (.if_icmp .lt 8, 3) := dk_161 0 8 (dk_at dksX0_reads_1 19 rfl rfl)
theorem dX0_reads_45 : decode cX0_reads 45 = .ok (.aload_n 0, 1) := dk_42 (dk_at dksX0_reads_1 22 rfl rfl)
theorem dX0_reads_46 : decode cX0_reads 46 = .ok (.invokevirtual 165, 3) := dk_182 0 165 (dk_at dksX0_reads_2 0 rfl rfl)
theorem dX0_reads_49 : decode cX0_reads 49 = .ok (.ireturn, 1) := dk_172 (dk_at dksX0_reads_2 3 rfl rfl)
theorem dX0_reads_50 : decode cX0_reads 50 = .ok (.iload_n 1, 1) := dk_27 (dk_at dksX0_reads_2 4 rfl rfl)
theorem dX0_reads_51 : decode cX0_reads 51 = .ok (.iconst (-1), 1) := dk_2 (dk_at dksX0_reads_2 5 rfl rfl)
theorem dX0_reads_52 : decode cX0_reads 52 = .ok (.if_icmp .eq 16, 3) := dk_159 0 16 (dk_at dksX0_reads_2 6 rfl rfl)
theorem dX0_reads_55 : decode cX0_reads 55 = .ok (.aload_n 0, 1) := dk_42 (dk_at dksX0_reads_2 9 rfl rfl)
theorem dX0_reads_56 : decode cX0_reads 56 = .ok (.getfield 90, 3) := dk_180 0 90 (dk_at dksX0_reads_2 10 rfl rfl)
theorem dX0_reads_59 : decode cX0_reads 59 = .ok (.getfield 276, 3) := dk_180 1 20 (dk_at dksX0_reads_2 13 rfl rfl)
theorem dX0_reads_62 : decode cX0_reads 62 = .ok (.iload_n 1, 1) := dk_27 (dk_at dksX0_reads_2 16 rfl rfl)
theorem dX0_reads_63 : decode cX0_reads 63 = .ok (.dup2, 1) := dk_92 (dk_at dksX0_reads_2 17 rfl rfl)
theorem dX0_reads_64 : decode cX0_reads 64 = .ok (.iaload, 1) := dk_46 (dk_at dksX0_reads_2 18 rfl rfl)
theorem dX0_reads_65 : decode cX0_reads 65 = .ok (.iload_n 2, 1) := dk_28 (dk_at dksX0_reads_2 19 rfl rfl)
theorem dX0_reads_66 : decode cX0_reads 66 = .ok (.ixor, 1) := dk_130 (dk_at dksX0_reads_2 20 rfl rfl)
theorem dX0_reads_67 : decode cX0_reads 67 = .ok (.iastore, 1) := dk_79 (dk_at dksX0_reads_2 21 rfl rfl)
theorem dX0_reads_68 : decode cX0_reads 68 = .ok (.aload_n 0, 1) := dk_42 (dk_at dksX0_reads_2 22 rfl rfl)
theorem dX0_reads_69 : decode cX0_reads 69 = .ok (.getfield 90, 3) := dk_180 0 90 (dk_at dksX0_reads_3 0 rfl rfl)
theorem dX0_reads_72 : decode cX0_reads 72 = .ok (.invokevirtual 281, 3) := dk_182 1 25 (dk_at dksX0_reads_3 3 rfl rfl)
theorem dX0_reads_75 : decode cX0_reads 75 = .ok (.ireturn, 1) := dk_172 (dk_at dksX0_reads_3 6 rfl rfl)
abbrev cX0_type : ByteArray := prog_1_method_42_code
def yX0_type : MethodName := ⟨RX0, "type", "(I)I"⟩
def dkwX0_type_2 : List UInt8 := [4, 96, 181, 1, 30, 42, 180, 1, 30, 172]
abbrev dktX0_type_2 : List UInt8 := dkwX0_type_2 ++ []
def dkwX0_type_1 : List UInt8 := [160, 0, 8, 42, 182, 0, 168, 172, 42, 180, 0, 71, 42, 180, 1, 30, 27, 145, 84, 42, 89, 180, 1, 30]
abbrev dktX0_type_1 : List UInt8 := dkwX0_type_1 ++ dktX0_type_2
def dkwX0_type_0 : List UInt8 := [27, 133, 9, 20, 1, 28, 184, 0, 161, 154, 0, 8, 42, 182, 0, 165, 172, 42, 180, 1, 30, 16, 120]
abbrev dktX0_type_0 : List UInt8 := dkwX0_type_0 ++ dktX0_type_1
theorem dksX0_type_0 : cX0_type.data.toList.drop 0 = dktX0_type_0 := by decide +kernel
theorem dksX0_type_1 : cX0_type.data.toList.drop 23 = dktX0_type_1 := dk_seg dksX0_type_0 23 rfl rfl
theorem dksX0_type_2 : cX0_type.data.toList.drop 47 = dktX0_type_2 := dk_seg dksX0_type_1 24 rfl rfl
theorem dX0_type_0 : decode cX0_type 0 = .ok (.iload_n 1, 1) := dk_27 (dk_at dksX0_type_0 0 rfl rfl)
theorem dX0_type_1 : decode cX0_type 1 = .ok (.i2l, 1) := dk_133 (dk_at dksX0_type_0 1 rfl rfl)
theorem dX0_type_2 : decode cX0_type 2 = .ok (.lconst 0, 1) := dk_9 (dk_at dksX0_type_0 2 rfl rfl)
theorem dX0_type_3 : decode cX0_type 3 = .ok (.ldc2_w 284, 3) := dk_20 1 28 (dk_at dksX0_type_0 3 rfl rfl)
theorem dX0_type_6 : decode cX0_type 6 = .ok (.invokestatic 161, 3) := dk_184 0 161 (dk_at dksX0_type_0 6 rfl rfl)
theorem dX0_type_9 : decode cX0_type 9 = .ok (.ifCond .ne 8, 3) := dk_154 0 8 (dk_at dksX0_type_0 9 rfl rfl)
theorem dX0_type_12 : decode cX0_type 12 = .ok (.aload_n 0, 1) := dk_42 (dk_at dksX0_type_0 12 rfl rfl)
theorem dX0_type_13 : decode cX0_type 13 = .ok (.invokevirtual 165, 3) := dk_182 0 165 (dk_at dksX0_type_0 13 rfl rfl)
theorem dX0_type_16 : decode cX0_type 16 = .ok (.ireturn, 1) := dk_172 (dk_at dksX0_type_0 16 rfl rfl)
theorem dX0_type_17 : decode cX0_type 17 = .ok (.aload_n 0, 1) := dk_42 (dk_at dksX0_type_0 17 rfl rfl)
theorem dX0_type_18 : decode cX0_type 18 = .ok (.getfield 286, 3) := dk_180 1 30 (dk_at dksX0_type_0 18 rfl rfl)
theorem dX0_type_21 : decode cX0_type 21 = .ok (.bipush 120, 2) := dk_16 120 (dk_at dksX0_type_0 21 rfl rfl)
theorem dX0_type_23 : decode cX0_type 23 = .ok (.if_icmp .ne 8, 3) := dk_160 0 8 (dk_at dksX0_type_1 0 rfl rfl)
theorem dX0_type_26 : decode cX0_type 26 = .ok (.aload_n 0, 1) := dk_42 (dk_at dksX0_type_1 3 rfl rfl)
theorem dX0_type_27 : decode cX0_type 27 = .ok (.invokevirtual 168, 3) := dk_182 0 168 (dk_at dksX0_type_1 4 rfl rfl)
theorem dX0_type_30 : decode cX0_type 30 = .ok (.ireturn, 1) := dk_172 (dk_at dksX0_type_1 7 rfl rfl)
theorem dX0_type_31 : decode cX0_type 31 = .ok (.aload_n 0, 1) := dk_42 (dk_at dksX0_type_1 8 rfl rfl)
theorem dX0_type_32 : decode cX0_type 32 = .ok (.getfield 71, 3) := dk_180 0 71 (dk_at dksX0_type_1 9 rfl rfl)
theorem dX0_type_35 : decode cX0_type 35 = .ok (.aload_n 0, 1) := dk_42 (dk_at dksX0_type_1 12 rfl rfl)
theorem dX0_type_36 : decode cX0_type 36 = .ok (.getfield 286, 3) := dk_180 1 30 (dk_at dksX0_type_1 13 rfl rfl)
theorem dX0_type_39 : decode cX0_type 39 = .ok (.iload_n 1, 1) := dk_27 (dk_at dksX0_type_1 16 rfl rfl)
theorem dX0_type_40 : decode cX0_type 40 = .ok (.i2b, 1) := dk_145 (dk_at dksX0_type_1 17 rfl rfl)
theorem dX0_type_41 : decode cX0_type 41 = .ok (.bastore, 1) := dk_84 (dk_at dksX0_type_1 18 rfl rfl)
theorem dX0_type_42 : decode cX0_type 42 = .ok (.aload_n 0, 1) := dk_42 (dk_at dksX0_type_1 19 rfl rfl)
theorem dX0_type_43 : decode cX0_type 43 = .ok (.dup, 1) := dk_89 (dk_at dksX0_type_1 20 rfl rfl)
theorem dX0_type_44 : decode cX0_type 44 = .ok (.getfield 286, 3) := dk_180 1 30 (dk_at dksX0_type_1 21 rfl rfl)
theorem dX0_type_47 : decode cX0_type 47 = .ok (.iconst 1, 1) := dk_4 (dk_at dksX0_type_2 0 rfl rfl)
theorem dX0_type_48 : decode cX0_type 48 = .ok (.iadd, 1) := dk_96 (dk_at dksX0_type_2 1 rfl rfl)
theorem dX0_type_49 : decode cX0_type 49 = .ok (.putfield 286, 3) := dk_181 1 30 (dk_at dksX0_type_2 2 rfl rfl)
theorem dX0_type_52 : decode cX0_type 52 = .ok (.aload_n 0, 1) := dk_42 (dk_at dksX0_type_2 5 rfl rfl)
theorem dX0_type_53 : decode cX0_type 53 = .ok (.getfield 286, 3) := dk_180 1 30 (dk_at dksX0_type_2 6 rfl rfl)
theorem dX0_type_56 : decode cX0_type 56 = .ok (.ireturn, 1) := dk_172 (dk_at dksX0_type_2 9 rfl rfl)
abbrev cX0_clear : ByteArray := prog_1_method_43_code
def yX0_clear : MethodName := ⟨RX0, "clear", "()I"⟩
def dkwX0_clear_0 : List UInt8 := [42, 180, 1, 30, 60, 42, 3, 181, 1, 30, 27, 172]
abbrev dktX0_clear_0 : List UInt8 := dkwX0_clear_0 ++ []
theorem dksX0_clear_0 : cX0_clear.data.toList.drop 0 = dktX0_clear_0 := by decide +kernel
theorem dX0_clear_0 : decode cX0_clear 0 = .ok (.aload_n 0, 1) := dk_42 (dk_at dksX0_clear_0 0 rfl rfl)
theorem dX0_clear_1 : decode cX0_clear 1 = .ok (.getfield 286, 3) := dk_180 1 30 (dk_at dksX0_clear_0 1 rfl rfl)
theorem dX0_clear_4 : decode cX0_clear 4 = .ok (.istore_n 1, 1) := dk_60 (dk_at dksX0_clear_0 4 rfl rfl)
theorem dX0_clear_5 : decode cX0_clear 5 = .ok (.aload_n 0, 1) := dk_42 (dk_at dksX0_clear_0 5 rfl rfl)
theorem dX0_clear_6 : decode cX0_clear 6 = .ok (.iconst 0, 1) := dk_3 (dk_at dksX0_clear_0 6 rfl rfl)
theorem dX0_clear_7 : decode cX0_clear 7 = .ok (.putfield 286, 3) := dk_181 1 30 (dk_at dksX0_clear_0 7 rfl rfl)
theorem dX0_clear_10 : decode cX0_clear 10 = .ok (.iload_n 1, 1) := dk_27 (dk_at dksX0_clear_0 10 rfl rfl)
theorem dX0_clear_11 : decode cX0_clear 11 = .ok (.ireturn, 1) := dk_172 (dk_at dksX0_clear_0 11 rfl rfl)
abbrev cX0_told : ByteArray := prog_1_method_44_code
def yX0_told : MethodName := ⟨RX0, "told", "()I"⟩
def dkwX0_told_2 : List UInt8 := [182, 0, 159, 87, 132, 1, 1, 167, 255, 228, 42, 180, 0, 97, 180, 1, 40, 172]
abbrev dktX0_told_2 : List UInt8 := dkwX0_told_2 ++ []
def dkwX0_told_1 : List UInt8 := [60, 27, 42, 180, 0, 97, 180, 1, 40, 162, 0, 23, 42, 42, 180, 0, 97, 180, 1, 43, 27, 46]
abbrev dktX0_told_1 : List UInt8 := dkwX0_told_1 ++ dktX0_told_2
def dkwX0_told_0 : List UInt8 := [42, 180, 0, 97, 182, 1, 33, 167, 0, 12, 76, 16, 246, 43, 180, 1, 37, 100, 172, 42, 182, 0, 171, 3]
abbrev dktX0_told_0 : List UInt8 := dkwX0_told_0 ++ dktX0_told_1
theorem dksX0_told_0 : cX0_told.data.toList.drop 0 = dktX0_told_0 := by decide +kernel
theorem dksX0_told_1 : cX0_told.data.toList.drop 24 = dktX0_told_1 := dk_seg dksX0_told_0 24 rfl rfl
theorem dksX0_told_2 : cX0_told.data.toList.drop 46 = dktX0_told_2 := dk_seg dksX0_told_1 22 rfl rfl
theorem dX0_told_0 : decode cX0_told 0 = .ok (.aload_n 0, 1) := dk_42 (dk_at dksX0_told_0 0 rfl rfl)
theorem dX0_told_1 : decode cX0_told 1 = .ok (.getfield 97, 3) := dk_180 0 97 (dk_at dksX0_told_0 1 rfl rfl)
theorem dX0_told_4 : decode cX0_told 4 = .ok (.invokevirtual 289, 3) := dk_182 1 33 (dk_at dksX0_told_0 4 rfl rfl)
theorem dX0_told_7 : decode cX0_told 7 = .ok (.goto 12, 3) := dk_167 0 12 (dk_at dksX0_told_0 7 rfl rfl)
theorem dX0_told_10 : decode cX0_told 10 = .ok (.astore_n 1, 1) := dk_76 (dk_at dksX0_told_0 10 rfl rfl)
theorem dX0_told_11 : decode cX0_told 11 = .ok (.bipush (-10), 2) := dk_16 246 (dk_at dksX0_told_0 11 rfl rfl)
theorem dX0_told_13 : decode cX0_told 13 = .ok (.aload_n 1, 1) := dk_43 (dk_at dksX0_told_0 13 rfl rfl)
theorem dX0_told_14 : decode cX0_told 14 = .ok (.getfield 293, 3) := dk_180 1 37 (dk_at dksX0_told_0 14 rfl rfl)
theorem dX0_told_17 : decode cX0_told 17 = .ok (.isub, 1) := dk_100 (dk_at dksX0_told_0 17 rfl rfl)
theorem dX0_told_18 : decode cX0_told 18 = .ok (.ireturn, 1) := dk_172 (dk_at dksX0_told_0 18 rfl rfl)
theorem dX0_told_19 : decode cX0_told 19 = .ok (.aload_n 0, 1) := dk_42 (dk_at dksX0_told_0 19 rfl rfl)
theorem dX0_told_20 : decode cX0_told 20 = .ok (.invokevirtual 171, 3) := dk_182 0 171 (dk_at dksX0_told_0 20 rfl rfl)
theorem dX0_told_23 : decode cX0_told 23 = .ok (.iconst 0, 1) := dk_3 (dk_at dksX0_told_0 23 rfl rfl)
theorem dX0_told_24 : decode cX0_told 24 = .ok (.istore_n 1, 1) := dk_60 (dk_at dksX0_told_1 0 rfl rfl)
theorem dX0_told_25 : decode cX0_told 25 = .ok (.iload_n 1, 1) := dk_27 (dk_at dksX0_told_1 1 rfl rfl)
theorem dX0_told_26 : decode cX0_told 26 = .ok (.aload_n 0, 1) := dk_42 (dk_at dksX0_told_1 2 rfl rfl)
theorem dX0_told_27 : decode cX0_told 27 = .ok (.getfield 97, 3) := dk_180 0 97 (dk_at dksX0_told_1 3 rfl rfl)
theorem dX0_told_30 : decode cX0_told 30 = .ok (.getfield 296, 3) := dk_180 1 40 (dk_at dksX0_told_1 6 rfl rfl)
theorem dX0_told_33 : decode cX0_told 33 = .ok (.if_icmp .ge 23, 3) := dk_162 0 23 (dk_at dksX0_told_1 9 rfl rfl)
theorem dX0_told_36 : decode cX0_told 36 = .ok (.aload_n 0, 1) := dk_42 (dk_at dksX0_told_1 12 rfl rfl)
theorem dX0_told_37 : decode cX0_told 37 = .ok (.aload_n 0, 1) := dk_42 (dk_at dksX0_told_1 13 rfl rfl)
theorem dX0_told_38 : decode cX0_told 38 = .ok (.getfield 97, 3) := dk_180 0 97 (dk_at dksX0_told_1 14 rfl rfl)
theorem dX0_told_41 : decode cX0_told 41 = .ok (.getfield 299, 3) := dk_180 1 43 (dk_at dksX0_told_1 17 rfl rfl)
theorem dX0_told_44 : decode cX0_told 44 = .ok (.iload_n 1, 1) := dk_27 (dk_at dksX0_told_1 20 rfl rfl)
theorem dX0_told_45 : decode cX0_told 45 = .ok (.iaload, 1) := dk_46 (dk_at dksX0_told_1 21 rfl rfl)
theorem dX0_told_46 : decode cX0_told 46 = .ok (.invokevirtual 159, 3) := dk_182 0 159 (dk_at dksX0_told_2 0 rfl rfl)
theorem dX0_told_49 : decode cX0_told 49 = .ok (.pop, 1) := dk_87 (dk_at dksX0_told_2 3 rfl rfl)
theorem dX0_told_50 : decode cX0_told 50 = .ok (.iinc 1 1, 3) := dk_132 1 1 (dk_at dksX0_told_2 4 rfl rfl)
theorem dX0_told_53 : decode cX0_told 53 = .ok (.goto (-28), 3) := dk_167 255 228 (dk_at dksX0_told_2 7 rfl rfl)
theorem dX0_told_56 : decode cX0_told 56 = .ok (.aload_n 0, 1) := dk_42 (dk_at dksX0_told_2 10 rfl rfl)
theorem dX0_told_57 : decode cX0_told 57 = .ok (.getfield 97, 3) := dk_180 0 97 (dk_at dksX0_told_2 11 rfl rfl)
theorem dX0_told_60 : decode cX0_told 60 = .ok (.getfield 296, 3) := dk_180 1 40 (dk_at dksX0_told_2 14 rfl rfl)
theorem dX0_told_63 : decode cX0_told 63 = .ok (.ireturn, 1) := dk_172 (dk_at dksX0_told_2 17 rfl rfl)
abbrev cX0_back : ByteArray := prog_1_method_45_code
def yX0_back : MethodName := ⟨RX0, "back", "()I"⟩
def dkwX0_back_3 : List UInt8 := [42, 42, 180, 0, 62, 42, 180, 0, 134, 46, 182, 0, 189, 42, 180, 0, 134, 172]
abbrev dktX0_back_3 : List UInt8 := dkwX0_back_3 ++ []
def dkwX0_back_2 : List UInt8 := [180, 0, 65, 42, 180, 0, 134, 46, 181, 0, 33, 42, 42, 180, 0, 68, 42, 180, 0, 134, 46, 181, 0, 113]
abbrev dktX0_back_2 : List UInt8 := dkwX0_back_2 ++ dktX0_back_3
def dkwX0_back_1 : List UInt8 := [180, 0, 59, 16, 100, 42, 180, 0, 134, 104, 42, 180, 0, 29, 3, 16, 100, 184, 0, 137, 42, 42]
abbrev dktX0_back_1 : List UInt8 := dkwX0_back_1 ++ dktX0_back_2
def dkwX0_back_0 : List UInt8 := [42, 180, 0, 134, 154, 0, 8, 42, 182, 0, 191, 172, 42, 89, 180, 0, 134, 4, 100, 181, 0, 134, 42]
abbrev dktX0_back_0 : List UInt8 := dkwX0_back_0 ++ dktX0_back_1
theorem dksX0_back_0 : cX0_back.data.toList.drop 0 = dktX0_back_0 := by decide +kernel
theorem dksX0_back_1 : cX0_back.data.toList.drop 23 = dktX0_back_1 := dk_seg dksX0_back_0 23 rfl rfl
theorem dksX0_back_2 : cX0_back.data.toList.drop 45 = dktX0_back_2 := dk_seg dksX0_back_1 22 rfl rfl
theorem dksX0_back_3 : cX0_back.data.toList.drop 69 = dktX0_back_3 := dk_seg dksX0_back_2 24 rfl rfl
theorem dX0_back_0 : decode cX0_back 0 = .ok (.aload_n 0, 1) := dk_42 (dk_at dksX0_back_0 0 rfl rfl)
theorem dX0_back_1 : decode cX0_back 1 = .ok (.getfield 134, 3) := dk_180 0 134 (dk_at dksX0_back_0 1 rfl rfl)
theorem dX0_back_4 : decode cX0_back 4 = .ok (.ifCond .ne 8, 3) := dk_154 0 8 (dk_at dksX0_back_0 4 rfl rfl)
theorem dX0_back_7 : decode cX0_back 7 = .ok (.aload_n 0, 1) := dk_42 (dk_at dksX0_back_0 7 rfl rfl)
theorem dX0_back_8 : decode cX0_back 8 = .ok (.invokevirtual 191, 3) := dk_182 0 191 (dk_at dksX0_back_0 8 rfl rfl)
theorem dX0_back_11 : decode cX0_back 11 = .ok (.ireturn, 1) := dk_172 (dk_at dksX0_back_0 11 rfl rfl)
theorem dX0_back_12 : decode cX0_back 12 = .ok (.aload_n 0, 1) := dk_42 (dk_at dksX0_back_0 12 rfl rfl)
theorem dX0_back_13 : decode cX0_back 13 = .ok (.dup, 1) := dk_89 (dk_at dksX0_back_0 13 rfl rfl)
theorem dX0_back_14 : decode cX0_back 14 = .ok (.getfield 134, 3) := dk_180 0 134 (dk_at dksX0_back_0 14 rfl rfl)
theorem dX0_back_17 : decode cX0_back 17 = .ok (.iconst 1, 1) := dk_4 (dk_at dksX0_back_0 17 rfl rfl)
theorem dX0_back_18 : decode cX0_back 18 = .ok (.isub, 1) := dk_100 (dk_at dksX0_back_0 18 rfl rfl)
theorem dX0_back_19 : decode cX0_back 19 = .ok (.putfield 134, 3) := dk_181 0 134 (dk_at dksX0_back_0 19 rfl rfl)
theorem dX0_back_22 : decode cX0_back 22 = .ok (.aload_n 0, 1) := dk_42 (dk_at dksX0_back_0 22 rfl rfl)
theorem dX0_back_23 : decode cX0_back 23 = .ok (.getfield 59, 3) := dk_180 0 59 (dk_at dksX0_back_1 0 rfl rfl)
theorem dX0_back_26 : decode cX0_back 26 = .ok (.bipush 100, 2) := dk_16 100 (dk_at dksX0_back_1 3 rfl rfl)
theorem dX0_back_28 : decode cX0_back 28 = .ok (.aload_n 0, 1) := dk_42 (dk_at dksX0_back_1 5 rfl rfl)
theorem dX0_back_29 : decode cX0_back 29 = .ok (.getfield 134, 3) := dk_180 0 134 (dk_at dksX0_back_1 6 rfl rfl)
theorem dX0_back_32 : decode cX0_back 32 = .ok (.imul, 1) := dk_104 (dk_at dksX0_back_1 9 rfl rfl)
theorem dX0_back_33 : decode cX0_back 33 = .ok (.aload_n 0, 1) := dk_42 (dk_at dksX0_back_1 10 rfl rfl)
theorem dX0_back_34 : decode cX0_back 34 = .ok (.getfield 29, 3) := dk_180 0 29 (dk_at dksX0_back_1 11 rfl rfl)
theorem dX0_back_37 : decode cX0_back 37 = .ok (.iconst 0, 1) := dk_3 (dk_at dksX0_back_1 14 rfl rfl)
theorem dX0_back_38 : decode cX0_back 38 = .ok (.bipush 100, 2) := dk_16 100 (dk_at dksX0_back_1 15 rfl rfl)
theorem dX0_back_40 : decode cX0_back 40 = .ok (.invokestatic 137, 3) := dk_184 0 137 (dk_at dksX0_back_1 17 rfl rfl)
theorem dX0_back_43 : decode cX0_back 43 = .ok (.aload_n 0, 1) := dk_42 (dk_at dksX0_back_1 20 rfl rfl)
theorem dX0_back_44 : decode cX0_back 44 = .ok (.aload_n 0, 1) := dk_42 (dk_at dksX0_back_1 21 rfl rfl)
theorem dX0_back_45 : decode cX0_back 45 = .ok (.getfield 65, 3) := dk_180 0 65 (dk_at dksX0_back_2 0 rfl rfl)
theorem dX0_back_48 : decode cX0_back 48 = .ok (.aload_n 0, 1) := dk_42 (dk_at dksX0_back_2 3 rfl rfl)
theorem dX0_back_49 : decode cX0_back 49 = .ok (.getfield 134, 3) := dk_180 0 134 (dk_at dksX0_back_2 4 rfl rfl)
theorem dX0_back_52 : decode cX0_back 52 = .ok (.iaload, 1) := dk_46 (dk_at dksX0_back_2 7 rfl rfl)
theorem dX0_back_53 : decode cX0_back 53 = .ok (.putfield 33, 3) := dk_181 0 33 (dk_at dksX0_back_2 8 rfl rfl)
theorem dX0_back_56 : decode cX0_back 56 = .ok (.aload_n 0, 1) := dk_42 (dk_at dksX0_back_2 11 rfl rfl)
theorem dX0_back_57 : decode cX0_back 57 = .ok (.aload_n 0, 1) := dk_42 (dk_at dksX0_back_2 12 rfl rfl)
theorem dX0_back_58 : decode cX0_back 58 = .ok (.getfield 68, 3) := dk_180 0 68 (dk_at dksX0_back_2 13 rfl rfl)
theorem dX0_back_61 : decode cX0_back 61 = .ok (.aload_n 0, 1) := dk_42 (dk_at dksX0_back_2 16 rfl rfl)
theorem dX0_back_62 : decode cX0_back 62 = .ok (.getfield 134, 3) := dk_180 0 134 (dk_at dksX0_back_2 17 rfl rfl)
theorem dX0_back_65 : decode cX0_back 65 = .ok (.iaload, 1) := dk_46 (dk_at dksX0_back_2 20 rfl rfl)
theorem dX0_back_66 : decode cX0_back 66 = .ok (.putfield 113, 3) := dk_181 0 113 (dk_at dksX0_back_2 21 rfl rfl)
theorem dX0_back_69 : decode cX0_back 69 = .ok (.aload_n 0, 1) := dk_42 (dk_at dksX0_back_3 0 rfl rfl)
theorem dX0_back_70 : decode cX0_back 70 = .ok (.aload_n 0, 1) := dk_42 (dk_at dksX0_back_3 1 rfl rfl)
theorem dX0_back_71 : decode cX0_back 71 = .ok (.getfield 62, 3) := dk_180 0 62 (dk_at dksX0_back_3 2 rfl rfl)
theorem dX0_back_74 : decode cX0_back 74 = .ok (.aload_n 0, 1) := dk_42 (dk_at dksX0_back_3 5 rfl rfl)
theorem dX0_back_75 : decode cX0_back 75 = .ok (.getfield 134, 3) := dk_180 0 134 (dk_at dksX0_back_3 6 rfl rfl)
theorem dX0_back_78 : decode cX0_back 78 = .ok (.iaload, 1) := dk_46 (dk_at dksX0_back_3 9 rfl rfl)
theorem dX0_back_79 : decode cX0_back 79 = .ok (.invokevirtual 189, 3) := dk_182 0 189 (dk_at dksX0_back_3 10 rfl rfl)
theorem dX0_back_82 : decode cX0_back 82 = .ok (.aload_n 0, 1) := dk_42 (dk_at dksX0_back_3 13 rfl rfl)
theorem dX0_back_83 : decode cX0_back 83 = .ok (.getfield 134, 3) := dk_180 0 134 (dk_at dksX0_back_3 14 rfl rfl)
theorem dX0_back_86 : decode cX0_back 86 = .ok (.ireturn, 1) := dk_172 (dk_at dksX0_back_3 17 rfl rfl)
abbrev cX0_count : ByteArray := prog_1_method_47_code
def yX0_count : MethodName := ⟨RX0, "count", "(I)I"⟩
def dkwX0_count_1 : List UInt8 := [172]
abbrev dktX0_count_1 : List UInt8 := dkwX0_count_1 ++ []
def dkwX0_count_0 : List UInt8 := [27, 133, 9, 20, 1, 46, 184, 0, 161, 153, 0, 11, 42, 27, 182, 1, 48, 167, 0, 7, 42, 182, 0, 165]
abbrev dktX0_count_0 : List UInt8 := dkwX0_count_0 ++ dktX0_count_1
theorem dksX0_count_0 : cX0_count.data.toList.drop 0 = dktX0_count_0 := by decide +kernel
theorem dksX0_count_1 : cX0_count.data.toList.drop 24 = dktX0_count_1 := dk_seg dksX0_count_0 24 rfl rfl
theorem dX0_count_0 : decode cX0_count 0 = .ok (.iload_n 1, 1) := dk_27 (dk_at dksX0_count_0 0 rfl rfl)
theorem dX0_count_1 : decode cX0_count 1 = .ok (.i2l, 1) := dk_133 (dk_at dksX0_count_0 1 rfl rfl)
theorem dX0_count_2 : decode cX0_count 2 = .ok (.lconst 0, 1) := dk_9 (dk_at dksX0_count_0 2 rfl rfl)
theorem dX0_count_3 : decode cX0_count 3 = .ok (.ldc2_w 302, 3) := dk_20 1 46 (dk_at dksX0_count_0 3 rfl rfl)
theorem dX0_count_6 : decode cX0_count 6 = .ok (.invokestatic 161, 3) := dk_184 0 161 (dk_at dksX0_count_0 6 rfl rfl)
theorem dX0_count_9 : decode cX0_count 9 = .ok (.ifCond .eq 11, 3) := dk_153 0 11 (dk_at dksX0_count_0 9 rfl rfl)
theorem dX0_count_12 : decode cX0_count 12 = .ok (.aload_n 0, 1) := dk_42 (dk_at dksX0_count_0 12 rfl rfl)
theorem dX0_count_13 : decode cX0_count 13 = .ok (.iload_n 1, 1) := dk_27 (dk_at dksX0_count_0 13 rfl rfl)
theorem dX0_count_14 : decode cX0_count 14 = .ok (.invokevirtual 304, 3) := dk_182 1 48 (dk_at dksX0_count_0 14 rfl rfl)
theorem dX0_count_17 : decode cX0_count 17 = .ok (.goto 7, 3) := dk_167 0 7 (dk_at dksX0_count_0 17 rfl rfl)
theorem dX0_count_20 : decode cX0_count 20 = .ok (.aload_n 0, 1) := dk_42 (dk_at dksX0_count_0 20 rfl rfl)
theorem dX0_count_21 : decode cX0_count 21 = .ok (.invokevirtual 165, 3) := dk_182 0 165 (dk_at dksX0_count_0 21 rfl rfl)
theorem dX0_count_24 : decode cX0_count 24 = .ok (.ireturn, 1) := dk_172 (dk_at dksX0_count_1 0 rfl rfl)
abbrev cX0_countOf : ByteArray := prog_1_method_46_code
def yX0_countOf : MethodName := ⟨RX0, "countOf", "(I)I"⟩
def dkwX0_countOf_3 : List UInt8 := [180, 0, 113, 172, 42, 180, 0, 134, 172]
abbrev dktX0_countOf_3 : List UInt8 := dkwX0_countOf_3 ++ []
def dkwX0_countOf_2 : List UInt8 := [42, 180, 0, 75, 27, 46, 172, 42, 180, 1, 30, 172, 42, 180, 0, 143, 172, 42, 180, 0, 33, 172, 42]
abbrev dktX0_countOf_2 : List UInt8 := dkwX0_countOf_2 ++ dktX0_countOf_3
def dkwX0_countOf_1 : List UInt8 := [170, 0, 0, 0, 0, 0, 70, 0, 0, 0, 0, 0, 0, 0, 6, 0, 0, 0, 43, 0, 0, 0, 43, 0, 0, 0, 43, 0, 0, 0, 50, 0, 0, 0, 55, 0, 0, 0, 60, 0, 0, 0, 65]
abbrev dktX0_countOf_1 : List UInt8 := dkwX0_countOf_1 ++ dktX0_countOf_2
def dkwX0_countOf_0 : List UInt8 := [27]
abbrev dktX0_countOf_0 : List UInt8 := dkwX0_countOf_0 ++ dktX0_countOf_1
theorem dksX0_countOf_0 : cX0_countOf.data.toList.drop 0 = dktX0_countOf_0 := by decide +kernel
theorem dksX0_countOf_1 : cX0_countOf.data.toList.drop 1 = dktX0_countOf_1 := dk_seg dksX0_countOf_0 1 rfl rfl
theorem dksX0_countOf_2 : cX0_countOf.data.toList.drop 44 = dktX0_countOf_2 := dk_seg dksX0_countOf_1 43 rfl rfl
theorem dksX0_countOf_3 : cX0_countOf.data.toList.drop 67 = dktX0_countOf_3 := dk_seg dksX0_countOf_2 23 rfl rfl
theorem dX0_countOf_0 : decode cX0_countOf 0 = .ok (.iload_n 1, 1) := dk_27 (dk_at dksX0_countOf_0 0 rfl rfl)
theorem dX0_countOf_1 : decode cX0_countOf 1 = .ok (.tableswitch 70 0 6 #[43, 43, 43, 50, 55, 60, 65], 43) := by decide +kernel
theorem dX0_countOf_44 : decode cX0_countOf 44 = .ok (.aload_n 0, 1) := dk_42 (dk_at dksX0_countOf_2 0 rfl rfl)
theorem dX0_countOf_45 : decode cX0_countOf 45 = .ok (.getfield 75, 3) := dk_180 0 75 (dk_at dksX0_countOf_2 1 rfl rfl)
theorem dX0_countOf_48 : decode cX0_countOf 48 = .ok (.iload_n 1, 1) := dk_27 (dk_at dksX0_countOf_2 4 rfl rfl)
theorem dX0_countOf_49 : decode cX0_countOf 49 = .ok (.iaload, 1) := dk_46 (dk_at dksX0_countOf_2 5 rfl rfl)
theorem dX0_countOf_50 : decode cX0_countOf 50 = .ok (.ireturn, 1) := dk_172 (dk_at dksX0_countOf_2 6 rfl rfl)
theorem dX0_countOf_51 : decode cX0_countOf 51 = .ok (.aload_n 0, 1) := dk_42 (dk_at dksX0_countOf_2 7 rfl rfl)
theorem dX0_countOf_52 : decode cX0_countOf 52 = .ok (.getfield 286, 3) := dk_180 1 30 (dk_at dksX0_countOf_2 8 rfl rfl)
theorem dX0_countOf_55 : decode cX0_countOf 55 = .ok (.ireturn, 1) := dk_172 (dk_at dksX0_countOf_2 11 rfl rfl)
theorem dX0_countOf_56 : decode cX0_countOf 56 = .ok (.aload_n 0, 1) := dk_42 (dk_at dksX0_countOf_2 12 rfl rfl)
theorem dX0_countOf_57 : decode cX0_countOf 57 = .ok (.getfield 143, 3) := dk_180 0 143 (dk_at dksX0_countOf_2 13 rfl rfl)
theorem dX0_countOf_60 : decode cX0_countOf 60 = .ok (.ireturn, 1) := dk_172 (dk_at dksX0_countOf_2 16 rfl rfl)
theorem dX0_countOf_61 : decode cX0_countOf 61 = .ok (.aload_n 0, 1) := dk_42 (dk_at dksX0_countOf_2 17 rfl rfl)
theorem dX0_countOf_62 : decode cX0_countOf 62 = .ok (.getfield 33, 3) := dk_180 0 33 (dk_at dksX0_countOf_2 18 rfl rfl)
theorem dX0_countOf_65 : decode cX0_countOf 65 = .ok (.ireturn, 1) := dk_172 (dk_at dksX0_countOf_2 21 rfl rfl)
theorem dX0_countOf_66 : decode cX0_countOf 66 = .ok (.aload_n 0, 1) := dk_42 (dk_at dksX0_countOf_2 22 rfl rfl)
theorem dX0_countOf_67 : decode cX0_countOf 67 = .ok (.getfield 113, 3) := dk_180 0 113 (dk_at dksX0_countOf_3 0 rfl rfl)
theorem dX0_countOf_70 : decode cX0_countOf 70 = .ok (.ireturn, 1) := dk_172 (dk_at dksX0_countOf_3 3 rfl rfl)
theorem dX0_countOf_71 : decode cX0_countOf 71 = .ok (.aload_n 0, 1) := dk_42 (dk_at dksX0_countOf_3 4 rfl rfl)
theorem dX0_countOf_72 : decode cX0_countOf 72 = .ok (.getfield 134, 3) := dk_180 0 134 (dk_at dksX0_countOf_3 5 rfl rfl)
theorem dX0_countOf_75 : decode cX0_countOf 75 = .ok (.ireturn, 1) := dk_172 (dk_at dksX0_countOf_3 8 rfl rfl)
abbrev cX0_digest : ByteArray := prog_1_method_48_code
def yX0_digest : MethodName := ⟨RX0, "digest", "()J"⟩
def dkwX0_digest_6 : List UInt8 := [132, 3, 1, 167, 255, 225, 31, 173]
abbrev dktX0_digest_6 : List UInt8 := dkwX0_digest_6 ++ []
def dkwX0_digest_5 : List UInt8 := [180, 1, 17, 162, 0, 26, 20, 1, 53, 31, 105, 42, 180, 0, 90, 180, 1, 20, 29, 46, 133, 97, 64]
abbrev dktX0_digest_5 : List UInt8 := dkwX0_digest_5 ++ dktX0_digest_6
def dkwX0_digest_4 : List UInt8 := [180, 0, 78, 4, 46, 133, 97, 64, 42, 180, 0, 90, 182, 1, 14, 3, 62, 29, 42, 180, 0, 90]
abbrev dktX0_digest_4 : List UInt8 := dkwX0_digest_4 ++ dktX0_digest_5
def dkwX0_digest_3 : List UInt8 := [20, 1, 53, 31, 105, 42, 180, 0, 46, 182, 0, 146, 133, 97, 105, 42, 182, 0, 231, 133, 97, 105, 42]
abbrev dktX0_digest_3 : List UInt8 := dkwX0_digest_3 ++ dktX0_digest_4
def dkwX0_digest_2 : List UInt8 := [180, 0, 29, 29, 46, 133, 97, 64, 132, 3, 1, 167, 255, 231, 42, 182, 1, 11, 20, 1, 53, 20, 1, 53]
abbrev dktX0_digest_2 : List UInt8 := dkwX0_digest_2 ++ dktX0_digest_3
def dkwX0_digest_1 : List UInt8 := [64, 132, 3, 1, 167, 255, 234, 3, 62, 29, 42, 180, 0, 143, 162, 0, 23, 20, 1, 53, 31, 105, 42]
abbrev dktX0_digest_1 : List UInt8 := dkwX0_digest_1 ++ dktX0_digest_2
def dkwX0_digest_0 : List UInt8 := [20, 1, 51, 64, 3, 62, 29, 16, 8, 162, 0, 22, 20, 1, 53, 31, 105, 42, 29, 182, 1, 48, 133, 97]
abbrev dktX0_digest_0 : List UInt8 := dkwX0_digest_0 ++ dktX0_digest_1
theorem dksX0_digest_0 : cX0_digest.data.toList.drop 0 = dktX0_digest_0 := by decide +kernel
theorem dksX0_digest_1 : cX0_digest.data.toList.drop 24 = dktX0_digest_1 := dk_seg dksX0_digest_0 24 rfl rfl
theorem dksX0_digest_2 : cX0_digest.data.toList.drop 47 = dktX0_digest_2 := dk_seg dksX0_digest_1 23 rfl rfl
theorem dksX0_digest_3 : cX0_digest.data.toList.drop 71 = dktX0_digest_3 := dk_seg dksX0_digest_2 24 rfl rfl
theorem dksX0_digest_4 : cX0_digest.data.toList.drop 94 = dktX0_digest_4 := dk_seg dksX0_digest_3 23 rfl rfl
theorem dksX0_digest_5 : cX0_digest.data.toList.drop 116 = dktX0_digest_5 := dk_seg dksX0_digest_4 22 rfl rfl
theorem dksX0_digest_6 : cX0_digest.data.toList.drop 139 = dktX0_digest_6 := dk_seg dksX0_digest_5 23 rfl rfl
theorem dX0_digest_0 : decode cX0_digest 0 = .ok (.ldc2_w 307, 3) := dk_20 1 51 (dk_at dksX0_digest_0 0 rfl rfl)
theorem dX0_digest_3 : decode cX0_digest 3 = .ok (.lstore_n 1, 1) := dk_64 (dk_at dksX0_digest_0 3 rfl rfl)
theorem dX0_digest_4 : decode cX0_digest 4 = .ok (.iconst 0, 1) := dk_3 (dk_at dksX0_digest_0 4 rfl rfl)
theorem dX0_digest_5 : decode cX0_digest 5 = .ok (.istore_n 3, 1) := dk_62 (dk_at dksX0_digest_0 5 rfl rfl)
theorem dX0_digest_6 : decode cX0_digest 6 = .ok (.iload_n 3, 1) := dk_29 (dk_at dksX0_digest_0 6 rfl rfl)
theorem dX0_digest_7 : decode cX0_digest 7 = .ok (.bipush 8, 2) := dk_16 8 (dk_at dksX0_digest_0 7 rfl rfl)
theorem dX0_digest_9 : decode cX0_digest 9 = .ok (.if_icmp .ge 22, 3) := dk_162 0 22 (dk_at dksX0_digest_0 9 rfl rfl)
theorem dX0_digest_12 : decode cX0_digest 12 = .ok (.ldc2_w 309, 3) := dk_20 1 53 (dk_at dksX0_digest_0 12 rfl rfl)
theorem dX0_digest_15 : decode cX0_digest 15 = .ok (.lload_n 1, 1) := dk_31 (dk_at dksX0_digest_0 15 rfl rfl)
theorem dX0_digest_16 : decode cX0_digest 16 = .ok (.lmul, 1) := dk_105 (dk_at dksX0_digest_0 16 rfl rfl)
theorem dX0_digest_17 : decode cX0_digest 17 = .ok (.aload_n 0, 1) := dk_42 (dk_at dksX0_digest_0 17 rfl rfl)
theorem dX0_digest_18 : decode cX0_digest 18 = .ok (.iload_n 3, 1) := dk_29 (dk_at dksX0_digest_0 18 rfl rfl)
theorem dX0_digest_19 : decode cX0_digest 19 = .ok (.invokevirtual 304, 3) := dk_182 1 48 (dk_at dksX0_digest_0 19 rfl rfl)
theorem dX0_digest_22 : decode cX0_digest 22 = .ok (.i2l, 1) := dk_133 (dk_at dksX0_digest_0 22 rfl rfl)
theorem dX0_digest_23 : decode cX0_digest 23 = .ok (.ladd, 1) := dk_97 (dk_at dksX0_digest_0 23 rfl rfl)
theorem dX0_digest_24 : decode cX0_digest 24 = .ok (.lstore_n 1, 1) := dk_64 (dk_at dksX0_digest_1 0 rfl rfl)
theorem dX0_digest_25 : decode cX0_digest 25 = .ok (.iinc 3 1, 3) := dk_132 3 1 (dk_at dksX0_digest_1 1 rfl rfl)
theorem dX0_digest_28 : decode cX0_digest 28 = .ok (.goto (-22), 3) := dk_167 255 234 (dk_at dksX0_digest_1 4 rfl rfl)
theorem dX0_digest_31 : decode cX0_digest 31 = .ok (.iconst 0, 1) := dk_3 (dk_at dksX0_digest_1 7 rfl rfl)
theorem dX0_digest_32 : decode cX0_digest 32 = .ok (.istore_n 3, 1) := dk_62 (dk_at dksX0_digest_1 8 rfl rfl)
theorem dX0_digest_33 : decode cX0_digest 33 = .ok (.iload_n 3, 1) := dk_29 (dk_at dksX0_digest_1 9 rfl rfl)
theorem dX0_digest_34 : decode cX0_digest 34 = .ok (.aload_n 0, 1) := dk_42 (dk_at dksX0_digest_1 10 rfl rfl)
theorem dX0_digest_35 : decode cX0_digest 35 = .ok (.getfield 143, 3) := dk_180 0 143 (dk_at dksX0_digest_1 11 rfl rfl)
theorem dX0_digest_38 : decode cX0_digest 38 = .ok (.if_icmp .ge 23, 3) := dk_162 0 23 (dk_at dksX0_digest_1 14 rfl rfl)
theorem dX0_digest_41 : decode cX0_digest 41 = .ok (.ldc2_w 309, 3) := dk_20 1 53 (dk_at dksX0_digest_1 17 rfl rfl)
theorem dX0_digest_44 : decode cX0_digest 44 = .ok (.lload_n 1, 1) := dk_31 (dk_at dksX0_digest_1 20 rfl rfl)
theorem dX0_digest_45 : decode cX0_digest 45 = .ok (.lmul, 1) := dk_105 (dk_at dksX0_digest_1 21 rfl rfl)
theorem dX0_digest_46 : decode cX0_digest 46 = .ok (.aload_n 0, 1) := dk_42 (dk_at dksX0_digest_1 22 rfl rfl)
theorem dX0_digest_47 : decode cX0_digest 47 = .ok (.getfield 29, 3) := dk_180 0 29 (dk_at dksX0_digest_2 0 rfl rfl)
theorem dX0_digest_50 : decode cX0_digest 50 = .ok (.iload_n 3, 1) := dk_29 (dk_at dksX0_digest_2 3 rfl rfl)
theorem dX0_digest_51 : decode cX0_digest 51 = .ok (.iaload, 1) := dk_46 (dk_at dksX0_digest_2 4 rfl rfl)
theorem dX0_digest_52 : decode cX0_digest 52 = .ok (.i2l, 1) := dk_133 (dk_at dksX0_digest_2 5 rfl rfl)
theorem dX0_digest_53 : decode cX0_digest 53 = .ok (.ladd, 1) := dk_97 (dk_at dksX0_digest_2 6 rfl rfl)
theorem dX0_digest_54 : decode cX0_digest 54 = .ok (.lstore_n 1, 1) := dk_64 (dk_at dksX0_digest_2 7 rfl rfl)
theorem dX0_digest_55 : decode cX0_digest 55 = .ok (.iinc 3 1, 3) := dk_132 3 1 (dk_at dksX0_digest_2 8 rfl rfl)
theorem dX0_digest_58 : decode cX0_digest 58 = .ok (.goto (-25), 3) := dk_167 255 231 (dk_at dksX0_digest_2 11 rfl rfl)
theorem dX0_digest_61 : decode cX0_digest 61 = .ok (.aload_n 0, 1) := dk_42 (dk_at dksX0_digest_2 14 rfl rfl)
theorem dX0_digest_62 : decode cX0_digest 62 = .ok (.invokevirtual 267, 3) := dk_182 1 11 (dk_at dksX0_digest_2 15 rfl rfl)
theorem dX0_digest_65 : decode cX0_digest 65 = .ok (.ldc2_w 309, 3) := dk_20 1 53 (dk_at dksX0_digest_2 18 rfl rfl)
theorem dX0_digest_68 : decode cX0_digest 68 = .ok (.ldc2_w 309, 3) := dk_20 1 53 (dk_at dksX0_digest_2 21 rfl rfl)
theorem dX0_digest_71 : decode cX0_digest 71 = .ok (.ldc2_w 309, 3) := dk_20 1 53 (dk_at dksX0_digest_3 0 rfl rfl)
theorem dX0_digest_74 : decode cX0_digest 74 = .ok (.lload_n 1, 1) := dk_31 (dk_at dksX0_digest_3 3 rfl rfl)
theorem dX0_digest_75 : decode cX0_digest 75 = .ok (.lmul, 1) := dk_105 (dk_at dksX0_digest_3 4 rfl rfl)
theorem dX0_digest_76 : decode cX0_digest 76 = .ok (.aload_n 0, 1) := dk_42 (dk_at dksX0_digest_3 5 rfl rfl)
theorem dX0_digest_77 : decode cX0_digest 77 = .ok (.getfield 46, 3) := dk_180 0 46 (dk_at dksX0_digest_3 6 rfl rfl)
theorem dX0_digest_80 : decode cX0_digest 80 = .ok (.invokevirtual 146, 3) := dk_182 0 146 (dk_at dksX0_digest_3 9 rfl rfl)
theorem dX0_digest_83 : decode cX0_digest 83 = .ok (.i2l, 1) := dk_133 (dk_at dksX0_digest_3 12 rfl rfl)
theorem dX0_digest_84 : decode cX0_digest 84 = .ok (.ladd, 1) := dk_97 (dk_at dksX0_digest_3 13 rfl rfl)
theorem dX0_digest_85 : decode cX0_digest 85 = .ok (.lmul, 1) := dk_105 (dk_at dksX0_digest_3 14 rfl rfl)
theorem dX0_digest_86 : decode cX0_digest 86 = .ok (.aload_n 0, 1) := dk_42 (dk_at dksX0_digest_3 15 rfl rfl)
theorem dX0_digest_87 : decode cX0_digest 87 = .ok (.invokevirtual 231, 3) := dk_182 0 231 (dk_at dksX0_digest_3 16 rfl rfl)
theorem dX0_digest_90 : decode cX0_digest 90 = .ok (.i2l, 1) := dk_133 (dk_at dksX0_digest_3 19 rfl rfl)
theorem dX0_digest_91 : decode cX0_digest 91 = .ok (.ladd, 1) := dk_97 (dk_at dksX0_digest_3 20 rfl rfl)
theorem dX0_digest_92 : decode cX0_digest 92 = .ok (.lmul, 1) := dk_105 (dk_at dksX0_digest_3 21 rfl rfl)
theorem dX0_digest_93 : decode cX0_digest 93 = .ok (.aload_n 0, 1) := dk_42 (dk_at dksX0_digest_3 22 rfl rfl)
theorem dX0_digest_94 : decode cX0_digest 94 = .ok (.getfield 78, 3) := dk_180 0 78 (dk_at dksX0_digest_4 0 rfl rfl)
theorem dX0_digest_97 : decode cX0_digest 97 = .ok (.iconst 1, 1) := dk_4 (dk_at dksX0_digest_4 3 rfl rfl)
theorem dX0_digest_98 : decode cX0_digest 98 = .ok (.iaload, 1) := dk_46 (dk_at dksX0_digest_4 4 rfl rfl)
theorem dX0_digest_99 : decode cX0_digest 99 = .ok (.i2l, 1) := dk_133 (dk_at dksX0_digest_4 5 rfl rfl)
theorem dX0_digest_100 : decode cX0_digest 100 = .ok (.ladd, 1) := dk_97 (dk_at dksX0_digest_4 6 rfl rfl)
theorem dX0_digest_101 : decode cX0_digest 101 = .ok (.lstore_n 1, 1) := dk_64 (dk_at dksX0_digest_4 7 rfl rfl)
theorem dX0_digest_102 : decode cX0_digest 102 = .ok (.aload_n 0, 1) := dk_42 (dk_at dksX0_digest_4 8 rfl rfl)
theorem dX0_digest_103 : decode cX0_digest 103 = .ok (.getfield 90, 3) := dk_180 0 90 (dk_at dksX0_digest_4 9 rfl rfl)
theorem dX0_digest_106 : decode cX0_digest 106 = .ok (.invokevirtual 270, 3) := dk_182 1 14 (dk_at dksX0_digest_4 12 rfl rfl)
theorem dX0_digest_109 : decode cX0_digest 109 = .ok (.iconst 0, 1) := dk_3 (dk_at dksX0_digest_4 15 rfl rfl)
theorem dX0_digest_110 : decode cX0_digest 110 = .ok (.istore_n 3, 1) := dk_62 (dk_at dksX0_digest_4 16 rfl rfl)
theorem dX0_digest_111 : decode cX0_digest 111 = .ok (.iload_n 3, 1) := dk_29 (dk_at dksX0_digest_4 17 rfl rfl)
theorem dX0_digest_112 : decode cX0_digest 112 = .ok (.aload_n 0, 1) := dk_42 (dk_at dksX0_digest_4 18 rfl rfl)
theorem dX0_digest_113 : decode cX0_digest 113 = .ok (.getfield 90, 3) := dk_180 0 90 (dk_at dksX0_digest_4 19 rfl rfl)
theorem dX0_digest_116 : decode cX0_digest 116 = .ok (.getfield 273, 3) := dk_180 1 17 (dk_at dksX0_digest_5 0 rfl rfl)
theorem dX0_digest_119 : decode cX0_digest 119 = .ok (.if_icmp .ge 26, 3) := dk_162 0 26 (dk_at dksX0_digest_5 3 rfl rfl)
theorem dX0_digest_122 : decode cX0_digest 122 = .ok (.ldc2_w 309, 3) := dk_20 1 53 (dk_at dksX0_digest_5 6 rfl rfl)
theorem dX0_digest_125 : decode cX0_digest 125 = .ok (.lload_n 1, 1) := dk_31 (dk_at dksX0_digest_5 9 rfl rfl)
theorem dX0_digest_126 : decode cX0_digest 126 = .ok (.lmul, 1) := dk_105 (dk_at dksX0_digest_5 10 rfl rfl)
theorem dX0_digest_127 : decode cX0_digest 127 = .ok (.aload_n 0, 1) := dk_42 (dk_at dksX0_digest_5 11 rfl rfl)
theorem dX0_digest_128 : decode cX0_digest 128 = .ok (.getfield 90, 3) := dk_180 0 90 (dk_at dksX0_digest_5 12 rfl rfl)
theorem dX0_digest_131 : decode cX0_digest 131 = .ok (.getfield 276, 3) := dk_180 1 20 (dk_at dksX0_digest_5 15 rfl rfl)
theorem dX0_digest_134 : decode cX0_digest 134 = .ok (.iload_n 3, 1) := dk_29 (dk_at dksX0_digest_5 18 rfl rfl)
theorem dX0_digest_135 : decode cX0_digest 135 = .ok (.iaload, 1) := dk_46 (dk_at dksX0_digest_5 19 rfl rfl)
theorem dX0_digest_136 : decode cX0_digest 136 = .ok (.i2l, 1) := dk_133 (dk_at dksX0_digest_5 20 rfl rfl)
theorem dX0_digest_137 : decode cX0_digest 137 = .ok (.ladd, 1) := dk_97 (dk_at dksX0_digest_5 21 rfl rfl)
theorem dX0_digest_138 : decode cX0_digest 138 = .ok (.lstore_n 1, 1) := dk_64 (dk_at dksX0_digest_5 22 rfl rfl)
theorem dX0_digest_139 : decode cX0_digest 139 = .ok (.iinc 3 1, 3) := dk_132 3 1 (dk_at dksX0_digest_6 0 rfl rfl)
theorem dX0_digest_142 : decode cX0_digest 142 = .ok (.goto (-31), 3) := dk_167 255 225 (dk_at dksX0_digest_6 3 rfl rfl)
theorem dX0_digest_145 : decode cX0_digest 145 = .ok (.lload_n 1, 1) := dk_31 (dk_at dksX0_digest_6 6 rfl rfl)
theorem dX0_digest_146 : decode cX0_digest 146 = .ok (.lreturn, 1) := dk_173 (dk_at dksX0_digest_6 7 rfl rfl)
theorem q67 : (Jvm.Cond.initialized "TreeOdds") ∈ lw_all := lw_g (lw_at lw_m1 1 rfl) rfl
theorem q80 : (Jvm.Cond.instantiable "TreeOdds" (24 : Nat)) ∈ lw_all := lw_g (lw_at lw_m1 14 rfl) rfl
theorem q82 : (Jvm.Cond.instanceMethod ({ cls := "TreeOdds", name := "<init>", desc := "()V" } : Jvm.MethodName)) ∈ lw_all := lw_g (lw_at lw_m1 16 rfl) rfl
theorem q83 : (Jvm.Cond.code ({ cls := "TreeOdds", name := "<init>", desc := "()V" } : Jvm.MethodName) prog_1_method_6_code (1 : Nat) (Option.none : Option Jvm.ClassFile.FieldType)) ∈ lw_all := lw_g (lw_at lw_m1 17 rfl) rfl
theorem q84 : (Jvm.Cond.methodLink "TreeOdds" (23 : Nat) ({ cls := "java/lang/Object", name := "<init>", desc := "()V" } : Jvm.MethodName)) ∈ lw_all := lw_g (lw_at lw_m1 18 rfl) rfl
theorem q87 : (Jvm.Cond.classLink "TreeOdds" (37 : Nat) "TreeOdds$Guesser") ∈ lw_all := lw_g (lw_at lw_m1 21 rfl) rfl
theorem q89 : (Jvm.Cond.classLink "TreeOdds" (43 : Nat) "TreeOdds$Tree") ∈ lw_all := lw_g (lw_at lw_m1 23 rfl) rfl
theorem q91 : (Jvm.Cond.methodLinkNest "TreeOdds" (45 : Nat) ({ cls := "TreeOdds$Tree", name := "<init>", desc := "()V" } : Jvm.MethodName) "TreeOdds") ∈ lw_tbl := lw_at lw_m1 25 rfl
theorem q96 : (Jvm.Cond.fieldLinkNest "TreeOdds" (201 : Nat) "TreeOdds$Tree" "zeros" "[I" "TreeOdds") ∈ lw_tbl := lw_at lw_m1 30 rfl
theorem q98 : (Jvm.Cond.fieldLinkNest "TreeOdds" (204 : Nat) "TreeOdds$Tree" "ones" "[I" "TreeOdds") ∈ lw_tbl := lw_at lw_m1 32 rfl
theorem q100 : (Jvm.Cond.fieldLinkNest "TreeOdds" (210 : Nat) "TreeOdds$Tree" "weights" "[I" "TreeOdds") ∈ lw_tbl := lw_at lw_m1 34 rfl
theorem q124 : (Jvm.Cond.classLink "TreeOdds" (85 : Nat) "TreeOdds$Writing") ∈ lw_all := lw_g (lw_at lw_m1 58 rfl) rfl
theorem q126 : (Jvm.Cond.methodLinkNest "TreeOdds" (87 : Nat) ({ cls := "TreeOdds$Writing", name := "<init>", desc := "(LTreeOdds;)V" } : Jvm.MethodName) "TreeOdds") ∈ lw_tbl := lw_at lw_m1 60 rfl
theorem q131 : (Jvm.Cond.fieldLinkNest "TreeOdds" (276 : Nat) "TreeOdds$Writing" "bytes" "[I" "TreeOdds") ∈ lw_tbl := lw_at lw_m1 65 rfl
theorem q133 : (Jvm.Cond.fieldLinkNest "TreeOdds" (273 : Nat) "TreeOdds$Writing" "made" "I" "TreeOdds") ∈ lw_tbl := lw_at lw_m1 67 rfl
theorem q153 : (Jvm.Cond.classLink "TreeOdds" (94 : Nat) "TreeOdds$Reader") ∈ lw_all := lw_g (lw_at lw_m1 87 rfl) rfl
theorem q155 : (Jvm.Cond.methodLinkNest "TreeOdds" (96 : Nat) ({ cls := "TreeOdds$Reader", name := "<init>", desc := "(LTreeOdds;)V" } : Jvm.MethodName) "TreeOdds") ∈ lw_tbl := lw_at lw_m1 89 rfl
theorem q161 : (Jvm.Cond.fieldLinkNest "TreeOdds" (299 : Nat) "TreeOdds$Reader" "told" "[I" "TreeOdds") ∈ lw_tbl := lw_at lw_m1 95 rfl
theorem q163 : (Jvm.Cond.fieldLinkNest "TreeOdds" (296 : Nat) "TreeOdds$Reader" "lined" "I" "TreeOdds") ∈ lw_tbl := lw_at lw_m1 97 rfl
theorem q175 : (Jvm.Cond.static ({ cls := "TreeOdds", name := "lambda$new$0", desc := "(II)I" } : Jvm.MethodName)) ∈ lw_all := lw_g (lw_at lw_m1 109 rfl) rfl
theorem q176 : (Jvm.Cond.code ({ cls := "TreeOdds", name := "lambda$new$0", desc := "(II)I" } : Jvm.MethodName) prog_1_method_54_code (2 : Nat) (Option.some Jvm.ClassFile.FieldType.int)) ∈ lw_all := lw_g (lw_at lw_m1 110 rfl) rfl
theorem q177 : (Jvm.Cond.methodLink "TreeOdds" (124 : Nat) ({ cls := "TreeOdds", name := "even", desc := "(II)I" } : Jvm.MethodName)) ∈ lw_all := lw_g (lw_at lw_m1 111 rfl) rfl
theorem q178 : (Jvm.Cond.static ({ cls := "TreeOdds", name := "even", desc := "(II)I" } : Jvm.MethodName)) ∈ lw_all := lw_g (lw_at lw_m1 112 rfl) rfl
theorem q179 : (Jvm.Cond.code ({ cls := "TreeOdds", name := "even", desc := "(II)I" } : Jvm.MethodName) prog_1_method_5_code (2 : Nat) (Option.some Jvm.ClassFile.FieldType.int)) ∈ lw_all := lw_g (lw_at lw_m1 113 rfl) rfl
theorem q180 : (Jvm.Cond.constantLong "TreeOdds" (21 : Nat) (65536 : Int64)) ∈ lw_all := lw_g (lw_at lw_m1 114 rfl) rfl
theorem q181 : (Jvm.Cond.methodLink "TreeOdds" (105 : Nat) ({ cls := "TreeOdds$Guesser", name := "<init>", desc := "(LTreeOdds$Guess;)V" } : Jvm.MethodName)) ∈ lw_all := lw_g (lw_at lw_m1 115 rfl) rfl
theorem q186 : (Jvm.Cond.fieldLinkNest "TreeOdds" (128 : Nat) "TreeOdds$Guesser" "guess" "LTreeOdds$Guess;" "TreeOdds") ∈ lw_tbl := lw_at lw_m1 120 rfl
theorem q190 : (Jvm.Cond.static ({ cls := "TreeOdds", name := "lambda$new$1", desc := "(II)I" } : Jvm.MethodName)) ∈ lw_all := lw_g (lw_at lw_m1 124 rfl) rfl
theorem q191 : (Jvm.Cond.code ({ cls := "TreeOdds", name := "lambda$new$1", desc := "(II)I" } : Jvm.MethodName) prog_1_method_53_code (2 : Nat) (Option.some Jvm.ClassFile.FieldType.int)) ∈ lw_all := lw_g (lw_at lw_m1 125 rfl) rfl
theorem q192 : (Jvm.Cond.static ({ cls := "TreeOdds", name := "lambda$new$2", desc := "(II)I" } : Jvm.MethodName)) ∈ lw_all := lw_g (lw_at lw_m1 126 rfl) rfl
theorem q193 : (Jvm.Cond.code ({ cls := "TreeOdds", name := "lambda$new$2", desc := "(II)I" } : Jvm.MethodName) prog_1_method_52_code (2 : Nat) (Option.some Jvm.ClassFile.FieldType.int)) ∈ lw_all := lw_g (lw_at lw_m1 127 rfl) rfl
theorem q194 : (Jvm.Cond.privateMethod ({ cls := "TreeOdds", name := "last", desc := "(II)I" } : Jvm.MethodName)) ∈ lw_tbl := lw_at lw_m1 128 rfl
theorem q195 : (Jvm.Cond.instanceMethod ({ cls := "TreeOdds", name := "last", desc := "(II)I" } : Jvm.MethodName)) ∈ lw_all := lw_g (lw_at lw_m1 129 rfl) rfl
theorem q196 : (Jvm.Cond.code ({ cls := "TreeOdds", name := "last", desc := "(II)I" } : Jvm.MethodName) prog_1_method_7_code (3 : Nat) (Option.some Jvm.ClassFile.FieldType.int)) ∈ lw_all := lw_g (lw_at lw_m1 130 rfl) rfl
theorem q197 : (Jvm.Cond.methodLink "TreeOdds" (116 : Nat) ({ cls := "TreeOdds", name := "guess", desc := "(I)LTreeOdds$Guess;" } : Jvm.MethodName)) ∈ lw_all := lw_g (lw_at lw_m1 131 rfl) rfl
theorem q198 : (Jvm.Cond.privateMethod ({ cls := "TreeOdds", name := "guess", desc := "(I)LTreeOdds$Guess;" } : Jvm.MethodName)) ∈ lw_tbl := lw_at lw_m1 132 rfl
theorem q199 : (Jvm.Cond.instanceMethod ({ cls := "TreeOdds", name := "guess", desc := "(I)LTreeOdds$Guess;" } : Jvm.MethodName)) ∈ lw_all := lw_g (lw_at lw_m1 133 rfl) rfl
theorem q200 : (Jvm.Cond.code ({ cls := "TreeOdds", name := "guess", desc := "(I)LTreeOdds$Guess;" } : Jvm.MethodName) prog_1_method_8_code (2 : Nat) (Option.some (Jvm.ClassFile.FieldType.object "TreeOdds$Guess"))) ∈ lw_all := lw_g (lw_at lw_m1 134 rfl) rfl
theorem q201 : (Jvm.Cond.methodLink "TreeOdds" (120 : Nat) ({ cls := "TreeOdds$Tree", name := "begins", desc := "(ILTreeOdds$Guess;)V" } : Jvm.MethodName)) ∈ lw_all := lw_g (lw_at lw_m1 135 rfl) rfl
theorem q206 : (Jvm.Cond.fieldLink "TreeOdds" (29 : Nat) "TreeOdds" "row" "[I") ∈ lw_all := lw_g (lw_at lw_m1 140 rfl) rfl
theorem q210 : (Jvm.Cond.fieldLink "TreeOdds" (143 : Nat) "TreeOdds" "many" "I") ∈ lw_all := lw_g (lw_at lw_m1 144 rfl) rfl
theorem q212 : (Jvm.Cond.fieldLink "TreeOdds" (33 : Nat) "TreeOdds" "depth" "I") ∈ lw_all := lw_g (lw_at lw_m1 146 rfl) rfl
theorem q214 : (Jvm.Cond.fieldLink "TreeOdds" (113 : Nat) "TreeOdds" "kind" "I") ∈ lw_all := lw_g (lw_at lw_m1 148 rfl) rfl
theorem q215 : (Jvm.Cond.fieldLink "TreeOdds" (39 : Nat) "TreeOdds" "guessers" "[LTreeOdds$Guesser;") ∈ lw_all := lw_g (lw_at lw_m1 149 rfl) rfl
theorem q216 : (Jvm.Cond.fieldLink "TreeOdds" (46 : Nat) "TreeOdds" "tree" "LTreeOdds$Tree;") ∈ lw_all := lw_g (lw_at lw_m1 150 rfl) rfl
theorem q218 : (Jvm.Cond.fieldLink "TreeOdds" (50 : Nat) "TreeOdds" "trial" "LTreeOdds$Tree;") ∈ lw_all := lw_g (lw_at lw_m1 152 rfl) rfl
theorem q219 : (Jvm.Cond.fieldLink "TreeOdds" (53 : Nat) "TreeOdds" "guessed" "[I") ∈ lw_all := lw_g (lw_at lw_m1 153 rfl) rfl
theorem q220 : (Jvm.Cond.fieldLink "TreeOdds" (56 : Nat) "TreeOdds" "costs" "[I") ∈ lw_all := lw_g (lw_at lw_m1 154 rfl) rfl
theorem q221 : (Jvm.Cond.fieldLink "TreeOdds" (59 : Nat) "TreeOdds" "pastRows" "[I") ∈ lw_all := lw_g (lw_at lw_m1 155 rfl) rfl
theorem q222 : (Jvm.Cond.fieldLink "TreeOdds" (62 : Nat) "TreeOdds" "pastMany" "[I") ∈ lw_all := lw_g (lw_at lw_m1 156 rfl) rfl
theorem q223 : (Jvm.Cond.fieldLink "TreeOdds" (65 : Nat) "TreeOdds" "pastDepths" "[I") ∈ lw_all := lw_g (lw_at lw_m1 157 rfl) rfl
theorem q224 : (Jvm.Cond.fieldLink "TreeOdds" (68 : Nat) "TreeOdds" "pastKinds" "[I") ∈ lw_all := lw_g (lw_at lw_m1 158 rfl) rfl
theorem q225 : (Jvm.Cond.fieldLink "TreeOdds" (134 : Nat) "TreeOdds" "states" "I") ∈ lw_all := lw_g (lw_at lw_m1 159 rfl) rfl
theorem q227 : (Jvm.Cond.fieldLink "TreeOdds" (71 : Nat) "TreeOdds" "text" "[B") ∈ lw_all := lw_g (lw_at lw_m1 161 rfl) rfl
theorem q229 : (Jvm.Cond.fieldLink "TreeOdds" (286 : Nat) "TreeOdds" "typed" "I") ∈ lw_all := lw_g (lw_at lw_m1 163 rfl) rfl
theorem q230 : (Jvm.Cond.fieldLink "TreeOdds" (75 : Nat) "TreeOdds" "refused" "[I") ∈ lw_all := lw_g (lw_at lw_m1 164 rfl) rfl
theorem q232 : (Jvm.Cond.fieldLink "TreeOdds" (216 : Nat) "TreeOdds" "sum" "I") ∈ lw_all := lw_g (lw_at lw_m1 166 rfl) rfl
theorem q234 : (Jvm.Cond.fieldLink "TreeOdds" (213 : Nat) "TreeOdds" "at" "I") ∈ lw_all := lw_g (lw_at lw_m1 168 rfl) rfl
theorem q235 : (Jvm.Cond.fieldLink "TreeOdds" (78 : Nat) "TreeOdds" "least" "[I") ∈ lw_all := lw_g (lw_at lw_m1 169 rfl) rfl
theorem q236 : (Jvm.Cond.fieldLink "TreeOdds" (81 : Nat) "TreeOdds" "leaves" "[Z") ∈ lw_all := lw_g (lw_at lw_m1 170 rfl) rfl
theorem q238 : (Jvm.Cond.fieldLink "TreeOdds" (90 : Nat) "TreeOdds" "writing" "LTreeOdds$Writing;") ∈ lw_all := lw_g (lw_at lw_m1 172 rfl) rfl
theorem q239 : (Jvm.Cond.fieldLink "TreeOdds" (97 : Nat) "TreeOdds" "reader" "LTreeOdds$Reader;") ∈ lw_all := lw_g (lw_at lw_m1 173 rfl) rfl
theorem q240 : (Jvm.Cond.laysFinal "TreeOdds" "TreeOdds" "row" "[I") ∈ lw_all := lw_g (lw_at lw_m1 174 rfl) rfl
theorem q241 : (Jvm.Cond.soleField "TreeOdds" "row") ∈ lw_all := lw_g (lw_at lw_m1 175 rfl) rfl
theorem q242 : (Jvm.Cond.lays "TreeOdds" "TreeOdds" "many" "I") ∈ lw_all := lw_g (lw_at lw_m1 176 rfl) rfl
theorem q243 : (Jvm.Cond.soleField "TreeOdds" "many") ∈ lw_all := lw_g (lw_at lw_m1 177 rfl) rfl
theorem q244 : (Jvm.Cond.lays "TreeOdds" "TreeOdds" "depth" "I") ∈ lw_all := lw_g (lw_at lw_m1 178 rfl) rfl
theorem q245 : (Jvm.Cond.soleField "TreeOdds" "depth") ∈ lw_all := lw_g (lw_at lw_m1 179 rfl) rfl
theorem q246 : (Jvm.Cond.lays "TreeOdds" "TreeOdds" "kind" "I") ∈ lw_all := lw_g (lw_at lw_m1 180 rfl) rfl
theorem q247 : (Jvm.Cond.soleField "TreeOdds" "kind") ∈ lw_all := lw_g (lw_at lw_m1 181 rfl) rfl
theorem q248 : (Jvm.Cond.laysFinal "TreeOdds" "TreeOdds" "guessers" "[LTreeOdds$Guesser;") ∈ lw_all := lw_g (lw_at lw_m1 182 rfl) rfl
theorem q249 : (Jvm.Cond.soleField "TreeOdds" "guessers") ∈ lw_all := lw_g (lw_at lw_m1 183 rfl) rfl
theorem q250 : (Jvm.Cond.laysFinal "TreeOdds" "TreeOdds" "tree" "LTreeOdds$Tree;") ∈ lw_all := lw_g (lw_at lw_m1 184 rfl) rfl
theorem q251 : (Jvm.Cond.soleField "TreeOdds" "tree") ∈ lw_all := lw_g (lw_at lw_m1 185 rfl) rfl
theorem q252 : (Jvm.Cond.laysFinal "TreeOdds" "TreeOdds" "trial" "LTreeOdds$Tree;") ∈ lw_all := lw_g (lw_at lw_m1 186 rfl) rfl
theorem q253 : (Jvm.Cond.soleField "TreeOdds" "trial") ∈ lw_all := lw_g (lw_at lw_m1 187 rfl) rfl
theorem q254 : (Jvm.Cond.laysFinal "TreeOdds" "TreeOdds" "guessed" "[I") ∈ lw_all := lw_g (lw_at lw_m1 188 rfl) rfl
theorem q255 : (Jvm.Cond.soleField "TreeOdds" "guessed") ∈ lw_all := lw_g (lw_at lw_m1 189 rfl) rfl
theorem q256 : (Jvm.Cond.laysFinal "TreeOdds" "TreeOdds" "costs" "[I") ∈ lw_all := lw_g (lw_at lw_m1 190 rfl) rfl
theorem q257 : (Jvm.Cond.soleField "TreeOdds" "costs") ∈ lw_all := lw_g (lw_at lw_m1 191 rfl) rfl
theorem q258 : (Jvm.Cond.laysFinal "TreeOdds" "TreeOdds" "pastRows" "[I") ∈ lw_all := lw_g (lw_at lw_m1 192 rfl) rfl
theorem q259 : (Jvm.Cond.soleField "TreeOdds" "pastRows") ∈ lw_all := lw_g (lw_at lw_m1 193 rfl) rfl
theorem q260 : (Jvm.Cond.laysFinal "TreeOdds" "TreeOdds" "pastMany" "[I") ∈ lw_all := lw_g (lw_at lw_m1 194 rfl) rfl
theorem q261 : (Jvm.Cond.soleField "TreeOdds" "pastMany") ∈ lw_all := lw_g (lw_at lw_m1 195 rfl) rfl
theorem q262 : (Jvm.Cond.laysFinal "TreeOdds" "TreeOdds" "pastDepths" "[I") ∈ lw_all := lw_g (lw_at lw_m1 196 rfl) rfl
theorem q263 : (Jvm.Cond.soleField "TreeOdds" "pastDepths") ∈ lw_all := lw_g (lw_at lw_m1 197 rfl) rfl
theorem q264 : (Jvm.Cond.laysFinal "TreeOdds" "TreeOdds" "pastKinds" "[I") ∈ lw_all := lw_g (lw_at lw_m1 198 rfl) rfl
theorem q265 : (Jvm.Cond.soleField "TreeOdds" "pastKinds") ∈ lw_all := lw_g (lw_at lw_m1 199 rfl) rfl
theorem q266 : (Jvm.Cond.lays "TreeOdds" "TreeOdds" "states" "I") ∈ lw_all := lw_g (lw_at lw_m1 200 rfl) rfl
theorem q267 : (Jvm.Cond.soleField "TreeOdds" "states") ∈ lw_all := lw_g (lw_at lw_m1 201 rfl) rfl
theorem q268 : (Jvm.Cond.laysFinal "TreeOdds" "TreeOdds" "text" "[B") ∈ lw_all := lw_g (lw_at lw_m1 202 rfl) rfl
theorem q269 : (Jvm.Cond.soleField "TreeOdds" "text") ∈ lw_all := lw_g (lw_at lw_m1 203 rfl) rfl
theorem q270 : (Jvm.Cond.lays "TreeOdds" "TreeOdds" "typed" "I") ∈ lw_all := lw_g (lw_at lw_m1 204 rfl) rfl
theorem q271 : (Jvm.Cond.soleField "TreeOdds" "typed") ∈ lw_all := lw_g (lw_at lw_m1 205 rfl) rfl
theorem q272 : (Jvm.Cond.laysFinal "TreeOdds" "TreeOdds" "refused" "[I") ∈ lw_all := lw_g (lw_at lw_m1 206 rfl) rfl
theorem q273 : (Jvm.Cond.soleField "TreeOdds" "refused") ∈ lw_all := lw_g (lw_at lw_m1 207 rfl) rfl
theorem q274 : (Jvm.Cond.lays "TreeOdds" "TreeOdds" "sum" "I") ∈ lw_all := lw_g (lw_at lw_m1 208 rfl) rfl
theorem q275 : (Jvm.Cond.soleField "TreeOdds" "sum") ∈ lw_all := lw_g (lw_at lw_m1 209 rfl) rfl
theorem q276 : (Jvm.Cond.lays "TreeOdds" "TreeOdds" "at" "I") ∈ lw_all := lw_g (lw_at lw_m1 210 rfl) rfl
theorem q277 : (Jvm.Cond.soleField "TreeOdds" "at") ∈ lw_all := lw_g (lw_at lw_m1 211 rfl) rfl
theorem q278 : (Jvm.Cond.laysFinal "TreeOdds" "TreeOdds" "least" "[I") ∈ lw_all := lw_g (lw_at lw_m1 212 rfl) rfl
theorem q279 : (Jvm.Cond.soleField "TreeOdds" "least") ∈ lw_all := lw_g (lw_at lw_m1 213 rfl) rfl
theorem q280 : (Jvm.Cond.laysFinal "TreeOdds" "TreeOdds" "leaves" "[Z") ∈ lw_all := lw_g (lw_at lw_m1 214 rfl) rfl
theorem q281 : (Jvm.Cond.soleField "TreeOdds" "leaves") ∈ lw_all := lw_g (lw_at lw_m1 215 rfl) rfl
theorem q282 : (Jvm.Cond.lays "TreeOdds" "TreeOdds" "good" "I") ∈ lw_all := lw_g (lw_at lw_m1 216 rfl) rfl
theorem q283 : (Jvm.Cond.soleField "TreeOdds" "good") ∈ lw_all := lw_g (lw_at lw_m1 217 rfl) rfl
theorem q284 : (Jvm.Cond.laysFinal "TreeOdds" "TreeOdds" "writing" "LTreeOdds$Writing;") ∈ lw_all := lw_g (lw_at lw_m1 218 rfl) rfl
theorem q285 : (Jvm.Cond.soleField "TreeOdds" "writing") ∈ lw_all := lw_g (lw_at lw_m1 219 rfl) rfl
theorem q286 : (Jvm.Cond.laysFinal "TreeOdds" "TreeOdds" "reader" "LTreeOdds$Reader;") ∈ lw_all := lw_g (lw_at lw_m1 220 rfl) rfl
theorem q287 : (Jvm.Cond.soleField "TreeOdds" "reader") ∈ lw_all := lw_g (lw_at lw_m1 221 rfl) rfl
theorem q288 : (Jvm.Cond.superclass "TreeOdds" "java/lang/Object") ∈ lw_all := lw_g (lw_at lw_m1 222 rfl) rfl
theorem q290 : (Jvm.Cond.instanceMethod ({ cls := "TreeOdds", name := "sign", desc := "(I)I" } : Jvm.MethodName)) ∈ lw_all := lw_g (lw_at lw_m1 224 rfl) rfl
theorem q291 : (Jvm.Cond.selects "TreeOdds" ({ cls := "TreeOdds", name := "sign", desc := "(I)I" } : Jvm.MethodName) ({ cls := "TreeOdds", name := "sign", desc := "(I)I" } : Jvm.MethodName)) ∈ lw_all := lw_g (lw_at lw_m1 225 rfl) rfl
theorem q292 : (Jvm.Cond.code ({ cls := "TreeOdds", name := "sign", desc := "(I)I" } : Jvm.MethodName) prog_1_method_16_code (2 : Nat) (Option.some Jvm.ClassFile.FieldType.int)) ∈ lw_all := lw_g (lw_at lw_m1 226 rfl) rfl
theorem q293 : (Jvm.Cond.methodLink "TreeOdds" (161 : Nat) ({ cls := "TreeOdds", name := "in", desc := "(JJJ)Z" } : Jvm.MethodName)) ∈ lw_all := lw_g (lw_at lw_m1 227 rfl) rfl
theorem q294 : (Jvm.Cond.static ({ cls := "TreeOdds", name := "in", desc := "(JJJ)Z" } : Jvm.MethodName)) ∈ lw_all := lw_g (lw_at lw_m1 228 rfl) rfl
theorem q295 : (Jvm.Cond.code ({ cls := "TreeOdds", name := "in", desc := "(JJJ)Z" } : Jvm.MethodName) prog_1_method_1_code (6 : Nat) (Option.some Jvm.ClassFile.FieldType.boolean)) ∈ lw_all := lw_g (lw_at lw_m1 229 rfl) rfl
theorem q296 : (Jvm.Cond.methodLink "TreeOdds" (165 : Nat) ({ cls := "TreeOdds", name := "bad", desc := "()I" } : Jvm.MethodName)) ∈ lw_all := lw_g (lw_at lw_m1 230 rfl) rfl
theorem q297 : (Jvm.Cond.privateMethod ({ cls := "TreeOdds", name := "bad", desc := "()I" } : Jvm.MethodName)) ∈ lw_tbl := lw_at lw_m1 231 rfl
theorem q298 : (Jvm.Cond.instanceMethod ({ cls := "TreeOdds", name := "bad", desc := "()I" } : Jvm.MethodName)) ∈ lw_all := lw_g (lw_at lw_m1 232 rfl) rfl
theorem q299 : (Jvm.Cond.code ({ cls := "TreeOdds", name := "bad", desc := "()I" } : Jvm.MethodName) prog_1_method_10_code (1 : Nat) (Option.some Jvm.ClassFile.FieldType.int)) ∈ lw_all := lw_g (lw_at lw_m1 233 rfl) rfl
theorem q300 : (Jvm.Cond.methodLink "TreeOdds" (131 : Nat) ({ cls := "TreeOdds", name := "refuses", desc := "(II)I" } : Jvm.MethodName)) ∈ lw_all := lw_g (lw_at lw_m1 234 rfl) rfl
theorem q301 : (Jvm.Cond.privateMethod ({ cls := "TreeOdds", name := "refuses", desc := "(II)I" } : Jvm.MethodName)) ∈ lw_tbl := lw_at lw_m1 235 rfl
theorem q302 : (Jvm.Cond.instanceMethod ({ cls := "TreeOdds", name := "refuses", desc := "(II)I" } : Jvm.MethodName)) ∈ lw_all := lw_g (lw_at lw_m1 236 rfl) rfl
theorem q303 : (Jvm.Cond.code ({ cls := "TreeOdds", name := "refuses", desc := "(II)I" } : Jvm.MethodName) prog_1_method_9_code (3 : Nat) (Option.some Jvm.ClassFile.FieldType.int)) ∈ lw_all := lw_g (lw_at lw_m1 237 rfl) rfl
theorem q304 : (Jvm.Cond.methodLink "TreeOdds" (168 : Nat) ({ cls := "TreeOdds", name := "full", desc := "()I" } : Jvm.MethodName)) ∈ lw_all := lw_g (lw_at lw_m1 238 rfl) rfl
theorem q305 : (Jvm.Cond.privateMethod ({ cls := "TreeOdds", name := "full", desc := "()I" } : Jvm.MethodName)) ∈ lw_tbl := lw_at lw_m1 239 rfl
theorem q306 : (Jvm.Cond.instanceMethod ({ cls := "TreeOdds", name := "full", desc := "()I" } : Jvm.MethodName)) ∈ lw_all := lw_g (lw_at lw_m2 0 rfl) rfl
theorem q307 : (Jvm.Cond.code ({ cls := "TreeOdds", name := "full", desc := "()I" } : Jvm.MethodName) prog_1_method_12_code (1 : Nat) (Option.some Jvm.ClassFile.FieldType.int)) ∈ lw_all := lw_g (lw_at lw_m2 1 rfl) rfl
theorem q308 : (Jvm.Cond.methodLink "TreeOdds" (171 : Nat) ({ cls := "TreeOdds", name := "leaves", desc := "()V" } : Jvm.MethodName)) ∈ lw_all := lw_g (lw_at lw_m2 2 rfl) rfl
theorem q309 : (Jvm.Cond.privateMethod ({ cls := "TreeOdds", name := "leaves", desc := "()V" } : Jvm.MethodName)) ∈ lw_tbl := lw_at lw_m2 3 rfl
theorem q310 : (Jvm.Cond.instanceMethod ({ cls := "TreeOdds", name := "leaves", desc := "()V" } : Jvm.MethodName)) ∈ lw_all := lw_g (lw_at lw_m2 4 rfl) rfl
theorem q311 : (Jvm.Cond.code ({ cls := "TreeOdds", name := "leaves", desc := "()V" } : Jvm.MethodName) prog_1_method_13_code (1 : Nat) (Option.none : Option Jvm.ClassFile.FieldType)) ∈ lw_all := lw_g (lw_at lw_m2 5 rfl) rfl
theorem q312 : (Jvm.Cond.methodLink "TreeOdds" (137 : Nat) ({ cls := "java/lang/System", name := "arraycopy", desc := "(Ljava/lang/Object;ILjava/lang/Object;II)V" } : Jvm.MethodName)) ∈ lw_all := lw_g (lw_at lw_m2 6 rfl) rfl
theorem q315 : (Jvm.Cond.methodLink "TreeOdds" (159 : Nat) ({ cls := "TreeOdds", name := "comes", desc := "(I)I" } : Jvm.MethodName)) ∈ lw_all := lw_g (lw_at lw_m2 9 rfl) rfl
theorem q316 : (Jvm.Cond.privateMethod ({ cls := "TreeOdds", name := "comes", desc := "(I)I" } : Jvm.MethodName)) ∈ lw_tbl := lw_at lw_m2 10 rfl
theorem q317 : (Jvm.Cond.instanceMethod ({ cls := "TreeOdds", name := "comes", desc := "(I)I" } : Jvm.MethodName)) ∈ lw_all := lw_g (lw_at lw_m2 11 rfl) rfl
theorem q318 : (Jvm.Cond.code ({ cls := "TreeOdds", name := "comes", desc := "(I)I" } : Jvm.MethodName) prog_1_method_14_code (3 : Nat) (Option.some Jvm.ClassFile.FieldType.int)) ∈ lw_all := lw_g (lw_at lw_m2 12 rfl) rfl
theorem q319 : (Jvm.Cond.methodLink "TreeOdds" (146 : Nat) ({ cls := "TreeOdds$Tree", name := "guesses", desc := "()I" } : Jvm.MethodName)) ∈ lw_all := lw_g (lw_at lw_m2 13 rfl) rfl
theorem q335 : (Jvm.Cond.static ({ cls := "TreeOdds", name := "held", desc := "(J)I" } : Jvm.MethodName)) ∈ lw_all := lw_g (lw_at lw_m2 29 rfl) rfl
theorem q336 : (Jvm.Cond.code ({ cls := "TreeOdds", name := "held", desc := "(J)I" } : Jvm.MethodName) prog_1_method_2_code (2 : Nat) (Option.some Jvm.ClassFile.FieldType.int)) ∈ lw_all := lw_g (lw_at lw_m2 30 rfl) rfl
theorem q337 : (Jvm.Cond.constantLong "TreeOdds" (3 : Nat) (65535 : Int64)) ∈ lw_all := lw_g (lw_at lw_m2 31 rfl) rfl
theorem q338 : (Jvm.Cond.methodLink "TreeOdds" (5 : Nat) ({ cls := "java/lang/Math", name := "min", desc := "(JJ)J" } : Jvm.MethodName)) ∈ lw_all := lw_g (lw_at lw_m2 32 rfl) rfl
theorem q341 : (Jvm.Cond.methodLink "TreeOdds" (11 : Nat) ({ cls := "java/lang/Math", name := "max", desc := "(JJ)J" } : Jvm.MethodName)) ∈ lw_all := lw_g (lw_at lw_m2 35 rfl) rfl
theorem q346 : (Jvm.Cond.methodLink "TreeOdds" (150 : Nat) ({ cls := "TreeOdds$Tree", name := "comes", desc := "(I)V" } : Jvm.MethodName)) ∈ lw_all := lw_g (lw_at lw_m2 40 rfl) rfl
theorem q351 : (Jvm.Cond.static ({ cls := "TreeOdds", name := "of", desc := "(II)I" } : Jvm.MethodName)) ∈ lw_all := lw_g (lw_at lw_m2 45 rfl) rfl
theorem q352 : (Jvm.Cond.code ({ cls := "TreeOdds", name := "of", desc := "(II)I" } : Jvm.MethodName) prog_1_method_4_code (2 : Nat) (Option.some Jvm.ClassFile.FieldType.int)) ∈ lw_all := lw_g (lw_at lw_m2 46 rfl) rfl
theorem q353 : (Jvm.Cond.constant "TreeOdds" (20 : Nat) (65536 : Int32)) ∈ lw_all := lw_g (lw_at lw_m2 47 rfl) rfl
theorem q362 : (Jvm.Cond.methodLink "TreeOdds" (154 : Nat) ({ cls := "TreeOdds", name := "of", desc := "(II)I" } : Jvm.MethodName)) ∈ lw_all := lw_g (lw_at lw_m2 56 rfl) rfl
theorem q363 : (Jvm.Cond.methodLink "TreeOdds" (156 : Nat) ({ cls := "TreeOdds", name := "bits", desc := "(I)I" } : Jvm.MethodName)) ∈ lw_all := lw_g (lw_at lw_m2 57 rfl) rfl
theorem q364 : (Jvm.Cond.static ({ cls := "TreeOdds", name := "bits", desc := "(I)I" } : Jvm.MethodName)) ∈ lw_all := lw_g (lw_at lw_m2 58 rfl) rfl
theorem q365 : (Jvm.Cond.code ({ cls := "TreeOdds", name := "bits", desc := "(I)I" } : Jvm.MethodName) prog_1_method_3_code (3 : Nat) (Option.some Jvm.ClassFile.FieldType.int)) ∈ lw_all := lw_g (lw_at lw_m2 59 rfl) rfl
theorem q366 : (Jvm.Cond.methodLink "TreeOdds" (14 : Nat) ({ cls := "java/lang/Integer", name := "numberOfLeadingZeros", desc := "(I)I" } : Jvm.MethodName)) ∈ lw_all := lw_g (lw_at lw_m2 60 rfl) rfl
theorem q371 : (Jvm.Cond.instanceMethod ({ cls := "TreeOdds", name := "signs", desc := "(JI)I" } : Jvm.MethodName)) ∈ lw_all := lw_g (lw_at lw_m2 65 rfl) rfl
theorem q372 : (Jvm.Cond.selects "TreeOdds" ({ cls := "TreeOdds", name := "signs", desc := "(JI)I" } : Jvm.MethodName) ({ cls := "TreeOdds", name := "signs", desc := "(JI)I" } : Jvm.MethodName)) ∈ lw_all := lw_g (lw_at lw_m2 66 rfl) rfl
theorem q373 : (Jvm.Cond.code ({ cls := "TreeOdds", name := "signs", desc := "(JI)I" } : Jvm.MethodName) prog_1_method_17_code (6 : Nat) (Option.some Jvm.ClassFile.FieldType.int)) ∈ lw_all := lw_g (lw_at lw_m2 67 rfl) rfl
theorem q374 : (Jvm.Cond.constantLong "TreeOdds" (173 : Nat) (64 : Int64)) ∈ lw_all := lw_g (lw_at lw_m2 68 rfl) rfl
theorem q376 : (Jvm.Cond.instanceMethod ({ cls := "TreeOdds", name := "draw", desc := "(III)I" } : Jvm.MethodName)) ∈ lw_all := lw_g (lw_at lw_m2 70 rfl) rfl
theorem q377 : (Jvm.Cond.selects "TreeOdds" ({ cls := "TreeOdds", name := "draw", desc := "(III)I" } : Jvm.MethodName) ({ cls := "TreeOdds", name := "draw", desc := "(III)I" } : Jvm.MethodName)) ∈ lw_all := lw_g (lw_at lw_m2 71 rfl) rfl
theorem q378 : (Jvm.Cond.code ({ cls := "TreeOdds", name := "draw", desc := "(III)I" } : Jvm.MethodName) prog_1_method_18_code (9 : Nat) (Option.some Jvm.ClassFile.FieldType.int)) ∈ lw_all := lw_g (lw_at lw_m2 72 rfl) rfl
theorem q379 : (Jvm.Cond.constantLong "TreeOdds" (175 : Nat) (999999 : Int64)) ∈ lw_all := lw_g (lw_at lw_m2 73 rfl) rfl
theorem q380 : (Jvm.Cond.constantLong "TreeOdds" (177 : Nat) (100 : Int64)) ∈ lw_all := lw_g (lw_at lw_m2 74 rfl) rfl
theorem q381 : (Jvm.Cond.constantLong "TreeOdds" (179 : Nat) (1103515245 : Int64)) ∈ lw_all := lw_g (lw_at lw_m2 75 rfl) rfl
theorem q382 : (Jvm.Cond.constantLong "TreeOdds" (181 : Nat) (12345 : Int64)) ∈ lw_all := lw_g (lw_at lw_m2 76 rfl) rfl
theorem q383 : (Jvm.Cond.constantLong "TreeOdds" (183 : Nat) (2147483648 : Int64)) ∈ lw_all := lw_g (lw_at lw_m2 77 rfl) rfl
theorem q385 : (Jvm.Cond.instanceMethod ({ cls := "TreeOdds", name := "sets", desc := "(II)I" } : Jvm.MethodName)) ∈ lw_all := lw_g (lw_at lw_m2 79 rfl) rfl
theorem q386 : (Jvm.Cond.selects "TreeOdds" ({ cls := "TreeOdds", name := "sets", desc := "(II)I" } : Jvm.MethodName) ({ cls := "TreeOdds", name := "sets", desc := "(II)I" } : Jvm.MethodName)) ∈ lw_all := lw_g (lw_at lw_m2 80 rfl) rfl
theorem q387 : (Jvm.Cond.code ({ cls := "TreeOdds", name := "sets", desc := "(II)I" } : Jvm.MethodName) prog_1_method_19_code (4 : Nat) (Option.some Jvm.ClassFile.FieldType.int)) ∈ lw_all := lw_g (lw_at lw_m2 81 rfl) rfl
theorem q388 : (Jvm.Cond.constantLong "TreeOdds" (185 : Nat) (6 : Int64)) ∈ lw_all := lw_g (lw_at lw_m2 82 rfl) rfl
theorem q389 : (Jvm.Cond.constantLong "TreeOdds" (187 : Nat) (3 : Int64)) ∈ lw_all := lw_g (lw_at lw_m2 83 rfl) rfl
theorem q390 : (Jvm.Cond.methodLink "TreeOdds" (189 : Nat) ({ cls := "TreeOdds", name := "begins", desc := "(I)V" } : Jvm.MethodName)) ∈ lw_all := lw_g (lw_at lw_m2 84 rfl) rfl
theorem q391 : (Jvm.Cond.privateMethod ({ cls := "TreeOdds", name := "begins", desc := "(I)V" } : Jvm.MethodName)) ∈ lw_tbl := lw_at lw_m2 85 rfl
theorem q392 : (Jvm.Cond.instanceMethod ({ cls := "TreeOdds", name := "begins", desc := "(I)V" } : Jvm.MethodName)) ∈ lw_all := lw_g (lw_at lw_m2 86 rfl) rfl
theorem q393 : (Jvm.Cond.code ({ cls := "TreeOdds", name := "begins", desc := "(I)V" } : Jvm.MethodName) prog_1_method_15_code (3 : Nat) (Option.none : Option Jvm.ClassFile.FieldType)) ∈ lw_all := lw_g (lw_at lw_m2 87 rfl) rfl
theorem q395 : (Jvm.Cond.instanceMethod ({ cls := "TreeOdds", name := "empties", desc := "()I" } : Jvm.MethodName)) ∈ lw_all := lw_g (lw_at lw_m2 89 rfl) rfl
theorem q396 : (Jvm.Cond.selects "TreeOdds" ({ cls := "TreeOdds", name := "empties", desc := "()I" } : Jvm.MethodName) ({ cls := "TreeOdds", name := "empties", desc := "()I" } : Jvm.MethodName)) ∈ lw_all := lw_g (lw_at lw_m2 90 rfl) rfl
theorem q397 : (Jvm.Cond.code ({ cls := "TreeOdds", name := "empties", desc := "()I" } : Jvm.MethodName) prog_1_method_20_code (2 : Nat) (Option.some Jvm.ClassFile.FieldType.int)) ∈ lw_all := lw_g (lw_at lw_m2 91 rfl) rfl
theorem q399 : (Jvm.Cond.instanceMethod ({ cls := "TreeOdds", name := "drop", desc := "()I" } : Jvm.MethodName)) ∈ lw_all := lw_g (lw_at lw_m2 93 rfl) rfl
theorem q400 : (Jvm.Cond.selects "TreeOdds" ({ cls := "TreeOdds", name := "drop", desc := "()I" } : Jvm.MethodName) ({ cls := "TreeOdds", name := "drop", desc := "()I" } : Jvm.MethodName)) ∈ lw_all := lw_g (lw_at lw_m2 94 rfl) rfl
theorem q401 : (Jvm.Cond.code ({ cls := "TreeOdds", name := "drop", desc := "()I" } : Jvm.MethodName) prog_1_method_21_code (1 : Nat) (Option.some Jvm.ClassFile.FieldType.int)) ∈ lw_all := lw_g (lw_at lw_m2 95 rfl) rfl
theorem q402 : (Jvm.Cond.methodLink "TreeOdds" (191 : Nat) ({ cls := "TreeOdds", name := "no", desc := "()I" } : Jvm.MethodName)) ∈ lw_all := lw_g (lw_at lw_m2 96 rfl) rfl
theorem q403 : (Jvm.Cond.privateMethod ({ cls := "TreeOdds", name := "no", desc := "()I" } : Jvm.MethodName)) ∈ lw_tbl := lw_at lw_m2 97 rfl
theorem q404 : (Jvm.Cond.instanceMethod ({ cls := "TreeOdds", name := "no", desc := "()I" } : Jvm.MethodName)) ∈ lw_all := lw_g (lw_at lw_m2 98 rfl) rfl
theorem q405 : (Jvm.Cond.code ({ cls := "TreeOdds", name := "no", desc := "()I" } : Jvm.MethodName) prog_1_method_11_code (1 : Nat) (Option.some Jvm.ClassFile.FieldType.int)) ∈ lw_all := lw_g (lw_at lw_m2 99 rfl) rfl
theorem q407 : (Jvm.Cond.instanceMethod ({ cls := "TreeOdds", name := "at", desc := "(I)I" } : Jvm.MethodName)) ∈ lw_all := lw_g (lw_at lw_m2 101 rfl) rfl
theorem q408 : (Jvm.Cond.selects "TreeOdds" ({ cls := "TreeOdds", name := "at", desc := "(I)I" } : Jvm.MethodName) ({ cls := "TreeOdds", name := "at", desc := "(I)I" } : Jvm.MethodName)) ∈ lw_all := lw_g (lw_at lw_m2 102 rfl) rfl
theorem q409 : (Jvm.Cond.code ({ cls := "TreeOdds", name := "at", desc := "(I)I" } : Jvm.MethodName) prog_1_method_22_code (2 : Nat) (Option.some Jvm.ClassFile.FieldType.int)) ∈ lw_all := lw_g (lw_at lw_m2 103 rfl) rfl
theorem q411 : (Jvm.Cond.instanceMethod ({ cls := "TreeOdds", name := "guess", desc := "()I" } : Jvm.MethodName)) ∈ lw_all := lw_g (lw_at lw_m2 105 rfl) rfl
theorem q412 : (Jvm.Cond.selects "TreeOdds" ({ cls := "TreeOdds", name := "guess", desc := "()I" } : Jvm.MethodName) ({ cls := "TreeOdds", name := "guess", desc := "()I" } : Jvm.MethodName)) ∈ lw_all := lw_g (lw_at lw_m2 106 rfl) rfl
theorem q413 : (Jvm.Cond.code ({ cls := "TreeOdds", name := "guess", desc := "()I" } : Jvm.MethodName) prog_1_method_23_code (1 : Nat) (Option.some Jvm.ClassFile.FieldType.int)) ∈ lw_all := lw_g (lw_at lw_m2 107 rfl) rfl
theorem q415 : (Jvm.Cond.instanceMethod ({ cls := "TreeOdds", name := "was", desc := "(II)I" } : Jvm.MethodName)) ∈ lw_all := lw_g (lw_at lw_m2 109 rfl) rfl
theorem q416 : (Jvm.Cond.selects "TreeOdds" ({ cls := "TreeOdds", name := "was", desc := "(II)I" } : Jvm.MethodName) ({ cls := "TreeOdds", name := "was", desc := "(II)I" } : Jvm.MethodName)) ∈ lw_all := lw_g (lw_at lw_m2 110 rfl) rfl
theorem q417 : (Jvm.Cond.code ({ cls := "TreeOdds", name := "was", desc := "(II)I" } : Jvm.MethodName) prog_1_method_24_code (3 : Nat) (Option.some Jvm.ClassFile.FieldType.int)) ∈ lw_all := lw_g (lw_at lw_m2 111 rfl) rfl
theorem q419 : (Jvm.Cond.instanceMethod ({ cls := "TreeOdds", name := "node", desc := "(III)I" } : Jvm.MethodName)) ∈ lw_all := lw_g (lw_at lw_m2 113 rfl) rfl
theorem q420 : (Jvm.Cond.selects "TreeOdds" ({ cls := "TreeOdds", name := "node", desc := "(III)I" } : Jvm.MethodName) ({ cls := "TreeOdds", name := "node", desc := "(III)I" } : Jvm.MethodName)) ∈ lw_all := lw_g (lw_at lw_m2 114 rfl) rfl
theorem q421 : (Jvm.Cond.code ({ cls := "TreeOdds", name := "node", desc := "(III)I" } : Jvm.MethodName) prog_1_method_26_code (5 : Nat) (Option.some Jvm.ClassFile.FieldType.int)) ∈ lw_all := lw_g (lw_at lw_m2 115 rfl) rfl
theorem q422 : (Jvm.Cond.methodLink "TreeOdds" (194 : Nat) ({ cls := "TreeOdds", name := "isNode", desc := "(II)Z" } : Jvm.MethodName)) ∈ lw_all := lw_g (lw_at lw_m2 116 rfl) rfl
theorem q423 : (Jvm.Cond.privateMethod ({ cls := "TreeOdds", name := "isNode", desc := "(II)Z" } : Jvm.MethodName)) ∈ lw_tbl := lw_at lw_m2 117 rfl
theorem q424 : (Jvm.Cond.instanceMethod ({ cls := "TreeOdds", name := "isNode", desc := "(II)Z" } : Jvm.MethodName)) ∈ lw_all := lw_g (lw_at lw_m2 118 rfl) rfl
theorem q425 : (Jvm.Cond.code ({ cls := "TreeOdds", name := "isNode", desc := "(II)Z" } : Jvm.MethodName) prog_1_method_25_code (3 : Nat) (Option.some Jvm.ClassFile.FieldType.boolean)) ∈ lw_all := lw_g (lw_at lw_m2 119 rfl) rfl
theorem q426 : (Jvm.Cond.methodLink "TreeOdds" (198 : Nat) ({ cls := "TreeOdds$Tree", name := "node", desc := "(II)I" } : Jvm.MethodName)) ∈ lw_all := lw_g (lw_at lw_m2 120 rfl) rfl
theorem q427 : (Jvm.Cond.methodLink "TreeOdds" (207 : Nat) ({ cls := "TreeOdds$Tree", name := "own", desc := "(I)I" } : Jvm.MethodName)) ∈ lw_all := lw_g (lw_at lw_m2 121 rfl) rfl
theorem q429 : (Jvm.Cond.instanceMethod ({ cls := "TreeOdds", name := "cost", desc := "()I" } : Jvm.MethodName)) ∈ lw_all := lw_g (lw_at lw_m2 123 rfl) rfl
theorem q430 : (Jvm.Cond.selects "TreeOdds" ({ cls := "TreeOdds", name := "cost", desc := "()I" } : Jvm.MethodName) ({ cls := "TreeOdds", name := "cost", desc := "()I" } : Jvm.MethodName)) ∈ lw_all := lw_g (lw_at lw_m2 124 rfl) rfl
theorem q431 : (Jvm.Cond.code ({ cls := "TreeOdds", name := "cost", desc := "()I" } : Jvm.MethodName) prog_1_method_30_code (1 : Nat) (Option.some Jvm.ClassFile.FieldType.int)) ∈ lw_all := lw_g (lw_at lw_m2 125 rfl) rfl
theorem q432 : (Jvm.Cond.methodLink "TreeOdds" (231 : Nat) ({ cls := "TreeOdds", name := "all", desc := "()I" } : Jvm.MethodName)) ∈ lw_all := lw_g (lw_at lw_m2 126 rfl) rfl
theorem q433 : (Jvm.Cond.privateMethod ({ cls := "TreeOdds", name := "all", desc := "()I" } : Jvm.MethodName)) ∈ lw_tbl := lw_at lw_m2 127 rfl
theorem q434 : (Jvm.Cond.instanceMethod ({ cls := "TreeOdds", name := "all", desc := "()I" } : Jvm.MethodName)) ∈ lw_all := lw_g (lw_at lw_m2 128 rfl) rfl
theorem q435 : (Jvm.Cond.code ({ cls := "TreeOdds", name := "all", desc := "()I" } : Jvm.MethodName) prog_1_method_29_code (3 : Nat) (Option.some Jvm.ClassFile.FieldType.int)) ∈ lw_all := lw_g (lw_at lw_m2 129 rfl) rfl
theorem q437 : (Jvm.Cond.instanceMethod ({ cls := "TreeOdds", name := "costBy", desc := "(II)I" } : Jvm.MethodName)) ∈ lw_all := lw_g (lw_at lw_m2 131 rfl) rfl
theorem q438 : (Jvm.Cond.selects "TreeOdds" ({ cls := "TreeOdds", name := "costBy", desc := "(II)I" } : Jvm.MethodName) ({ cls := "TreeOdds", name := "costBy", desc := "(II)I" } : Jvm.MethodName)) ∈ lw_all := lw_g (lw_at lw_m2 132 rfl) rfl
theorem q439 : (Jvm.Cond.code ({ cls := "TreeOdds", name := "costBy", desc := "(II)I" } : Jvm.MethodName) prog_1_method_31_code (3 : Nat) (Option.some Jvm.ClassFile.FieldType.int)) ∈ lw_all := lw_g (lw_at lw_m2 133 rfl) rfl
theorem q440 : (Jvm.Cond.methodLink "TreeOdds" (234 : Nat) ({ cls := "TreeOdds", name := "costOf", desc := "(II)I" } : Jvm.MethodName)) ∈ lw_all := lw_g (lw_at lw_m2 134 rfl) rfl
theorem q441 : (Jvm.Cond.privateMethod ({ cls := "TreeOdds", name := "costOf", desc := "(II)I" } : Jvm.MethodName)) ∈ lw_tbl := lw_at lw_m2 135 rfl
theorem q442 : (Jvm.Cond.instanceMethod ({ cls := "TreeOdds", name := "costOf", desc := "(II)I" } : Jvm.MethodName)) ∈ lw_all := lw_g (lw_at lw_m2 136 rfl) rfl
theorem q443 : (Jvm.Cond.code ({ cls := "TreeOdds", name := "costOf", desc := "(II)I" } : Jvm.MethodName) prog_1_method_28_code (3 : Nat) (Option.some Jvm.ClassFile.FieldType.int)) ∈ lw_all := lw_g (lw_at lw_m2 137 rfl) rfl
theorem q444 : (Jvm.Cond.privateMethod ({ cls := "TreeOdds", name := "next", desc := "(I)I" } : Jvm.MethodName)) ∈ lw_tbl := lw_at lw_m2 138 rfl
theorem q445 : (Jvm.Cond.instanceMethod ({ cls := "TreeOdds", name := "next", desc := "(I)I" } : Jvm.MethodName)) ∈ lw_all := lw_g (lw_at lw_m2 139 rfl) rfl
theorem q446 : (Jvm.Cond.code ({ cls := "TreeOdds", name := "next", desc := "(I)I" } : Jvm.MethodName) prog_1_method_27_code (2 : Nat) (Option.some Jvm.ClassFile.FieldType.int)) ∈ lw_all := lw_g (lw_at lw_m2 140 rfl) rfl
theorem q447 : (Jvm.Cond.privateMethod ({ cls := "TreeOdds", name := "lambda$costOf$3", desc := "(II)V" } : Jvm.MethodName)) ∈ lw_tbl := lw_at lw_m2 141 rfl
theorem q448 : (Jvm.Cond.instanceMethod ({ cls := "TreeOdds", name := "lambda$costOf$3", desc := "(II)V" } : Jvm.MethodName)) ∈ lw_all := lw_g (lw_at lw_m2 142 rfl) rfl
theorem q449 : (Jvm.Cond.code ({ cls := "TreeOdds", name := "lambda$costOf$3", desc := "(II)V" } : Jvm.MethodName) prog_1_method_51_code (3 : Nat) (Option.none : Option Jvm.ClassFile.FieldType)) ∈ lw_all := lw_g (lw_at lw_m2 143 rfl) rfl
theorem q450 : (Jvm.Cond.methodLink "TreeOdds" (227 : Nat) ({ cls := "TreeOdds$Tree", name := "runs", desc := "(ILTreeOdds$Source;LTreeOdds$Seen;)V" } : Jvm.MethodName)) ∈ lw_all := lw_g (lw_at lw_m2 144 rfl) rfl
theorem q465 : (Jvm.Cond.instanceMethod ({ cls := "TreeOdds", name := "best", desc := "(I)I" } : Jvm.MethodName)) ∈ lw_all := lw_g (lw_at lw_m2 159 rfl) rfl
theorem q466 : (Jvm.Cond.selects "TreeOdds" ({ cls := "TreeOdds", name := "best", desc := "(I)I" } : Jvm.MethodName) ({ cls := "TreeOdds", name := "best", desc := "(I)I" } : Jvm.MethodName)) ∈ lw_all := lw_g (lw_at lw_m2 160 rfl) rfl
theorem q467 : (Jvm.Cond.code ({ cls := "TreeOdds", name := "best", desc := "(I)I" } : Jvm.MethodName) prog_1_method_32_code (6 : Nat) (Option.some Jvm.ClassFile.FieldType.int)) ∈ lw_all := lw_g (lw_at lw_m2 161 rfl) rfl
theorem q468 : (Jvm.Cond.constantLong "TreeOdds" (237 : Nat) (2 : Int64)) ∈ lw_all := lw_g (lw_at lw_m2 162 rfl) rfl
theorem q469 : (Jvm.Cond.constant "TreeOdds" (239 : Nat) (1000000000 : Int32)) ∈ lw_all := lw_g (lw_at lw_m2 163 rfl) rfl
theorem q470 : (Jvm.Cond.methodLink "TreeOdds" (240 : Nat) ({ cls := "java/lang/Math", name := "min", desc := "(II)I" } : Jvm.MethodName)) ∈ lw_all := lw_g (lw_at lw_m2 164 rfl) rfl
theorem q474 : (Jvm.Cond.instanceMethod ({ cls := "TreeOdds", name := "follows", desc := "(I)I" } : Jvm.MethodName)) ∈ lw_all := lw_g (lw_at lw_m2 168 rfl) rfl
theorem q475 : (Jvm.Cond.selects "TreeOdds" ({ cls := "TreeOdds", name := "follows", desc := "(I)I" } : Jvm.MethodName) ({ cls := "TreeOdds", name := "follows", desc := "(I)I" } : Jvm.MethodName)) ∈ lw_all := lw_g (lw_at lw_m2 169 rfl) rfl
theorem q476 : (Jvm.Cond.code ({ cls := "TreeOdds", name := "follows", desc := "(I)I" } : Jvm.MethodName) prog_1_method_33_code (2 : Nat) (Option.some Jvm.ClassFile.FieldType.int)) ∈ lw_all := lw_g (lw_at lw_m2 170 rfl) rfl
theorem q477 : (Jvm.Cond.constantLong "TreeOdds" (242 : Nat) (16 : Int64)) ∈ lw_all := lw_g (lw_at lw_m2 171 rfl) rfl
theorem q478 : (Jvm.Cond.static ({ cls := "TreeOdds", name := "lambda$follows$4", desc := "(II)V" } : Jvm.MethodName)) ∈ lw_all := lw_g (lw_at lw_m2 172 rfl) rfl
theorem q479 : (Jvm.Cond.code ({ cls := "TreeOdds", name := "lambda$follows$4", desc := "(II)V" } : Jvm.MethodName) prog_1_method_50_code (2 : Nat) (Option.none : Option Jvm.ClassFile.FieldType)) ∈ lw_all := lw_g (lw_at lw_m2 173 rfl) rfl
theorem q480 : (Jvm.Cond.static ({ cls := "TreeOdds", name := "lambda$follows$5", desc := "(I)I" } : Jvm.MethodName)) ∈ lw_all := lw_g (lw_at lw_m2 174 rfl) rfl
theorem q481 : (Jvm.Cond.code ({ cls := "TreeOdds", name := "lambda$follows$5", desc := "(I)I" } : Jvm.MethodName) prog_1_method_49_code (1 : Nat) (Option.some Jvm.ClassFile.FieldType.int)) ∈ lw_all := lw_g (lw_at lw_m2 175 rfl) rfl
theorem q482 : (Jvm.Cond.constant "TreeOdds" (311 : Nat) (32768 : Int32)) ∈ lw_all := lw_g (lw_at lw_m2 176 rfl) rfl
theorem q483 : (Jvm.Cond.privateMethod ({ cls := "TreeOdds", name := "gathers", desc := "(II)V" } : Jvm.MethodName)) ∈ lw_tbl := lw_at lw_m2 177 rfl
theorem q484 : (Jvm.Cond.instanceMethod ({ cls := "TreeOdds", name := "gathers", desc := "(II)V" } : Jvm.MethodName)) ∈ lw_all := lw_g (lw_at lw_m2 178 rfl) rfl
theorem q485 : (Jvm.Cond.code ({ cls := "TreeOdds", name := "gathers", desc := "(II)V" } : Jvm.MethodName) prog_1_method_34_code (3 : Nat) (Option.none : Option Jvm.ClassFile.FieldType)) ∈ lw_all := lw_g (lw_at lw_m2 179 rfl) rfl
theorem q487 : (Jvm.Cond.instanceMethod ({ cls := "TreeOdds", name := "tree", desc := "(I)I" } : Jvm.MethodName)) ∈ lw_all := lw_g (lw_at lw_m2 181 rfl) rfl
theorem q488 : (Jvm.Cond.selects "TreeOdds" ({ cls := "TreeOdds", name := "tree", desc := "(I)I" } : Jvm.MethodName) ({ cls := "TreeOdds", name := "tree", desc := "(I)I" } : Jvm.MethodName)) ∈ lw_all := lw_g (lw_at lw_m2 182 rfl) rfl
theorem q489 : (Jvm.Cond.code ({ cls := "TreeOdds", name := "tree", desc := "(I)I" } : Jvm.MethodName) prog_1_method_38_code (2 : Nat) (Option.some Jvm.ClassFile.FieldType.int)) ∈ lw_all := lw_g (lw_at lw_m2 183 rfl) rfl
theorem q490 : (Jvm.Cond.methodLink "TreeOdds" (267 : Nat) ({ cls := "TreeOdds", name := "settles", desc := "()V" } : Jvm.MethodName)) ∈ lw_all := lw_g (lw_at lw_m2 184 rfl) rfl
theorem q491 : (Jvm.Cond.privateMethod ({ cls := "TreeOdds", name := "settles", desc := "()V" } : Jvm.MethodName)) ∈ lw_tbl := lw_at lw_m2 185 rfl
theorem q492 : (Jvm.Cond.instanceMethod ({ cls := "TreeOdds", name := "settles", desc := "()V" } : Jvm.MethodName)) ∈ lw_all := lw_g (lw_at lw_m2 186 rfl) rfl
theorem q493 : (Jvm.Cond.code ({ cls := "TreeOdds", name := "settles", desc := "()V" } : Jvm.MethodName) prog_1_method_36_code (6 : Nat) (Option.none : Option Jvm.ClassFile.FieldType)) ∈ lw_all := lw_g (lw_at lw_m2 187 rfl) rfl
theorem q494 : (Jvm.Cond.methodLink "TreeOdds" (258 : Nat) ({ cls := "TreeOdds", name := "leafCost", desc := "(II)I" } : Jvm.MethodName)) ∈ lw_all := lw_g (lw_at lw_m2 188 rfl) rfl
theorem q495 : (Jvm.Cond.privateMethod ({ cls := "TreeOdds", name := "leafCost", desc := "(II)I" } : Jvm.MethodName)) ∈ lw_tbl := lw_at lw_m2 189 rfl
theorem q496 : (Jvm.Cond.instanceMethod ({ cls := "TreeOdds", name := "leafCost", desc := "(II)I" } : Jvm.MethodName)) ∈ lw_all := lw_g (lw_at lw_m2 190 rfl) rfl
theorem q497 : (Jvm.Cond.code ({ cls := "TreeOdds", name := "leafCost", desc := "(II)I" } : Jvm.MethodName) prog_1_method_35_code (10 : Nat) (Option.some Jvm.ClassFile.FieldType.int)) ∈ lw_all := lw_g (lw_at lw_m2 191 rfl) rfl
theorem q498 : (Jvm.Cond.interfaceEntry "TreeOdds" (251 : Nat)) ∈ lw_tbl := lw_at lw_m2 192 rfl
theorem q499 : (Jvm.Cond.methodLink "TreeOdds" (251 : Nat) ({ cls := "TreeOdds$Guess", name := "of", desc := "(II)I" } : Jvm.MethodName)) ∈ lw_all := lw_g (lw_at lw_m2 193 rfl) rfl
theorem q500 : (Jvm.Cond.methodLink "TreeOdds" (254 : Nat) ({ cls := "TreeOdds", name := "held", desc := "(J)I" } : Jvm.MethodName)) ∈ lw_all := lw_g (lw_at lw_m2 194 rfl) rfl
theorem q501 : (Jvm.Cond.methodLink "TreeOdds" (261 : Nat) ({ cls := "TreeOdds", name := "treeOf", desc := "(III)I" } : Jvm.MethodName)) ∈ lw_all := lw_g (lw_at lw_m2 195 rfl) rfl
theorem q502 : (Jvm.Cond.privateMethod ({ cls := "TreeOdds", name := "treeOf", desc := "(III)I" } : Jvm.MethodName)) ∈ lw_tbl := lw_at lw_m2 196 rfl
theorem q503 : (Jvm.Cond.instanceMethod ({ cls := "TreeOdds", name := "treeOf", desc := "(III)I" } : Jvm.MethodName)) ∈ lw_all := lw_g (lw_at lw_m2 197 rfl) rfl
theorem q504 : (Jvm.Cond.code ({ cls := "TreeOdds", name := "treeOf", desc := "(III)I" } : Jvm.MethodName) prog_1_method_37_code (6 : Nat) (Option.some Jvm.ClassFile.FieldType.int)) ∈ lw_all := lw_g (lw_at lw_m2 198 rfl) rfl
theorem q505 : (Jvm.Cond.methodLink "TreeOdds" (265 : Nat) ({ cls := "java/lang/Math", name := "max", desc := "(II)I" } : Jvm.MethodName)) ∈ lw_all := lw_g (lw_at lw_m2 199 rfl) rfl
theorem q509 : (Jvm.Cond.instanceMethod ({ cls := "TreeOdds", name := "leaf", desc := "(II)I" } : Jvm.MethodName)) ∈ lw_all := lw_g (lw_at lw_m2 203 rfl) rfl
theorem q510 : (Jvm.Cond.selects "TreeOdds" ({ cls := "TreeOdds", name := "leaf", desc := "(II)I" } : Jvm.MethodName) ({ cls := "TreeOdds", name := "leaf", desc := "(II)I" } : Jvm.MethodName)) ∈ lw_all := lw_g (lw_at lw_m2 204 rfl) rfl
theorem q511 : (Jvm.Cond.code ({ cls := "TreeOdds", name := "leaf", desc := "(II)I" } : Jvm.MethodName) prog_1_method_39_code (5 : Nat) (Option.some Jvm.ClassFile.FieldType.int)) ∈ lw_all := lw_g (lw_at lw_m2 205 rfl) rfl
theorem q513 : (Jvm.Cond.instanceMethod ({ cls := "TreeOdds", name := "written", desc := "(I)I" } : Jvm.MethodName)) ∈ lw_all := lw_g (lw_at lw_m2 207 rfl) rfl
theorem q514 : (Jvm.Cond.selects "TreeOdds" ({ cls := "TreeOdds", name := "written", desc := "(I)I" } : Jvm.MethodName) ({ cls := "TreeOdds", name := "written", desc := "(I)I" } : Jvm.MethodName)) ∈ lw_all := lw_g (lw_at lw_m2 208 rfl) rfl
theorem q515 : (Jvm.Cond.code ({ cls := "TreeOdds", name := "written", desc := "(I)I" } : Jvm.MethodName) prog_1_method_40_code (2 : Nat) (Option.some Jvm.ClassFile.FieldType.int)) ∈ lw_all := lw_g (lw_at lw_m2 209 rfl) rfl
theorem q516 : (Jvm.Cond.methodLink "TreeOdds" (270 : Nat) ({ cls := "TreeOdds$Writing", name := "writes", desc := "()V" } : Jvm.MethodName)) ∈ lw_all := lw_g (lw_at lw_m2 210 rfl) rfl
theorem q542 : (Jvm.Cond.instanceMethod ({ cls := "TreeOdds", name := "reads", desc := "(II)I" } : Jvm.MethodName)) ∈ lw_all := lw_g (lw_at lw_m2 236 rfl) rfl
theorem q543 : (Jvm.Cond.selects "TreeOdds" ({ cls := "TreeOdds", name := "reads", desc := "(II)I" } : Jvm.MethodName) ({ cls := "TreeOdds", name := "reads", desc := "(II)I" } : Jvm.MethodName)) ∈ lw_all := lw_g (lw_at lw_m2 237 rfl) rfl
theorem q544 : (Jvm.Cond.code ({ cls := "TreeOdds", name := "reads", desc := "(II)I" } : Jvm.MethodName) prog_1_method_41_code (3 : Nat) (Option.some Jvm.ClassFile.FieldType.int)) ∈ lw_all := lw_g (lw_at lw_m2 238 rfl) rfl
theorem q545 : (Jvm.Cond.constantLong "TreeOdds" (279 : Nat) (255 : Int64)) ∈ lw_all := lw_g (lw_at lw_m2 239 rfl) rfl
theorem q546 : (Jvm.Cond.methodLink "TreeOdds" (281 : Nat) ({ cls := "TreeOdds$Writing", name := "reads", desc := "()I" } : Jvm.MethodName)) ∈ lw_all := lw_g (lw_at lw_m3 0 rfl) rfl
theorem q565 : (Jvm.Cond.instanceMethod ({ cls := "TreeOdds", name := "type", desc := "(I)I" } : Jvm.MethodName)) ∈ lw_all := lw_g (lw_at lw_m3 19 rfl) rfl
theorem q566 : (Jvm.Cond.selects "TreeOdds" ({ cls := "TreeOdds", name := "type", desc := "(I)I" } : Jvm.MethodName) ({ cls := "TreeOdds", name := "type", desc := "(I)I" } : Jvm.MethodName)) ∈ lw_all := lw_g (lw_at lw_m3 20 rfl) rfl
theorem q567 : (Jvm.Cond.code ({ cls := "TreeOdds", name := "type", desc := "(I)I" } : Jvm.MethodName) prog_1_method_42_code (2 : Nat) (Option.some Jvm.ClassFile.FieldType.int)) ∈ lw_all := lw_g (lw_at lw_m3 21 rfl) rfl
theorem q568 : (Jvm.Cond.constantLong "TreeOdds" (284 : Nat) (127 : Int64)) ∈ lw_all := lw_g (lw_at lw_m3 22 rfl) rfl
theorem q570 : (Jvm.Cond.instanceMethod ({ cls := "TreeOdds", name := "clear", desc := "()I" } : Jvm.MethodName)) ∈ lw_all := lw_g (lw_at lw_m3 24 rfl) rfl
theorem q571 : (Jvm.Cond.selects "TreeOdds" ({ cls := "TreeOdds", name := "clear", desc := "()I" } : Jvm.MethodName) ({ cls := "TreeOdds", name := "clear", desc := "()I" } : Jvm.MethodName)) ∈ lw_all := lw_g (lw_at lw_m3 25 rfl) rfl
theorem q572 : (Jvm.Cond.code ({ cls := "TreeOdds", name := "clear", desc := "()I" } : Jvm.MethodName) prog_1_method_43_code (2 : Nat) (Option.some Jvm.ClassFile.FieldType.int)) ∈ lw_all := lw_g (lw_at lw_m3 26 rfl) rfl
theorem q574 : (Jvm.Cond.instanceMethod ({ cls := "TreeOdds", name := "told", desc := "()I" } : Jvm.MethodName)) ∈ lw_all := lw_g (lw_at lw_m3 28 rfl) rfl
theorem q575 : (Jvm.Cond.selects "TreeOdds" ({ cls := "TreeOdds", name := "told", desc := "()I" } : Jvm.MethodName) ({ cls := "TreeOdds", name := "told", desc := "()I" } : Jvm.MethodName)) ∈ lw_all := lw_g (lw_at lw_m3 29 rfl) rfl
theorem q576 : (Jvm.Cond.codeWith ({ cls := "TreeOdds", name := "told", desc := "()I" } : Jvm.MethodName) prog_1_method_44_code (2 : Nat) (Option.some Jvm.ClassFile.FieldType.int) [((0 : Nat), (7 : Nat), (10 : Nat), (291 : Nat))]) ∈ lw_all := lw_g (lw_at lw_m3 30 rfl) rfl
theorem q577 : (Jvm.Cond.classLink "TreeOdds" (291 : Nat) "TreeOdds$Fault") ∈ lw_all := lw_g (lw_at lw_m3 31 rfl) rfl
theorem q578 : (Jvm.Cond.methodLink "TreeOdds" (289 : Nat) ({ cls := "TreeOdds$Reader", name := "reads", desc := "()V" } : Jvm.MethodName)) ∈ lw_all := lw_g (lw_at lw_m3 32 rfl) rfl
theorem q649 : (Jvm.Cond.fieldLinkNest "TreeOdds" (293 : Nat) "TreeOdds$Fault" "place" "I" "TreeOdds") ∈ lw_tbl := lw_at lw_m3 103 rfl
theorem q674 : (Jvm.Cond.instanceMethod ({ cls := "TreeOdds", name := "back", desc := "()I" } : Jvm.MethodName)) ∈ lw_all := lw_g (lw_at lw_m3 128 rfl) rfl
theorem q675 : (Jvm.Cond.selects "TreeOdds" ({ cls := "TreeOdds", name := "back", desc := "()I" } : Jvm.MethodName) ({ cls := "TreeOdds", name := "back", desc := "()I" } : Jvm.MethodName)) ∈ lw_all := lw_g (lw_at lw_m3 129 rfl) rfl
theorem q676 : (Jvm.Cond.code ({ cls := "TreeOdds", name := "back", desc := "()I" } : Jvm.MethodName) prog_1_method_45_code (1 : Nat) (Option.some Jvm.ClassFile.FieldType.int)) ∈ lw_all := lw_g (lw_at lw_m3 130 rfl) rfl
theorem q678 : (Jvm.Cond.instanceMethod ({ cls := "TreeOdds", name := "count", desc := "(I)I" } : Jvm.MethodName)) ∈ lw_all := lw_g (lw_at lw_m3 132 rfl) rfl
theorem q679 : (Jvm.Cond.selects "TreeOdds" ({ cls := "TreeOdds", name := "count", desc := "(I)I" } : Jvm.MethodName) ({ cls := "TreeOdds", name := "count", desc := "(I)I" } : Jvm.MethodName)) ∈ lw_all := lw_g (lw_at lw_m3 133 rfl) rfl
theorem q680 : (Jvm.Cond.code ({ cls := "TreeOdds", name := "count", desc := "(I)I" } : Jvm.MethodName) prog_1_method_47_code (2 : Nat) (Option.some Jvm.ClassFile.FieldType.int)) ∈ lw_all := lw_g (lw_at lw_m3 134 rfl) rfl
theorem q681 : (Jvm.Cond.constantLong "TreeOdds" (302 : Nat) (7 : Int64)) ∈ lw_all := lw_g (lw_at lw_m3 135 rfl) rfl
theorem q682 : (Jvm.Cond.methodLink "TreeOdds" (304 : Nat) ({ cls := "TreeOdds", name := "countOf", desc := "(I)I" } : Jvm.MethodName)) ∈ lw_all := lw_g (lw_at lw_m3 136 rfl) rfl
theorem q683 : (Jvm.Cond.privateMethod ({ cls := "TreeOdds", name := "countOf", desc := "(I)I" } : Jvm.MethodName)) ∈ lw_tbl := lw_at lw_m3 137 rfl
theorem q684 : (Jvm.Cond.instanceMethod ({ cls := "TreeOdds", name := "countOf", desc := "(I)I" } : Jvm.MethodName)) ∈ lw_all := lw_g (lw_at lw_m3 138 rfl) rfl
theorem q685 : (Jvm.Cond.code ({ cls := "TreeOdds", name := "countOf", desc := "(I)I" } : Jvm.MethodName) prog_1_method_46_code (2 : Nat) (Option.some Jvm.ClassFile.FieldType.int)) ∈ lw_all := lw_g (lw_at lw_m3 139 rfl) rfl
theorem q687 : (Jvm.Cond.instanceMethod ({ cls := "TreeOdds", name := "digest", desc := "()J" } : Jvm.MethodName)) ∈ lw_all := lw_g (lw_at lw_m3 141 rfl) rfl
theorem q688 : (Jvm.Cond.selects "TreeOdds" ({ cls := "TreeOdds", name := "digest", desc := "()J" } : Jvm.MethodName) ({ cls := "TreeOdds", name := "digest", desc := "()J" } : Jvm.MethodName)) ∈ lw_all := lw_g (lw_at lw_m3 142 rfl) rfl
theorem q689 : (Jvm.Cond.code ({ cls := "TreeOdds", name := "digest", desc := "()J" } : Jvm.MethodName) prog_1_method_48_code (4 : Nat) (Option.some Jvm.ClassFile.FieldType.long)) ∈ lw_all := lw_g (lw_at lw_m3 143 rfl) rfl
theorem q690 : (Jvm.Cond.constantLong "TreeOdds" (307 : Nat) (2113 : Int64)) ∈ lw_all := lw_g (lw_at lw_m3 144 rfl) rfl
theorem q691 : (Jvm.Cond.constantLong "TreeOdds" (309 : Nat) (31 : Int64)) ∈ lw_all := lw_g (lw_at lw_m3 145 rfl) rfl
theorem in_X0 : ∀ w ∈ wsX00, w ∈ lw_all := lw_in wsX00 [240, 242, 244, 246, 248, 250, 252, 254, 256, 258, 260, 262, 264, 266, 268, 270, 272, 274, 276, 278, 280, 282, 284, 286] (by decide +kernel) (by decide +kernel)
